set_option maxRecDepth 100000
abbrev r_X2_rest : Room := { frames := 0, cells := 0, slots := 0, locals := 0 }
set_option maxHeartbeats 400000 in
theorem c_X2_rest (lh : Launch) (D : va_G) (dA : Nat → ClassId) (a0 : Nat) (ad : Nat → Nat) (N : Nat → Nat) (I : Nat → Int32) (G : Nat → Nat → Nat) (J : Nat → Nat → Int32) (c : Nat) (l : Nat) (g : Nat) (al : Nat) (h1 : ∀ a b, G a b < 2 ^ 31) (h2 : c < 10) (h3 : l < 20) (h4 : g < 2 ^ 31) (h5 : 0 < al) (h6 : al < 2 ^ 31) : Met lh yX2_rest (ws_ yX2_rest cX2_rest 5 (some .long)) r_X2_rest (PqM D dA a0 ad N I G J [.ref a0, .int (nI c), .int (nI l), .int (nI g), .int (nI al)]) (vp_Sl (fun rv => rv = lN (G 4 (20 * c + l) * g % al))) 0 0 (fun _ => False) := by
  refine Met.ofW (cc := cX2_rest) (maxL := 5) (ret := (some .long)) (by decide) rfl ?_
  intro p e s m args below meth cd s₁ B hml hv
  obtain ⟨hargs, hM, hG⟩ := hv
  have hx := B.exec
  have hb := B.bytes
  have hrt := B.returns
  have hts := atoms_spec (ws := (ws_ yX2_rest cX2_rest 5 (some .long))) B.pre
  have hts : ∀ w ∈ lw_all, w.before _ s = true := fun w h => hts w (List.mem_cons_of_mem _ h)
  have hown : s.vm.findClass RX2 = some m.cls := findClass_of_methodNamed B.named
  have hlocks := B.notSynchronized
  have hE : entryFrame m args 5 = F0 m 0 ((lg_sl ([.ref a0, .int (nI c), .int (nI l), .int (nI g), .int (nI al)]) ++ List.replicate (5 - (lg_sl ([.ref a0, .int (nI c), .int (nI l), .int (nI g), .int (nI al)])).length) Slot.unset).toArray) [] := by rw [hargs]; exact lg_entry_eq m _ 5
  have hl := lv_entry ([.ref a0, .int (nI c), .int (nI l), .int (nI g), .int (nI al)]) (n := 5) (Nat.le_of_ble_eq_true rfl)
  rw [hE]
  clear hE
  generalize (lg_sl ([.ref a0, .int (nI c), .int (nI l), .int (nI g), .int (nI al)]) ++ List.replicate (5 - (lg_sl ([.ref a0, .int (nI c), .int (nI l), .int (nI g), .int (nI al)])).length) Slot.unset).toArray = ls at hl ⊢
  have hl : lv_has ls 5 [(0, .ref a0), (1, .int (nI c)), (2, .int (nI l)), (3, .int (nI g)), (4, .int (nI al))] := hl
  generalize hQ : MQ _ _ _ _ _ _ _ = Q
  refine lv_aload_n hx hb dX2_rest_0 rfl (lv_at hl 0 rfl) ?_
  refine M_get (v := .ref (ad 4)) hx hb hts hown hG hM 4 (by decide) q1296 rfl rfl dX2_rest_1 ?_
  refine lv_bipush (v := nI 20) hx hb dX2_rest_4 (by decide) ?_
  refine lv_iload_n hx hb dX2_rest_6 rfl (lv_at hl 1 rfl) ?_
  refine kn_mul hx hb dX2_rest_7 ?_
  refine lv_iload_n hx hb dX2_rest_8 rfl (lv_at hl 2 rfl) ?_
  refine kn_add hx hb dX2_rest_9 ?_
  refine M_iald (v := nI (G 4 (20 * c + l))) hx hb hG hM 4 rfl rfl (show 20 * c + l < 200 from by omega) (rfl) dX2_rest_10 ?_
  refine lv_i2l (v := (nI (G 4 (20 * c + l))).toInt64) hx hb dX2_rest_11 rfl ?_
  refine lv_iload_n hx hb dX2_rest_12 rfl (lv_at hl 3 rfl) ?_
  refine lv_i2l (v := (nI g).toInt64) hx hb dX2_rest_13 rfl ?_
  refine lv_lmul hx hb dX2_rest_14 ?_
  refine lv_iload hx hb dX2_rest_15 (lv_at hl 4 rfl) ?_
  refine lv_i2l (v := (nI al).toInt64) hx hb dX2_rest_17 rfl ?_
  refine lv_lrem hx hb dX2_rest_18 (l_ne h5 h6) ?_
  subst hQ
  exact W.lret (v := (((nI (G 4 (20 * c + l))).toInt64) * ((nI g).toInt64)) - (((nI (G 4 (20 * c + l))).toInt64) * ((nI g).toInt64)) / ((nI al).toInt64) * ((nI al).toInt64)) hx hb hrt (fun t ht _ => ⟨_, rfl, (show (((nI (G 4 (20 * c + l))).toInt64) * ((nI g).toInt64)) - (((nI (G 4 (20 * c + l))).toInt64) * ((nI g).toInt64)) / ((nI al).toInt64) * ((nI al).toInt64) = lN (G 4 (20 * c + l) * g % al) from rem_eq (h1 _ _) h4 h5 h6), ht⟩) t_nil dX2_rest_19
theorem w_X2_rest {R : Room} {s : State} {args : Array Value} {own : String} {idx : Nat} (hts : ∀ w ∈ lw_all, w.before args s = true) (h1 : Cond.methodLink own idx yX2_rest ∈ lw_all) {rm : Room} {mc ms : Nat} (hrc : rm.cells = mc) (hrs : rm.slots = ms) (hR : rm.frames + 1 ≤ R.frames ∧ 8 + (5 + 11) + rm.locals ≤ R.locals) : CallW R s args own RX2 idx yX2_rest cX2_rest 5 (some .long) (ws_ yX2_rest cX2_rest 5 (some .long)) rm mc ms 4 := cwV 4 hts (lw_V h1 q1644 qs57 q70 q1645) rfl hrc hrs (by decide +kernel) hR

abbrev r_X2_pour : Room := { frames := 3, cells := 0, slots := 0, locals := 76 }
set_option maxHeartbeats 400000 in
theorem c_X2_pour (lh : Launch) (D : va_G) (dA : Nat → ClassId) (a0 : Nat) (ad : Nat → Nat) (N : Nat → Nat) (I : Nat → Int32) (G : Nat → Nat → Nat) (J : Nat → Nat → Int32) (sz : Nat) (a : Int32) (b : Int32) (h1 : OkS N G J) (h2 : CsOk N G) : Met lh yX2_pour (ws_ yX2_pour cX2_pour 10 (some .int)) r_X2_pour (PmM D dA a0 ad N I G J sz [.ref a0, .int a, .int b]) (va_Qi (fun (r : Int32) (u : SgT) => if pourB N G a b = true then r = nI (gr (pourG N G (tn a) (tn b)) (tn b)) ∧ u = (up1 N 0 0, I, pourG N G (tn a) (tn b), pourJ N G J (tn a) (tn b)) else r = -1 ∧ u = (up1 N 0 0, I, G, J)) (BmM D dA a0 ad) (AM a0 ad sz)) 0 0 (AM a0 ad sz) := by
  refine Met.ofW (cc := cX2_pour) (maxL := 10) (ret := (some .int)) (by decide) rfl ?_
  intro p e s m args below meth cd s₁ B hml hv
  obtain ⟨hargs, hsz, hM, hG⟩ := hv
  have hx := B.exec
  have hb := B.bytes
  have hrt := B.returns
  have hts := atoms_spec (ws := (ws_ yX2_pour cX2_pour 10 (some .int))) B.pre
  have hts : ∀ w ∈ lw_all, w.before _ s = true := fun w h => hts w (List.mem_cons_of_mem _ h)
  have hown : s.vm.findClass RX2 = some m.cls := findClass_of_methodNamed B.named
  have hlocks := B.notSynchronized
  subst hsz
  have hS : va_S (AM a0 ad s.heap.size) s.heap s.heap [] := va_S.rf
  have hE : entryFrame m args 10 = F0 m 0 ((lg_sl ([.ref a0, .int a, .int b]) ++ List.replicate (10 - (lg_sl ([.ref a0, .int a, .int b])).length) Slot.unset).toArray) [] := by rw [hargs]; exact lg_entry_eq m _ 10
  have hl := lv_entry ([.ref a0, .int a, .int b]) (n := 10) (Nat.le_of_ble_eq_true rfl)
  rw [hE]
  clear hE
  generalize (lg_sl ([.ref a0, .int a, .int b]) ++ List.replicate (10 - (lg_sl ([.ref a0, .int a, .int b])).length) Slot.unset).toArray = ls at hl ⊢
  have hl : lv_has ls 10 [(0, .ref a0), (1, .int a), (2, .int b)] := hl
  generalize hQ : MQ _ _ _ _ _ _ _ = Q
  have hokk := h1
  obtain ⟨hB, ⟨hn1, hn3, hn14, hn19, hn23, hn33, hn40, hn44⟩, hcr, hst, hwm, hrc⟩ := hokk
  refine lv_aload_n hx hb dX2_pour_0 rfl (lv_at hl 0 rfl) ?_
  refine lv_iconst (v := nI 0) hx hb dX2_pour_1 (by decide) ?_
  refine M_put hx hb hts hown hG hS AM.o hM 0 (by decide) q1292 rfl rfl rfl (up1 N 0 0) I rfl dX2_pour_2 (fun H locs hM hz hS => ?_)
  refine lv_aload_n hx hb dX2_pour_5 rfl (lv_at hl 0 rfl) ?_
  refine lv_iload_n hx hb dX2_pour_6 rfl (lv_at hl 1 rfl) ?_
  refine vp_callSi (W.runV (As := [.int a]) (rest := []) ⟨hx, hb, hml, hown, hts⟩ (c_X2_lives lh D dA a0 ad (up1 N 0 0) I G J a (show ∀ a b, G a b < 2 ^ 31 from by first | omega | assumption | exact hB_up (by assumption) (by omega)) (show (N 3) ≤ 10 from by first | omega | assumption | exact hB_up (by assumption) (by omega))) (w_X2_lives hts q1479 rfl rfl ⟨Nat.le_of_ble_eq_true rfl, Nat.le_of_ble_eq_true rfl⟩) ⟨PqM.blind, M_recv hG hM, PqM.pre hG hM⟩ rfl rfl hl.1 rfl (lv_room (Nat.le_of_ble_eq_true rfl)) dX2_pour_7 ⟨Nat.le_of_ble_eq_true rfl, Nat.le_of_ble_eq_true rfl⟩) (fun rr hrr => ?_)
  subst hrr
  refine kx_int (y := bI (lvI ((N 3)) G a)) rfl ?_
  refine kb_eq (tgt := 42) hx hb dX2_pour_10 (by decide) (fun c_10 => ?_) (fun c_10 => ?_)
  · refine lv_iconst (v := -1) hx hb dX2_pour_42 (by decide) ?_
    subst hQ
    exact W.iret (v := (-1)) hx hb hrt (fun t ht hW => ⟨⟨_, ((up1 N 0 0), I, G, J), rfl, (by dsimp only; rw [if_neg (by simp [pourB, c_10])]; exact ⟨rfl, rfl⟩), by rw [ht]; exact hM, GK.warm hW hG⟩, hS.F ht⟩) hS.2.2 dX2_pour_43
  · obtain ⟨j, hj, rfl, hlj⟩ := lvI_nat (by omega) c_10
    refine lv_aload_n hx hb dX2_pour_13 rfl (lv_at hl 0 rfl) ?_
    refine lv_iload_n hx hb dX2_pour_14 rfl (lv_at hl 2 rfl) ?_
    refine vp_callSi (W.runV (As := [.int b]) (rest := []) ⟨hx, hb, hml, hown, hts⟩ (c_X2_lives lh D dA a0 ad (up1 N 0 0) I G J b (show ∀ a b, G a b < 2 ^ 31 from by first | omega | assumption | exact hB_up (by assumption) (by omega)) (show (N 3) ≤ 10 from by first | omega | assumption | exact hB_up (by assumption) (by omega))) (w_X2_lives hts q1479 rfl rfl ⟨Nat.le_of_ble_eq_true rfl, Nat.le_of_ble_eq_true rfl⟩) ⟨PqM.blind, M_recv hG hM, PqM.pre hG hM⟩ rfl rfl hl.1 rfl (lv_room (Nat.le_of_ble_eq_true rfl)) dX2_pour_15 ⟨Nat.le_of_ble_eq_true rfl, Nat.le_of_ble_eq_true rfl⟩) (fun rr hrr => ?_)
    subst hrr
    refine kx_int (y := bI (lvI ((N 3)) G b)) rfl ?_
    refine kb_eq (tgt := 42) hx hb dX2_pour_18 (by decide) (fun c_18 => ?_) (fun c_18 => ?_)
    · refine lv_iconst (v := -1) hx hb dX2_pour_42 (by decide) ?_
      subst hQ
      exact W.iret (v := (-1)) hx hb hrt (fun t ht hW => ⟨⟨_, ((up1 N 0 0), I, G, J), rfl, (by dsimp only; rw [if_neg (by simp [pourB, c_10, c_18, tn_nI (show j < 2 ^ 31 by omega)])]; exact ⟨rfl, rfl⟩), by rw [ht]; exact hM, GK.warm hW hG⟩, hS.F ht⟩) hS.2.2 dX2_pour_43
    · obtain ⟨k, hk, rfl, hlk⟩ := lvI_nat (by omega) c_18
      refine lv_iload_n hx hb dX2_pour_21 rfl (lv_at hl 1 rfl) ?_
      refine lv_iload_n hx hb dX2_pour_22 rfl (lv_at hl 2 rfl) ?_
      refine lv_icmp_eq (tgt := 42) hx hb dX2_pour_23 (by decide) (fun c_23 => ?_) (fun c_23 => ?_)
      · refine lv_iconst (v := -1) hx hb dX2_pour_42 (by decide) ?_
        subst hQ
        exact W.iret (v := (-1)) hx hb hrt (fun t ht hW => ⟨⟨_, ((up1 N 0 0), I, G, J), rfl, (by dsimp only; rw [if_neg (by simp [pourB, c_10, c_18, c_23, tn_nI (show j < 2 ^ 31 by omega), tn_nI (show k < 2 ^ 31 by omega)])]; exact ⟨rfl, rfl⟩), by rw [ht]; exact hM, GK.warm hW hG⟩, hS.F ht⟩) hS.2.2 dX2_pour_43
      · refine lv_aload_n hx hb dX2_pour_26 rfl (lv_at hl 0 rfl) ?_
        refine lv_iload_n hx hb dX2_pour_27 rfl (lv_at hl 1 rfl) ?_
        refine vp_callSi (W.runV (As := [.int (nI j)]) (rest := []) ⟨hx, hb, hml, hown, hts⟩ (c_X2_grams lh D dA a0 ad (up1 N 0 0) I G J j (show j < 10 from by first | omega | assumption | exact hB_up (by assumption) (by omega))) (w_X2_grams hts q1487 rfl rfl ⟨Nat.le_of_ble_eq_true rfl, Nat.le_of_ble_eq_true rfl⟩) ⟨PqM.blind, M_recv hG hM, PqM.pre hG hM⟩ rfl rfl hl.1 rfl (lv_room (Nat.le_of_ble_eq_true rfl)) dX2_pour_28 ⟨Nat.le_of_ble_eq_true rfl, Nat.le_of_ble_eq_true rfl⟩) (fun rr hrr => ?_)
        subst hrr
        refine kx_int (y := nI (gr G j)) rfl ?_
        refine lv_if_eq (tgt := 42) hx hb dX2_pour_31 (by decide) (fun c_31 => ?_) (fun c_31 => ?_)
        · refine lv_iconst (v := -1) hx hb dX2_pour_42 (by decide) ?_
          subst hQ
          exact W.iret (v := (-1)) hx hb hrt (fun t ht hW => ⟨⟨_, ((up1 N 0 0), I, G, J), rfl, (by dsimp only; rw [if_neg (by simp [pourB, c_10, c_18, c_23, c_31, tn_nI (show j < 2 ^ 31 by omega), tn_nI (show k < 2 ^ 31 by omega)])]; exact ⟨rfl, rfl⟩), by rw [ht]; exact hM, GK.warm hW hG⟩, hS.F ht⟩) hS.2.2 dX2_pour_43
        · refine lv_aload_n hx hb dX2_pour_34 rfl (lv_at hl 0 rfl) ?_
          refine lv_iload_n hx hb dX2_pour_35 rfl (lv_at hl 2 rfl) ?_
          refine vp_callSi (W.runV (As := [.int (nI k)]) (rest := []) ⟨hx, hb, hml, hown, hts⟩ (c_X2_grams lh D dA a0 ad (up1 N 0 0) I G J k (show k < 10 from by first | omega | assumption | exact hB_up (by assumption) (by omega))) (w_X2_grams hts q1487 rfl rfl ⟨Nat.le_of_ble_eq_true rfl, Nat.le_of_ble_eq_true rfl⟩) ⟨PqM.blind, M_recv hG hM, PqM.pre hG hM⟩ rfl rfl hl.1 rfl (lv_room (Nat.le_of_ble_eq_true rfl)) dX2_pour_36 ⟨Nat.le_of_ble_eq_true rfl, Nat.le_of_ble_eq_true rfl⟩) (fun rr hrr => ?_)
          subst hrr
          refine kx_int (y := nI (gr G k)) rfl ?_
          refine lv_if_ne (tgt := 44) hx hb dX2_pour_39 (by decide) (fun c_39 => ?_) (fun c_39 => ?_)
          · have hw := h2.gr (show j < 10 by omega)
            have hv := h2.gr (show k < 10 by omega)
            have hw0 := nI_n0 c_31
            refine lv_aload_n hx hb dX2_pour_44 rfl (lv_at hl 0 rfl) ?_
            refine lv_iload_n hx hb dX2_pour_45 rfl (lv_at hl 1 rfl) ?_
            refine vp_callSi (W.runV (As := [.int (nI j)]) (rest := []) ⟨hx, hb, hml, hown, hts⟩ (c_X2_grams lh D dA a0 ad (up1 N 0 0) I G J j (show j < 10 from by first | omega | assumption | exact hB_up (by assumption) (by omega))) (w_X2_grams hts q1487 rfl rfl ⟨Nat.le_of_ble_eq_true rfl, Nat.le_of_ble_eq_true rfl⟩) ⟨PqM.blind, M_recv hG hM, PqM.pre hG hM⟩ rfl rfl hl.1 rfl (lv_room (Nat.le_of_ble_eq_true rfl)) dX2_pour_46 ⟨Nat.le_of_ble_eq_true rfl, Nat.le_of_ble_eq_true rfl⟩) (fun rr hrr => ?_)
            subst hrr
            refine kx_int (y := nI (gr G j)) rfl ?_
            refine lv_i2l (v := (nI (gr G j)).toInt64) hx hb dX2_pour_49 rfl ?_
            refine lv_lstore_n (lv' := [(3, .long ((nI (gr G j)).toInt64)), (0, .ref a0), (1, .int (nI j)), (2, .int (nI k))]) hx hb dX2_pour_50 rfl hl (by decide) rfl (fun ls hl => ?_)
            refine lv_aload_n hx hb dX2_pour_51 rfl (lv_at hl 1 rfl) ?_
            refine lv_iload_n hx hb dX2_pour_52 rfl (lv_at hl 3 rfl) ?_
            refine vp_callSi (W.runV (As := [.int (nI k)]) (rest := []) ⟨hx, hb, hml, hown, hts⟩ (c_X2_grams lh D dA a0 ad (up1 N 0 0) I G J k (show k < 10 from by first | omega | assumption | exact hB_up (by assumption) (by omega))) (w_X2_grams hts q1487 rfl rfl ⟨Nat.le_of_ble_eq_true rfl, Nat.le_of_ble_eq_true rfl⟩) ⟨PqM.blind, M_recv hG hM, PqM.pre hG hM⟩ rfl rfl hl.1 rfl (lv_room (Nat.le_of_ble_eq_true rfl)) dX2_pour_53 ⟨Nat.le_of_ble_eq_true rfl, Nat.le_of_ble_eq_true rfl⟩) (fun rr hrr => ?_)
            subst hrr
            refine kx_int (y := nI (gr G k)) rfl ?_
            refine lv_i2l (v := (nI (gr G k)).toInt64) hx hb dX2_pour_56 rfl ?_
            refine lv_lstore (lv' := [(5, .long ((nI (gr G k)).toInt64)), (3, .long ((nI (gr G j)).toInt64)), (0, .ref a0), (1, .int (nI j)), (2, .int (nI k))]) hx hb dX2_pour_57 hl (by decide) rfl (fun ls hl => ?_)
            refine lv_lload_n hx hb dX2_pour_59 rfl (lv_at hl 1 rfl) ?_
            refine lv_aload_n hx hb dX2_pour_60 rfl (lv_at hl 2 rfl) ?_
            refine lv_iload_n hx hb dX2_pour_61 rfl (lv_at hl 3 rfl) ?_
            refine lv_aload_n hx hb dX2_pour_62 rfl (lv_at hl 2 rfl) ?_
            refine M_get (v := .int (nI (N 14))) hx hb hts hown hG hM 14 (by decide) q1306 rfl rfl dX2_pour_63 ?_
            refine lv_aload_n hx hb dX2_pour_66 rfl (lv_at hl 2 rfl) ?_
            refine M_get (v := .int (nI (N 19))) hx hb hts hown hG hM 19 (by decide) q1311 rfl rfl dX2_pour_67 ?_
            refine lv_iconst (v := nI 0) hx hb dX2_pour_70 (by decide) ?_
            refine vp_callSi (W.runV (As := [.int (nI j), .int (nI (N 14)), .int (nI (N 19)), .int (nI 0)]) (rest := [.long ((nI (gr G j)).toInt64)]) ⟨hx, hb, hml, hown, hts⟩ (c_X2_spanOf lh D dA a0 ad (up1 N 0 0) I G J j (N 14) (N 19) false (show ∀ a b, G a b < 2 ^ 31 from by first | omega | assumption | exact hB_up (by assumption) (by omega)) (show j < 10 from by first | omega | assumption | exact hB_up (by assumption) (by omega)) (show (N 14) ≤ 600 from by first | omega | assumption | exact hB_up (by assumption) (by omega)) (show (N 19) ≤ 100 from by first | omega | assumption | exact hB_up (by assumption) (by omega))) (w_X2_spanOf hts q1507 rfl rfl ⟨Nat.le_of_ble_eq_true rfl, Nat.le_of_ble_eq_true rfl⟩) ⟨PqM.blind, M_recv hG hM, PqM.pre hG hM⟩ rfl rfl hl.1 rfl (lv_room (Nat.le_of_ble_eq_true rfl)) dX2_pour_71 ⟨Nat.le_of_ble_eq_true rfl, Nat.le_of_ble_eq_true rfl⟩) (fun rr hrr => ?_)
            subst hrr
            refine kx_int (y := spanS G J j (N 14) (N 19) false) rfl ?_
            refine lv_i2l (v := (spanS G J j (N 14) (N 19) false).toInt64) hx hb dX2_pour_74 rfl ?_
            refine lv_lmul hx hb dX2_pour_75 ?_
            refine lv_lload hx hb dX2_pour_76 (lv_at hl 0 rfl) ?_
            refine lv_aload_n hx hb dX2_pour_78 rfl (lv_at hl 2 rfl) ?_
            refine lv_iload_n hx hb dX2_pour_79 rfl (lv_at hl 4 rfl) ?_
            refine lv_aload_n hx hb dX2_pour_80 rfl (lv_at hl 2 rfl) ?_
            refine M_get (v := .int (nI (N 14))) hx hb hts hown hG hM 14 (by decide) q1306 rfl rfl dX2_pour_81 ?_
            refine lv_aload_n hx hb dX2_pour_84 rfl (lv_at hl 2 rfl) ?_
            refine M_get (v := .int (nI (N 19))) hx hb hts hown hG hM 19 (by decide) q1311 rfl rfl dX2_pour_85 ?_
            refine lv_iconst (v := nI 0) hx hb dX2_pour_88 (by decide) ?_
            refine vp_callSi (W.runV (As := [.int (nI k), .int (nI (N 14)), .int (nI (N 19)), .int (nI 0)]) (rest := [.long ((nI (gr G k)).toInt64), .long (((nI (gr G j)).toInt64) * ((spanS G J j (N 14) (N 19) false).toInt64))]) ⟨hx, hb, hml, hown, hts⟩ (c_X2_spanOf lh D dA a0 ad (up1 N 0 0) I G J k (N 14) (N 19) false (show ∀ a b, G a b < 2 ^ 31 from by first | omega | assumption | exact hB_up (by assumption) (by omega)) (show k < 10 from by first | omega | assumption | exact hB_up (by assumption) (by omega)) (show (N 14) ≤ 600 from by first | omega | assumption | exact hB_up (by assumption) (by omega)) (show (N 19) ≤ 100 from by first | omega | assumption | exact hB_up (by assumption) (by omega))) (w_X2_spanOf hts q1507 rfl rfl ⟨Nat.le_of_ble_eq_true rfl, Nat.le_of_ble_eq_true rfl⟩) ⟨PqM.blind, M_recv hG hM, PqM.pre hG hM⟩ rfl rfl hl.1 rfl (lv_room (Nat.le_of_ble_eq_true rfl)) dX2_pour_89 ⟨Nat.le_of_ble_eq_true rfl, Nat.le_of_ble_eq_true rfl⟩) (fun rr hrr => ?_)
            subst hrr
            refine kx_int (y := spanS G J k (N 14) (N 19) false) rfl ?_
            refine lv_i2l (v := (spanS G J k (N 14) (N 19) false).toInt64) hx hb dX2_pour_92 rfl ?_
            refine lv_lmul hx hb dX2_pour_93 ?_
            refine lv_ladd hx hb dX2_pour_94 ?_
            refine lv_lload_n hx hb dX2_pour_95 rfl (lv_at hl 1 rfl) ?_
            refine lv_lload hx hb dX2_pour_96 (lv_at hl 0 rfl) ?_
            refine lv_ladd hx hb dX2_pour_98 ?_
            refine lv_ldiv hx hb dX2_pour_99 (mix_ne (by omega) (by omega) (by omega)) ?_
            refine lv_l2i (v := (((((nI (gr G j)).toInt64) * ((spanS G J j (N 14) (N 19) false).toInt64)) + (((nI (gr G k)).toInt64) * ((spanS G J k (N 14) (N 19) false).toInt64))) / (((nI (gr G j)).toInt64) + ((nI (gr G k)).toInt64))).toInt32) hx hb dX2_pour_100 rfl ?_
            refine lv_istore (lv' := [(7, .int ((((((nI (gr G j)).toInt64) * ((spanS G J j (N 14) (N 19) false).toInt64)) + (((nI (gr G k)).toInt64) * ((spanS G J k (N 14) (N 19) false).toInt64))) / (((nI (gr G j)).toInt64) + ((nI (gr G k)).toInt64))).toInt32)), (5, .long ((nI (gr G k)).toInt64)), (3, .long ((nI (gr G j)).toInt64)), (0, .ref a0), (1, .int (nI j)), (2, .int (nI k))]) hx hb dX2_pour_101 hl (by decide) rfl (fun ls hl => ?_)
            refine lv_lload_n hx hb dX2_pour_103 rfl (lv_at hl 2 rfl) ?_
            refine lv_aload_n hx hb dX2_pour_104 rfl (lv_at hl 3 rfl) ?_
            refine lv_iload_n hx hb dX2_pour_105 rfl (lv_at hl 4 rfl) ?_
            refine lv_aload_n hx hb dX2_pour_106 rfl (lv_at hl 3 rfl) ?_
            refine M_get (v := .int (nI (N 14))) hx hb hts hown hG hM 14 (by decide) q1306 rfl rfl dX2_pour_107 ?_
            refine lv_aload_n hx hb dX2_pour_110 rfl (lv_at hl 3 rfl) ?_
            refine M_get (v := .int (nI (N 19))) hx hb hts hown hG hM 19 (by decide) q1311 rfl rfl dX2_pour_111 ?_
            refine lv_iconst (v := nI 1) hx hb dX2_pour_114 (by decide) ?_
            refine vp_callSi (W.runV (As := [.int (nI j), .int (nI (N 14)), .int (nI (N 19)), .int (nI 1)]) (rest := [.long ((nI (gr G j)).toInt64)]) ⟨hx, hb, hml, hown, hts⟩ (c_X2_spanOf lh D dA a0 ad (up1 N 0 0) I G J j (N 14) (N 19) true (show ∀ a b, G a b < 2 ^ 31 from by first | omega | assumption | exact hB_up (by assumption) (by omega)) (show j < 10 from by first | omega | assumption | exact hB_up (by assumption) (by omega)) (show (N 14) ≤ 600 from by first | omega | assumption | exact hB_up (by assumption) (by omega)) (show (N 19) ≤ 100 from by first | omega | assumption | exact hB_up (by assumption) (by omega))) (w_X2_spanOf hts q1507 rfl rfl ⟨Nat.le_of_ble_eq_true rfl, Nat.le_of_ble_eq_true rfl⟩) ⟨PqM.blind, M_recv hG hM, PqM.pre hG hM⟩ rfl rfl hl.1 rfl (lv_room (Nat.le_of_ble_eq_true rfl)) dX2_pour_115 ⟨Nat.le_of_ble_eq_true rfl, Nat.le_of_ble_eq_true rfl⟩) (fun rr hrr => ?_)
            subst hrr
            refine kx_int (y := spanS G J j (N 14) (N 19) true) rfl ?_
            refine lv_i2l (v := (spanS G J j (N 14) (N 19) true).toInt64) hx hb dX2_pour_118 rfl ?_
            refine lv_lmul hx hb dX2_pour_119 ?_
            refine lv_lload hx hb dX2_pour_120 (lv_at hl 1 rfl) ?_
            refine lv_aload_n hx hb dX2_pour_122 rfl (lv_at hl 3 rfl) ?_
            refine lv_iload_n hx hb dX2_pour_123 rfl (lv_at hl 5 rfl) ?_
            refine lv_aload_n hx hb dX2_pour_124 rfl (lv_at hl 3 rfl) ?_
            refine M_get (v := .int (nI (N 14))) hx hb hts hown hG hM 14 (by decide) q1306 rfl rfl dX2_pour_125 ?_
            refine lv_aload_n hx hb dX2_pour_128 rfl (lv_at hl 3 rfl) ?_
            refine M_get (v := .int (nI (N 19))) hx hb hts hown hG hM 19 (by decide) q1311 rfl rfl dX2_pour_129 ?_
            refine lv_iconst (v := nI 1) hx hb dX2_pour_132 (by decide) ?_
            refine vp_callSi (W.runV (As := [.int (nI k), .int (nI (N 14)), .int (nI (N 19)), .int (nI 1)]) (rest := [.long ((nI (gr G k)).toInt64), .long (((nI (gr G j)).toInt64) * ((spanS G J j (N 14) (N 19) true).toInt64))]) ⟨hx, hb, hml, hown, hts⟩ (c_X2_spanOf lh D dA a0 ad (up1 N 0 0) I G J k (N 14) (N 19) true (show ∀ a b, G a b < 2 ^ 31 from by first | omega | assumption | exact hB_up (by assumption) (by omega)) (show k < 10 from by first | omega | assumption | exact hB_up (by assumption) (by omega)) (show (N 14) ≤ 600 from by first | omega | assumption | exact hB_up (by assumption) (by omega)) (show (N 19) ≤ 100 from by first | omega | assumption | exact hB_up (by assumption) (by omega))) (w_X2_spanOf hts q1507 rfl rfl ⟨Nat.le_of_ble_eq_true rfl, Nat.le_of_ble_eq_true rfl⟩) ⟨PqM.blind, M_recv hG hM, PqM.pre hG hM⟩ rfl rfl hl.1 rfl (lv_room (Nat.le_of_ble_eq_true rfl)) dX2_pour_133 ⟨Nat.le_of_ble_eq_true rfl, Nat.le_of_ble_eq_true rfl⟩) (fun rr hrr => ?_)
            subst hrr
            refine kx_int (y := spanS G J k (N 14) (N 19) true) rfl ?_
            refine lv_i2l (v := (spanS G J k (N 14) (N 19) true).toInt64) hx hb dX2_pour_136 rfl ?_
            refine lv_lmul hx hb dX2_pour_137 ?_
            refine lv_ladd hx hb dX2_pour_138 ?_
            refine lv_lload_n hx hb dX2_pour_139 rfl (lv_at hl 2 rfl) ?_
            refine lv_ladd hx hb dX2_pour_140 ?_
            refine lv_lload hx hb dX2_pour_141 (lv_at hl 1 rfl) ?_
            refine lv_ladd hx hb dX2_pour_143 ?_
            refine lv_lconst (v := 1) hx hb dX2_pour_144 (by decide) ?_
            refine lv_lsub hx hb dX2_pour_145 ?_
            refine lv_lload_n hx hb dX2_pour_146 rfl (lv_at hl 2 rfl) ?_
            refine lv_lload hx hb dX2_pour_147 (lv_at hl 1 rfl) ?_
            refine lv_ladd hx hb dX2_pour_149 ?_
            refine lv_ldiv hx hb dX2_pour_150 (mix_ne (by omega) (by omega) (by omega)) ?_
            refine lv_l2i (v := ((((((((nI (gr G j)).toInt64) * ((spanS G J j (N 14) (N 19) true).toInt64)) + (((nI (gr G k)).toInt64) * ((spanS G J k (N 14) (N 19) true).toInt64))) + ((nI (gr G j)).toInt64)) + ((nI (gr G k)).toInt64)) - 1) / (((nI (gr G j)).toInt64) + ((nI (gr G k)).toInt64))).toInt32) hx hb dX2_pour_151 rfl ?_
            refine lv_istore (lv' := [(8, .int (((((((((nI (gr G j)).toInt64) * ((spanS G J j (N 14) (N 19) true).toInt64)) + (((nI (gr G k)).toInt64) * ((spanS G J k (N 14) (N 19) true).toInt64))) + ((nI (gr G j)).toInt64)) + ((nI (gr G k)).toInt64)) - 1) / (((nI (gr G j)).toInt64) + ((nI (gr G k)).toInt64))).toInt32)), (7, .int ((((((nI (gr G j)).toInt64) * ((spanS G J j (N 14) (N 19) false).toInt64)) + (((nI (gr G k)).toInt64) * ((spanS G J k (N 14) (N 19) false).toInt64))) / (((nI (gr G j)).toInt64) + ((nI (gr G k)).toInt64))).toInt32)), (5, .long ((nI (gr G k)).toInt64)), (3, .long ((nI (gr G j)).toInt64)), (0, .ref a0), (1, .int (nI j)), (2, .int (nI k))]) hx hb dX2_pour_152 hl (by decide) rfl (fun ls hl => ?_)
            refine lv_aload_n hx hb dX2_pour_154 rfl (lv_at hl 4 rfl) ?_
            refine M_get (v := .ref (ad 7)) hx hb hts hown hG hM 7 (by decide) q1299 rfl rfl dX2_pour_155 ?_
            refine lv_iload_n hx hb dX2_pour_158 rfl (lv_at hl 6 rfl) ?_
            refine lv_lload_n hx hb dX2_pour_159 rfl (lv_at hl 3 rfl) ?_
            refine lv_aload_n hx hb dX2_pour_160 rfl (lv_at hl 4 rfl) ?_
            refine M_get (v := .ref (ad 7)) hx hb hts hown hG hM 7 (by decide) q1299 rfl rfl dX2_pour_161 ?_
            refine lv_iload_n hx hb dX2_pour_164 rfl (lv_at hl 5 rfl) ?_
            refine M_iald (v := nI (G 7 j)) hx hb hG hM 7 rfl rfl (show j < 10 from by omega) (rfl) dX2_pour_165 ?_
            refine lv_i2l (v := (nI (G 7 j)).toInt64) hx hb dX2_pour_166 rfl ?_
            refine lv_lmul hx hb dX2_pour_167 ?_
            refine lv_lload hx hb dX2_pour_168 (lv_at hl 2 rfl) ?_
            refine lv_aload_n hx hb dX2_pour_170 rfl (lv_at hl 4 rfl) ?_
            refine M_get (v := .ref (ad 7)) hx hb hts hown hG hM 7 (by decide) q1299 rfl rfl dX2_pour_171 ?_
            refine lv_iload_n hx hb dX2_pour_174 rfl (lv_at hl 6 rfl) ?_
            refine M_iald (v := nI (G 7 k)) hx hb hG hM 7 rfl rfl (show k < 10 from by omega) (rfl) dX2_pour_175 ?_
            refine lv_i2l (v := (nI (G 7 k)).toInt64) hx hb dX2_pour_176 rfl ?_
            refine lv_lmul hx hb dX2_pour_177 ?_
            refine lv_ladd hx hb dX2_pour_178 ?_
            refine lv_lload_n hx hb dX2_pour_179 rfl (lv_at hl 3 rfl) ?_
            refine lv_lload hx hb dX2_pour_180 (lv_at hl 2 rfl) ?_
            refine lv_ladd hx hb dX2_pour_182 ?_
            refine lv_ldiv hx hb dX2_pour_183 (mix_ne (by omega) (by omega) (by omega)) ?_
            refine lv_l2i (v := (((((nI (gr G j)).toInt64) * ((nI (G 7 j)).toInt64)) + (((nI (gr G k)).toInt64) * ((nI (G 7 k)).toInt64))) / (((nI (gr G j)).toInt64) + ((nI (gr G k)).toInt64))).toInt32) hx hb dX2_pour_184 rfl ?_
            refine kx_int (y := nI ((gr G j * G 7 j + gr G k * G 7 k) / (gr G j + gr G k))) (mixN (by omega) (by omega) (hB _ _) (hB _ _) (by omega)) ?_
            refine M_iastN (v := (gr G j * G 7 j + gr G k * G 7 k) / (gr G j + gr G k)) hx hb hG hS hM 7 rfl (AM.a 7 rfl) rfl rfl (show k < 10 from by omega) dX2_pour_185 (fun H locs hM hz hS => ?_)
            refine lv_iconst (v := nI 0) hx hb dX2_pour_186 (by decide) ?_
            refine lv_istore (lv' := [(9, .int (nI 0)), (8, .int (((((((((nI (gr G j)).toInt64) * ((spanS G J j (N 14) (N 19) true).toInt64)) + (((nI (gr G k)).toInt64) * ((spanS G J k (N 14) (N 19) true).toInt64))) + ((nI (gr G j)).toInt64)) + ((nI (gr G k)).toInt64)) - 1) / (((nI (gr G j)).toInt64) + ((nI (gr G k)).toInt64))).toInt32)), (7, .int ((((((nI (gr G j)).toInt64) * ((spanS G J j (N 14) (N 19) false).toInt64)) + (((nI (gr G k)).toInt64) * ((spanS G J k (N 14) (N 19) false).toInt64))) / (((nI (gr G j)).toInt64) + ((nI (gr G k)).toInt64))).toInt32)), (5, .long ((nI (gr G k)).toInt64)), (3, .long ((nI (gr G j)).toInt64)), (0, .ref a0), (1, .int (nI j)), (2, .int (nI k))]) hx hb dX2_pour_187 hl (by decide) rfl (fun ls hl => ?_)
            have L189 : ∀ (nn189 : Nat) (l : Nat) (G1 : Nat → Nat → Nat), (l ≤ 20) → (G1 = pourT (up2 G 7 k ((gr G j * G 7 j + gr G k * G 7 k) / (gr G j + gr G k))) j k l) → 20 - l < nn189 → ∀ (H : Heap) (locs : List Loc), RM D dA a0 ad (up1 N 0 0) I G1 J H → va_S (AM a0 ad s.heap.size) s.heap H locs → ∀ (ls : Array Slot), lv_has ls 10 [(0, .ref a0), (1, .int (nI j)), (2, .int (nI k)), (7, .int ((((((nI (gr G j)).toInt64) * ((spanS G J j (N 14) (N 19) false).toInt64)) + (((nI (gr G k)).toInt64) * ((spanS G J k (N 14) (N 19) false).toInt64))) / (((nI (gr G j)).toInt64) + ((nI (gr G k)).toInt64))).toInt32)), (8, .int (((((((((nI (gr G j)).toInt64) * ((spanS G J j (N 14) (N 19) true).toInt64)) + (((nI (gr G k)).toInt64) * ((spanS G J k (N 14) (N 19) true).toInt64))) + ((nI (gr G j)).toInt64)) + ((nI (gr G k)).toInt64)) - 1) / (((nI (gr G j)).toInt64) + ((nI (gr G k)).toInt64))).toInt32)), (9, .int (nI l))] → W p lh e r_X2_pour s m args below meth cd H locs 0 0 Q (F0 m 189 ls []) := by
              intro nn189
              induction nn189 with
              | zero => intro l G1 i189_0 i189_1 hm189; exact absurd hm189 (Nat.not_lt_zero _)
              | succ nn189 ih189 =>
                intro l G1 i189_0 i189_1 hm189 H locs hM hS ls hl
                refine lv_iload hx hb dX2_pour_189 (lv_at hl 5 rfl) ?_
                refine lv_bipush (v := nI 20) hx hb dX2_pour_191 (by decide) ?_
                refine kn_cge (tgt := 242) hx hb dX2_pour_193 (by decide) (by omega) (by omega) (fun c_193 => ?_) (fun c_193 => ?_)
                · refine lv_aload_n hx hb dX2_pour_242 rfl (lv_at hl 0 rfl) ?_
                  refine M_get (v := .ref (ad 10)) hx hb hts hown hG hM 10 (by decide) q1302 rfl rfl dX2_pour_243 ?_
                  refine lv_iload_n hx hb dX2_pour_246 rfl (lv_at hl 2 rfl) ?_
                  refine lv_iload hx hb dX2_pour_247 (lv_at hl 3 rfl) ?_
                  refine M_iastJ (v := (((((nI (gr G j)).toInt64) * ((spanS G J j (N 14) (N 19) false).toInt64)) + (((nI (gr G k)).toInt64) * ((spanS G J k (N 14) (N 19) false).toInt64))) / (((nI (gr G j)).toInt64) + ((nI (gr G k)).toInt64))).toInt32) hx hb hG hS hM 10 rfl (AM.a 10 rfl) rfl rfl (show k < 10 from by omega) dX2_pour_249 (fun H locs hM hz hS => ?_)
                  refine lv_aload_n hx hb dX2_pour_250 rfl (lv_at hl 0 rfl) ?_
                  refine M_get (v := .ref (ad 11)) hx hb hts hown hG hM 11 (by decide) q1303 rfl rfl dX2_pour_251 ?_
                  refine lv_iload_n hx hb dX2_pour_254 rfl (lv_at hl 2 rfl) ?_
                  refine lv_iload hx hb dX2_pour_255 (lv_at hl 4 rfl) ?_
                  refine M_iastJ (v := ((((((((nI (gr G j)).toInt64) * ((spanS G J j (N 14) (N 19) true).toInt64)) + (((nI (gr G k)).toInt64) * ((spanS G J k (N 14) (N 19) true).toInt64))) + ((nI (gr G j)).toInt64)) + ((nI (gr G k)).toInt64)) - 1) / (((nI (gr G j)).toInt64) + ((nI (gr G k)).toInt64))).toInt32) hx hb hG hS hM 11 rfl (AM.a 11 rfl) rfl rfl (show k < 10 from by omega) dX2_pour_257 (fun H locs hM hz hS => ?_)
                  refine lv_aload_n hx hb dX2_pour_258 rfl (lv_at hl 0 rfl) ?_
                  refine M_get (v := .ref (ad 9)) hx hb hts hown hG hM 9 (by decide) q1301 rfl rfl dX2_pour_259 ?_
                  refine lv_iload_n hx hb dX2_pour_262 rfl (lv_at hl 2 rfl) ?_
                  refine lv_aload_n hx hb dX2_pour_263 rfl (lv_at hl 0 rfl) ?_
                  refine M_get (v := .int (nI (N 14))) hx hb hts hown hG hM 14 (by decide) q1306 rfl rfl dX2_pour_264 ?_
                  refine M_iastN (v := N 14) hx hb hG hS hM 9 rfl (AM.a 9 rfl) rfl rfl (show k < 10 from by omega) dX2_pour_267 (fun H locs hM hz hS => ?_)
                  refine lv_aload_n hx hb dX2_pour_268 rfl (lv_at hl 0 rfl) ?_
                  refine M_get (v := .ref (ad 8)) hx hb hts hown hG hM 8 (by decide) q1300 rfl rfl dX2_pour_269 ?_
                  refine lv_iload_n hx hb dX2_pour_272 rfl (lv_at hl 2 rfl) ?_
                  refine lv_aload_n hx hb dX2_pour_273 rfl (lv_at hl 0 rfl) ?_
                  refine M_get (v := .ref (ad 8)) hx hb hts hown hG hM 8 (by decide) q1300 rfl rfl dX2_pour_274 ?_
                  refine lv_iload_n hx hb dX2_pour_277 rfl (lv_at hl 1 rfl) ?_
                  refine M_iald (v := nI (G 8 j)) hx hb hG hM 8 rfl rfl (show j < 10 from by omega) (show nI (G1 8 j) = nI (G 8 j) by rw [i189_1, pourT_o (by decide), up2_o (by decide)]) dX2_pour_278 ?_
                  refine lv_aload_n hx hb dX2_pour_279 rfl (lv_at hl 0 rfl) ?_
                  refine M_get (v := .ref (ad 8)) hx hb hts hown hG hM 8 (by decide) q1300 rfl rfl dX2_pour_280 ?_
                  refine lv_iload_n hx hb dX2_pour_283 rfl (lv_at hl 2 rfl) ?_
                  refine M_iald (v := nI (G 8 k)) hx hb hG hM 8 rfl rfl (show k < 10 from by omega) (show nI (G1 8 k) = nI (G 8 k) by rw [i189_1, pourT_o (by decide), up2_o (by decide)]) dX2_pour_284 ?_
                  refine kn_cle (tgt := 297) hx hb dX2_pour_285 (by decide) (hB _ _) (hB _ _) (fun c_285 => ?_) (fun c_285 => ?_)
                  · refine lv_aload_n hx hb dX2_pour_297 rfl (lv_at hl 0 rfl) ?_
                    refine M_get (v := .ref (ad 8)) hx hb hts hown hG hM 8 (by decide) q1300 rfl rfl dX2_pour_298 ?_
                    refine lv_iload_n hx hb dX2_pour_301 rfl (lv_at hl 2 rfl) ?_
                    refine M_iald (v := nI (G 8 k)) hx hb hG hM 8 rfl rfl (show k < 10 from by omega) (show nI (G1 8 k) = nI (G 8 k) by rw [i189_1, pourT_o (by decide), up2_o (by decide)]) dX2_pour_302 ?_
                    refine M_iastN (v := G 8 k) hx hb hG hS hM 8 rfl (AM.a 8 rfl) rfl rfl (show k < 10 from by omega) dX2_pour_303 (fun H locs hM hz hS => ?_)
                    refine lv_aload_n hx hb dX2_pour_304 rfl (lv_at hl 0 rfl) ?_
                    refine M_get (v := .ref (ad 6)) hx hb hts hown hG hM 6 (by decide) q1298 rfl rfl dX2_pour_305 ?_
                    refine lv_iload_n hx hb dX2_pour_308 rfl (lv_at hl 2 rfl) ?_
                    refine lv_iconst (v := nI 0) hx hb dX2_pour_309 (by decide) ?_
                    refine M_iastN (v := 0) hx hb hG hS hM 6 rfl (AM.a 6 rfl) rfl rfl (show k < 10 from by omega) dX2_pour_310 (fun H locs hM hz hS => ?_)
                    refine lv_aload_n hx hb dX2_pour_311 rfl (lv_at hl 0 rfl) ?_
                    refine M_get (v := .ref (ad 6)) hx hb hts hown hG hM 6 (by decide) q1298 rfl rfl dX2_pour_312 ?_
                    refine lv_iload_n hx hb dX2_pour_315 rfl (lv_at hl 1 rfl) ?_
                    refine lv_iconst (v := nI 4) hx hb dX2_pour_316 (by decide) ?_
                    refine M_iastN (v := 4) hx hb hG hS hM 6 rfl (AM.a 6 rfl) rfl rfl (show j < 10 from by omega) dX2_pour_317 (fun H locs hM hz hS => ?_)
                    refine lv_aload_n hx hb dX2_pour_318 rfl (lv_at hl 0 rfl) ?_
                    refine lv_iload_n hx hb dX2_pour_319 rfl (lv_at hl 2 rfl) ?_
                    refine vp_callSi (W.runV (As := [.int (nI k)]) (rest := []) ⟨hx, hb, hml, hown, hts⟩ (c_X2_grams lh D dA a0 ad (up1 N 0 0) I (up2 (up2 (up2 (up2 G1 9 k (N 14)) 8 k (G 8 k)) 6 k 0) 6 j 4) (up2 (up2 J 10 k ((((((nI (gr G j)).toInt64) * ((spanS G J j (N 14) (N 19) false).toInt64)) + (((nI (gr G k)).toInt64) * ((spanS G J k (N 14) (N 19) false).toInt64))) / (((nI (gr G j)).toInt64) + ((nI (gr G k)).toInt64))).toInt32)) 11 k (((((((((nI (gr G j)).toInt64) * ((spanS G J j (N 14) (N 19) true).toInt64)) + (((nI (gr G k)).toInt64) * ((spanS G J k (N 14) (N 19) true).toInt64))) + ((nI (gr G j)).toInt64)) + ((nI (gr G k)).toInt64)) - 1) / (((nI (gr G j)).toInt64) + ((nI (gr G k)).toInt64))).toInt32)) k (show k < 10 from by first | omega | assumption | exact hB_up (by assumption) (by omega))) (w_X2_grams hts q1487 rfl rfl ⟨Nat.le_of_ble_eq_true rfl, Nat.le_of_ble_eq_true rfl⟩) ⟨PqM.blind, M_recv hG hM, PqM.pre hG hM⟩ rfl rfl hl.1 rfl (lv_room (Nat.le_of_ble_eq_true rfl)) dX2_pour_320 ⟨Nat.le_of_ble_eq_true rfl, Nat.le_of_ble_eq_true rfl⟩) (fun rr hrr => ?_)
                    subst hrr
                    refine kx_int (y := nI (gr (up2 (up2 (up2 (up2 G1 9 k (N 14)) 8 k (G 8 k)) 6 k 0) 6 j 4) k)) rfl ?_
                    subst hQ
                    exact W.iret (v := nI (gr (up2 (up2 (up2 (up2 G1 9 k (N 14)) 8 k (G 8 k)) 6 k 0) 6 j 4) k)) hx hb hrt (fun t ht hW => ⟨⟨_, ((up1 N 0 0), I, (up2 (up2 (up2 (up2 G1 9 k (N 14)) 8 k (G 8 k)) 6 k 0) 6 j 4), (up2 (up2 J 10 k ((((((nI (gr G j)).toInt64) * ((spanS G J j (N 14) (N 19) false).toInt64)) + (((nI (gr G k)).toInt64) * ((spanS G J k (N 14) (N 19) false).toInt64))) / (((nI (gr G j)).toInt64) + ((nI (gr G k)).toInt64))).toInt32)) 11 k (((((((((nI (gr G j)).toInt64) * ((spanS G J j (N 14) (N 19) true).toInt64)) + (((nI (gr G k)).toInt64) * ((spanS G J k (N 14) (N 19) true).toInt64))) + ((nI (gr G j)).toInt64)) + ((nI (gr G k)).toInt64)) - 1) / (((nI (gr G j)).toInt64) + ((nI (gr G k)).toInt64))).toInt32))), rfl, (by dsimp only; rw [if_pos (by simp [pourB, c_10, c_18, c_23, c_31, c_39, tn_nI (show j < 2 ^ 31 by omega), tn_nI (show k < 2 ^ 31 by omega)]), tn_nI (show j < 2 ^ 31 by omega), tn_nI (show k < 2 ^ 31 by omega)]; have e : l = 20 := (by omega); subst e; subst i189_1; unfold pourG; rw [if_neg (by omega)]; exact ⟨rfl, rfl⟩), by rw [ht]; exact hM, GK.warm hW hG⟩, hS.F ht⟩) hS.2.2 dX2_pour_323
                  · refine lv_aload_n hx hb dX2_pour_288 rfl (lv_at hl 0 rfl) ?_
                    refine M_get (v := .ref (ad 8)) hx hb hts hown hG hM 8 (by decide) q1300 rfl rfl dX2_pour_289 ?_
                    refine lv_iload_n hx hb dX2_pour_292 rfl (lv_at hl 1 rfl) ?_
                    refine M_iald (v := nI (G 8 j)) hx hb hG hM 8 rfl rfl (show j < 10 from by omega) (show nI (G1 8 j) = nI (G 8 j) by rw [i189_1, pourT_o (by decide), up2_o (by decide)]) dX2_pour_293 ?_
                    refine lv_goto (tgt := 303) hx hb dX2_pour_294 (by decide) ?_
                    refine M_iastN (v := G 8 j) hx hb hG hS hM 8 rfl (AM.a 8 rfl) rfl rfl (show k < 10 from by omega) dX2_pour_303 (fun H locs hM hz hS => ?_)
                    refine lv_aload_n hx hb dX2_pour_304 rfl (lv_at hl 0 rfl) ?_
                    refine M_get (v := .ref (ad 6)) hx hb hts hown hG hM 6 (by decide) q1298 rfl rfl dX2_pour_305 ?_
                    refine lv_iload_n hx hb dX2_pour_308 rfl (lv_at hl 2 rfl) ?_
                    refine lv_iconst (v := nI 0) hx hb dX2_pour_309 (by decide) ?_
                    refine M_iastN (v := 0) hx hb hG hS hM 6 rfl (AM.a 6 rfl) rfl rfl (show k < 10 from by omega) dX2_pour_310 (fun H locs hM hz hS => ?_)
                    refine lv_aload_n hx hb dX2_pour_311 rfl (lv_at hl 0 rfl) ?_
                    refine M_get (v := .ref (ad 6)) hx hb hts hown hG hM 6 (by decide) q1298 rfl rfl dX2_pour_312 ?_
                    refine lv_iload_n hx hb dX2_pour_315 rfl (lv_at hl 1 rfl) ?_
                    refine lv_iconst (v := nI 4) hx hb dX2_pour_316 (by decide) ?_
                    refine M_iastN (v := 4) hx hb hG hS hM 6 rfl (AM.a 6 rfl) rfl rfl (show j < 10 from by omega) dX2_pour_317 (fun H locs hM hz hS => ?_)
                    refine lv_aload_n hx hb dX2_pour_318 rfl (lv_at hl 0 rfl) ?_
                    refine lv_iload_n hx hb dX2_pour_319 rfl (lv_at hl 2 rfl) ?_
                    refine vp_callSi (W.runV (As := [.int (nI k)]) (rest := []) ⟨hx, hb, hml, hown, hts⟩ (c_X2_grams lh D dA a0 ad (up1 N 0 0) I (up2 (up2 (up2 (up2 G1 9 k (N 14)) 8 k (G 8 j)) 6 k 0) 6 j 4) (up2 (up2 J 10 k ((((((nI (gr G j)).toInt64) * ((spanS G J j (N 14) (N 19) false).toInt64)) + (((nI (gr G k)).toInt64) * ((spanS G J k (N 14) (N 19) false).toInt64))) / (((nI (gr G j)).toInt64) + ((nI (gr G k)).toInt64))).toInt32)) 11 k (((((((((nI (gr G j)).toInt64) * ((spanS G J j (N 14) (N 19) true).toInt64)) + (((nI (gr G k)).toInt64) * ((spanS G J k (N 14) (N 19) true).toInt64))) + ((nI (gr G j)).toInt64)) + ((nI (gr G k)).toInt64)) - 1) / (((nI (gr G j)).toInt64) + ((nI (gr G k)).toInt64))).toInt32)) k (show k < 10 from by first | omega | assumption | exact hB_up (by assumption) (by omega))) (w_X2_grams hts q1487 rfl rfl ⟨Nat.le_of_ble_eq_true rfl, Nat.le_of_ble_eq_true rfl⟩) ⟨PqM.blind, M_recv hG hM, PqM.pre hG hM⟩ rfl rfl hl.1 rfl (lv_room (Nat.le_of_ble_eq_true rfl)) dX2_pour_320 ⟨Nat.le_of_ble_eq_true rfl, Nat.le_of_ble_eq_true rfl⟩) (fun rr hrr => ?_)
                    subst hrr
                    refine kx_int (y := nI (gr (up2 (up2 (up2 (up2 G1 9 k (N 14)) 8 k (G 8 j)) 6 k 0) 6 j 4) k)) rfl ?_
                    subst hQ
                    exact W.iret (v := nI (gr (up2 (up2 (up2 (up2 G1 9 k (N 14)) 8 k (G 8 j)) 6 k 0) 6 j 4) k)) hx hb hrt (fun t ht hW => ⟨⟨_, ((up1 N 0 0), I, (up2 (up2 (up2 (up2 G1 9 k (N 14)) 8 k (G 8 j)) 6 k 0) 6 j 4), (up2 (up2 J 10 k ((((((nI (gr G j)).toInt64) * ((spanS G J j (N 14) (N 19) false).toInt64)) + (((nI (gr G k)).toInt64) * ((spanS G J k (N 14) (N 19) false).toInt64))) / (((nI (gr G j)).toInt64) + ((nI (gr G k)).toInt64))).toInt32)) 11 k (((((((((nI (gr G j)).toInt64) * ((spanS G J j (N 14) (N 19) true).toInt64)) + (((nI (gr G k)).toInt64) * ((spanS G J k (N 14) (N 19) true).toInt64))) + ((nI (gr G j)).toInt64)) + ((nI (gr G k)).toInt64)) - 1) / (((nI (gr G j)).toInt64) + ((nI (gr G k)).toInt64))).toInt32))), rfl, (by dsimp only; rw [if_pos (by simp [pourB, c_10, c_18, c_23, c_31, c_39, tn_nI (show j < 2 ^ 31 by omega), tn_nI (show k < 2 ^ 31 by omega)]), tn_nI (show j < 2 ^ 31 by omega), tn_nI (show k < 2 ^ 31 by omega)]; have e : l = 20 := (by omega); subst e; subst i189_1; unfold pourG; rw [if_pos c_285]; exact ⟨rfl, rfl⟩), by rw [ht]; exact hM, GK.warm hW hG⟩, hS.F ht⟩) hS.2.2 dX2_pour_323
                · refine lv_aload_n hx hb dX2_pour_196 rfl (lv_at hl 0 rfl) ?_
                  refine M_get (v := .ref (ad 4)) hx hb hts hown hG hM 4 (by decide) q1296 rfl rfl dX2_pour_197 ?_
                  refine lv_bipush (v := nI 20) hx hb dX2_pour_200 (by decide) ?_
                  refine lv_iload_n hx hb dX2_pour_202 rfl (lv_at hl 2 rfl) ?_
                  refine kn_mul hx hb dX2_pour_203 ?_
                  refine lv_iload hx hb dX2_pour_204 (lv_at hl 5 rfl) ?_
                  refine kn_add hx hb dX2_pour_206 ?_
                  refine lv_dup2_11 hx hb dX2_pour_207 rfl rfl ?_
                  refine M_iald (v := nI (G1 4 (20 * k + l))) hx hb hG hM 4 rfl rfl (show 20 * k + l < 200 from by omega) (rfl) dX2_pour_208 ?_
                  refine lv_aload_n hx hb dX2_pour_209 rfl (lv_at hl 0 rfl) ?_
                  refine M_get (v := .ref (ad 4)) hx hb hts hown hG hM 4 (by decide) q1296 rfl rfl dX2_pour_210 ?_
                  refine lv_bipush (v := nI 20) hx hb dX2_pour_213 (by decide) ?_
                  refine lv_iload_n hx hb dX2_pour_215 rfl (lv_at hl 1 rfl) ?_
                  refine kn_mul hx hb dX2_pour_216 ?_
                  refine lv_iload hx hb dX2_pour_217 (lv_at hl 5 rfl) ?_
                  refine kn_add hx hb dX2_pour_219 ?_
                  refine M_iald (v := nI (G1 4 (20 * j + l))) hx hb hG hM 4 rfl rfl (show 20 * j + l < 200 from by omega) (rfl) dX2_pour_220 ?_
                  refine kn_add hx hb dX2_pour_221 ?_
                  refine M_iastN (v := G1 4 (20 * k + l) + (G1 4 (20 * j + l))) hx hb hG hS hM 4 rfl (AM.a 4 rfl) rfl rfl (show 20 * k + l < 200 from by omega) dX2_pour_222 (fun H locs hM hz hS => ?_)
                  refine lv_aload_n hx hb dX2_pour_223 rfl (lv_at hl 0 rfl) ?_
                  refine M_get (v := .ref (ad 4)) hx hb hts hown hG hM 4 (by decide) q1296 rfl rfl dX2_pour_224 ?_
                  refine lv_bipush (v := nI 20) hx hb dX2_pour_227 (by decide) ?_
                  refine lv_iload_n hx hb dX2_pour_229 rfl (lv_at hl 1 rfl) ?_
                  refine kn_mul hx hb dX2_pour_230 ?_
                  refine lv_iload hx hb dX2_pour_231 (lv_at hl 5 rfl) ?_
                  refine kn_add hx hb dX2_pour_233 ?_
                  refine lv_iconst (v := nI 0) hx hb dX2_pour_234 (by decide) ?_
                  refine M_iastN (v := 0) hx hb hG hS hM 4 rfl (AM.a 4 rfl) rfl rfl (show 20 * j + l < 200 from by omega) dX2_pour_235 (fun H locs hM hz hS => ?_)
                  refine lv_iinc (v := nI (l + 1)) (lv' := [(9, .int (nI (l + 1))), (0, .ref a0), (1, .int (nI j)), (2, .int (nI k)), (7, .int ((((((nI (gr G j)).toInt64) * ((spanS G J j (N 14) (N 19) false).toInt64)) + (((nI (gr G k)).toInt64) * ((spanS G J k (N 14) (N 19) false).toInt64))) / (((nI (gr G j)).toInt64) + ((nI (gr G k)).toInt64))).toInt32)), (8, .int (((((((((nI (gr G j)).toInt64) * ((spanS G J j (N 14) (N 19) true).toInt64)) + (((nI (gr G k)).toInt64) * ((spanS G J k (N 14) (N 19) true).toInt64))) + ((nI (gr G j)).toInt64)) + ((nI (gr G k)).toInt64)) - 1) / (((nI (gr G j)).toInt64) + ((nI (gr G k)).toInt64))).toInt32))]) hx hb dX2_pour_236 hl (k := 5) rfl (show nI l + Int32.ofInt 1 = nI (l + 1) from nI_add _ 1) (by decide) rfl (fun ls hl => ?_)
                  refine lv_goto (tgt := 189) hx hb dX2_pour_239 (by decide) ?_
                  exact ih189 (l + 1) (up2 (up2 G1 4 (20 * k + l) (G1 4 (20 * k + l) + (G1 4 (20 * j + l)))) 4 (20 * j + l) 0) (by omega) (by rw [i189_1]; rfl) (by omega) _ _ hM hS _ (lv_sub hl [1, 2, 3, 4, 5, 0] rfl)
            exact L189 _ 0 (up2 G 7 k ((gr G j * G 7 j + gr G k * G 7 k) / (gr G j + gr G k))) (by omega) (rfl) (Nat.lt_succ_self _) _ _ hM hS _ (lv_sub hl [5, 6, 7, 2, 1, 0] rfl)
          · refine lv_iconst (v := -1) hx hb dX2_pour_42 (by decide) ?_
            subst hQ
            exact W.iret (v := (-1)) hx hb hrt (fun t ht hW => ⟨⟨_, ((up1 N 0 0), I, G, J), rfl, (by dsimp only; rw [if_neg (by simp [pourB, c_10, c_18, c_23, c_31, c_39, tn_nI (show j < 2 ^ 31 by omega), tn_nI (show k < 2 ^ 31 by omega)])]; exact ⟨rfl, rfl⟩), by rw [ht]; exact hM, GK.warm hW hG⟩, hS.F ht⟩) hS.2.2 dX2_pour_43
theorem w_X2_pour {R : Room} {s : State} {args : Array Value} {own : String} {idx : Nat} (hts : ∀ w ∈ lw_all, w.before args s = true) (h1 : Cond.methodLink own idx yX2_pour ∈ lw_all) {rm : Room} {mc ms : Nat} (hrc : rm.cells = mc) (hrs : rm.slots = ms) (hR : rm.frames + 1 ≤ R.frames ∧ 8 + (10 + 11) + rm.locals ≤ R.locals) : CallW R s args own RX2 idx yX2_pour cX2_pour 10 (some .int) (ws_ yX2_pour cX2_pour 10 (some .int)) rm mc ms 2 := cwV 2 hts (lw_V h1 q1623 q1624 q70 q1625) rfl hrc hrs (by decide +kernel) hR
