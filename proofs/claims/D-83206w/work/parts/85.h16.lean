set_option maxRecDepth 100000
abbrev r_X1_part : Room := { frames := 3, cells := 0, slots := 0, locals := 64 }
set_option maxHeartbeats 1000000 in
theorem c_X1_part (lh : Launch) (A : Nat → Prop) (D : va_G) (dA : Nat → ClassId) (K : Nat → Nat) (ad X : Nat → Nat → Nat) (Y : Nat → Nat → Nat → Int32) (N : Nat → Nat) (I : Nat → Int32) (G : Nat → Nat → Nat) (J : Nat → Nat → Int32) (c : Int32) (l : Int32) (h1 : N 3 ≤ 10) (h2 : N 1 ≤ 20) (h3 : XOk N G X) (h4 : partB N c l = true) : Met lh yX1_part (ws_ yX1_part cX1_part 3 (some .int)) r_X1_part (PX (fun U H => RH A D dA K ad X Y N I G J H ∧ GK D dA U) [.ref (ad 0 0), .int c, .int l]) (vp_Si (fun rv => rv = nI (G 4 (20 * tn c + tn l)))) 0 0 (fun _ => False) := by
  refine Met.ofW (cc := cX1_part) (maxL := 3) (ret := (some .int)) (by decide) rfl ?_
  intro p e s m args below meth cd s₁ B hml hv
  obtain ⟨hargs, hH, hG⟩ := hv
  have hx := B.exec
  have hb := B.bytes
  have hrt := B.returns
  have hts := atoms_spec (ws := (ws_ yX1_part cX1_part 3 (some .int))) B.pre
  have hts : ∀ w ∈ lw_all, w.before _ s = true := fun w h => hts w (List.mem_cons_of_mem _ h)
  have hown : s.vm.findClass RX1 = some m.cls := findClass_of_methodNamed B.named
  have hlocks := B.notSynchronized
  have hE : entryFrame m args 3 = F0 m 0 ((lg_sl ([.ref (ad 0 0), .int c, .int l]) ++ List.replicate (3 - (lg_sl ([.ref (ad 0 0), .int c, .int l])).length) Slot.unset).toArray) [] := by rw [hargs]; exact lg_entry_eq m _ 3
  have hl := lv_entry ([.ref (ad 0 0), .int c, .int l]) (n := 3) (Nat.le_of_ble_eq_true rfl)
  rw [hE]
  clear hE
  generalize (lg_sl ([.ref (ad 0 0), .int c, .int l]) ++ List.replicate (3 - (lg_sl ([.ref (ad 0 0), .int c, .int l])).length) Slot.unset).toArray = ls at hl ⊢
  have hl : lv_has ls 3 [(0, .ref (ad 0 0)), (1, .int c), (2, .int l)] := hl
  generalize hQ : MQ _ _ _ _ _ _ _ = Q
  have hX := h3
  have h4a := (Bool.and_eq_true _ _ ▸ h4 : _ ∧ _).1
  have h4b := (Bool.and_eq_true _ _ ▸ h4 : _ ∧ _).2
  refine lv_iload_n hx hb dX1_part_0 rfl (lv_at hl 1 rfl) ?_
  refine lv_iconst (v := nI 0) hx hb dX1_part_1 (by decide) ?_
  refine lv_aload_n hx hb dX1_part_2 rfl (lv_at hl 0 rfl) ?_
  refine ko_get (C := RX1) (T := TX1) (N := 28) (ci := 1) (v := .ref (ad 4 0)) hx hb hts in_X1 hown hG.1 hH.o0 rfl 3 (by decide) q188 (fun _ h => h) (rfl) dX1_part_3 ?_
  refine vp_callSi (va_Run.call (va_runV (As := []) (rest := [.int (nI 0), .int c]) ⟨hx, hb, hml, hown, hts⟩ (c_J2_size lh D dA (ad 4 0) (Y 3 0 0) (elH K ad X 0) (N 3)) (w_J2_size hts q284 rfl rfl ⟨Nat.le_of_ble_eq_true rfl, Nat.le_of_ble_eq_true rfl⟩) ⟨PX.blind (Mv.and Mv.heap Mv.gk), (O_recv hG (hH.li 0 (by decide)) rfl), PX.pre (Mv.and Mv.heap Mv.gk) ⟨(hH.li 0 (by decide)), hG⟩⟩ rfl rfl hl.1 rfl (lv_room (Nat.le_of_ble_eq_true rfl)) dX1_part_6 ⟨Nat.le_of_ble_eq_true rfl, Nat.le_of_ble_eq_true rfl⟩)) (fun rr hrr => ?_)
  subst hrr
  refine lv_iconst (v := nI 1) hx hb dX1_part_9 (by decide) ?_
  refine lv_isub hx hb dX1_part_10 ?_
  refine vp_callSi (W.runS (As := [.int c, .int (nI 0), .int (nI (N 3) - (nI 1))]) (rest := []) ⟨hx, hb, hml, hown, hts⟩ (c_X1_in lh c (nI 0) (nI (N 3) - (nI 1))) (w_X1_in hts q277 rfl rfl ⟨Nat.le_of_ble_eq_true rfl, Nat.le_of_ble_eq_true rfl⟩) ⟨P0.blind, P0.pre⟩ rfl rfl hl.1 rfl (lv_room (Nat.le_of_ble_eq_true rfl)) dX1_part_11 ⟨Nat.le_of_ble_eq_true rfl, Nat.le_of_ble_eq_true rfl⟩) (fun rr hrr => ?_)
  subst hrr
  refine kb_eq (tgt := 31) hx hb dX1_part_14 (by decide) (fun c_14 => ?_) (fun c_14 => ?_)
  · rw [c_14] at h4a; cases h4a
  · obtain ⟨j, hj, rfl⟩ := wi_cnt (by omega) c_14
    refine lv_iload_n hx hb dX1_part_17 rfl (lv_at hl 2 rfl) ?_
    refine lv_iconst (v := nI 0) hx hb dX1_part_18 (by decide) ?_
    refine lv_aload_n hx hb dX1_part_19 rfl (lv_at hl 0 rfl) ?_
    refine ko_get (C := RX1) (T := TX1) (N := 28) (ci := 1) (v := .int (nI (N 1))) hx hb hts in_X1 hown hG.1 hH.o0 rfl 8 (by decide) q193 (fun _ h => h) (rfl) dX1_part_20 ?_
    refine lv_iconst (v := nI 1) hx hb dX1_part_23 (by decide) ?_
    refine lv_isub hx hb dX1_part_24 ?_
    refine vp_callSi (W.runS (As := [.int l, .int (nI 0), .int (nI (N 1) - (nI 1))]) (rest := []) ⟨hx, hb, hml, hown, hts⟩ (c_X1_in lh l (nI 0) (nI (N 1) - (nI 1))) (w_X1_in hts q277 rfl rfl ⟨Nat.le_of_ble_eq_true rfl, Nat.le_of_ble_eq_true rfl⟩) ⟨P0.blind, P0.pre⟩ rfl rfl hl.1 rfl (lv_room (Nat.le_of_ble_eq_true rfl)) dX1_part_25 ⟨Nat.le_of_ble_eq_true rfl, Nat.le_of_ble_eq_true rfl⟩) (fun rr hrr => ?_)
    subst hrr
    refine kb_ne (tgt := 39) hx hb dX1_part_28 (by decide) (fun c_28 => ?_) (fun c_28 => ?_)
    · obtain ⟨k, hk, rfl⟩ := wi_cnt (by omega) c_28
      refine lv_aload_n hx hb dX1_part_39 rfl (lv_at hl 0 rfl) ?_
      refine ko_get (C := RX1) (T := TX1) (N := 28) (ci := 1) (v := .ref (ad 4 0)) hx hb hts in_X1 hown hG.1 hH.o0 rfl 3 (by decide) q188 (fun _ h => h) (rfl) dX1_part_40 ?_
      refine lv_iload_n hx hb dX1_part_43 rfl (lv_at hl 1 rfl) ?_
      refine va_csq (va_Run.call (va_runV (As := [.int (nI j)]) (rest := []) ⟨hx, hb, hml, hown, hts⟩ (c_J2_get lh D dA (ad 4 0) (Y 3 0 0) (ad 5 0) (N 3) (X 0 0) (ltH ad 6 (N 3) 0) (j) (ad 6 j) (show j < N 3 from by omega) ((hX.1 0 (by decide)).1) ((hX.1 0 (by decide)).2) (ltH_0 (show j < N 3 from by omega))) (w_J2_get hts q292 rfl rfl ⟨Nat.le_of_ble_eq_true rfl, Nat.le_of_ble_eq_true rfl⟩) ⟨PX.blind (Mv.and Mv.heap (Mv.and Mv.heap Mv.gk)), (O_recv hG (hH.lo 0 (by decide) (by have hx0 : N 3 ≤ X 0 0 := (hX.1 0 (by decide)).1; omega)) rfl), PX.pre (Mv.and Mv.heap (Mv.and Mv.heap Mv.gk)) ⟨(hH.lo 0 (by decide) (by have hx0 : N 3 ≤ X 0 0 := (hX.1 0 (by decide)).1; omega)), (hH.la 0 (by decide) (by have hx0 : N 3 ≤ X 0 0 := (hX.1 0 (by decide)).1; omega)), hG⟩⟩ rfl rfl hl.1 rfl (lv_room (Nat.le_of_ble_eq_true rfl)) dX1_part_44 ⟨Nat.le_of_ble_eq_true rfl, Nat.le_of_ble_eq_true rfl⟩)) (fun rr hrr => ?_)
      subst hrr
      show W p lh e r_X1_part s m args below meth cd _ _ _ _ Q (F0 m _ ls (.ref (ad 6 j) :: _))
      refine va_castE hx hb hown (hts _ q304) (O_recv hG (hH.cr (show j < N 3 from by omega)) rfl) dX1_part_47 ?_
      refine ko_get (C := RX4) (T := TX4) (N := 11) (ci := 2) (v := .ref (ad 7 j)) hx hb hts in_X4 hown hG.1 (hH.cr (show j < N 3 from by omega)) rfl 0 (by decide) q338 (u_same (hts _ q339)) (rfl) dX1_part_50 ?_
      refine lv_iload_n hx hb dX1_part_53 rfl (lv_at hl 2 rfl) ?_
      refine ka_iald (v := nI (G 4 (20 * j + k))) hx hb hG.1 (hH.gm (show j < N 3 from by omega)) 0 rfl (show k < 20 from by omega) (by decide) (tr20_in (by omega)) dX1_part_54 ?_
      subst hQ
      exact W.iret (v := nI (G 4 (20 * j + k))) hx hb hrt (fun t ht _ => ⟨_, rfl, (show nI (G 4 (20 * j + k)) = nI (G 4 (20 * tn (nI j) + tn (nI k))) from by rw [tn_nI (show j < 2 ^ 31 by omega), tn_nI (show k < 2 ^ 31 by omega)]), ht⟩) t_nil dX1_part_55
    · rw [c_28] at h4b; cases h4b
theorem w_X1_part {R : Room} {s : State} {args : Array Value} {own : String} {idx : Nat} (hts : ∀ w ∈ lw_all, w.before args s = true) (h1 : Cond.methodLink own idx yX1_part ∈ lw_all) {rm : Room} {mc ms : Nat} (hrc : rm.cells = mc) (hrs : rm.slots = ms) (hR : rm.frames + 1 ≤ R.frames ∧ 8 + (3 + 11) + rm.locals ≤ R.locals) : CallW R s args own RX1 idx yX1_part cX1_part 3 (some .int) (ws_ yX1_part cX1_part 3 (some .int)) rm mc ms 2 := cwV 2 hts (lw_V h1 q1260 q1261 q62 q1262) rfl hrc hrs (by decide +kernel) hR
