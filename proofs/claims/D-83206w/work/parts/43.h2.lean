set_option maxRecDepth 100000
abbrev r_X1_warmthAt : Room := { frames := 0, cells := 0, slots := 0, locals := 0 }
set_option maxHeartbeats 1000000 in
theorem c_X1_warmthAt (lh : Launch) (A : Nat → Prop) (D : va_G) (dA : Nat → ClassId) (K : Nat → Nat) (ad X : Nat → Nat → Nat) (Y : Nat → Nat → Nat → Int32) (N : Nat → Nat) (I : Nat → Int32) (G : Nat → Nat → Nat) (J : Nat → Nat → Int32) (z : Nat) (hr : Nat) (h1 : ∀ a b, G a b < 2 ^ 31) (h2 : z < 3) (h3 : hr < 600) (h4 : WmOk G J) (h5 : WrOk G J X Y) : Met lh yX1_warmthAt (ws_ yX1_warmthAt cX1_warmthAt 5 (some .int)) r_X1_warmthAt (PX (fun U H => RH A D dA K ad X Y N I G J H ∧ GK D dA U) [.ref (ad 0 0), .int (nI z), .int (nI hr)]) (vp_Si (fun rv => rv = warmS G J z (hr + 1))) 0 0 (fun _ => False) := by
  refine Met.ofW (cc := cX1_warmthAt) (maxL := 5) (ret := (some .int)) (by decide) rfl ?_
  intro p e s m args below meth cd s₁ B hml hv
  obtain ⟨hargs, hH, hG⟩ := hv
  have hx := B.exec
  have hb := B.bytes
  have hrt := B.returns
  have hts := atoms_spec (ws := (ws_ yX1_warmthAt cX1_warmthAt 5 (some .int))) B.pre
  have hts : ∀ w ∈ lw_all, w.before _ s = true := fun w h => hts w (List.mem_cons_of_mem _ h)
  have hown : s.vm.findClass RX1 = some m.cls := findClass_of_methodNamed B.named
  have hlocks := B.notSynchronized
  have hE : entryFrame m args 5 = F0 m 0 ((lg_sl ([.ref (ad 0 0), .int (nI z), .int (nI hr)]) ++ List.replicate (5 - (lg_sl ([.ref (ad 0 0), .int (nI z), .int (nI hr)])).length) Slot.unset).toArray) [] := by rw [hargs]; exact lg_entry_eq m _ 5
  have hl := lv_entry ([.ref (ad 0 0), .int (nI z), .int (nI hr)]) (n := 5) (Nat.le_of_ble_eq_true rfl)
  rw [hE]
  clear hE
  generalize (lg_sl ([.ref (ad 0 0), .int (nI z), .int (nI hr)]) ++ List.replicate (5 - (lg_sl ([.ref (ad 0 0), .int (nI z), .int (nI hr)])).length) Slot.unset).toArray = ls at hl ⊢
  have hl : lv_has ls 5 [(0, .ref (ad 0 0)), (1, .int (nI z)), (2, .int (nI hr))] := hl
  generalize hQ : MQ _ _ _ _ _ _ _ = Q
  refine lv_aload_n hx hb dX1_warmthAt_0 rfl (lv_at hl 0 rfl) ?_
  refine ko_get (C := RX1) (T := TX1) (N := 28) (ci := 1) (v := .ref (ad 2 0)) hx hb hts in_X1 hown hG.1 hH.o0 rfl 2 (by decide) q187 (fun _ h => h) (rfl) dX1_warmthAt_1 ?_
  refine lv_iload_n hx hb dX1_warmthAt_4 rfl (lv_at hl 1 rfl) ?_
  by_cases hw5 : X 1 z = 1
  · refine ka_aaldA (q := some (ad 3 z)) hx hb hG.1 hH.wm 5 rfl (show z < 3 from by omega) (by decide) (rwH_1 hw5) dX1_warmthAt_5 ?_
    show W p lh e r_X1_warmthAt s m args below meth cd _ _ _ _ Q (F0 m _ ls (.ref (ad 3 z) :: _))
    refine lv_astore_n (lv' := [(3, .ref (ad 3 z)), (0, .ref (ad 0 0)), (1, .int (nI z)), (2, .int (nI hr))]) hx hb dX1_warmthAt_6 rfl hl (by decide) rfl (fun ls hl => ?_)
    refine lv_aload_n hx hb dX1_warmthAt_7 rfl (lv_at hl 0 rfl) ?_
    refine lv_ifnonnull (tgt := 15) hx hb dX1_warmthAt_8 (by decide) ?_
    refine lv_iload_n hx hb dX1_warmthAt_15 rfl (lv_at hl 3 rfl) ?_
    refine lv_istore (lv' := [(4, .int (nI hr)), (3, .ref (ad 3 z)), (0, .ref (ad 0 0)), (1, .int (nI z)), (2, .int (nI hr))]) hx hb dX1_warmthAt_16 hl (by decide) rfl (fun ls hl => ?_)
    have L18 : ∀ (nn18 : Nat) (n : Nat), (n ≤ hr + 1) → (warmS G J z (hr + 1) = warmS G J z n) → n < nn18 → ∀ (ls : Array Slot), lv_has ls 5 [(0, .ref (ad 0 0)), (1, .int (nI z)), (3, .ref (ad 3 z)), (4, .int (dI n))] → W p lh e r_X1_warmthAt s m args below meth cd s.heap [] 0 0 Q (F0 m 18 ls []) := by
      intro nn18
      induction nn18 with
      | zero => intro n i18_0 i18_1 hm18; exact absurd hm18 (Nat.not_lt_zero _)
      | succ nn18 ih18 =>
        intro n i18_0 i18_1 hm18 ls hl
        rcases n with _ | k
        · rw [dI_0] at hl
          refine lv_iload hx hb dX1_warmthAt_18 (lv_at hl 3 rfl) ?_
          refine lv_if_lt (tgt := 38) hx hb dX1_warmthAt_20 (by decide) (fun _ => ?_) (fun c => absurd (by decide) c)
          refine lv_iload hx hb dX1_warmthAt_38 (lv_at hl 3 rfl) ?_
          refine lv_if_ge (tgt := 48) hx hb dX1_warmthAt_40 (by decide) (fun c => absurd c (by decide)) (fun _ => ?_)
          refine lv_bipush (v := nI 15) hx hb dX1_warmthAt_43 (by decide) ?_
          refine lv_goto (tgt := 52) hx hb dX1_warmthAt_45 (by decide) ?_
          subst hQ
          exact W.iret (v := nI 15) hx hb hrt (fun t ht _ => ⟨_, rfl, (show nI 15 = warmS G J z (hr + 1) from by rw [i18_1]; rfl), ht⟩) t_nil dX1_warmthAt_52
        · rw [dI_s] at hl
          refine lv_iload hx hb dX1_warmthAt_18 (lv_at hl 3 rfl) ?_
          refine kn_zlt hx hb dX1_warmthAt_20 (tgt := 38) (by decide) (by omega) ?_
          refine lv_aload_n hx hb dX1_warmthAt_23 rfl (lv_at hl 2 rfl) ?_
          refine lv_iload hx hb dX1_warmthAt_24 (lv_at hl 3 rfl) ?_
          refine ka_bald (v := Y 2 z k) hx hb hG.1 (hH.rw ⟨h2, hw5⟩) 1 rfl (show k < 600 from by omega) (by decide) (rfl) dX1_warmthAt_26 ?_
          refine lv_bipush (v := nI 100) hx hb dX1_warmthAt_27 (by decide) ?_
          refine lv_icmp_ne (tgt := 38) hx hb dX1_warmthAt_29 (by decide) (fun c_29 => ?_) (fun c_29 => ?_)
          · have hz17 : ¬ G 17 (600 * z + k) = 0 := fun q => c_29 (by rw [Wr_1 h5 h2 hw5 (by omega), if_pos q])
            refine lv_iload hx hb dX1_warmthAt_38 (lv_at hl 3 rfl) ?_
            refine kn_zge (tgt := 48) hx hb dX1_warmthAt_40 (by decide) (by omega) ?_
            refine lv_aload_n hx hb dX1_warmthAt_48 rfl (lv_at hl 2 rfl) ?_
            refine lv_iload hx hb dX1_warmthAt_49 (lv_at hl 3 rfl) ?_
            refine ka_bald (v := Y 2 z k) hx hb hG.1 (hH.rw ⟨h2, hw5⟩) 1 rfl (show k < 600 from by omega) (by decide) (rfl) dX1_warmthAt_51 ?_
            subst hQ
            exact W.iret (v := Y 2 z k) hx hb hrt (fun t ht _ => ⟨_, rfl, (show Y 2 z k = warmS G J z (hr + 1) from by rw [i18_1, warmS, if_neg hz17, Wr_1 h5 h2 hw5 (by omega), if_neg hz17]), ht⟩) t_nil dX1_warmthAt_52
          · have hz17 : G 17 (600 * z + k) = 0 := Classical.byContradiction (fun q => by obtain ⟨w, hw, ew⟩ := h4 _ q; rw [Wr_1 h5 h2 hw5 (by omega), if_neg q] at c_29; exact n100 hw ew c_29)
            refine lv_iinc (v := dI k) (lv' := [(4, .int (dI k)), (0, .ref (ad 0 0)), (1, .int (nI z)), (3, .ref (ad 3 z))]) hx hb dX1_warmthAt_32 hl (k := 3) rfl (rfl) (by decide) rfl (fun ls hl => ?_)
            refine lv_goto (tgt := 18) hx hb dX1_warmthAt_35 (by decide) ?_
            exact ih18 k (by omega) (by rw [i18_1, warmS, if_pos hz17]) (by omega) _ (lv_sub hl [1, 2, 3, 0] rfl)
    exact L18 _ (hr + 1) (by omega) (rfl) (Nat.lt_succ_self _) _ (lv_conv (show lv_has ls 5 [(0, .ref (ad 0 0)), (1, .int (nI z)), (3, .ref (ad 3 z)), (4, .int (nI hr))] from (lv_sub hl [2, 3, 1, 0] rfl)) (by rw [dI_s]))
  · refine ka_aaldA (q := none) hx hb hG.1 hH.wm 5 rfl (show z < 3 from by omega) (by decide) (rwH_0 hw5) dX1_warmthAt_5 ?_
    show W p lh e r_X1_warmthAt s m args below meth cd _ _ _ _ Q (F0 m _ ls (.null :: _))
    refine lv_astore_nN (lv' := [(3, .null), (0, .ref (ad 0 0)), (1, .int (nI z)), (2, .int (nI hr))]) hx hb dX1_warmthAt_6 rfl hl (by decide) rfl (fun ls hl => ?_)
    refine lv_aload_nN hx hb dX1_warmthAt_7 rfl (lv_at hl 0 rfl) ?_
    refine lv_ifnonnullN hx hb dX1_warmthAt_8 ?_
    refine lv_iconst (v := -1) hx hb dX1_warmthAt_11 (by decide) ?_
    refine lv_goto (tgt := 16) hx hb dX1_warmthAt_12 (by decide) ?_
    refine lv_istore (lv' := [(4, .int (-1)), (3, .null), (0, .ref (ad 0 0)), (1, .int (nI z)), (2, .int (nI hr))]) hx hb dX1_warmthAt_16 hl (by decide) rfl (fun ls hl => ?_)
    have L18 : ∀ (nn18 : Nat) (_ : Unit), 0 < nn18 → ∀ (ls : Array Slot), lv_has ls 5 [(3, .null), (4, .int (-1))] → W p lh e r_X1_warmthAt s m args below meth cd s.heap [] 0 0 Q (F0 m 18 ls []) := by
      intro nn18
      induction nn18 with
      | zero => intro _  hm18; exact absurd hm18 (Nat.not_lt_zero _)
      | succ nn18 ih18 =>
        intro _  hm18 ls hl
        refine lv_iload hx hb dX1_warmthAt_18 (lv_at hl 1 rfl) ?_
        refine lv_if_lt (tgt := 38) hx hb dX1_warmthAt_20 (by decide) (fun _ => ?_) (fun c => absurd (by decide) c)
        refine lv_iload hx hb dX1_warmthAt_38 (lv_at hl 1 rfl) ?_
        refine lv_if_ge (tgt := 48) hx hb dX1_warmthAt_40 (by decide) (fun c => absurd c (by decide)) (fun _ => ?_)
        refine lv_bipush (v := nI 15) hx hb dX1_warmthAt_43 (by decide) ?_
        refine lv_goto (tgt := 52) hx hb dX1_warmthAt_45 (by decide) ?_
        subst hQ
        exact W.iret (v := nI 15) hx hb hrt (fun t ht _ => ⟨_, rfl, (show nI 15 = warmS G J z (hr + 1) from (Wr_0 h5 h2 hw5 _ (by omega)).symm), ht⟩) t_nil dX1_warmthAt_52
    exact L18 _ ()  (Nat.lt_succ_self _) _ (lv_sub hl [1, 0] rfl)
theorem w_X1_warmthAt {R : Room} {s : State} {args : Array Value} {own : String} {idx : Nat} (hts : ∀ w ∈ lw_all, w.before args s = true) (h1 : Cond.methodLink own idx yX1_warmthAt ∈ lw_all) {rm : Room} {mc ms : Nat} (hrc : rm.cells = mc) (hrs : rm.slots = ms) (hR : rm.frames + 1 ≤ R.frames ∧ 8 + (5 + 11) + rm.locals ≤ R.locals) : CallW R s args own RX1 idx yX1_warmthAt cX1_warmthAt 5 (some .int) (ws_ yX1_warmthAt cX1_warmthAt 5 (some .int)) rm mc ms 2 := cwV 2 hts (lw_V h1 q562 qs14 q62 q563) rfl hrc hrs (by decide +kernel) hR

abbrev r_X1_rate : Room := { frames := 1, cells := 0, slots := 0, locals := 24 }
set_option maxHeartbeats 1000000 in
theorem c_X1_rate (lh : Launch) (A : Nat → Prop) (D : va_G) (dA : Nat → ClassId) (K : Nat → Nat) (ad X : Nat → Nat → Nat) (Y : Nat → Nat → Nat → Int32) (N : Nat → Nat) (I : Nat → Int32) (G : Nat → Nat → Nat) (J : Nat → Nat → Int32) (c : Nat) (h1 : ∀ a b, G a b < 2 ^ 31) (h2 : c < N 3) (h3 : N 14 < 600) (h4 : G 5 c < 12) (h5 : G 7 c < 64) (h6 : WmOk G J) (h7 : WrOk G J X Y) (h8 : lv G c = true) (h9 : PlOk N G Y) : Met lh yX1_rate (ws_ yX1_rate cX1_rate 2 (some .int)) r_X1_rate (PX (fun U H => RH A D dA K ad X Y N I G J H ∧ GK D dA U) [.ref (ad 0 0), .ref (ad 6 c)]) (vp_Si (fun rv => rv = nI (rateS G J c (N 14)))) 0 0 (fun _ => False) := by
  refine Met.ofW (cc := cX1_rate) (maxL := 2) (ret := (some .int)) (by decide) rfl ?_
  intro p e s m args below meth cd s₁ B hml hv
  obtain ⟨hargs, hH, hG⟩ := hv
  have hx := B.exec
  have hb := B.bytes
  have hrt := B.returns
  have hts := atoms_spec (ws := (ws_ yX1_rate cX1_rate 2 (some .int))) B.pre
  have hts : ∀ w ∈ lw_all, w.before _ s = true := fun w h => hts w (List.mem_cons_of_mem _ h)
  have hown : s.vm.findClass RX1 = some m.cls := findClass_of_methodNamed B.named
  have hlocks := B.notSynchronized
  have hE : entryFrame m args 2 = F0 m 0 ((lg_sl ([.ref (ad 0 0), .ref (ad 6 c)]) ++ List.replicate (2 - (lg_sl ([.ref (ad 0 0), .ref (ad 6 c)])).length) Slot.unset).toArray) [] := by rw [hargs]; exact lg_entry_eq m _ 2
  have hl := lv_entry ([.ref (ad 0 0), .ref (ad 6 c)]) (n := 2) (Nat.le_of_ble_eq_true rfl)
  rw [hE]
  clear hE
  generalize (lg_sl ([.ref (ad 0 0), .ref (ad 6 c)]) ++ List.replicate (2 - (lg_sl ([.ref (ad 0 0), .ref (ad 6 c)])).length) Slot.unset).toArray = ls at hl ⊢
  have hl : lv_has ls 2 [(0, .ref (ad 0 0)), (1, .ref (ad 6 c))] := hl
  generalize hQ : MQ _ _ _ _ _ _ _ = Q
  refine lv_aload_n hx hb dX1_rate_0 rfl (lv_at hl 0 rfl) ?_
  refine ko_get (C := RX1) (T := TX1) (N := 28) (ci := 1) (v := .ref (ad 1 0)) hx hb hts in_X1 hown hG.1 hH.o0 rfl 0 (by decide) q185 (fun _ h => h) (rfl) dX1_rate_1 ?_
  refine lv_iconst (v := nI 4) hx hb dX1_rate_4 (by decide) ?_
  refine lv_aload_n hx hb dX1_rate_5 rfl (lv_at hl 0 rfl) ?_
  refine lv_aload_n hx hb dX1_rate_6 rfl (lv_at hl 1 rfl) ?_
  refine ko_getN (C := RX4) (T := TX4) (N := 11) (ci := 2) (v := .int (Y 0 c 0)) hx hb hts in_X4 hown hG.1 (hH.cr (show c < N 3 from by omega)) rfl 3 (by decide) (hG.2.1 _ q322 rfl) (fun _ h => h) (rfl) dX1_rate_7 ?_
  refine kx_int (y := nI (G 5 c)) (h9 c h2 h8) ?_
  refine lv_iconst (v := nI 4) hx hb dX1_rate_10 (by decide) ?_
  refine kn_div hx hb dX1_rate_11 (by omega) (by omega) (by omega) ?_
  refine lv_aload_n hx hb dX1_rate_12 rfl (lv_at hl 0 rfl) ?_
  refine ko_get (C := RX1) (T := TX1) (N := 28) (ci := 1) (v := .int (nI (N 14))) hx hb hts in_X1 hown hG.1 hH.o0 rfl 9 (by decide) q194 (fun _ h => h) (rfl) dX1_rate_13 ?_
  refine vp_callSi (va_Run.call (va_runV (As := [.int (nI ((G 5 c) / 4)), .int (nI (N 14))]) (rest := [.int (nI 4), .ref (ad 1 0)]) ⟨hx, hb, hml, hown, hts⟩ (c_X1_warmthAt lh A D dA K ad X Y N I G J ((G 5 c) / 4) (N 14) (show ∀ a b, G a b < 2 ^ 31 from by first | omega | assumption) (show ((G 5 c) / 4) < 3 from by first | omega | assumption) (show (N 14) < 600 from by first | omega | assumption) (show WmOk G J from by first | omega | assumption) (show WrOk G J X Y from by first | omega | assumption)) (w_X1_warmthAt hts q560 rfl rfl ⟨Nat.le_of_ble_eq_true rfl, Nat.le_of_ble_eq_true rfl⟩) ⟨PX.blind (Mv.and Mv.heap Mv.gk), (O_recv hG hH.o0 rfl), PX.pre (Mv.and Mv.heap Mv.gk) ⟨hH, hG⟩⟩ rfl rfl hl.1 rfl (lv_room (Nat.le_of_ble_eq_true rfl)) dX1_rate_16 ⟨Nat.le_of_ble_eq_true rfl, Nat.le_of_ble_eq_true rfl⟩)) (fun rr hrr => ?_)
  subst hrr
  refine lv_iconst (v := nI 5) hx hb dX1_rate_19 (by decide) ?_
  refine lv_iadd hx hb dX1_rate_20 ?_
  obtain ⟨w, hw, ew⟩ := warmS_nat h6 (G 5 c / 4) (N 14 + 1)
  refine kx_int (y := nI w) ew ?_
  refine lv_bipush (v := nI 8) hx hb dX1_rate_21 (by decide) ?_
  refine kn_div hx hb dX1_rate_23 (by omega) (by omega) (by omega) ?_
  refine kn_mul hx hb dX1_rate_24 ?_
  refine lv_aload_n hx hb dX1_rate_25 rfl (lv_at hl 1 rfl) ?_
  refine ko_getN (C := RX4) (T := TX4) (N := 11) (ci := 2) (v := .int (nI (G 7 c))) hx hb hts in_X4 hown hG.1 (hH.cr (show c < N 3 from by omega)) rfl 4 (by decide) (hG.2.1 _ q325 rfl) (fun _ h => h) (rfl) dX1_rate_26 ?_
  refine lv_bipush (v := nI 16) hx hb dX1_rate_29 (by decide) ?_
  refine kn_div hx hb dX1_rate_31 (by omega) (by omega) (by omega) ?_
  refine kn_add hx hb dX1_rate_32 ?_
  refine ka_iald (v := nI (G 18 (4 * (w / 8) + ((G 7 c) / 16)))) hx hb hG.1 (hH.arr 0 rfl) 0 rfl (show 4 * (w / 8) + ((G 7 c) / 16) < 24 from by omega) (by decide) (rfl) dX1_rate_33 ?_
  subst hQ
  exact W.iret (v := nI (G 18 (4 * (w / 8) + ((G 7 c) / 16)))) hx hb hrt (fun t ht _ => ⟨_, rfl, (show nI (G 18 (4 * (w / 8) + ((G 7 c) / 16))) = nI (rateS G J c (N 14)) from by rw [rateS_at hw ew]), ht⟩) t_nil dX1_rate_34
theorem w_X1_rate {R : Room} {s : State} {args : Array Value} {own : String} {idx : Nat} (hts : ∀ w ∈ lw_all, w.before args s = true) (h1 : Cond.methodLink own idx yX1_rate ∈ lw_all) {rm : Room} {mc ms : Nat} (hrc : rm.cells = mc) (hrs : rm.slots = ms) (hR : rm.frames + 1 ≤ R.frames ∧ 8 + (2 + 11) + rm.locals ≤ R.locals) : CallW R s args own RX1 idx yX1_rate cX1_rate 2 (some .int) (ws_ yX1_rate cX1_rate 2 (some .int)) rm mc ms 1 := cwV 1 hts (lw_V h1 q558 qs13 q62 q559) rfl hrc hrs (by decide +kernel) hR

abbrev r_X1_latest : Room := { frames := 3, cells := 0, slots := 0, locals := 64 }
set_option maxHeartbeats 1000000 in
theorem c_X1_latest (lh : Launch) (A : Nat → Prop) (D : va_G) (dA : Nat → ClassId) (K : Nat → Nat) (ad X : Nat → Nat → Nat) (Y : Nat → Nat → Nat → Int32) (N : Nat → Nat) (I : Nat → Int32) (G : Nat → Nat → Nat) (J : Nat → Nat → Int32) (c : Nat) (hr : Nat) (n : Nat) (h1 : ∀ a b, G a b < 2 ^ 31) (h2 : c < N 3) (h3 : hr < 2 ^ 31) (h4 : n ≤ N 19) (h5 : N 19 ≤ 100) (h6 : XOk N G X) (h7 : TsOk N G) : Met lh yX1_latest (ws_ yX1_latest cX1_latest 7 (some (.object "PickleHouse$Test"))) r_X1_latest (PX (fun U H => RH A D dA K ad X Y N I G J H ∧ GK D dA U) [.ref (ad 0 0), .ref (ad 6 c), .int (nI hr), .int (nI n)]) (va_Sq (fun rv => rv = (latS G c hr n).map (ad 9))) 0 0 (fun _ => False) := by
  refine Met.ofW (cc := cX1_latest) (maxL := 7) (ret := (some (.object "PickleHouse$Test"))) (by decide) rfl ?_
  intro p e s m args below meth cd s₁ B hml hv
  obtain ⟨hargs, hH, hG⟩ := hv
  have hx := B.exec
  have hb := B.bytes
  have hrt := B.returns
  have hts := atoms_spec (ws := (ws_ yX1_latest cX1_latest 7 (some (.object "PickleHouse$Test")))) B.pre
  have hts : ∀ w ∈ lw_all, w.before _ s = true := fun w h => hts w (List.mem_cons_of_mem _ h)
  have hown : s.vm.findClass RX1 = some m.cls := findClass_of_methodNamed B.named
  have hlocks := B.notSynchronized
  have hE : entryFrame m args 7 = F0 m 0 ((lg_sl ([.ref (ad 0 0), .ref (ad 6 c), .int (nI hr), .int (nI n)]) ++ List.replicate (7 - (lg_sl ([.ref (ad 0 0), .ref (ad 6 c), .int (nI hr), .int (nI n)])).length) Slot.unset).toArray) [] := by rw [hargs]; exact lg_entry_eq m _ 7
  have hl := lv_entry ([.ref (ad 0 0), .ref (ad 6 c), .int (nI hr), .int (nI n)]) (n := 7) (Nat.le_of_ble_eq_true rfl)
  rw [hE]
  clear hE
  generalize (lg_sl ([.ref (ad 0 0), .ref (ad 6 c), .int (nI hr), .int (nI n)]) ++ List.replicate (7 - (lg_sl ([.ref (ad 0 0), .ref (ad 6 c), .int (nI hr), .int (nI n)])).length) Slot.unset).toArray = ls at hl ⊢
  have hl : lv_has ls 7 [(0, .ref (ad 0 0)), (1, .ref (ad 6 c)), (2, .int (nI hr)), (3, .int (nI n))] := hl
  generalize hQ : MQ _ _ _ _ _ _ _ = Q
  have hX := h6
  refine lv_null hx hb dX1_latest_0 ?_
  refine lv_astoreN (lv' := [(4, .null), (0, .ref (ad 0 0)), (1, .ref (ad 6 c)), (2, .int (nI hr)), (3, .int (nI n))]) hx hb dX1_latest_1 hl (by decide) rfl (fun ls hl => ?_)
  refine lv_iconst (v := nI 0) hx hb dX1_latest_3 (by decide) ?_
  refine lv_istore (lv' := [(5, .int (nI 0)), (4, .null), (0, .ref (ad 0 0)), (1, .ref (ad 6 c)), (2, .int (nI hr)), (3, .int (nI n))]) hx hb dX1_latest_4 hl (by decide) rfl (fun ls hl => ?_)
  have L6 : ∀ (nn6 : Nat) (k : Nat), (k ≤ n) → n - k < nn6 → ∀ (ls : Array Slot), lv_has ls 7 [(0, .ref (ad 0 0)), (1, .ref (ad 6 c)), (2, .int (nI hr)), (3, .int (nI n)), (4, va_rf ((latS G c hr k).map (ad 9))), (5, .int (nI k))] → W p lh e r_X1_latest s m args below meth cd s.heap [] 0 0 Q (F0 m 6 ls []) := by
    intro nn6
    induction nn6 with
    | zero => intro k i6_0 hm6; exact absurd hm6 (Nat.not_lt_zero _)
    | succ nn6 ih6 =>
      intro k i6_0 hm6 ls hl
      rcases ho : latS G c hr k with _ | b
      · rw [ho] at hl
        have hl : lv_has ls 7 [(0, .ref (ad 0 0)), (1, .ref (ad 6 c)), (2, .int (nI hr)), (3, .int (nI n)), (4, .null), (5, .int (nI k))] := hl
        refine lv_iload hx hb dX1_latest_6 (lv_at hl 5 rfl) ?_
        refine lv_iload_n hx hb dX1_latest_8 rfl (lv_at hl 3 rfl) ?_
        refine kn_cge (tgt := 84) hx hb dX1_latest_9 (by decide) (by omega) (by omega) (fun c_9 => ?_) (fun c_9 => ?_)
        · refine lv_aloadN hx hb dX1_latest_84 (lv_at hl 4 rfl) ?_
          subst hQ
          exact W.aret (v := va_rf none) hx hb hrt (Or.inl ⟨_, rfl⟩) (va_rf_or _) (fun t ht _ => ⟨none, rfl, (show none = (latS G c hr n).map (ad 9) from by rw [show n = k by omega, ho]; rfl), ht⟩) t_nil dX1_latest_86
        · refine lv_aload_n hx hb dX1_latest_12 rfl (lv_at hl 0 rfl) ?_
          refine ko_get (C := RX1) (T := TX1) (N := 28) (ci := 1) (v := .ref (ad 4 1)) hx hb hts in_X1 hown hG.1 hH.o0 rfl 4 (by decide) q189 (fun _ h => h) (rfl) dX1_latest_13 ?_
          refine lv_iload hx hb dX1_latest_16 (lv_at hl 5 rfl) ?_
          refine va_csq (va_Run.call (va_runV (As := [.int (nI k)]) (rest := []) ⟨hx, hb, hml, hown, hts⟩ (c_J2_get lh D dA (ad 4 1) (Y 3 1 0) (ad 5 1) (N 19) (X 0 1) (ltH ad 9 (N 19) 0) (k) (ad 9 k) (show k < N 19 from by omega) ((hX.1 1 (by decide)).1) ((hX.1 1 (by decide)).2) (ltH_0 (show k < N 19 from by omega))) (w_J2_get hts q292 rfl rfl ⟨Nat.le_of_ble_eq_true rfl, Nat.le_of_ble_eq_true rfl⟩) ⟨PX.blind (Mv.and Mv.heap (Mv.and Mv.heap Mv.gk)), (O_recv hG (hH.lo 1 (by decide) (by have hx0 : N 19 ≤ X 0 1 := (hX.1 1 (by decide)).1; omega)) rfl), PX.pre (Mv.and Mv.heap (Mv.and Mv.heap Mv.gk)) ⟨(hH.lo 1 (by decide) (by have hx0 : N 19 ≤ X 0 1 := (hX.1 1 (by decide)).1; omega)), (hH.la 1 (by decide) (by have hx0 : N 19 ≤ X 0 1 := (hX.1 1 (by decide)).1; omega)), hG⟩⟩ rfl rfl hl.1 rfl (lv_room (Nat.le_of_ble_eq_true rfl)) dX1_latest_18 ⟨Nat.le_of_ble_eq_true rfl, Nat.le_of_ble_eq_true rfl⟩)) (fun rr hrr => ?_)
          subst hrr
          show W p lh e r_X1_latest s m args below meth cd _ _ _ _ Q (F0 m _ ls (.ref (ad 9 k) :: _))
          refine va_castE hx hb hown (hts _ q499) (O_recv hG (hH.te (show k < N 19 from by omega)) rfl) dX1_latest_21 ?_
          refine lv_astore (lv' := [(6, .ref (ad 9 k)), (0, .ref (ad 0 0)), (1, .ref (ad 6 c)), (2, .int (nI hr)), (3, .int (nI n)), (4, .null), (5, .int (nI k))]) hx hb dX1_latest_24 hl (by decide) rfl (fun ls hl => ?_)
          refine lv_aload hx hb dX1_latest_26 (lv_at hl 0 rfl) ?_
          refine ko_getN (C := RX5) (T := TX5) (N := 3) (ci := 4) (v := .ref (ad 6 (G 20 k))) hx hb hts in_X5 hown hG.1 (hH.te (show k < N 19 from by omega)) rfl 0 (by decide) (hG.2.1 _ q575 rfl) (fun _ h => h) (rfl) dX1_latest_28 ?_
          refine lv_aload_n hx hb dX1_latest_31 rfl (lv_at hl 2 rfl) ?_
          refine lv_acmp_ne (rx := (some (ad 6 (G 20 k)))) (ry := (some (ad 6 c))) (tgt := 78) hx hb dX1_latest_32 (by decide) (fun c_32 => ?_) (fun c_32 => ?_)
          · have c_32 : ¬ G 20 k = c := fun q => c_32 (by rw [q])
            refine lv_iinc (v := nI (k + 1)) (lv' := [(5, .int (nI (k + 1))), (6, .ref (ad 9 k)), (0, .ref (ad 0 0)), (1, .ref (ad 6 c)), (2, .int (nI hr)), (3, .int (nI n)), (4, .null)]) hx hb dX1_latest_78 hl (k := 6) rfl (show nI k + Int32.ofInt 1 = nI (k + 1) from nI_add _ 1) (by decide) rfl (fun ls hl => ?_)
            refine lv_goto (tgt := 6) hx hb dX1_latest_81 (by decide) ?_
            exact ih6 (k + 1) (by omega) (by omega) _ (lv_conv (show lv_has ls 7 [(0, .ref (ad 0 0)), (1, .ref (ad 6 c)), (2, .int (nI hr)), (3, .int (nI n)), (4, .null), (5, .int (nI (k + 1)))] from (lv_sub hl [2, 3, 4, 5, 6, 0] rfl)) (by rw [latS_n (fun q => c_32 q.1), ho]; rfl))
          · have c_32 : G 20 k = c := hH.inj 6 (h7 k (by omega)) h2 (Option.some.inj c_32)
            refine lv_aload hx hb dX1_latest_35 (lv_at hl 0 rfl) ?_
            refine ko_getN (C := RX5) (T := TX5) (N := 3) (ci := 4) (v := .int (nI (G 21 k))) hx hb hts in_X5 hown hG.1 (hH.te (show k < N 19 from by omega)) rfl 1 (by decide) (hG.2.1 _ q577 rfl) (fun _ h => h) (rfl) dX1_latest_37 ?_
            refine lv_aload_n hx hb dX1_latest_40 rfl (lv_at hl 2 rfl) ?_
            refine ko_getN (C := RX4) (T := TX4) (N := 11) (ci := 2) (v := .int (nI (G 9 c))) hx hb hts in_X4 hown hG.1 (hH.cr (show c < N 3 from by omega)) rfl 6 (by decide) (hG.2.1 _ q329 rfl) (fun _ h => h) (rfl) dX1_latest_41 ?_
            refine kn_clt (tgt := 78) hx hb dX1_latest_44 (by decide) (h1 _ _) (h1 _ _) (fun c_44 => ?_) (fun c_44 => ?_)
            · refine lv_iinc (v := nI (k + 1)) (lv' := [(5, .int (nI (k + 1))), (6, .ref (ad 9 k)), (0, .ref (ad 0 0)), (1, .ref (ad 6 c)), (2, .int (nI hr)), (3, .int (nI n)), (4, .null)]) hx hb dX1_latest_78 hl (k := 6) rfl (show nI k + Int32.ofInt 1 = nI (k + 1) from nI_add _ 1) (by decide) rfl (fun ls hl => ?_)
              refine lv_goto (tgt := 6) hx hb dX1_latest_81 (by decide) ?_
              exact ih6 (k + 1) (by omega) (by omega) _ (lv_conv (show lv_has ls 7 [(0, .ref (ad 0 0)), (1, .ref (ad 6 c)), (2, .int (nI hr)), (3, .int (nI n)), (4, .null), (5, .int (nI (k + 1)))] from (lv_sub hl [2, 3, 4, 5, 6, 0] rfl)) (by rw [latS_n (fun q => by omega), ho]; rfl))
            · refine lv_aload hx hb dX1_latest_47 (lv_at hl 0 rfl) ?_
              refine ko_getN (C := RX5) (T := TX5) (N := 3) (ci := 4) (v := .int (nI (G 21 k))) hx hb hts in_X5 hown hG.1 (hH.te (show k < N 19 from by omega)) rfl 1 (by decide) (hG.2.1 _ q577 rfl) (fun _ h => h) (rfl) dX1_latest_49 ?_
              refine lv_iload_n hx hb dX1_latest_52 rfl (lv_at hl 3 rfl) ?_
              refine kn_cgt (tgt := 78) hx hb dX1_latest_53 (by decide) (h1 _ _) (by omega) (fun c_53 => ?_) (fun c_53 => ?_)
              · refine lv_iinc (v := nI (k + 1)) (lv' := [(5, .int (nI (k + 1))), (6, .ref (ad 9 k)), (0, .ref (ad 0 0)), (1, .ref (ad 6 c)), (2, .int (nI hr)), (3, .int (nI n)), (4, .null)]) hx hb dX1_latest_78 hl (k := 6) rfl (show nI k + Int32.ofInt 1 = nI (k + 1) from nI_add _ 1) (by decide) rfl (fun ls hl => ?_)
                refine lv_goto (tgt := 6) hx hb dX1_latest_81 (by decide) ?_
                exact ih6 (k + 1) (by omega) (by omega) _ (lv_conv (show lv_has ls 7 [(0, .ref (ad 0 0)), (1, .ref (ad 6 c)), (2, .int (nI hr)), (3, .int (nI n)), (4, .null), (5, .int (nI (k + 1)))] from (lv_sub hl [2, 3, 4, 5, 6, 0] rfl)) (by rw [latS_n (fun q => by omega), ho]; rfl))
              · refine lv_aloadN hx hb dX1_latest_56 (lv_at hl 5 rfl) ?_
                refine lv_ifnullN (tgt := 74) hx hb dX1_latest_58 (by decide) ?_
                refine lv_aload hx hb dX1_latest_74 (lv_at hl 0 rfl) ?_
                refine lv_astore (lv' := [(4, .ref (ad 9 k)), (6, .ref (ad 9 k)), (0, .ref (ad 0 0)), (1, .ref (ad 6 c)), (2, .int (nI hr)), (3, .int (nI n)), (5, .int (nI k))]) hx hb dX1_latest_76 hl (by decide) rfl (fun ls hl => ?_)
                refine lv_iinc (v := nI (k + 1)) (lv' := [(5, .int (nI (k + 1))), (4, .ref (ad 9 k)), (6, .ref (ad 9 k)), (0, .ref (ad 0 0)), (1, .ref (ad 6 c)), (2, .int (nI hr)), (3, .int (nI n))]) hx hb dX1_latest_78 hl (k := 6) rfl (show nI k + Int32.ofInt 1 = nI (k + 1) from nI_add _ 1) (by decide) rfl (fun ls hl => ?_)
                refine lv_goto (tgt := 6) hx hb dX1_latest_81 (by decide) ?_
                exact ih6 (k + 1) (by omega) (by omega) _ (lv_conv (show lv_has ls 7 [(0, .ref (ad 0 0)), (1, .ref (ad 6 c)), (2, .int (nI hr)), (3, .int (nI n)), (4, .ref (ad 9 k)), (5, .int (nI (k + 1)))] from (lv_sub hl [3, 4, 5, 6, 1, 0] rfl)) (by rw [latS_y c_32 c_44 c_53 (fun j q => by rw [ho] at q; cases q)]; rfl))
      · rw [ho] at hl
        have hl : lv_has ls 7 [(0, .ref (ad 0 0)), (1, .ref (ad 6 c)), (2, .int (nI hr)), (3, .int (nI n)), (4, .ref (ad 9 b)), (5, .int (nI k))] := hl
        have hbl := latS_lt ho
        refine lv_iload hx hb dX1_latest_6 (lv_at hl 5 rfl) ?_
        refine lv_iload_n hx hb dX1_latest_8 rfl (lv_at hl 3 rfl) ?_
        refine kn_cge (tgt := 84) hx hb dX1_latest_9 (by decide) (by omega) (by omega) (fun c_9 => ?_) (fun c_9 => ?_)
        · refine lv_aload hx hb dX1_latest_84 (lv_at hl 4 rfl) ?_
          subst hQ
          exact W.aret (v := va_rf (some (ad 9 b))) hx hb hrt (Or.inl ⟨_, rfl⟩) (va_rf_or _) (fun t ht _ => ⟨(some (ad 9 b)), rfl, (show (some (ad 9 b)) = (latS G c hr n).map (ad 9) from by rw [show n = k by omega, ho]; rfl), ht⟩) t_nil dX1_latest_86
        · refine lv_aload_n hx hb dX1_latest_12 rfl (lv_at hl 0 rfl) ?_
          refine ko_get (C := RX1) (T := TX1) (N := 28) (ci := 1) (v := .ref (ad 4 1)) hx hb hts in_X1 hown hG.1 hH.o0 rfl 4 (by decide) q189 (fun _ h => h) (rfl) dX1_latest_13 ?_
          refine lv_iload hx hb dX1_latest_16 (lv_at hl 5 rfl) ?_
          refine va_csq (va_Run.call (va_runV (As := [.int (nI k)]) (rest := []) ⟨hx, hb, hml, hown, hts⟩ (c_J2_get lh D dA (ad 4 1) (Y 3 1 0) (ad 5 1) (N 19) (X 0 1) (ltH ad 9 (N 19) 0) (k) (ad 9 k) (show k < N 19 from by omega) ((hX.1 1 (by decide)).1) ((hX.1 1 (by decide)).2) (ltH_0 (show k < N 19 from by omega))) (w_J2_get hts q292 rfl rfl ⟨Nat.le_of_ble_eq_true rfl, Nat.le_of_ble_eq_true rfl⟩) ⟨PX.blind (Mv.and Mv.heap (Mv.and Mv.heap Mv.gk)), (O_recv hG (hH.lo 1 (by decide) (by have hx0 : N 19 ≤ X 0 1 := (hX.1 1 (by decide)).1; omega)) rfl), PX.pre (Mv.and Mv.heap (Mv.and Mv.heap Mv.gk)) ⟨(hH.lo 1 (by decide) (by have hx0 : N 19 ≤ X 0 1 := (hX.1 1 (by decide)).1; omega)), (hH.la 1 (by decide) (by have hx0 : N 19 ≤ X 0 1 := (hX.1 1 (by decide)).1; omega)), hG⟩⟩ rfl rfl hl.1 rfl (lv_room (Nat.le_of_ble_eq_true rfl)) dX1_latest_18 ⟨Nat.le_of_ble_eq_true rfl, Nat.le_of_ble_eq_true rfl⟩)) (fun rr hrr => ?_)
          subst hrr
          show W p lh e r_X1_latest s m args below meth cd _ _ _ _ Q (F0 m _ ls (.ref (ad 9 k) :: _))
          refine va_castE hx hb hown (hts _ q499) (O_recv hG (hH.te (show k < N 19 from by omega)) rfl) dX1_latest_21 ?_
          refine lv_astore (lv' := [(6, .ref (ad 9 k)), (0, .ref (ad 0 0)), (1, .ref (ad 6 c)), (2, .int (nI hr)), (3, .int (nI n)), (4, .ref (ad 9 b)), (5, .int (nI k))]) hx hb dX1_latest_24 hl (by decide) rfl (fun ls hl => ?_)
          refine lv_aload hx hb dX1_latest_26 (lv_at hl 0 rfl) ?_
          refine ko_getN (C := RX5) (T := TX5) (N := 3) (ci := 4) (v := .ref (ad 6 (G 20 k))) hx hb hts in_X5 hown hG.1 (hH.te (show k < N 19 from by omega)) rfl 0 (by decide) (hG.2.1 _ q575 rfl) (fun _ h => h) (rfl) dX1_latest_28 ?_
          refine lv_aload_n hx hb dX1_latest_31 rfl (lv_at hl 2 rfl) ?_
          refine lv_acmp_ne (rx := (some (ad 6 (G 20 k)))) (ry := (some (ad 6 c))) (tgt := 78) hx hb dX1_latest_32 (by decide) (fun c_32 => ?_) (fun c_32 => ?_)
          · have c_32 : ¬ G 20 k = c := fun q => c_32 (by rw [q])
            refine lv_iinc (v := nI (k + 1)) (lv' := [(5, .int (nI (k + 1))), (6, .ref (ad 9 k)), (0, .ref (ad 0 0)), (1, .ref (ad 6 c)), (2, .int (nI hr)), (3, .int (nI n)), (4, .ref (ad 9 b))]) hx hb dX1_latest_78 hl (k := 6) rfl (show nI k + Int32.ofInt 1 = nI (k + 1) from nI_add _ 1) (by decide) rfl (fun ls hl => ?_)
            refine lv_goto (tgt := 6) hx hb dX1_latest_81 (by decide) ?_
            exact ih6 (k + 1) (by omega) (by omega) _ (lv_conv (show lv_has ls 7 [(0, .ref (ad 0 0)), (1, .ref (ad 6 c)), (2, .int (nI hr)), (3, .int (nI n)), (4, .ref (ad 9 b)), (5, .int (nI (k + 1)))] from (lv_sub hl [2, 3, 4, 5, 6, 0] rfl)) (by rw [latS_n (fun q => c_32 q.1), ho]; rfl))
          · have c_32 : G 20 k = c := hH.inj 6 (h7 k (by omega)) h2 (Option.some.inj c_32)
            refine lv_aload hx hb dX1_latest_35 (lv_at hl 0 rfl) ?_
            refine ko_getN (C := RX5) (T := TX5) (N := 3) (ci := 4) (v := .int (nI (G 21 k))) hx hb hts in_X5 hown hG.1 (hH.te (show k < N 19 from by omega)) rfl 1 (by decide) (hG.2.1 _ q577 rfl) (fun _ h => h) (rfl) dX1_latest_37 ?_
            refine lv_aload_n hx hb dX1_latest_40 rfl (lv_at hl 2 rfl) ?_
            refine ko_getN (C := RX4) (T := TX4) (N := 11) (ci := 2) (v := .int (nI (G 9 c))) hx hb hts in_X4 hown hG.1 (hH.cr (show c < N 3 from by omega)) rfl 6 (by decide) (hG.2.1 _ q329 rfl) (fun _ h => h) (rfl) dX1_latest_41 ?_
            refine kn_clt (tgt := 78) hx hb dX1_latest_44 (by decide) (h1 _ _) (h1 _ _) (fun c_44 => ?_) (fun c_44 => ?_)
            · refine lv_iinc (v := nI (k + 1)) (lv' := [(5, .int (nI (k + 1))), (6, .ref (ad 9 k)), (0, .ref (ad 0 0)), (1, .ref (ad 6 c)), (2, .int (nI hr)), (3, .int (nI n)), (4, .ref (ad 9 b))]) hx hb dX1_latest_78 hl (k := 6) rfl (show nI k + Int32.ofInt 1 = nI (k + 1) from nI_add _ 1) (by decide) rfl (fun ls hl => ?_)
              refine lv_goto (tgt := 6) hx hb dX1_latest_81 (by decide) ?_
              exact ih6 (k + 1) (by omega) (by omega) _ (lv_conv (show lv_has ls 7 [(0, .ref (ad 0 0)), (1, .ref (ad 6 c)), (2, .int (nI hr)), (3, .int (nI n)), (4, .ref (ad 9 b)), (5, .int (nI (k + 1)))] from (lv_sub hl [2, 3, 4, 5, 6, 0] rfl)) (by rw [latS_n (fun q => by omega), ho]; rfl))
            · refine lv_aload hx hb dX1_latest_47 (lv_at hl 0 rfl) ?_
              refine ko_getN (C := RX5) (T := TX5) (N := 3) (ci := 4) (v := .int (nI (G 21 k))) hx hb hts in_X5 hown hG.1 (hH.te (show k < N 19 from by omega)) rfl 1 (by decide) (hG.2.1 _ q577 rfl) (fun _ h => h) (rfl) dX1_latest_49 ?_
              refine lv_iload_n hx hb dX1_latest_52 rfl (lv_at hl 3 rfl) ?_
              refine kn_cgt (tgt := 78) hx hb dX1_latest_53 (by decide) (h1 _ _) (by omega) (fun c_53 => ?_) (fun c_53 => ?_)
              · refine lv_iinc (v := nI (k + 1)) (lv' := [(5, .int (nI (k + 1))), (6, .ref (ad 9 k)), (0, .ref (ad 0 0)), (1, .ref (ad 6 c)), (2, .int (nI hr)), (3, .int (nI n)), (4, .ref (ad 9 b))]) hx hb dX1_latest_78 hl (k := 6) rfl (show nI k + Int32.ofInt 1 = nI (k + 1) from nI_add _ 1) (by decide) rfl (fun ls hl => ?_)
                refine lv_goto (tgt := 6) hx hb dX1_latest_81 (by decide) ?_
                exact ih6 (k + 1) (by omega) (by omega) _ (lv_conv (show lv_has ls 7 [(0, .ref (ad 0 0)), (1, .ref (ad 6 c)), (2, .int (nI hr)), (3, .int (nI n)), (4, .ref (ad 9 b)), (5, .int (nI (k + 1)))] from (lv_sub hl [2, 3, 4, 5, 6, 0] rfl)) (by rw [latS_n (fun q => by omega), ho]; rfl))
              · refine lv_aload hx hb dX1_latest_56 (lv_at hl 5 rfl) ?_
                refine lv_ifnull hx hb dX1_latest_58 ?_
                refine lv_aload hx hb dX1_latest_61 (lv_at hl 0 rfl) ?_
                refine ko_getN (C := RX5) (T := TX5) (N := 3) (ci := 4) (v := .int (nI (G 21 k))) hx hb hts in_X5 hown hG.1 (hH.te (show k < N 19 from by omega)) rfl 1 (by decide) (hG.2.1 _ q577 rfl) (fun _ h => h) (rfl) dX1_latest_63 ?_
                refine lv_aload hx hb dX1_latest_66 (lv_at hl 5 rfl) ?_
                refine ko_getN (C := RX5) (T := TX5) (N := 3) (ci := 4) (v := .int (nI (G 21 b))) hx hb hts in_X5 hown hG.1 (hH.te (show b < N 19 from by omega)) rfl 1 (by decide) (hG.2.1 _ q577 rfl) (fun _ h => h) (rfl) dX1_latest_68 ?_
                refine kn_clt (tgt := 78) hx hb dX1_latest_71 (by decide) (h1 _ _) (h1 _ _) (fun c_71 => ?_) (fun c_71 => ?_)
                · refine lv_iinc (v := nI (k + 1)) (lv' := [(5, .int (nI (k + 1))), (6, .ref (ad 9 k)), (0, .ref (ad 0 0)), (1, .ref (ad 6 c)), (2, .int (nI hr)), (3, .int (nI n)), (4, .ref (ad 9 b))]) hx hb dX1_latest_78 hl (k := 6) rfl (show nI k + Int32.ofInt 1 = nI (k + 1) from nI_add _ 1) (by decide) rfl (fun ls hl => ?_)
                  refine lv_goto (tgt := 6) hx hb dX1_latest_81 (by decide) ?_
                  exact ih6 (k + 1) (by omega) (by omega) _ (lv_conv (show lv_has ls 7 [(0, .ref (ad 0 0)), (1, .ref (ad 6 c)), (2, .int (nI hr)), (3, .int (nI n)), (4, .ref (ad 9 b)), (5, .int (nI (k + 1)))] from (lv_sub hl [2, 3, 4, 5, 6, 0] rfl)) (by rw [latS_n (fun q => by have := q.2.2.2 _ ho; omega), ho]; rfl))
                · refine lv_aload hx hb dX1_latest_74 (lv_at hl 0 rfl) ?_
                  refine lv_astore (lv' := [(4, .ref (ad 9 k)), (6, .ref (ad 9 k)), (0, .ref (ad 0 0)), (1, .ref (ad 6 c)), (2, .int (nI hr)), (3, .int (nI n)), (5, .int (nI k))]) hx hb dX1_latest_76 hl (by decide) rfl (fun ls hl => ?_)
                  refine lv_iinc (v := nI (k + 1)) (lv' := [(5, .int (nI (k + 1))), (4, .ref (ad 9 k)), (6, .ref (ad 9 k)), (0, .ref (ad 0 0)), (1, .ref (ad 6 c)), (2, .int (nI hr)), (3, .int (nI n))]) hx hb dX1_latest_78 hl (k := 6) rfl (show nI k + Int32.ofInt 1 = nI (k + 1) from nI_add _ 1) (by decide) rfl (fun ls hl => ?_)
                  refine lv_goto (tgt := 6) hx hb dX1_latest_81 (by decide) ?_
                  exact ih6 (k + 1) (by omega) (by omega) _ (lv_conv (show lv_has ls 7 [(0, .ref (ad 0 0)), (1, .ref (ad 6 c)), (2, .int (nI hr)), (3, .int (nI n)), (4, .ref (ad 9 k)), (5, .int (nI (k + 1)))] from (lv_sub hl [3, 4, 5, 6, 1, 0] rfl)) (by rw [latS_y c_32 c_44 c_53 (fun j q => by rw [ho] at q; cases q; exact c_71)]; rfl))
  exact L6 _ 0 (by omega) (Nat.lt_succ_self _) _ (lv_conv (show lv_has ls 7 [(0, .ref (ad 0 0)), (1, .ref (ad 6 c)), (2, .int (nI hr)), (3, .int (nI n)), (4, .null), (5, .int (nI 0))] from (lv_sub hl [2, 3, 4, 5, 1, 0] rfl)) (rfl))
theorem w_X1_latest {R : Room} {s : State} {args : Array Value} {own : String} {idx : Nat} (hts : ∀ w ∈ lw_all, w.before args s = true) (h1 : Cond.methodLink own idx yX1_latest ∈ lw_all) {rm : Room} {mc ms : Nat} (hrc : rm.cells = mc) (hrs : rm.slots = ms) (hR : rm.frames + 1 ≤ R.frames ∧ 8 + (7 + 11) + rm.locals ≤ R.locals) : CallW R s args own RX1 idx yX1_latest cX1_latest 7 (some (.object "PickleHouse$Test")) (ws_ yX1_latest cX1_latest 7 (some (.object "PickleHouse$Test"))) rm mc ms 3 := cwV 3 hts (lw_V h1 q497 qs9 q62 q498) rfl hrc hrs (by decide +kernel) hR

abbrev r_X1_sour : Room := { frames := 4, cells := 0, slots := 0, locals := 90 }
set_option maxHeartbeats 1000000 in
theorem c_X1_sour (lh : Launch) (A : Nat → Prop) (D : va_G) (dA : Nat → ClassId) (K : Nat → Nat) (ad X : Nat → Nat → Nat) (Y : Nat → Nat → Nat → Int32) (N : Nat → Nat) (I : Nat → Int32) (G : Nat → Nat → Nat) (J : Nat → Nat → Int32) (c : Nat) (hr : Nat) (n : Nat) (hi : Bool) (h1 : ∀ a b, G a b < 2 ^ 31) (h2 : c < N 3) (h3 : hr ≤ 600) (h4 : hr ≤ N 14) (h5 : n ≤ N 19) (h6 : N 19 ≤ 100) (h7 : XOk N G X) (h8 : TsOk N G) (h9 : lv G c = true) (h10 : RtOk N G Y) : Met lh yX1_sour (ws_ yX1_sour cX1_sour 8 (some .int)) r_X1_sour (PX (fun U H => RH A D dA K ad X Y N I G J H ∧ GK D dA U) [.ref (ad 0 0), .ref (ad 6 c), .int (nI hr), .int (nI n), .int (bI hi)]) (vp_Si (fun rv => rv = spanS G J c hr n hi)) 0 0 (fun _ => False) := by
  refine Met.ofW (cc := cX1_sour) (maxL := 8) (ret := (some .int)) (by decide) rfl ?_
  intro p e s m args below meth cd s₁ B hml hv
  obtain ⟨hargs, hH, hG⟩ := hv
  have hx := B.exec
  have hb := B.bytes
  have hrt := B.returns
  have hts := atoms_spec (ws := (ws_ yX1_sour cX1_sour 8 (some .int))) B.pre
  have hts : ∀ w ∈ lw_all, w.before _ s = true := fun w h => hts w (List.mem_cons_of_mem _ h)
  have hown : s.vm.findClass RX1 = some m.cls := findClass_of_methodNamed B.named
  have hlocks := B.notSynchronized
  have hE : entryFrame m args 8 = F0 m 0 ((lg_sl ([.ref (ad 0 0), .ref (ad 6 c), .int (nI hr), .int (nI n), .int (bI hi)]) ++ List.replicate (8 - (lg_sl ([.ref (ad 0 0), .ref (ad 6 c), .int (nI hr), .int (nI n), .int (bI hi)])).length) Slot.unset).toArray) [] := by rw [hargs]; exact lg_entry_eq m _ 8
  have hl := lv_entry ([.ref (ad 0 0), .ref (ad 6 c), .int (nI hr), .int (nI n), .int (bI hi)]) (n := 8) (Nat.le_of_ble_eq_true rfl)
  rw [hE]
  clear hE
  generalize (lg_sl ([.ref (ad 0 0), .ref (ad 6 c), .int (nI hr), .int (nI n), .int (bI hi)]) ++ List.replicate (8 - (lg_sl ([.ref (ad 0 0), .ref (ad 6 c), .int (nI hr), .int (nI n), .int (bI hi)])).length) Slot.unset).toArray = ls at hl ⊢
  have hl : lv_has ls 8 [(0, .ref (ad 0 0)), (1, .ref (ad 6 c)), (2, .int (nI hr)), (3, .int (nI n)), (4, .int (bI hi))] := hl
  generalize hQ : MQ _ _ _ _ _ _ _ = Q
  have hX := h7
  refine lv_aload_n hx hb dX1_sour_0 rfl (lv_at hl 0 rfl) ?_
  refine lv_aload_n hx hb dX1_sour_1 rfl (lv_at hl 1 rfl) ?_
  refine lv_iload_n hx hb dX1_sour_2 rfl (lv_at hl 2 rfl) ?_
  refine lv_iload_n hx hb dX1_sour_3 rfl (lv_at hl 3 rfl) ?_
  refine va_csq (va_Run.call (va_runV (As := [.ref (ad 6 c), .int (nI hr), .int (nI n)]) (rest := []) ⟨hx, hb, hml, hown, hts⟩ (c_X1_latest lh A D dA K ad X Y N I G J c hr n (show ∀ a b, G a b < 2 ^ 31 from by first | omega | assumption) (show c < (N 3) from by first | omega | assumption) (show hr < 2 ^ 31 from by first | omega | assumption) (show n ≤ (N 19) from by first | omega | assumption) (show (N 19) ≤ 100 from by first | omega | assumption) (show XOk N G X from by first | omega | assumption) (show TsOk N G from by first | omega | assumption)) (w_X1_latest hts q495 rfl rfl ⟨Nat.le_of_ble_eq_true rfl, Nat.le_of_ble_eq_true rfl⟩) ⟨PX.blind (Mv.and Mv.heap Mv.gk), (O_recv hG hH.o0 rfl), PX.pre (Mv.and Mv.heap Mv.gk) ⟨hH, hG⟩⟩ rfl rfl hl.1 rfl (lv_room (Nat.le_of_ble_eq_true rfl)) dX1_sour_4 ⟨Nat.le_of_ble_eq_true rfl, Nat.le_of_ble_eq_true rfl⟩)) (fun rr hrr => ?_)
  subst hrr
  rcases hq4 : latS G c hr n with _ | k4
  · show W p lh e r_X1_sour s m args below meth cd _ _ _ _ Q (F0 m _ ls (.null :: _))
    refine lv_astoreN (lv' := [(5, .null), (0, .ref (ad 0 0)), (1, .ref (ad 6 c)), (2, .int (nI hr)), (3, .int (nI n)), (4, .int (bI hi))]) hx hb dX1_sour_7 hl (by decide) rfl (fun ls hl => ?_)
    refine lv_aloadN hx hb dX1_sour_9 (lv_at hl 0 rfl) ?_
    refine lv_ifnullN (tgt := 22) hx hb dX1_sour_11 (by decide) ?_
    refine lv_iload hx hb dX1_sour_22 (lv_at hl 5 rfl) ?_
    refine kb_eq (tgt := 34) hx hb dX1_sour_24 (by decide) (fun c_24 => ?_) (fun c_24 => ?_)
    · refine lv_aload_n hx hb dX1_sour_34 rfl (lv_at hl 2 rfl) ?_
      refine ko_getN (C := RX4) (T := TX4) (N := 11) (ci := 2) (v := .int (J 10 c)) hx hb hts in_X4 hown hG.1 (hH.cr (show c < N 3 from by omega)) rfl 7 (by decide) (hG.2.1 _ q330 rfl) (fun _ h => h) (rfl) dX1_sour_35 ?_
      refine lv_istore (lv' := [(6, .int (J 10 c)), (5, .null), (0, .ref (ad 0 0)), (1, .ref (ad 6 c)), (2, .int (nI hr)), (3, .int (nI n)), (4, .int (bI hi))]) hx hb dX1_sour_38 hl (by decide) rfl (fun ls hl => ?_)
      refine lv_aloadN hx hb dX1_sour_40 (lv_at hl 1 rfl) ?_
      refine lv_ifnullN (tgt := 53) hx hb dX1_sour_42 (by decide) ?_
      refine lv_aload_n hx hb dX1_sour_53 rfl (lv_at hl 3 rfl) ?_
      refine ko_getN (C := RX4) (T := TX4) (N := 11) (ci := 2) (v := .int (nI (G 9 c))) hx hb hts in_X4 hown hG.1 (hH.cr (show c < N 3 from by omega)) rfl 6 (by decide) (hG.2.1 _ q329 rfl) (fun _ h => h) (rfl) dX1_sour_54 ?_
      refine lv_istore (lv' := [(7, .int (nI (G 9 c))), (6, .int (J 10 c)), (5, .null), (0, .ref (ad 0 0)), (1, .ref (ad 6 c)), (2, .int (nI hr)), (3, .int (nI n)), (4, .int (bI hi))]) hx hb dX1_sour_57 hl (by decide) rfl (fun ls hl => ?_)
      have L59 : ∀ (nn59 : Nat) (q : Nat), (q ≤ hr - (G 9 c)) → hr - ((G 9 c) + q) < nn59 → ∀ (ls : Array Slot), lv_has ls 8 [(0, .ref (ad 0 0)), (1, .ref (ad 6 c)), (2, .int (nI hr)), (4, .int (bI hi)), (6, .int (spL G c hi (J 10 c) (G 9 c) q)), (7, .int (nI ((G 9 c) + q)))] → W p lh e r_X1_sour s m args below meth cd s.heap [] 0 0 Q (F0 m 59 ls []) := by
        intro nn59
        induction nn59 with
        | zero => intro q i59_0 hm59; exact absurd hm59 (Nat.not_lt_zero _)
        | succ nn59 ih59 =>
          intro q i59_0 hm59 ls hl
          refine lv_iload hx hb dX1_sour_59 (lv_at hl 5 rfl) ?_
          refine lv_iload_n hx hb dX1_sour_61 rfl (lv_at hl 2 rfl) ?_
          refine kn_cge (tgt := 110) hx hb dX1_sour_62 (by decide) (by first | omega | (have := h1 21 k4; omega) | (have := h1 9 c; omega)) (by omega) (fun c_62 => ?_) (fun c_62 => ?_)
          · refine lv_sipush (v := nI 1000) hx hb dX1_sour_110 (by decide) ?_
            refine lv_iload hx hb dX1_sour_113 (lv_at hl 4 rfl) ?_
            refine va_mmin hx hb (hml.trans hl.1.symm) hown (hts _ q500) (hts _ q425) (hts _ q75) (hts _ q426) (Nat.le_of_ble_eq_true rfl) (Nat.le_of_ble_eq_true rfl) (Nat.le_of_ble_eq_true rfl) (Nat.le_of_ble_eq_true rfl) dX1_sour_115 ?_
            refine kx_int (y := cap (spL G c hi (J 10 c) (G 9 c) q)) (min_cap _) ?_
            subst hQ
            exact W.iret (v := cap (spL G c hi (J 10 c) (G 9 c) q)) hx hb hrt (fun t ht _ => ⟨_, rfl, (show cap (spL G c hi (J 10 c) (G 9 c) q) = spanS G J c hr n hi from by have e : q = hr - (G 9 c) := (by omega); subst e; simp only [spanS, hq4]; rw [if_neg (show ¬ hi = true by rw [c_24]; decide)]), ht⟩) t_nil dX1_sour_118
          · refine lv_iload hx hb dX1_sour_65 (lv_at hl 4 rfl) ?_
            refine lv_iload hx hb dX1_sour_67 (lv_at hl 3 rfl) ?_
            refine kb_eq (tgt := 94) hx hb dX1_sour_69 (by decide) (fun c_69 => ?_) (fun c_69 => ?_)
            · refine lv_aload_n hx hb dX1_sour_94 rfl (lv_at hl 1 rfl) ?_
              refine ko_getN (C := RX4) (T := TX4) (N := 11) (ci := 2) (v := .ref (ad 8 c)) hx hb hts in_X4 hown hG.1 (hH.cr (show c < N 3 from by omega)) rfl 2 (by decide) (hG.2.1 _ q319 rfl) (fun _ h => h) (rfl) dX1_sour_95 ?_
              refine lv_iload hx hb dX1_sour_98 (lv_at hl 5 rfl) ?_
              refine ka_bald (v := Y 1 c ((G 9 c) + q)) hx hb hG.1 (hH.rt (show c < N 3 from by omega)) 1 rfl (show (G 9 c) + q < 600 from by omega) (by decide) (rfl) dX1_sour_100 ?_
              refine kx_int (y := nI (G 12 (600 * c + ((G 9 c) + q))) - nI 1) (h10.inc h2 h9 (by omega) (by omega)) ?_
              refine lv_iadd hx hb dX1_sour_101 ?_
              refine lv_istore (lv' := [(6, .int ((spL G c hi (J 10 c) (G 9 c) q) + (nI (G 12 (600 * c + ((G 9 c) + q))) - nI 1))), (0, .ref (ad 0 0)), (1, .ref (ad 6 c)), (2, .int (nI hr)), (4, .int (bI hi)), (7, .int (nI ((G 9 c) + q)))]) hx hb dX1_sour_102 hl (by decide) rfl (fun ls hl => ?_)
              refine lv_iinc (v := nI ((G 9 c) + q + 1)) (lv' := [(7, .int (nI ((G 9 c) + q + 1))), (6, .int ((spL G c hi (J 10 c) (G 9 c) q) + (nI (G 12 (600 * c + ((G 9 c) + q))) - nI 1))), (0, .ref (ad 0 0)), (1, .ref (ad 6 c)), (2, .int (nI hr)), (4, .int (bI hi))]) hx hb dX1_sour_104 hl (k := 5) rfl (show nI ((G 9 c) + q) + Int32.ofInt 1 = nI ((G 9 c) + q + 1) from nI_add _ 1) (by decide) rfl (fun ls hl => ?_)
              refine lv_goto (tgt := 59) hx hb dX1_sour_107 (by decide) ?_
              exact ih59 (q + 1) (by omega) (by omega) _ (lv_conv (show lv_has ls 8 [(0, .ref (ad 0 0)), (1, .ref (ad 6 c)), (2, .int (nI hr)), (4, .int (bI hi)), (6, .int ((spL G c hi (J 10 c) (G 9 c) q) + (nI (G 12 (600 * c + ((G 9 c) + q))) - nI 1))), (7, .int (nI ((G 9 c) + q + 1)))] from (lv_sub hl [2, 3, 4, 5, 1, 0] rfl)) (by simp [spL, incS, c_69, Nat.add_assoc]))
            · refine lv_aload_n hx hb dX1_sour_72 rfl (lv_at hl 1 rfl) ?_
              refine ko_getN (C := RX4) (T := TX4) (N := 11) (ci := 2) (v := .ref (ad 8 c)) hx hb hts in_X4 hown hG.1 (hH.cr (show c < N 3 from by omega)) rfl 2 (by decide) (hG.2.1 _ q319 rfl) (fun _ h => h) (rfl) dX1_sour_73 ?_
              refine lv_iload hx hb dX1_sour_76 (lv_at hl 5 rfl) ?_
              refine ka_bald (v := Y 1 c ((G 9 c) + q)) hx hb hG.1 (hH.rt (show c < N 3 from by omega)) 1 rfl (show (G 9 c) + q < 600 from by omega) (by decide) (rfl) dX1_sour_78 ?_
              refine kx_int (y := nI (G 12 (600 * c + ((G 9 c) + q))) - nI 1) (h10.inc h2 h9 (by omega) (by omega)) ?_
              refine lv_aload_n hx hb dX1_sour_79 rfl (lv_at hl 1 rfl) ?_
              refine ko_getN (C := RX4) (T := TX4) (N := 11) (ci := 2) (v := .ref (ad 8 c)) hx hb hts in_X4 hown hG.1 (hH.cr (show c < N 3 from by omega)) rfl 2 (by decide) (hG.2.1 _ q319 rfl) (fun _ h => h) (rfl) dX1_sour_80 ?_
              refine lv_iload hx hb dX1_sour_83 (lv_at hl 5 rfl) ?_
              refine ka_bald (v := Y 1 c ((G 9 c) + q)) hx hb hG.1 (hH.rt (show c < N 3 from by omega)) 1 rfl (show (G 9 c) + q < 600 from by omega) (by decide) (rfl) dX1_sour_85 ?_
              refine kx_int (y := nI (G 12 (600 * c + ((G 9 c) + q))) - nI 1) (h10.inc h2 h9 (by omega) (by omega)) ?_
              refine lv_iconst (v := nI 2) hx hb dX1_sour_86 (by decide) ?_
              refine lv_idiv hx hb dX1_sour_87 (by decide) ?_
              refine lv_iadd hx hb dX1_sour_88 ?_
              refine lv_iconst (v := nI 1) hx hb dX1_sour_89 (by decide) ?_
              refine lv_iadd hx hb dX1_sour_90 ?_
              refine lv_goto (tgt := 101) hx hb dX1_sour_91 (by decide) ?_
              refine lv_iadd hx hb dX1_sour_101 ?_
              refine lv_istore (lv' := [(6, .int ((spL G c hi (J 10 c) (G 9 c) q) + (nI (G 12 (600 * c + ((G 9 c) + q))) - nI 1 + ((nI (G 12 (600 * c + ((G 9 c) + q))) - nI 1) / (nI 2)) + (nI 1)))), (0, .ref (ad 0 0)), (1, .ref (ad 6 c)), (2, .int (nI hr)), (4, .int (bI hi)), (7, .int (nI ((G 9 c) + q)))]) hx hb dX1_sour_102 hl (by decide) rfl (fun ls hl => ?_)
              refine lv_iinc (v := nI ((G 9 c) + q + 1)) (lv' := [(7, .int (nI ((G 9 c) + q + 1))), (6, .int ((spL G c hi (J 10 c) (G 9 c) q) + (nI (G 12 (600 * c + ((G 9 c) + q))) - nI 1 + ((nI (G 12 (600 * c + ((G 9 c) + q))) - nI 1) / (nI 2)) + (nI 1)))), (0, .ref (ad 0 0)), (1, .ref (ad 6 c)), (2, .int (nI hr)), (4, .int (bI hi))]) hx hb dX1_sour_104 hl (k := 5) rfl (show nI ((G 9 c) + q) + Int32.ofInt 1 = nI ((G 9 c) + q + 1) from nI_add _ 1) (by decide) rfl (fun ls hl => ?_)
              refine lv_goto (tgt := 59) hx hb dX1_sour_107 (by decide) ?_
              exact ih59 (q + 1) (by omega) (by omega) _ (lv_conv (show lv_has ls 8 [(0, .ref (ad 0 0)), (1, .ref (ad 6 c)), (2, .int (nI hr)), (4, .int (bI hi)), (6, .int ((spL G c hi (J 10 c) (G 9 c) q) + (nI (G 12 (600 * c + ((G 9 c) + q))) - nI 1 + ((nI (G 12 (600 * c + ((G 9 c) + q))) - nI 1) / (nI 2)) + (nI 1)))), (7, .int (nI ((G 9 c) + q + 1)))] from (lv_sub hl [2, 3, 4, 5, 1, 0] rfl)) (by simp [spL, incS, c_69, Nat.add_assoc]))
      exact L59 _ 0 (by omega) (Nat.lt_succ_self _) _ (lv_sub hl [3, 4, 5, 7, 1, 0] rfl)
    · refine lv_aload_n hx hb dX1_sour_27 rfl (lv_at hl 2 rfl) ?_
      refine ko_getN (C := RX4) (T := TX4) (N := 11) (ci := 2) (v := .int (J 11 c)) hx hb hts in_X4 hown hG.1 (hH.cr (show c < N 3 from by omega)) rfl 8 (by decide) (hG.2.1 _ q331 rfl) (fun _ h => h) (rfl) dX1_sour_28 ?_
      refine lv_goto (tgt := 38) hx hb dX1_sour_31 (by decide) ?_
      refine lv_istore (lv' := [(6, .int (J 11 c)), (5, .null), (0, .ref (ad 0 0)), (1, .ref (ad 6 c)), (2, .int (nI hr)), (3, .int (nI n)), (4, .int (bI hi))]) hx hb dX1_sour_38 hl (by decide) rfl (fun ls hl => ?_)
      refine lv_aloadN hx hb dX1_sour_40 (lv_at hl 1 rfl) ?_
      refine lv_ifnullN (tgt := 53) hx hb dX1_sour_42 (by decide) ?_
      refine lv_aload_n hx hb dX1_sour_53 rfl (lv_at hl 3 rfl) ?_
      refine ko_getN (C := RX4) (T := TX4) (N := 11) (ci := 2) (v := .int (nI (G 9 c))) hx hb hts in_X4 hown hG.1 (hH.cr (show c < N 3 from by omega)) rfl 6 (by decide) (hG.2.1 _ q329 rfl) (fun _ h => h) (rfl) dX1_sour_54 ?_
      refine lv_istore (lv' := [(7, .int (nI (G 9 c))), (6, .int (J 11 c)), (5, .null), (0, .ref (ad 0 0)), (1, .ref (ad 6 c)), (2, .int (nI hr)), (3, .int (nI n)), (4, .int (bI hi))]) hx hb dX1_sour_57 hl (by decide) rfl (fun ls hl => ?_)
      have L59 : ∀ (nn59 : Nat) (q : Nat), (q ≤ hr - (G 9 c)) → hr - ((G 9 c) + q) < nn59 → ∀ (ls : Array Slot), lv_has ls 8 [(0, .ref (ad 0 0)), (1, .ref (ad 6 c)), (2, .int (nI hr)), (4, .int (bI hi)), (6, .int (spL G c hi (J 11 c) (G 9 c) q)), (7, .int (nI ((G 9 c) + q)))] → W p lh e r_X1_sour s m args below meth cd s.heap [] 0 0 Q (F0 m 59 ls []) := by
        intro nn59
        induction nn59 with
        | zero => intro q i59_0 hm59; exact absurd hm59 (Nat.not_lt_zero _)
        | succ nn59 ih59 =>
          intro q i59_0 hm59 ls hl
          refine lv_iload hx hb dX1_sour_59 (lv_at hl 5 rfl) ?_
          refine lv_iload_n hx hb dX1_sour_61 rfl (lv_at hl 2 rfl) ?_
          refine kn_cge (tgt := 110) hx hb dX1_sour_62 (by decide) (by first | omega | (have := h1 21 k4; omega) | (have := h1 9 c; omega)) (by omega) (fun c_62 => ?_) (fun c_62 => ?_)
          · refine lv_sipush (v := nI 1000) hx hb dX1_sour_110 (by decide) ?_
            refine lv_iload hx hb dX1_sour_113 (lv_at hl 4 rfl) ?_
            refine va_mmin hx hb (hml.trans hl.1.symm) hown (hts _ q500) (hts _ q425) (hts _ q75) (hts _ q426) (Nat.le_of_ble_eq_true rfl) (Nat.le_of_ble_eq_true rfl) (Nat.le_of_ble_eq_true rfl) (Nat.le_of_ble_eq_true rfl) dX1_sour_115 ?_
            refine kx_int (y := cap (spL G c hi (J 11 c) (G 9 c) q)) (min_cap _) ?_
            subst hQ
            exact W.iret (v := cap (spL G c hi (J 11 c) (G 9 c) q)) hx hb hrt (fun t ht _ => ⟨_, rfl, (show cap (spL G c hi (J 11 c) (G 9 c) q) = spanS G J c hr n hi from by have e : q = hr - (G 9 c) := (by omega); subst e; simp only [spanS, hq4]; rw [if_pos (show hi = true from c_24)]), ht⟩) t_nil dX1_sour_118
          · refine lv_iload hx hb dX1_sour_65 (lv_at hl 4 rfl) ?_
            refine lv_iload hx hb dX1_sour_67 (lv_at hl 3 rfl) ?_
            refine kb_eq (tgt := 94) hx hb dX1_sour_69 (by decide) (fun c_69 => ?_) (fun c_69 => ?_)
            · refine lv_aload_n hx hb dX1_sour_94 rfl (lv_at hl 1 rfl) ?_
              refine ko_getN (C := RX4) (T := TX4) (N := 11) (ci := 2) (v := .ref (ad 8 c)) hx hb hts in_X4 hown hG.1 (hH.cr (show c < N 3 from by omega)) rfl 2 (by decide) (hG.2.1 _ q319 rfl) (fun _ h => h) (rfl) dX1_sour_95 ?_
              refine lv_iload hx hb dX1_sour_98 (lv_at hl 5 rfl) ?_
              refine ka_bald (v := Y 1 c ((G 9 c) + q)) hx hb hG.1 (hH.rt (show c < N 3 from by omega)) 1 rfl (show (G 9 c) + q < 600 from by omega) (by decide) (rfl) dX1_sour_100 ?_
              refine kx_int (y := nI (G 12 (600 * c + ((G 9 c) + q))) - nI 1) (h10.inc h2 h9 (by omega) (by omega)) ?_
              refine lv_iadd hx hb dX1_sour_101 ?_
              refine lv_istore (lv' := [(6, .int ((spL G c hi (J 11 c) (G 9 c) q) + (nI (G 12 (600 * c + ((G 9 c) + q))) - nI 1))), (0, .ref (ad 0 0)), (1, .ref (ad 6 c)), (2, .int (nI hr)), (4, .int (bI hi)), (7, .int (nI ((G 9 c) + q)))]) hx hb dX1_sour_102 hl (by decide) rfl (fun ls hl => ?_)
              refine lv_iinc (v := nI ((G 9 c) + q + 1)) (lv' := [(7, .int (nI ((G 9 c) + q + 1))), (6, .int ((spL G c hi (J 11 c) (G 9 c) q) + (nI (G 12 (600 * c + ((G 9 c) + q))) - nI 1))), (0, .ref (ad 0 0)), (1, .ref (ad 6 c)), (2, .int (nI hr)), (4, .int (bI hi))]) hx hb dX1_sour_104 hl (k := 5) rfl (show nI ((G 9 c) + q) + Int32.ofInt 1 = nI ((G 9 c) + q + 1) from nI_add _ 1) (by decide) rfl (fun ls hl => ?_)
              refine lv_goto (tgt := 59) hx hb dX1_sour_107 (by decide) ?_
              exact ih59 (q + 1) (by omega) (by omega) _ (lv_conv (show lv_has ls 8 [(0, .ref (ad 0 0)), (1, .ref (ad 6 c)), (2, .int (nI hr)), (4, .int (bI hi)), (6, .int ((spL G c hi (J 11 c) (G 9 c) q) + (nI (G 12 (600 * c + ((G 9 c) + q))) - nI 1))), (7, .int (nI ((G 9 c) + q + 1)))] from (lv_sub hl [2, 3, 4, 5, 1, 0] rfl)) (by simp [spL, incS, c_69, Nat.add_assoc]))
            · refine lv_aload_n hx hb dX1_sour_72 rfl (lv_at hl 1 rfl) ?_
              refine ko_getN (C := RX4) (T := TX4) (N := 11) (ci := 2) (v := .ref (ad 8 c)) hx hb hts in_X4 hown hG.1 (hH.cr (show c < N 3 from by omega)) rfl 2 (by decide) (hG.2.1 _ q319 rfl) (fun _ h => h) (rfl) dX1_sour_73 ?_
              refine lv_iload hx hb dX1_sour_76 (lv_at hl 5 rfl) ?_
              refine ka_bald (v := Y 1 c ((G 9 c) + q)) hx hb hG.1 (hH.rt (show c < N 3 from by omega)) 1 rfl (show (G 9 c) + q < 600 from by omega) (by decide) (rfl) dX1_sour_78 ?_
              refine kx_int (y := nI (G 12 (600 * c + ((G 9 c) + q))) - nI 1) (h10.inc h2 h9 (by omega) (by omega)) ?_
              refine lv_aload_n hx hb dX1_sour_79 rfl (lv_at hl 1 rfl) ?_
              refine ko_getN (C := RX4) (T := TX4) (N := 11) (ci := 2) (v := .ref (ad 8 c)) hx hb hts in_X4 hown hG.1 (hH.cr (show c < N 3 from by omega)) rfl 2 (by decide) (hG.2.1 _ q319 rfl) (fun _ h => h) (rfl) dX1_sour_80 ?_
              refine lv_iload hx hb dX1_sour_83 (lv_at hl 5 rfl) ?_
              refine ka_bald (v := Y 1 c ((G 9 c) + q)) hx hb hG.1 (hH.rt (show c < N 3 from by omega)) 1 rfl (show (G 9 c) + q < 600 from by omega) (by decide) (rfl) dX1_sour_85 ?_
              refine kx_int (y := nI (G 12 (600 * c + ((G 9 c) + q))) - nI 1) (h10.inc h2 h9 (by omega) (by omega)) ?_
              refine lv_iconst (v := nI 2) hx hb dX1_sour_86 (by decide) ?_
              refine lv_idiv hx hb dX1_sour_87 (by decide) ?_
              refine lv_iadd hx hb dX1_sour_88 ?_
              refine lv_iconst (v := nI 1) hx hb dX1_sour_89 (by decide) ?_
              refine lv_iadd hx hb dX1_sour_90 ?_
              refine lv_goto (tgt := 101) hx hb dX1_sour_91 (by decide) ?_
              refine lv_iadd hx hb dX1_sour_101 ?_
              refine lv_istore (lv' := [(6, .int ((spL G c hi (J 11 c) (G 9 c) q) + (nI (G 12 (600 * c + ((G 9 c) + q))) - nI 1 + ((nI (G 12 (600 * c + ((G 9 c) + q))) - nI 1) / (nI 2)) + (nI 1)))), (0, .ref (ad 0 0)), (1, .ref (ad 6 c)), (2, .int (nI hr)), (4, .int (bI hi)), (7, .int (nI ((G 9 c) + q)))]) hx hb dX1_sour_102 hl (by decide) rfl (fun ls hl => ?_)
              refine lv_iinc (v := nI ((G 9 c) + q + 1)) (lv' := [(7, .int (nI ((G 9 c) + q + 1))), (6, .int ((spL G c hi (J 11 c) (G 9 c) q) + (nI (G 12 (600 * c + ((G 9 c) + q))) - nI 1 + ((nI (G 12 (600 * c + ((G 9 c) + q))) - nI 1) / (nI 2)) + (nI 1)))), (0, .ref (ad 0 0)), (1, .ref (ad 6 c)), (2, .int (nI hr)), (4, .int (bI hi))]) hx hb dX1_sour_104 hl (k := 5) rfl (show nI ((G 9 c) + q) + Int32.ofInt 1 = nI ((G 9 c) + q + 1) from nI_add _ 1) (by decide) rfl (fun ls hl => ?_)
              refine lv_goto (tgt := 59) hx hb dX1_sour_107 (by decide) ?_
              exact ih59 (q + 1) (by omega) (by omega) _ (lv_conv (show lv_has ls 8 [(0, .ref (ad 0 0)), (1, .ref (ad 6 c)), (2, .int (nI hr)), (4, .int (bI hi)), (6, .int ((spL G c hi (J 11 c) (G 9 c) q) + (nI (G 12 (600 * c + ((G 9 c) + q))) - nI 1 + ((nI (G 12 (600 * c + ((G 9 c) + q))) - nI 1) / (nI 2)) + (nI 1)))), (7, .int (nI ((G 9 c) + q + 1)))] from (lv_sub hl [2, 3, 4, 5, 1, 0] rfl)) (by simp [spL, incS, c_69, Nat.add_assoc]))
      exact L59 _ 0 (by omega) (Nat.lt_succ_self _) _ (lv_sub hl [3, 4, 5, 7, 1, 0] rfl)
  · show W p lh e r_X1_sour s m args below meth cd _ _ _ _ Q (F0 m _ ls (.ref (ad 9 k4) :: _))
    have hlt := latS_lt hq4
    have hlk := latS_ok hq4
    refine lv_astore (lv' := [(5, .ref (ad 9 k4)), (0, .ref (ad 0 0)), (1, .ref (ad 6 c)), (2, .int (nI hr)), (3, .int (nI n)), (4, .int (bI hi))]) hx hb dX1_sour_7 hl (by decide) rfl (fun ls hl => ?_)
    refine lv_aload hx hb dX1_sour_9 (lv_at hl 0 rfl) ?_
    refine lv_ifnull hx hb dX1_sour_11 ?_
    refine lv_aload hx hb dX1_sour_14 (lv_at hl 0 rfl) ?_
    refine ko_getN (C := RX5) (T := TX5) (N := 3) (ci := 4) (v := .int (nI (G 22 k4))) hx hb hts in_X5 hown hG.1 (hH.te (show k4 < N 19 from by omega)) rfl 2 (by decide) (hG.2.1 _ q579 rfl) (fun _ h => h) (rfl) dX1_sour_16 ?_
    refine lv_goto (tgt := 38) hx hb dX1_sour_19 (by decide) ?_
    refine lv_istore (lv' := [(6, .int (nI (G 22 k4))), (5, .ref (ad 9 k4)), (0, .ref (ad 0 0)), (1, .ref (ad 6 c)), (2, .int (nI hr)), (3, .int (nI n)), (4, .int (bI hi))]) hx hb dX1_sour_38 hl (by decide) rfl (fun ls hl => ?_)
    refine lv_aload hx hb dX1_sour_40 (lv_at hl 1 rfl) ?_
    refine lv_ifnull hx hb dX1_sour_42 ?_
    refine lv_aload hx hb dX1_sour_45 (lv_at hl 1 rfl) ?_
    refine ko_getN (C := RX5) (T := TX5) (N := 3) (ci := 4) (v := .int (nI (G 21 k4))) hx hb hts in_X5 hown hG.1 (hH.te (show k4 < N 19 from by omega)) rfl 1 (by decide) (hG.2.1 _ q577 rfl) (fun _ h => h) (rfl) dX1_sour_47 ?_
    refine lv_goto (tgt := 57) hx hb dX1_sour_50 (by decide) ?_
    refine lv_istore (lv' := [(7, .int (nI (G 21 k4))), (6, .int (nI (G 22 k4))), (5, .ref (ad 9 k4)), (0, .ref (ad 0 0)), (1, .ref (ad 6 c)), (2, .int (nI hr)), (3, .int (nI n)), (4, .int (bI hi))]) hx hb dX1_sour_57 hl (by decide) rfl (fun ls hl => ?_)
    have L59 : ∀ (nn59 : Nat) (q : Nat), (q ≤ hr - (G 21 k4)) → hr - ((G 21 k4) + q) < nn59 → ∀ (ls : Array Slot), lv_has ls 8 [(0, .ref (ad 0 0)), (1, .ref (ad 6 c)), (2, .int (nI hr)), (4, .int (bI hi)), (6, .int (spL G c hi (nI (G 22 k4)) (G 21 k4) q)), (7, .int (nI ((G 21 k4) + q)))] → W p lh e r_X1_sour s m args below meth cd s.heap [] 0 0 Q (F0 m 59 ls []) := by
      intro nn59
      induction nn59 with
      | zero => intro q i59_0 hm59; exact absurd hm59 (Nat.not_lt_zero _)
      | succ nn59 ih59 =>
        intro q i59_0 hm59 ls hl
        refine lv_iload hx hb dX1_sour_59 (lv_at hl 5 rfl) ?_
        refine lv_iload_n hx hb dX1_sour_61 rfl (lv_at hl 2 rfl) ?_
        refine kn_cge (tgt := 110) hx hb dX1_sour_62 (by decide) (by first | omega | (have := h1 21 k4; omega) | (have := h1 9 c; omega)) (by omega) (fun c_62 => ?_) (fun c_62 => ?_)
        · refine lv_sipush (v := nI 1000) hx hb dX1_sour_110 (by decide) ?_
          refine lv_iload hx hb dX1_sour_113 (lv_at hl 4 rfl) ?_
          refine va_mmin hx hb (hml.trans hl.1.symm) hown (hts _ q500) (hts _ q425) (hts _ q75) (hts _ q426) (Nat.le_of_ble_eq_true rfl) (Nat.le_of_ble_eq_true rfl) (Nat.le_of_ble_eq_true rfl) (Nat.le_of_ble_eq_true rfl) dX1_sour_115 ?_
          refine kx_int (y := cap (spL G c hi (nI (G 22 k4)) (G 21 k4) q)) (min_cap _) ?_
          subst hQ
          exact W.iret (v := cap (spL G c hi (nI (G 22 k4)) (G 21 k4) q)) hx hb hrt (fun t ht _ => ⟨_, rfl, (show cap (spL G c hi (nI (G 22 k4)) (G 21 k4) q) = spanS G J c hr n hi from by have e : q = hr - (G 21 k4) := (by omega); subst e; simp only [spanS, hq4]), ht⟩) t_nil dX1_sour_118
        · refine lv_iload hx hb dX1_sour_65 (lv_at hl 4 rfl) ?_
          refine lv_iload hx hb dX1_sour_67 (lv_at hl 3 rfl) ?_
          refine kb_eq (tgt := 94) hx hb dX1_sour_69 (by decide) (fun c_69 => ?_) (fun c_69 => ?_)
          · refine lv_aload_n hx hb dX1_sour_94 rfl (lv_at hl 1 rfl) ?_
            refine ko_getN (C := RX4) (T := TX4) (N := 11) (ci := 2) (v := .ref (ad 8 c)) hx hb hts in_X4 hown hG.1 (hH.cr (show c < N 3 from by omega)) rfl 2 (by decide) (hG.2.1 _ q319 rfl) (fun _ h => h) (rfl) dX1_sour_95 ?_
            refine lv_iload hx hb dX1_sour_98 (lv_at hl 5 rfl) ?_
            refine ka_bald (v := Y 1 c ((G 21 k4) + q)) hx hb hG.1 (hH.rt (show c < N 3 from by omega)) 1 rfl (show (G 21 k4) + q < 600 from by omega) (by decide) (rfl) dX1_sour_100 ?_
            refine kx_int (y := nI (G 12 (600 * c + ((G 21 k4) + q))) - nI 1) (h10.inc h2 h9 (by omega) (by omega)) ?_
            refine lv_iadd hx hb dX1_sour_101 ?_
            refine lv_istore (lv' := [(6, .int ((spL G c hi (nI (G 22 k4)) (G 21 k4) q) + (nI (G 12 (600 * c + ((G 21 k4) + q))) - nI 1))), (0, .ref (ad 0 0)), (1, .ref (ad 6 c)), (2, .int (nI hr)), (4, .int (bI hi)), (7, .int (nI ((G 21 k4) + q)))]) hx hb dX1_sour_102 hl (by decide) rfl (fun ls hl => ?_)
            refine lv_iinc (v := nI ((G 21 k4) + q + 1)) (lv' := [(7, .int (nI ((G 21 k4) + q + 1))), (6, .int ((spL G c hi (nI (G 22 k4)) (G 21 k4) q) + (nI (G 12 (600 * c + ((G 21 k4) + q))) - nI 1))), (0, .ref (ad 0 0)), (1, .ref (ad 6 c)), (2, .int (nI hr)), (4, .int (bI hi))]) hx hb dX1_sour_104 hl (k := 5) rfl (show nI ((G 21 k4) + q) + Int32.ofInt 1 = nI ((G 21 k4) + q + 1) from nI_add _ 1) (by decide) rfl (fun ls hl => ?_)
            refine lv_goto (tgt := 59) hx hb dX1_sour_107 (by decide) ?_
            exact ih59 (q + 1) (by omega) (by omega) _ (lv_conv (show lv_has ls 8 [(0, .ref (ad 0 0)), (1, .ref (ad 6 c)), (2, .int (nI hr)), (4, .int (bI hi)), (6, .int ((spL G c hi (nI (G 22 k4)) (G 21 k4) q) + (nI (G 12 (600 * c + ((G 21 k4) + q))) - nI 1))), (7, .int (nI ((G 21 k4) + q + 1)))] from (lv_sub hl [2, 3, 4, 5, 1, 0] rfl)) (by simp [spL, incS, c_69, Nat.add_assoc]))
          · refine lv_aload_n hx hb dX1_sour_72 rfl (lv_at hl 1 rfl) ?_
            refine ko_getN (C := RX4) (T := TX4) (N := 11) (ci := 2) (v := .ref (ad 8 c)) hx hb hts in_X4 hown hG.1 (hH.cr (show c < N 3 from by omega)) rfl 2 (by decide) (hG.2.1 _ q319 rfl) (fun _ h => h) (rfl) dX1_sour_73 ?_
            refine lv_iload hx hb dX1_sour_76 (lv_at hl 5 rfl) ?_
            refine ka_bald (v := Y 1 c ((G 21 k4) + q)) hx hb hG.1 (hH.rt (show c < N 3 from by omega)) 1 rfl (show (G 21 k4) + q < 600 from by omega) (by decide) (rfl) dX1_sour_78 ?_
            refine kx_int (y := nI (G 12 (600 * c + ((G 21 k4) + q))) - nI 1) (h10.inc h2 h9 (by omega) (by omega)) ?_
            refine lv_aload_n hx hb dX1_sour_79 rfl (lv_at hl 1 rfl) ?_
            refine ko_getN (C := RX4) (T := TX4) (N := 11) (ci := 2) (v := .ref (ad 8 c)) hx hb hts in_X4 hown hG.1 (hH.cr (show c < N 3 from by omega)) rfl 2 (by decide) (hG.2.1 _ q319 rfl) (fun _ h => h) (rfl) dX1_sour_80 ?_
            refine lv_iload hx hb dX1_sour_83 (lv_at hl 5 rfl) ?_
            refine ka_bald (v := Y 1 c ((G 21 k4) + q)) hx hb hG.1 (hH.rt (show c < N 3 from by omega)) 1 rfl (show (G 21 k4) + q < 600 from by omega) (by decide) (rfl) dX1_sour_85 ?_
            refine kx_int (y := nI (G 12 (600 * c + ((G 21 k4) + q))) - nI 1) (h10.inc h2 h9 (by omega) (by omega)) ?_
            refine lv_iconst (v := nI 2) hx hb dX1_sour_86 (by decide) ?_
            refine lv_idiv hx hb dX1_sour_87 (by decide) ?_
            refine lv_iadd hx hb dX1_sour_88 ?_
            refine lv_iconst (v := nI 1) hx hb dX1_sour_89 (by decide) ?_
            refine lv_iadd hx hb dX1_sour_90 ?_
            refine lv_goto (tgt := 101) hx hb dX1_sour_91 (by decide) ?_
            refine lv_iadd hx hb dX1_sour_101 ?_
            refine lv_istore (lv' := [(6, .int ((spL G c hi (nI (G 22 k4)) (G 21 k4) q) + (nI (G 12 (600 * c + ((G 21 k4) + q))) - nI 1 + ((nI (G 12 (600 * c + ((G 21 k4) + q))) - nI 1) / (nI 2)) + (nI 1)))), (0, .ref (ad 0 0)), (1, .ref (ad 6 c)), (2, .int (nI hr)), (4, .int (bI hi)), (7, .int (nI ((G 21 k4) + q)))]) hx hb dX1_sour_102 hl (by decide) rfl (fun ls hl => ?_)
            refine lv_iinc (v := nI ((G 21 k4) + q + 1)) (lv' := [(7, .int (nI ((G 21 k4) + q + 1))), (6, .int ((spL G c hi (nI (G 22 k4)) (G 21 k4) q) + (nI (G 12 (600 * c + ((G 21 k4) + q))) - nI 1 + ((nI (G 12 (600 * c + ((G 21 k4) + q))) - nI 1) / (nI 2)) + (nI 1)))), (0, .ref (ad 0 0)), (1, .ref (ad 6 c)), (2, .int (nI hr)), (4, .int (bI hi))]) hx hb dX1_sour_104 hl (k := 5) rfl (show nI ((G 21 k4) + q) + Int32.ofInt 1 = nI ((G 21 k4) + q + 1) from nI_add _ 1) (by decide) rfl (fun ls hl => ?_)
            refine lv_goto (tgt := 59) hx hb dX1_sour_107 (by decide) ?_
            exact ih59 (q + 1) (by omega) (by omega) _ (lv_conv (show lv_has ls 8 [(0, .ref (ad 0 0)), (1, .ref (ad 6 c)), (2, .int (nI hr)), (4, .int (bI hi)), (6, .int ((spL G c hi (nI (G 22 k4)) (G 21 k4) q) + (nI (G 12 (600 * c + ((G 21 k4) + q))) - nI 1 + ((nI (G 12 (600 * c + ((G 21 k4) + q))) - nI 1) / (nI 2)) + (nI 1)))), (7, .int (nI ((G 21 k4) + q + 1)))] from (lv_sub hl [2, 3, 4, 5, 1, 0] rfl)) (by simp [spL, incS, c_69, Nat.add_assoc]))
    exact L59 _ 0 (by omega) (Nat.lt_succ_self _) _ (lv_sub hl [3, 4, 5, 7, 1, 0] rfl)
theorem w_X1_sour {R : Room} {s : State} {args : Array Value} {own : String} {idx : Nat} (hts : ∀ w ∈ lw_all, w.before args s = true) (h1 : Cond.methodLink own idx yX1_sour ∈ lw_all) {rm : Room} {mc ms : Nat} (hrc : rm.cells = mc) (hrs : rm.slots = ms) (hR : rm.frames + 1 ≤ R.frames ∧ 8 + (8 + 11) + rm.locals ≤ R.locals) : CallW R s args own RX1 idx yX1_sour cX1_sour 8 (some .int) (ws_ yX1_sour cX1_sour 8 (some .int)) rm mc ms 4 := cwV 4 hts (lw_V h1 q493 qs8 q62 q494) rfl hrc hrs (by decide +kernel) hR
