set_option maxRecDepth 100000
theorem up3_at {Y : Nat → Nat → Nat → Int32} {a c n c2 k : Nat} {v : Int32} : up3 Y a c n v a c2 k = if c2 = c ∧ k = n then v else Y a c2 k := by
  by_cases h : c2 = c <;> by_cases h2 : k = n <;> simp [up3, h, h2]

abbrev r_X1_hour : Room := { frames := 8, cells := 0, slots := 0, locals := 185 }
set_option maxHeartbeats 1000000 in
theorem c_X1_hour (lh : Launch) (A : Nat → Prop) (D : va_G) (dA : Nat → ClassId) (K : Nat → Nat) (ad X : Nat → Nat → Nat) (Y : Nat → Nat → Nat → Int32) (N : Nat → Nat) (I : Nat → Int32) (G : Nat → Nat → Nat) (J : Nat → Nat → Int32) (sz : Nat) (h1 : OkS N G J) (h2 : HOk N G J X Y) (h3 : R2Ok G) (h4 : N 14 < 600) (hA : ∀ q, sz ≤ q → A q) : Met lh yX1_hour (ws_ yX1_hour cX1_hour 5 none) r_X1_hour (PX (fun U H => H.size = sz ∧ RH A D dA K ad X Y N I G J H ∧ GK D dA U) [.ref (ad 0 0)]) (va_Qv (fun u : HgT => ∃ Y1, u = (ad, X, Y1, (hrS N G J).1, I, (hrS N G J).2.1, (hrS N G J).2.2) ∧ HOk (hrS N G J).1 (hrS N G J).2.1 (hrS N G J).2.2 X Y1 ∧ OkS (hrS N G J).1 (hrS N G J).2.1 (hrS N G J).2.2 ∧ R2Ok (hrS N G J).2.1 ∧ (hrS N G J).1 14 = N 14 + 1) (BmH A D dA K) A) 0 0 A := by
  refine Met.ofW (cc := cX1_hour) (maxL := 5) (ret := none) (by decide) rfl ?_
  intro p e s m args below meth cd s₁ B hml hv
  obtain ⟨hargs, hsz, hH, hG⟩ := hv
  have hx := B.exec
  have hb := B.bytes
  have hrt := B.returns
  have hts := atoms_spec (ws := (ws_ yX1_hour cX1_hour 5 none)) B.pre
  have hts : ∀ w ∈ lw_all, w.before _ s = true := fun w h => hts w (List.mem_cons_of_mem _ h)
  have hown : s.vm.findClass RX1 = some m.cls := findClass_of_methodNamed B.named
  have hlocks := B.notSynchronized
  subst hsz
  have hS : va_S A s.heap s.heap [] := va_S.rf
  have hE : entryFrame m args 5 = F0 m 0 ((lg_sl ([.ref (ad 0 0)]) ++ List.replicate (5 - (lg_sl ([.ref (ad 0 0)])).length) Slot.unset).toArray) [] := by rw [hargs]; exact lg_entry_eq m _ 5
  have hl := lv_entry ([.ref (ad 0 0)]) (n := 5) (Nat.le_of_ble_eq_true rfl)
  rw [hE]
  clear hE
  generalize (lg_sl ([.ref (ad 0 0)]) ++ List.replicate (5 - (lg_sl ([.ref (ad 0 0)])).length) Slot.unset).toArray = ls at hl ⊢
  have hl : lv_has ls 5 [(0, .ref (ad 0 0))] := hl
  generalize hQ : MQ _ _ _ _ _ _ _ = Q
  have hokk := h1
  obtain ⟨hB, ⟨hn1, hn3, hn14, hn19, hn23, hn33, hn40, hn44⟩, hcr, hst, hwm, hrc⟩ := hokk
  have hX := h2.1
  refine lv_aload_n hx hb dX1_hour_0 rfl (lv_at hl 0 rfl) ?_
  refine va_csq (va_Run.call (va_runV (As := []) (rest := []) ⟨hx, hb, hml, hown, hts⟩ (c_X1_inForce lh A D dA K ad X Y N I G J (hB) (by omega) (hn23) (hX)) (w_X1_inForce hts q458 rfl rfl ⟨Nat.le_of_ble_eq_true rfl, Nat.le_of_ble_eq_true rfl⟩) ⟨PX.blind (Mv.and Mv.heap Mv.gk), (O_recv hG hH.o0 rfl), PX.pre (Mv.and Mv.heap Mv.gk) ⟨hH, hG⟩⟩ rfl rfl hl.1 rfl (lv_room (Nat.le_of_ble_eq_true rfl)) dX1_hour_1 ⟨Nat.le_of_ble_eq_true rfl, Nat.le_of_ble_eq_true rfl⟩)) (fun rr hrr => ?_)
  subst hrr
  rcases hq1 : ifS G (N 14 / 24) (N 23) with _ | k1
  · show W p lh e r_X1_hour s m args below meth cd _ _ _ _ Q (F0 m _ ls (.null :: _))
    refine lv_astore_nN (lv' := [(1, .null), (0, .ref (ad 0 0))]) hx hb dX1_hour_4 rfl hl (by decide) rfl (fun ls hl => ?_)
    refine lv_iconst (v := nI 0) hx hb dX1_hour_5 (by decide) ?_
    refine lv_istore_n (lv' := [(2, .int (nI 0)), (1, .null), (0, .ref (ad 0 0))]) hx hb dX1_hour_6 rfl hl (by decide) rfl (fun ls hl => ?_)
    have L7 : ∀ (nn7 : Nat) (c2 : Nat) (Y2 : Nat → Nat → Nat → Int32) (N2 : Nat → Nat) (G2 : Nat → Nat → Nat) (J2 : Nat → Nat → Int32), (c2 ≤ N 3) → ((N2, G2, J2) = crT (none) N G J c2) → (OkS N2 G2 J2) → (KeepN N N2) → (KeepG G G2) → (HrOk N2 G2 J2 X Y2 c2) → N 3 - c2 < nn7 → ∀ (H : Heap) (locs : List Loc), RH A D dA K ad X Y2 N2 I G2 J2 H → va_S A s.heap H locs → ∀ (ls : Array Slot), lv_has ls 5 [(0, .ref (ad 0 0)), (1, .null), (2, .int (nI c2))] → W p lh e r_X1_hour s m args below meth cd H locs 0 0 Q (F0 m 7 ls []) := by
      intro nn7
      induction nn7 with
      | zero => intro c2 Y2 N2 G2 J2 i7_0 i7_1 i7_2 i7_3 i7_4 i7_5 hm7; exact absurd hm7 (Nat.not_lt_zero _)
      | succ nn7 ih7 =>
        intro c2 Y2 N2 G2 J2 i7_0 i7_1 i7_2 i7_3 i7_4 i7_5 hm7 H locs hH hS ls hl
        have k3 : N2 3 = N 3 := i7_3 3 (by decide)
        have k14 : N2 14 = N 14 := i7_3 14 (by decide)
        have k19 : N2 19 = N 19 := i7_3 19 (by decide)
        have k23 : N2 23 = N 23 := i7_3 23 (by decide)
        have hokk := i7_2
        obtain ⟨hB, ⟨hn1, hn3, hn14, hn19, hn23, hn33, hn40, hn44⟩, hcr, hst, hwm, hrc⟩ := hokk
        have hX := i7_5.1.1
        refine lv_iload_n hx hb dX1_hour_7 rfl (lv_at hl 2 rfl) ?_
        refine lv_aload_n hx hb dX1_hour_8 rfl (lv_at hl 0 rfl) ?_
        refine ko_get (C := RX1) (T := TX1) (N := 28) (ci := 1) (v := .ref (ad 4 0)) hx hb hts in_X1 hown hG.1 hH.o0 rfl 3 (by decide) q188 (fun _ h => h) (rfl) dX1_hour_9 ?_
        refine vp_callSi (va_Run.call (va_runV (As := []) (rest := [.int (nI c2)]) ⟨hx, hb, hml, hown, hts⟩ (c_J2_size lh D dA (ad 4 0) (Y2 3 0 0) (elH K ad X 0) (N2 3)) (w_J2_size hts q284 rfl rfl ⟨Nat.le_of_ble_eq_true rfl, Nat.le_of_ble_eq_true rfl⟩) ⟨PX.blind (Mv.and Mv.heap Mv.gk), (O_recv hG (hH.li 0 (by decide)) rfl), PX.pre (Mv.and Mv.heap Mv.gk) ⟨(hH.li 0 (by decide)), hG⟩⟩ rfl rfl hl.1 rfl (lv_room (Nat.le_of_ble_eq_true rfl)) dX1_hour_12 ⟨Nat.le_of_ble_eq_true rfl, Nat.le_of_ble_eq_true rfl⟩)) (fun rr hrr => ?_)
        subst hrr
        refine kn_cge (tgt := 155) hx hb dX1_hour_15 (by decide) (by omega) (by omega) (fun c_15 => ?_) (fun c_15 => ?_)
        · refine lv_aload_n hx hb dX1_hour_155 rfl (lv_at hl 0 rfl) ?_
          refine lv_dup hx hb dX1_hour_156 rfl ?_
          refine ko_get (C := RX1) (T := TX1) (N := 28) (ci := 1) (v := .int (nI (N2 14))) hx hb hts in_X1 hown hG.1 hH.o0 rfl 9 (by decide) q194 (fun _ h => h) (rfl) dX1_hour_157 ?_
          refine lv_iconst (v := nI 1) hx hb dX1_hour_160 (by decide) ?_
          refine kn_add hx hb dX1_hour_161 ?_
          refine ko_put (C := RX1) (T := TX1) (N := 28) (ci := 1) hx hb hts in_X1 tyX1 tyX1_ok nmX1 hown hG.1 hS (hH.2.2 0 0 rfl) hH.o0 rfl 9 (by decide) q194 (fun _ h => h) rfl rfl rfl (Nat.le_of_ble_eq_true rfl) dX1_hour_162 (fun H locs e1 z1 o1 hS => ?_)
          have hH := hH.house (N1 := (up1 N2 14 (N2 14 + 1))) (I1 := I) (Y1 := Y2) e1 o1 rfl rfl rfl rfl (fun _ _ => rfl)
          clear e1 z1 o1
          have hfin := hrS_at hq1 (show (N2, G2, J2) = crT _ N G J (N 3) by rw [show N 3 = c2 by omega]; exact i7_1)
          have hnow := HrOk.now (show HrOk N2 G2 J2 X Y2 (N2 3) by rw [show N2 3 = c2 by omega]; exact i7_5)
          have okn := OkS.now i7_2 (by omega)
          have r2n := h3.keep i7_4
          subst hQ
          exact W.vret hx hb hrt (fun t ht hW => ⟨⟨(ad, X, Y2, (up1 N2 14 (N2 14 + 1)), I, G2, J2), rfl, (⟨Y2, by rw [hfin], by rw [hfin]; exact hnow, by rw [hfin]; exact okn, by rw [hfin]; exact r2n, by rw [hfin]; show N2 14 + 1 = _; rw [k14]⟩), by rw [ht]; exact hH, GK.warm hW hG⟩, hS.F ht⟩) hS.2.2 dX1_hour_165
        · refine lv_aload_n hx hb dX1_hour_18 rfl (lv_at hl 0 rfl) ?_
          refine ko_get (C := RX1) (T := TX1) (N := 28) (ci := 1) (v := .ref (ad 4 0)) hx hb hts in_X1 hown hG.1 hH.o0 rfl 3 (by decide) q188 (fun _ h => h) (rfl) dX1_hour_19 ?_
          refine lv_iload_n hx hb dX1_hour_22 rfl (lv_at hl 2 rfl) ?_
          refine va_csq (va_Run.call (va_runV (As := [.int (nI c2)]) (rest := []) ⟨hx, hb, hml, hown, hts⟩ (c_J2_get lh D dA (ad 4 0) (Y2 3 0 0) (ad 5 0) (N2 3) (X 0 0) (ltH ad 6 (N2 3) 0) (c2) (ad 6 c2) (show c2 < N2 3 from by omega) ((hX.1 0 (by decide)).1) ((hX.1 0 (by decide)).2) (ltH_0 (show c2 < N2 3 from by omega))) (w_J2_get hts q292 rfl rfl ⟨Nat.le_of_ble_eq_true rfl, Nat.le_of_ble_eq_true rfl⟩) ⟨PX.blind (Mv.and Mv.heap (Mv.and Mv.heap Mv.gk)), (O_recv hG (hH.lo 0 (by decide) (by have hx0 : N2 3 ≤ X 0 0 := (hX.1 0 (by decide)).1; omega)) rfl), PX.pre (Mv.and Mv.heap (Mv.and Mv.heap Mv.gk)) ⟨(hH.lo 0 (by decide) (by have hx0 : N2 3 ≤ X 0 0 := (hX.1 0 (by decide)).1; omega)), (hH.la 0 (by decide) (by have hx0 : N2 3 ≤ X 0 0 := (hX.1 0 (by decide)).1; omega)), hG⟩⟩ rfl rfl hl.1 rfl (lv_room (Nat.le_of_ble_eq_true rfl)) dX1_hour_23 ⟨Nat.le_of_ble_eq_true rfl, Nat.le_of_ble_eq_true rfl⟩)) (fun rr hrr => ?_)
          subst hrr
          show W p lh e r_X1_hour s m args below meth cd _ _ _ _ Q (F0 m _ ls (.ref (ad 6 c2) :: _))
          refine va_castE hx hb hown (hts _ q304) (O_recv hG (hH.cr (show c2 < N2 3 from by omega)) rfl) dX1_hour_26 ?_
          refine lv_astore_n (lv' := [(3, .ref (ad 6 c2)), (0, .ref (ad 0 0)), (1, .null), (2, .int (nI c2))]) hx hb dX1_hour_29 rfl hl (by decide) rfl (fun ls hl => ?_)
          refine lv_iconst (v := nI 0) hx hb dX1_hour_30 (by decide) ?_
          refine lv_istore (lv' := [(4, .int (nI 0)), (3, .ref (ad 6 c2)), (0, .ref (ad 0 0)), (1, .null), (2, .int (nI c2))]) hx hb dX1_hour_31 hl (by decide) rfl (fun ls hl => ?_)
          have L33 : ∀ (nn33 : Nat) (_ : Unit), 0 < nn33 → ∀ (ls : Array Slot), lv_has ls 5 [(0, .ref (ad 0 0)), (1, .null), (2, .int (nI c2)), (3, .ref (ad 6 c2))] → W p lh e r_X1_hour s m args below meth cd H locs 0 0 Q (F0 m 33 ls []) := by
            intro nn33
            induction nn33 with
            | zero => intro _  hm33; exact absurd hm33 (Nat.not_lt_zero _)
            | succ nn33 ih33 =>
              intro _  hm33 ls hl
              refine lv_aload_nN hx hb dX1_hour_33 rfl (lv_at hl 1 rfl) ?_
              refine lv_ifnullN (tgt := 79) hx hb dX1_hour_34 (by decide) ?_
              have hra : (N2, G2) = ruA none J2 c2 N2 G2 := rfl
              refine lv_aload_n hx hb dX1_hour_79 rfl (lv_at hl 3 rfl) ?_
              refine vp_callSi (va_Run.call (va_runV (As := []) (rest := []) ⟨hx, hb, hml, hown, hts⟩ (c_X4_isThere lh A D dA K ad X Y2 N2 I G2 J2 c2 (by omega) (hB)) (w_X4_isThere hts q305 rfl rfl ⟨Nat.le_of_ble_eq_true rfl, Nat.le_of_ble_eq_true rfl⟩) ⟨PX.blind (Mv.and Mv.heap Mv.gk), (O_recv hG (hH.cr (show c2 < N2 3 from by omega)) rfl), PX.pre (Mv.and Mv.heap Mv.gk) ⟨hH, hG⟩⟩ rfl rfl hl.1 rfl (lv_room (Nat.le_of_ble_eq_true rfl)) dX1_hour_80 ⟨Nat.le_of_ble_eq_true rfl, Nat.le_of_ble_eq_true rfl⟩)) (fun rr hrr => ?_)
              subst hrr
              refine kb_ne (tgt := 89) hx hb dX1_hour_83 (by decide) (fun c_83 => ?_) (fun c_83 => ?_)
              · have hrl : rateS G2 J2 c2 (N2 14) ≤ 12 := rateS_le i7_2 _ _
                have h14 : N2 14 < 600 := by omega
                have hcc := hcr c2
                refine lv_aload_n hx hb dX1_hour_89 rfl (lv_at hl 0 rfl) ?_
                refine lv_aload_n hx hb dX1_hour_90 rfl (lv_at hl 3 rfl) ?_
                refine vp_callSi (va_Run.call (va_runV (As := [.ref (ad 6 c2)]) (rest := []) ⟨hx, hb, hml, hown, hts⟩ (c_X1_rate lh A D dA K ad X Y2 N2 I G2 J2 c2 (hB) (by omega) (h14) (hcc.1) (by omega) (hwm) (i7_5.1.2.2.2.1) (c_83) (i7_5.1.2.1)) (w_X1_rate hts q556 rfl rfl ⟨Nat.le_of_ble_eq_true rfl, Nat.le_of_ble_eq_true rfl⟩) ⟨PX.blind (Mv.and Mv.heap Mv.gk), (O_recv hG hH.o0 rfl), PX.pre (Mv.and Mv.heap Mv.gk) ⟨hH, hG⟩⟩ rfl rfl hl.1 rfl (lv_room (Nat.le_of_ble_eq_true rfl)) dX1_hour_91 ⟨Nat.le_of_ble_eq_true rfl, Nat.le_of_ble_eq_true rfl⟩)) (fun rr hrr => ?_)
                subst hrr
                refine lv_istore (lv' := [(4, .int (nI (rateS G2 J2 c2 ((N2 14))))), (0, .ref (ad 0 0)), (1, .null), (2, .int (nI c2)), (3, .ref (ad 6 c2))]) hx hb dX1_hour_94 hl (by decide) rfl (fun ls hl => ?_)
                refine lv_aload_n hx hb dX1_hour_96 rfl (lv_at hl 4 rfl) ?_
                refine ko_getN (C := RX4) (T := TX4) (N := 11) (ci := 2) (v := .ref (ad 8 c2)) hx hb hts in_X4 hown hG.1 (hH.cr (show c2 < N2 3 from by omega)) rfl 2 (by decide) (hG.2.1 _ q319 rfl) (fun _ h => h) (rfl) dX1_hour_97 ?_
                refine lv_aload_n hx hb dX1_hour_100 rfl (lv_at hl 1 rfl) ?_
                refine ko_get (C := RX1) (T := TX1) (N := 28) (ci := 1) (v := .int (nI (N2 14))) hx hb hts in_X1 hown hG.1 hH.o0 rfl 9 (by decide) q194 (fun _ h => h) (rfl) dX1_hour_101 ?_
                refine lv_iload hx hb dX1_hour_104 (lv_at hl 0 rfl) ?_
                refine lv_i2b (v := (nI (rateS G2 J2 c2 ((N2 14)))).toInt8.toInt32) hx hb dX1_hour_106 rfl ?_
                refine ka_bast hx hb hG.1 hS (hH.2.2 8 c2 (show c2 < N2 3 from by omega)) (hH.rt (show c2 < N2 3 from by omega)) 1 rfl (show N2 14 < 600 from by omega) (by decide) dX1_hour_107 (fun H locs e1 z1 o1 hS => ?_)
                rw [show vp_nar .byte ((nI (rateS G2 J2 c2 ((N2 14)))).toInt8.toInt32) = nI (rateS G2 J2 c2 (N2 14)) from byt2 (by omega)] at e1
                have hH := hH.rate (j := N2 14) (v := nI (rateS G2 J2 c2 (N2 14))) (show c2 < N2 3 from by omega) e1 o1
                clear e1 z1 o1
                have hH := hH.cgG (G1 := up2 G2 12 (600 * c2 + N2 14) (rateS G2 J2 c2 (N2 14) + 1)) (usG_up rfl)
                refine lv_aload_n hx hb dX1_hour_108 rfl (lv_at hl 4 rfl) ?_
                refine lv_iload hx hb dX1_hour_109 (lv_at hl 0 rfl) ?_
                refine ko_putN (C := RX4) (T := TX4) (N := 11) (ci := 2) hx hb hts in_X4 tyX4 tyX4_ok nmX4 hown hG.1 hS (hH.2.2 6 c2 (show c2 < N2 3 from by omega)) (hH.cr (show c2 < N2 3 from by omega)) rfl 10 (by decide) (hG.2.1 _ q336 rfl) (fun _ h => h) rfl rfl rfl (Nat.le_of_ble_eq_true rfl) dX1_hour_111 (fun H locs e1 z1 o1 hS => ?_)
                have hH := hH.c10 (v := nI (rateS G2 J2 c2 ((N2 14)))) (show c2 < N2 3 from by omega) e1 o1
                clear e1 z1 o1
                refine lv_aload_n hx hb dX1_hour_114 rfl (lv_at hl 4 rfl) ?_
                refine lv_bipush (v := nI 100) hx hb dX1_hour_115 (by decide) ?_
                refine lv_aload_n hx hb dX1_hour_117 rfl (lv_at hl 4 rfl) ?_
                refine ko_getN (C := RX4) (T := TX4) (N := 11) (ci := 2) (v := .int (nI (G2 8 c2))) hx hb hts in_X4 hown hG.1 (hH.cr (show c2 < N2 3 from by omega)) rfl 5 (by decide) (hG.2.1 _ q327 rfl) (fun _ h => h) (rfl) dX1_hour_118 ?_
                refine lv_iload hx hb dX1_hour_121 (lv_at hl 0 rfl) ?_
                refine lv_iconst (v := nI 2) hx hb dX1_hour_123 (by decide) ?_
                refine kn_div hx hb dX1_hour_124 (by omega) (by omega) (by omega) ?_
                refine kn_add hx hb dX1_hour_125 ?_
                refine lv_iconst (v := nI 1) hx hb dX1_hour_126 (by decide) ?_
                refine kn_add hx hb dX1_hour_127 ?_
                refine va_mmin hx hb (hml.trans hl.1.symm) hown (hts _ q500) (hts _ q425) (hts _ q75) (hts _ q426) (Nat.le_of_ble_eq_true rfl) (Nat.le_of_ble_eq_true rfl) (Nat.le_of_ble_eq_true rfl) (Nat.le_of_ble_eq_true rfl) dX1_hour_128 ?_
                refine kx_int (y := nI (if 100 < G2 8 c2 + ((rateS G2 J2 c2 ((N2 14))) / 2) + 1 then 100 else G2 8 c2 + ((rateS G2 J2 c2 ((N2 14))) / 2) + 1)) (min_n (by decide) (by omega)) ?_
                by_cases h8 : 100 ≤ G2 8 c2 + rateS G2 J2 c2 (N2 14) / 2 + 1
                · refine kx_int (y := nI 100) (congrArg nI (show (if 100 < G2 8 c2 + rateS G2 J2 c2 (N2 14) / 2 + 1 then 100 else G2 8 c2 + rateS G2 J2 c2 (N2 14) / 2 + 1) = 100 by split <;> omega)) ?_
                  refine ko_putN (C := RX4) (T := TX4) (N := 11) (ci := 2) hx hb hts in_X4 tyX4 tyX4_ok nmX4 hown hG.1 hS (hH.2.2 6 c2 (show c2 < N2 3 from by omega)) (hH.cr (show c2 < N2 3 from by omega)) rfl 5 (by decide) (hG.2.1 _ q327 rfl) (fun _ h => h) rfl rfl rfl (Nat.le_of_ble_eq_true rfl) dX1_hour_131 (fun H locs e1 z1 o1 hS => ?_)
                  have hH := hH.c5 (v := 100) (show c2 < N2 3 from by omega) e1 o1
                  clear e1 z1 o1
                  refine lv_aload_n hx hb dX1_hour_134 rfl (lv_at hl 4 rfl) ?_
                  refine ko_getN (C := RX4) (T := TX4) (N := 11) (ci := 2) (v := .int (nI 100)) hx hb hts in_X4 hown hG.1 (hH.cr (show c2 < N2 3 from by omega)) rfl 5 (by decide) (hG.2.1 _ q327 rfl) (fun _ h => h) (by simp [fC, fH, up2, up3, up1]) dX1_hour_135 ?_
                  refine lv_bipush (v := nI 100) hx hb dX1_hour_138 (by decide) ?_
                  refine kn_cne (tgt := 149) hx hb dX1_hour_140 (by decide) (by decide) (by decide) (fun c => absurd c (by decide)) (fun _ => ?_)
                  refine lv_aload_n hx hb dX1_hour_143 rfl (lv_at hl 1 rfl) ?_
                  refine lv_aload_n hx hb dX1_hour_144 rfl (lv_at hl 4 rfl) ?_
                  refine lv_iconst (v := nI 3) hx hb dX1_hour_145 (by decide) ?_
                  refine va_callv (va_runV (As := [.ref (ad 6 c2), .int (nI 3)]) (rest := []) ⟨hx, hb, hml, hown, hts⟩ (c_X1_wastes lh A D dA K ad X (up3 Y2 1 c2 (N2 14) (nI (rateS G2 J2 c2 (N2 14)))) N2 I (up2 (up2 G2 12 (600 * c2 + N2 14) (rateS G2 J2 c2 (N2 14) + 1)) 8 c2 100) (up2 J2 13 c2 (nI (rateS G2 J2 c2 ((N2 14))))) H.size c2 3 (by omega) (fun q h => hA q (Nat.le_trans hS.1 h))) (w_X1_wastes hts q564 rfl rfl ⟨Nat.le_of_ble_eq_true rfl, Nat.le_of_ble_eq_true rfl⟩) ⟨PX.blind (Mv.and Mv.heap (Mv.and Mv.heap Mv.gk)), (O_recv hG hH.o0 rfl), PX.pre (Mv.and Mv.heap (Mv.and Mv.heap Mv.gk)) ⟨rfl, hH, hG⟩⟩ rfl rfl hl.1 rfl (lv_room (Nat.le_of_ble_eq_true rfl)) dX1_hour_146 ⟨Nat.le_of_ble_eq_true rfl, Nat.le_of_ble_eq_true rfl⟩) hS (fun q _ h => h) (fun q h => h) (fun u t H1 locs ht hvm hp hB hz hk hS => ?_)
                  obtain ⟨hH, -⟩ := hB
                  rw [ht] at hH
                  clear ht hz hk
                  generalize H1 = H at hH hS ⊢
                  subst hp
                  dsimp only at hH
                  refine lv_iinc (v := nI (c2 + 1)) (lv' := [(2, .int (nI (c2 + 1))), (4, .int (nI (rateS G2 J2 c2 ((N2 14))))), (0, .ref (ad 0 0)), (1, .null), (3, .ref (ad 6 c2))]) hx hb dX1_hour_149 hl (k := 3) rfl (show nI c2 + Int32.ofInt 1 = nI (c2 + 1) from nI_add _ 1) (by decide) rfl (fun ls hl => ?_)
                  refine lv_goto (tgt := 7) hx hb dX1_hour_152 (by decide) ?_
                  have htk : tkS N2 G2 J2 c2 = ((up1 N2 15 ((N2 15) + gr (up2 (up2 G2 12 (600 * c2 + N2 14) (rateS G2 J2 c2 (N2 14) + 1)) 8 c2 100) c2)), (goesG (up2 (up2 G2 12 (600 * c2 + N2 14) (rateS G2 J2 c2 (N2 14) + 1)) 8 c2 100) c2 3), (up2 J2 13 c2 (nI (rateS G2 J2 c2 ((N2 14)))))) := by rw [tkS, if_pos h8]
                  have ok5 := tkS_ok i7_2 c2
                  have kn5 := tkS_keepN N2 G2 J2 c2
                  have kg5 := tkS_keepG (G := G2) KeepG.rf N2 J2 c2
                  have hr5 := tk_hr (Y' := (up3 (wsY (up3 Y2 1 c2 (N2 14) (nI (rateS G2 J2 c2 (N2 14)))) (up2 (up2 G2 12 (600 * c2 + N2 14) (rateS G2 J2 c2 (N2 14) + 1)) 8 c2 100) c2 20) 0 c2 0 (-1))) i7_5 i7_2 h14 (by first | rfl | rw [up3_o (by decide), wsY_o (by decide), up3_o (by decide)]) (fun c' k => by first | (rw [up3_o (by decide), wsY_o (by decide)]; exact up3_at) | exact up3_at) (fun c' e => by first | (rw [up3_0 e, wsY_o (by decide), up3_o (by decide)]) | rfl) (fun e => by first | exact absurd h8 e | rfl)
                  rw [htk] at ok5 kn5 kg5 hr5
                  exact ih7 (c2 + 1) (up3 (wsY (up3 Y2 1 c2 (N2 14) (nI (rateS G2 J2 c2 (N2 14)))) (up2 (up2 G2 12 (600 * c2 + N2 14) (rateS G2 J2 c2 (N2 14) + 1)) 8 c2 100) c2 20) 0 c2 0 (-1)) (up1 N2 15 ((N2 15) + gr (up2 (up2 G2 12 (600 * c2 + N2 14) (rateS G2 J2 c2 (N2 14) + 1)) 8 c2 100) c2)) (goesG (up2 (up2 G2 12 (600 * c2 + N2 14) (rateS G2 J2 c2 (N2 14) + 1)) 8 c2 100) c2 3) (up2 J2 13 c2 (nI (rateS G2 J2 c2 ((N2 14))))) (by omega) (by rw [crT_s i7_1, chS_at hra, if_pos c_83, htk]) (ok5) (i7_3.tr kn5) (i7_4.tr kg5) (hr5) (by omega) _ _ hH hS _ (lv_sub hl [2, 3, 0] rfl)
                · refine kx_int (y := nI (G2 8 c2 + rateS G2 J2 c2 (N2 14) / 2 + 1)) (congrArg nI (show (if 100 < G2 8 c2 + rateS G2 J2 c2 (N2 14) / 2 + 1 then 100 else G2 8 c2 + rateS G2 J2 c2 (N2 14) / 2 + 1) = G2 8 c2 + rateS G2 J2 c2 (N2 14) / 2 + 1 by split <;> omega)) ?_
                  refine ko_putN (C := RX4) (T := TX4) (N := 11) (ci := 2) hx hb hts in_X4 tyX4 tyX4_ok nmX4 hown hG.1 hS (hH.2.2 6 c2 (show c2 < N2 3 from by omega)) (hH.cr (show c2 < N2 3 from by omega)) rfl 5 (by decide) (hG.2.1 _ q327 rfl) (fun _ h => h) rfl rfl rfl (Nat.le_of_ble_eq_true rfl) dX1_hour_131 (fun H locs e1 z1 o1 hS => ?_)
                  have hH := hH.c5 (v := G2 8 c2 + rateS G2 J2 c2 (N2 14) / 2 + 1) (show c2 < N2 3 from by omega) e1 o1
                  clear e1 z1 o1
                  refine lv_aload_n hx hb dX1_hour_134 rfl (lv_at hl 4 rfl) ?_
                  refine ko_getN (C := RX4) (T := TX4) (N := 11) (ci := 2) (v := .int (nI (G2 8 c2 + rateS G2 J2 c2 (N2 14) / 2 + 1))) hx hb hts in_X4 hown hG.1 (hH.cr (show c2 < N2 3 from by omega)) rfl 5 (by decide) (hG.2.1 _ q327 rfl) (fun _ h => h) (by simp [fC, fH, up2, up3, up1]) dX1_hour_135 ?_
                  refine lv_bipush (v := nI 100) hx hb dX1_hour_138 (by decide) ?_
                  refine kn_cne (tgt := 149) hx hb dX1_hour_140 (by decide) (by omega) (by omega) (fun c_140 => ?_) (fun c_140 => ?_)
                  · refine lv_iinc (v := nI (c2 + 1)) (lv' := [(2, .int (nI (c2 + 1))), (4, .int (nI (rateS G2 J2 c2 ((N2 14))))), (0, .ref (ad 0 0)), (1, .null), (3, .ref (ad 6 c2))]) hx hb dX1_hour_149 hl (k := 3) rfl (show nI c2 + Int32.ofInt 1 = nI (c2 + 1) from nI_add _ 1) (by decide) rfl (fun ls hl => ?_)
                    refine lv_goto (tgt := 7) hx hb dX1_hour_152 (by decide) ?_
                    have htk : tkS N2 G2 J2 c2 = (N2, (up2 (up2 G2 12 (600 * c2 + N2 14) (rateS G2 J2 c2 (N2 14) + 1)) 8 c2 (G2 8 c2 + rateS G2 J2 c2 (N2 14) / 2 + 1)), (up2 J2 13 c2 (nI (rateS G2 J2 c2 ((N2 14)))))) := by rw [tkS, if_neg h8]
                    have ok5 := tkS_ok i7_2 c2
                    have kn5 := tkS_keepN N2 G2 J2 c2
                    have kg5 := tkS_keepG (G := G2) KeepG.rf N2 J2 c2
                    have hr5 := tk_hr (Y' := (up3 Y2 1 c2 (N2 14) (nI (rateS G2 J2 c2 (N2 14))))) i7_5 i7_2 h14 (by first | rfl | rw [up3_o (by decide), wsY_o (by decide), up3_o (by decide)]) (fun c' k => by first | (rw [up3_o (by decide), wsY_o (by decide)]; exact up3_at) | exact up3_at) (fun c' e => by first | (rw [up3_0 e, wsY_o (by decide), up3_o (by decide)]) | rfl) (fun e => by first | exact absurd h8 e | rfl)
                    rw [htk] at ok5 kn5 kg5 hr5
                    exact ih7 (c2 + 1) (up3 Y2 1 c2 (N2 14) (nI (rateS G2 J2 c2 (N2 14)))) N2 (up2 (up2 G2 12 (600 * c2 + N2 14) (rateS G2 J2 c2 (N2 14) + 1)) 8 c2 (G2 8 c2 + rateS G2 J2 c2 (N2 14) / 2 + 1)) (up2 J2 13 c2 (nI (rateS G2 J2 c2 ((N2 14))))) (by omega) (by rw [crT_s i7_1, chS_at hra, if_pos c_83, htk]) (ok5) (i7_3.tr kn5) (i7_4.tr kg5) (hr5) (by omega) _ _ hH hS _ (lv_sub hl [2, 3, 0] rfl)
                  · exact absurd c_140 (by omega)
              · refine lv_goto (tgt := 149) hx hb dX1_hour_86 (by decide) ?_
                refine lv_iinc (v := nI (c2 + 1)) (lv' := [(2, .int (nI (c2 + 1))), (0, .ref (ad 0 0)), (1, .null), (3, .ref (ad 6 c2))]) hx hb dX1_hour_149 hl (k := 2) rfl (show nI c2 + Int32.ofInt 1 = nI (c2 + 1) from nI_add _ 1) (by decide) rfl (fun ls hl => ?_)
                refine lv_goto (tgt := 7) hx hb dX1_hour_152 (by decide) ?_
                exact ih7 (c2 + 1) Y2 N2 G2 J2 (by omega) (by rw [crT_s i7_1, chS_at hra, if_neg (by rw [c_83]; decide)]) (i7_2) (i7_3) (i7_4) (i7_5.dead c_83) (by omega) _ _ hH hS _ (lv_sub hl [1, 2, 0] rfl)
          exact L33 _ ()  (Nat.lt_succ_self _) _ (lv_sub hl [2, 3, 4, 1] rfl)
    exact L7 _ 0 Y N G J (by omega) (rfl) (h1) (KeepN.rf) (KeepG.rf) (⟨h2, fun c q => absurd q (Nat.not_lt_zero c)⟩) (Nat.lt_succ_self _) _ _ hH hS _ (lv_sub hl [2, 1, 0] rfl)
  · show W p lh e r_X1_hour s m args below meth cd _ _ _ _ Q (F0 m _ ls (.ref (ad 10 k1) :: _))
    have hk1 := ifS_lt hq1
    refine lv_astore_n (lv' := [(1, .ref (ad 10 k1)), (0, .ref (ad 0 0))]) hx hb dX1_hour_4 rfl hl (by decide) rfl (fun ls hl => ?_)
    refine lv_iconst (v := nI 0) hx hb dX1_hour_5 (by decide) ?_
    refine lv_istore_n (lv' := [(2, .int (nI 0)), (1, .ref (ad 10 k1)), (0, .ref (ad 0 0))]) hx hb dX1_hour_6 rfl hl (by decide) rfl (fun ls hl => ?_)
    have L7 : ∀ (nn7 : Nat) (c2 : Nat) (Y2 : Nat → Nat → Nat → Int32) (N2 : Nat → Nat) (G2 : Nat → Nat → Nat) (J2 : Nat → Nat → Int32), (c2 ≤ N 3) → ((N2, G2, J2) = crT (some k1) N G J c2) → (OkS N2 G2 J2) → (KeepN N N2) → (KeepG G G2) → (HrOk N2 G2 J2 X Y2 c2) → N 3 - c2 < nn7 → ∀ (H : Heap) (locs : List Loc), RH A D dA K ad X Y2 N2 I G2 J2 H → va_S A s.heap H locs → ∀ (ls : Array Slot), lv_has ls 5 [(0, .ref (ad 0 0)), (1, .ref (ad 10 k1)), (2, .int (nI c2))] → W p lh e r_X1_hour s m args below meth cd H locs 0 0 Q (F0 m 7 ls []) := by
      intro nn7
      induction nn7 with
      | zero => intro c2 Y2 N2 G2 J2 i7_0 i7_1 i7_2 i7_3 i7_4 i7_5 hm7; exact absurd hm7 (Nat.not_lt_zero _)
      | succ nn7 ih7 =>
        intro c2 Y2 N2 G2 J2 i7_0 i7_1 i7_2 i7_3 i7_4 i7_5 hm7 H locs hH hS ls hl
        have k3 : N2 3 = N 3 := i7_3 3 (by decide)
        have k14 : N2 14 = N 14 := i7_3 14 (by decide)
        have k19 : N2 19 = N 19 := i7_3 19 (by decide)
        have k23 : N2 23 = N 23 := i7_3 23 (by decide)
        have hokk := i7_2
        obtain ⟨hB, ⟨hn1, hn3, hn14, hn19, hn23, hn33, hn40, hn44⟩, hcr, hst, hwm, hrc⟩ := hokk
        have hX := i7_5.1.1
        refine lv_iload_n hx hb dX1_hour_7 rfl (lv_at hl 2 rfl) ?_
        refine lv_aload_n hx hb dX1_hour_8 rfl (lv_at hl 0 rfl) ?_
        refine ko_get (C := RX1) (T := TX1) (N := 28) (ci := 1) (v := .ref (ad 4 0)) hx hb hts in_X1 hown hG.1 hH.o0 rfl 3 (by decide) q188 (fun _ h => h) (rfl) dX1_hour_9 ?_
        refine vp_callSi (va_Run.call (va_runV (As := []) (rest := [.int (nI c2)]) ⟨hx, hb, hml, hown, hts⟩ (c_J2_size lh D dA (ad 4 0) (Y2 3 0 0) (elH K ad X 0) (N2 3)) (w_J2_size hts q284 rfl rfl ⟨Nat.le_of_ble_eq_true rfl, Nat.le_of_ble_eq_true rfl⟩) ⟨PX.blind (Mv.and Mv.heap Mv.gk), (O_recv hG (hH.li 0 (by decide)) rfl), PX.pre (Mv.and Mv.heap Mv.gk) ⟨(hH.li 0 (by decide)), hG⟩⟩ rfl rfl hl.1 rfl (lv_room (Nat.le_of_ble_eq_true rfl)) dX1_hour_12 ⟨Nat.le_of_ble_eq_true rfl, Nat.le_of_ble_eq_true rfl⟩)) (fun rr hrr => ?_)
        subst hrr
        refine kn_cge (tgt := 155) hx hb dX1_hour_15 (by decide) (by omega) (by omega) (fun c_15 => ?_) (fun c_15 => ?_)
        · refine lv_aload_n hx hb dX1_hour_155 rfl (lv_at hl 0 rfl) ?_
          refine lv_dup hx hb dX1_hour_156 rfl ?_
          refine ko_get (C := RX1) (T := TX1) (N := 28) (ci := 1) (v := .int (nI (N2 14))) hx hb hts in_X1 hown hG.1 hH.o0 rfl 9 (by decide) q194 (fun _ h => h) (rfl) dX1_hour_157 ?_
          refine lv_iconst (v := nI 1) hx hb dX1_hour_160 (by decide) ?_
          refine kn_add hx hb dX1_hour_161 ?_
          refine ko_put (C := RX1) (T := TX1) (N := 28) (ci := 1) hx hb hts in_X1 tyX1 tyX1_ok nmX1 hown hG.1 hS (hH.2.2 0 0 rfl) hH.o0 rfl 9 (by decide) q194 (fun _ h => h) rfl rfl rfl (Nat.le_of_ble_eq_true rfl) dX1_hour_162 (fun H locs e1 z1 o1 hS => ?_)
          have hH := hH.house (N1 := (up1 N2 14 (N2 14 + 1))) (I1 := I) (Y1 := Y2) e1 o1 rfl rfl rfl rfl (fun _ _ => rfl)
          clear e1 z1 o1
          have hfin := hrS_at hq1 (show (N2, G2, J2) = crT _ N G J (N 3) by rw [show N 3 = c2 by omega]; exact i7_1)
          have hnow := HrOk.now (show HrOk N2 G2 J2 X Y2 (N2 3) by rw [show N2 3 = c2 by omega]; exact i7_5)
          have okn := OkS.now i7_2 (by omega)
          have r2n := h3.keep i7_4
          subst hQ
          exact W.vret hx hb hrt (fun t ht hW => ⟨⟨(ad, X, Y2, (up1 N2 14 (N2 14 + 1)), I, G2, J2), rfl, (⟨Y2, by rw [hfin], by rw [hfin]; exact hnow, by rw [hfin]; exact okn, by rw [hfin]; exact r2n, by rw [hfin]; show N2 14 + 1 = _; rw [k14]⟩), by rw [ht]; exact hH, GK.warm hW hG⟩, hS.F ht⟩) hS.2.2 dX1_hour_165
        · refine lv_aload_n hx hb dX1_hour_18 rfl (lv_at hl 0 rfl) ?_
          refine ko_get (C := RX1) (T := TX1) (N := 28) (ci := 1) (v := .ref (ad 4 0)) hx hb hts in_X1 hown hG.1 hH.o0 rfl 3 (by decide) q188 (fun _ h => h) (rfl) dX1_hour_19 ?_
          refine lv_iload_n hx hb dX1_hour_22 rfl (lv_at hl 2 rfl) ?_
          refine va_csq (va_Run.call (va_runV (As := [.int (nI c2)]) (rest := []) ⟨hx, hb, hml, hown, hts⟩ (c_J2_get lh D dA (ad 4 0) (Y2 3 0 0) (ad 5 0) (N2 3) (X 0 0) (ltH ad 6 (N2 3) 0) (c2) (ad 6 c2) (show c2 < N2 3 from by omega) ((hX.1 0 (by decide)).1) ((hX.1 0 (by decide)).2) (ltH_0 (show c2 < N2 3 from by omega))) (w_J2_get hts q292 rfl rfl ⟨Nat.le_of_ble_eq_true rfl, Nat.le_of_ble_eq_true rfl⟩) ⟨PX.blind (Mv.and Mv.heap (Mv.and Mv.heap Mv.gk)), (O_recv hG (hH.lo 0 (by decide) (by have hx0 : N2 3 ≤ X 0 0 := (hX.1 0 (by decide)).1; omega)) rfl), PX.pre (Mv.and Mv.heap (Mv.and Mv.heap Mv.gk)) ⟨(hH.lo 0 (by decide) (by have hx0 : N2 3 ≤ X 0 0 := (hX.1 0 (by decide)).1; omega)), (hH.la 0 (by decide) (by have hx0 : N2 3 ≤ X 0 0 := (hX.1 0 (by decide)).1; omega)), hG⟩⟩ rfl rfl hl.1 rfl (lv_room (Nat.le_of_ble_eq_true rfl)) dX1_hour_23 ⟨Nat.le_of_ble_eq_true rfl, Nat.le_of_ble_eq_true rfl⟩)) (fun rr hrr => ?_)
          subst hrr
          show W p lh e r_X1_hour s m args below meth cd _ _ _ _ Q (F0 m _ ls (.ref (ad 6 c2) :: _))
          refine va_castE hx hb hown (hts _ q304) (O_recv hG (hH.cr (show c2 < N2 3 from by omega)) rfl) dX1_hour_26 ?_
          refine lv_astore_n (lv' := [(3, .ref (ad 6 c2)), (0, .ref (ad 0 0)), (1, .ref (ad 10 k1)), (2, .int (nI c2))]) hx hb dX1_hour_29 rfl hl (by decide) rfl (fun ls hl => ?_)
          refine lv_iconst (v := nI 0) hx hb dX1_hour_30 (by decide) ?_
          refine lv_istore (lv' := [(4, .int (nI 0)), (3, .ref (ad 6 c2)), (0, .ref (ad 0 0)), (1, .ref (ad 10 k1)), (2, .int (nI c2))]) hx hb dX1_hour_31 hl (by decide) rfl (fun ls hl => ?_)
          have L33 : ∀ (nn33 : Nat) (q : Nat) (Y3 : Nat → Nat → Nat → Int32) (N3 : Nat → Nat) (G3 : Nat → Nat → Nat), (q ≤ G2 25 k1) → ((N3, G3) = ruS J2 c2 (10 * k1) N2 G2 q) → (OkS N3 G3 J2) → (KeepN N2 N3) → (KeepG G2 G3) → (HrOk N3 G3 J2 X Y3 c2) → G2 25 k1 - q < nn33 → ∀ (H : Heap) (locs : List Loc), RH A D dA K ad X Y3 N3 I G3 J2 H → va_S A s.heap H locs → ∀ (ls : Array Slot), lv_has ls 5 [(0, .ref (ad 0 0)), (1, .ref (ad 10 k1)), (2, .int (nI c2)), (3, .ref (ad 6 c2)), (4, .int (nI q))] → W p lh e r_X1_hour s m args below meth cd H locs 0 0 Q (F0 m 33 ls []) := by
            intro nn33
            induction nn33 with
            | zero => intro q Y3 N3 G3 i33_0 i33_1 i33_2 i33_3 i33_4 i33_5 hm33; exact absurd hm33 (Nat.not_lt_zero _)
            | succ nn33 ih33 =>
              intro q Y3 N3 G3 i33_0 i33_1 i33_2 i33_3 i33_4 i33_5 hm33 H locs hH hS ls hl
              have m3 : N3 3 = N2 3 := i33_3 3 (by decide)
              have m14 : N3 14 = N2 14 := i33_3 14 (by decide)
              have m19 : N3 19 = N2 19 := i33_3 19 (by decide)
              have m23 : N3 23 = N2 23 := i33_3 23 (by decide)
              have m25 : G3 25 k1 = G2 25 k1 := by rw [i33_4 25 rfl]
              have hokk := i33_2
              obtain ⟨hB, ⟨hn1, hn3, hn14, hn19, hn23, hn33, hn40, hn44⟩, hcr, hst, hwm, hrc⟩ := hokk
              have hX := i33_5.1.1
              have hru := hrc k1 (by omega)
              have hru1 := hru.1
              have h2k := (h3.keep i7_4).keep i33_4
              refine lv_aload_n hx hb dX1_hour_33 rfl (lv_at hl 1 rfl) ?_
              refine lv_ifnull hx hb dX1_hour_34 ?_
              refine lv_iload hx hb dX1_hour_37 (lv_at hl 4 rfl) ?_
              refine lv_aload_n hx hb dX1_hour_39 rfl (lv_at hl 1 rfl) ?_
              refine ko_getN (C := RX6) (T := TX6) (N := 2) (ci := 5) (v := .ref (ad 13 k1)) hx hb hts in_X6 hown hG.1 (hH.re (show k1 < N3 23 from by omega)) rfl 1 (by decide) (hG.2.1 _ q1130 rfl) (fun _ h => h) (rfl) dX1_hour_40 ?_
              refine vp_callSi (va_Run.call (va_runV (As := []) (rest := [.int (nI q)]) ⟨hx, hb, hml, hown, hts⟩ (c_J2_size lh D dA (ad 13 k1) (Y3 10 k1 0) (ad 14 k1) (G3 25 k1)) (w_J2_size hts q284 rfl rfl ⟨Nat.le_of_ble_eq_true rfl, Nat.le_of_ble_eq_true rfl⟩) ⟨PX.blind (Mv.and Mv.heap Mv.gk), (O_recv hG (hH.1 13 k1 (show k1 < N3 23 from by omega)) rfl), PX.pre (Mv.and Mv.heap Mv.gk) ⟨(hH.1 13 k1 (show k1 < N3 23 from by omega)), hG⟩⟩ rfl rfl hl.1 rfl (lv_room (Nat.le_of_ble_eq_true rfl)) dX1_hour_43 ⟨Nat.le_of_ble_eq_true rfl, Nat.le_of_ble_eq_true rfl⟩)) (fun rr hrr => ?_)
              subst hrr
              refine kn_cge (tgt := 79) hx hb dX1_hour_46 (by decide) (by omega) (by omega) (fun c_46 => ?_) (fun c_46 => ?_)
              · have hra : (N3, G3) = ruA (some k1) J2 c2 N2 G2 := by show _ = ruS _ _ _ _ _ _; rw [show G2 25 k1 = q by omega]; exact i33_1
                refine lv_aload_n hx hb dX1_hour_79 rfl (lv_at hl 3 rfl) ?_
                refine vp_callSi (va_Run.call (va_runV (As := []) (rest := []) ⟨hx, hb, hml, hown, hts⟩ (c_X4_isThere lh A D dA K ad X Y3 N3 I G3 J2 c2 (by omega) (hB)) (w_X4_isThere hts q305 rfl rfl ⟨Nat.le_of_ble_eq_true rfl, Nat.le_of_ble_eq_true rfl⟩) ⟨PX.blind (Mv.and Mv.heap Mv.gk), (O_recv hG (hH.cr (show c2 < N3 3 from by omega)) rfl), PX.pre (Mv.and Mv.heap Mv.gk) ⟨hH, hG⟩⟩ rfl rfl hl.1 rfl (lv_room (Nat.le_of_ble_eq_true rfl)) dX1_hour_80 ⟨Nat.le_of_ble_eq_true rfl, Nat.le_of_ble_eq_true rfl⟩)) (fun rr hrr => ?_)
                subst hrr
                refine kb_ne (tgt := 89) hx hb dX1_hour_83 (by decide) (fun c_83 => ?_) (fun c_83 => ?_)
                · have hrl : rateS G3 J2 c2 (N3 14) ≤ 12 := rateS_le i33_2 _ _
                  have h14 : N3 14 < 600 := by omega
                  have hcc := hcr c2
                  refine lv_aload_n hx hb dX1_hour_89 rfl (lv_at hl 0 rfl) ?_
                  refine lv_aload_n hx hb dX1_hour_90 rfl (lv_at hl 3 rfl) ?_
                  refine vp_callSi (va_Run.call (va_runV (As := [.ref (ad 6 c2)]) (rest := []) ⟨hx, hb, hml, hown, hts⟩ (c_X1_rate lh A D dA K ad X Y3 N3 I G3 J2 c2 (hB) (by omega) (h14) (hcc.1) (by omega) (hwm) (i33_5.1.2.2.2.1) (c_83) (i33_5.1.2.1)) (w_X1_rate hts q556 rfl rfl ⟨Nat.le_of_ble_eq_true rfl, Nat.le_of_ble_eq_true rfl⟩) ⟨PX.blind (Mv.and Mv.heap Mv.gk), (O_recv hG hH.o0 rfl), PX.pre (Mv.and Mv.heap Mv.gk) ⟨hH, hG⟩⟩ rfl rfl hl.1 rfl (lv_room (Nat.le_of_ble_eq_true rfl)) dX1_hour_91 ⟨Nat.le_of_ble_eq_true rfl, Nat.le_of_ble_eq_true rfl⟩)) (fun rr hrr => ?_)
                  subst hrr
                  refine lv_istore (lv' := [(4, .int (nI (rateS G3 J2 c2 ((N3 14))))), (0, .ref (ad 0 0)), (1, .ref (ad 10 k1)), (2, .int (nI c2)), (3, .ref (ad 6 c2))]) hx hb dX1_hour_94 hl (by decide) rfl (fun ls hl => ?_)
                  refine lv_aload_n hx hb dX1_hour_96 rfl (lv_at hl 4 rfl) ?_
                  refine ko_getN (C := RX4) (T := TX4) (N := 11) (ci := 2) (v := .ref (ad 8 c2)) hx hb hts in_X4 hown hG.1 (hH.cr (show c2 < N3 3 from by omega)) rfl 2 (by decide) (hG.2.1 _ q319 rfl) (fun _ h => h) (rfl) dX1_hour_97 ?_
                  refine lv_aload_n hx hb dX1_hour_100 rfl (lv_at hl 1 rfl) ?_
                  refine ko_get (C := RX1) (T := TX1) (N := 28) (ci := 1) (v := .int (nI (N3 14))) hx hb hts in_X1 hown hG.1 hH.o0 rfl 9 (by decide) q194 (fun _ h => h) (rfl) dX1_hour_101 ?_
                  refine lv_iload hx hb dX1_hour_104 (lv_at hl 0 rfl) ?_
                  refine lv_i2b (v := (nI (rateS G3 J2 c2 ((N3 14)))).toInt8.toInt32) hx hb dX1_hour_106 rfl ?_
                  refine ka_bast hx hb hG.1 hS (hH.2.2 8 c2 (show c2 < N3 3 from by omega)) (hH.rt (show c2 < N3 3 from by omega)) 1 rfl (show N3 14 < 600 from by omega) (by decide) dX1_hour_107 (fun H locs e1 z1 o1 hS => ?_)
                  rw [show vp_nar .byte ((nI (rateS G3 J2 c2 ((N3 14)))).toInt8.toInt32) = nI (rateS G3 J2 c2 (N3 14)) from byt2 (by omega)] at e1
                  have hH := hH.rate (j := N3 14) (v := nI (rateS G3 J2 c2 (N3 14))) (show c2 < N3 3 from by omega) e1 o1
                  clear e1 z1 o1
                  have hH := hH.cgG (G1 := up2 G3 12 (600 * c2 + N3 14) (rateS G3 J2 c2 (N3 14) + 1)) (usG_up rfl)
                  refine lv_aload_n hx hb dX1_hour_108 rfl (lv_at hl 4 rfl) ?_
                  refine lv_iload hx hb dX1_hour_109 (lv_at hl 0 rfl) ?_
                  refine ko_putN (C := RX4) (T := TX4) (N := 11) (ci := 2) hx hb hts in_X4 tyX4 tyX4_ok nmX4 hown hG.1 hS (hH.2.2 6 c2 (show c2 < N3 3 from by omega)) (hH.cr (show c2 < N3 3 from by omega)) rfl 10 (by decide) (hG.2.1 _ q336 rfl) (fun _ h => h) rfl rfl rfl (Nat.le_of_ble_eq_true rfl) dX1_hour_111 (fun H locs e1 z1 o1 hS => ?_)
                  have hH := hH.c10 (v := nI (rateS G3 J2 c2 ((N3 14)))) (show c2 < N3 3 from by omega) e1 o1
                  clear e1 z1 o1
                  refine lv_aload_n hx hb dX1_hour_114 rfl (lv_at hl 4 rfl) ?_
                  refine lv_bipush (v := nI 100) hx hb dX1_hour_115 (by decide) ?_
                  refine lv_aload_n hx hb dX1_hour_117 rfl (lv_at hl 4 rfl) ?_
                  refine ko_getN (C := RX4) (T := TX4) (N := 11) (ci := 2) (v := .int (nI (G3 8 c2))) hx hb hts in_X4 hown hG.1 (hH.cr (show c2 < N3 3 from by omega)) rfl 5 (by decide) (hG.2.1 _ q327 rfl) (fun _ h => h) (rfl) dX1_hour_118 ?_
                  refine lv_iload hx hb dX1_hour_121 (lv_at hl 0 rfl) ?_
                  refine lv_iconst (v := nI 2) hx hb dX1_hour_123 (by decide) ?_
                  refine kn_div hx hb dX1_hour_124 (by omega) (by omega) (by omega) ?_
                  refine kn_add hx hb dX1_hour_125 ?_
                  refine lv_iconst (v := nI 1) hx hb dX1_hour_126 (by decide) ?_
                  refine kn_add hx hb dX1_hour_127 ?_
                  refine va_mmin hx hb (hml.trans hl.1.symm) hown (hts _ q500) (hts _ q425) (hts _ q75) (hts _ q426) (Nat.le_of_ble_eq_true rfl) (Nat.le_of_ble_eq_true rfl) (Nat.le_of_ble_eq_true rfl) (Nat.le_of_ble_eq_true rfl) dX1_hour_128 ?_
                  refine kx_int (y := nI (if 100 < G3 8 c2 + ((rateS G3 J2 c2 ((N3 14))) / 2) + 1 then 100 else G3 8 c2 + ((rateS G3 J2 c2 ((N3 14))) / 2) + 1)) (min_n (by decide) (by omega)) ?_
                  by_cases h8 : 100 ≤ G3 8 c2 + rateS G3 J2 c2 (N3 14) / 2 + 1
                  · refine kx_int (y := nI 100) (congrArg nI (show (if 100 < G3 8 c2 + rateS G3 J2 c2 (N3 14) / 2 + 1 then 100 else G3 8 c2 + rateS G3 J2 c2 (N3 14) / 2 + 1) = 100 by split <;> omega)) ?_
                    refine ko_putN (C := RX4) (T := TX4) (N := 11) (ci := 2) hx hb hts in_X4 tyX4 tyX4_ok nmX4 hown hG.1 hS (hH.2.2 6 c2 (show c2 < N3 3 from by omega)) (hH.cr (show c2 < N3 3 from by omega)) rfl 5 (by decide) (hG.2.1 _ q327 rfl) (fun _ h => h) rfl rfl rfl (Nat.le_of_ble_eq_true rfl) dX1_hour_131 (fun H locs e1 z1 o1 hS => ?_)
                    have hH := hH.c5 (v := 100) (show c2 < N3 3 from by omega) e1 o1
                    clear e1 z1 o1
                    refine lv_aload_n hx hb dX1_hour_134 rfl (lv_at hl 4 rfl) ?_
                    refine ko_getN (C := RX4) (T := TX4) (N := 11) (ci := 2) (v := .int (nI 100)) hx hb hts in_X4 hown hG.1 (hH.cr (show c2 < N3 3 from by omega)) rfl 5 (by decide) (hG.2.1 _ q327 rfl) (fun _ h => h) (by simp [fC, fH, up2, up3, up1]) dX1_hour_135 ?_
                    refine lv_bipush (v := nI 100) hx hb dX1_hour_138 (by decide) ?_
                    refine kn_cne (tgt := 149) hx hb dX1_hour_140 (by decide) (by decide) (by decide) (fun c => absurd c (by decide)) (fun _ => ?_)
                    refine lv_aload_n hx hb dX1_hour_143 rfl (lv_at hl 1 rfl) ?_
                    refine lv_aload_n hx hb dX1_hour_144 rfl (lv_at hl 4 rfl) ?_
                    refine lv_iconst (v := nI 3) hx hb dX1_hour_145 (by decide) ?_
                    refine va_callv (va_runV (As := [.ref (ad 6 c2), .int (nI 3)]) (rest := []) ⟨hx, hb, hml, hown, hts⟩ (c_X1_wastes lh A D dA K ad X (up3 Y3 1 c2 (N3 14) (nI (rateS G3 J2 c2 (N3 14)))) N3 I (up2 (up2 G3 12 (600 * c2 + N3 14) (rateS G3 J2 c2 (N3 14) + 1)) 8 c2 100) (up2 J2 13 c2 (nI (rateS G3 J2 c2 ((N3 14))))) H.size c2 3 (by omega) (fun q h => hA q (Nat.le_trans hS.1 h))) (w_X1_wastes hts q564 rfl rfl ⟨Nat.le_of_ble_eq_true rfl, Nat.le_of_ble_eq_true rfl⟩) ⟨PX.blind (Mv.and Mv.heap (Mv.and Mv.heap Mv.gk)), (O_recv hG hH.o0 rfl), PX.pre (Mv.and Mv.heap (Mv.and Mv.heap Mv.gk)) ⟨rfl, hH, hG⟩⟩ rfl rfl hl.1 rfl (lv_room (Nat.le_of_ble_eq_true rfl)) dX1_hour_146 ⟨Nat.le_of_ble_eq_true rfl, Nat.le_of_ble_eq_true rfl⟩) hS (fun q _ h => h) (fun q h => h) (fun u t H1 locs ht hvm hp hB hz hk hS => ?_)
                    obtain ⟨hH, -⟩ := hB
                    rw [ht] at hH
                    clear ht hz hk
                    generalize H1 = H at hH hS ⊢
                    subst hp
                    dsimp only at hH
                    refine lv_iinc (v := nI (c2 + 1)) (lv' := [(2, .int (nI (c2 + 1))), (4, .int (nI (rateS G3 J2 c2 ((N3 14))))), (0, .ref (ad 0 0)), (1, .ref (ad 10 k1)), (3, .ref (ad 6 c2))]) hx hb dX1_hour_149 hl (k := 3) rfl (show nI c2 + Int32.ofInt 1 = nI (c2 + 1) from nI_add _ 1) (by decide) rfl (fun ls hl => ?_)
                    refine lv_goto (tgt := 7) hx hb dX1_hour_152 (by decide) ?_
                    have htk : tkS N3 G3 J2 c2 = ((up1 N3 15 ((N3 15) + gr (up2 (up2 G3 12 (600 * c2 + N3 14) (rateS G3 J2 c2 (N3 14) + 1)) 8 c2 100) c2)), (goesG (up2 (up2 G3 12 (600 * c2 + N3 14) (rateS G3 J2 c2 (N3 14) + 1)) 8 c2 100) c2 3), (up2 J2 13 c2 (nI (rateS G3 J2 c2 ((N3 14)))))) := by rw [tkS, if_pos h8]
                    have ok5 := tkS_ok i33_2 c2
                    have kn5 := tkS_keepN N3 G3 J2 c2
                    have kg5 := tkS_keepG (G := G3) KeepG.rf N3 J2 c2
                    have hr5 := tk_hr (Y' := (up3 (wsY (up3 Y3 1 c2 (N3 14) (nI (rateS G3 J2 c2 (N3 14)))) (up2 (up2 G3 12 (600 * c2 + N3 14) (rateS G3 J2 c2 (N3 14) + 1)) 8 c2 100) c2 20) 0 c2 0 (-1))) i33_5 i33_2 h14 (by first | rfl | rw [up3_o (by decide), wsY_o (by decide), up3_o (by decide)]) (fun c' k => by first | (rw [up3_o (by decide), wsY_o (by decide)]; exact up3_at) | exact up3_at) (fun c' e => by first | (rw [up3_0 e, wsY_o (by decide), up3_o (by decide)]) | rfl) (fun e => by first | exact absurd h8 e | rfl)
                    rw [htk] at ok5 kn5 kg5 hr5
                    exact ih7 (c2 + 1) (up3 (wsY (up3 Y3 1 c2 (N3 14) (nI (rateS G3 J2 c2 (N3 14)))) (up2 (up2 G3 12 (600 * c2 + N3 14) (rateS G3 J2 c2 (N3 14) + 1)) 8 c2 100) c2 20) 0 c2 0 (-1)) (up1 N3 15 ((N3 15) + gr (up2 (up2 G3 12 (600 * c2 + N3 14) (rateS G3 J2 c2 (N3 14) + 1)) 8 c2 100) c2)) (goesG (up2 (up2 G3 12 (600 * c2 + N3 14) (rateS G3 J2 c2 (N3 14) + 1)) 8 c2 100) c2 3) (up2 J2 13 c2 (nI (rateS G3 J2 c2 ((N3 14))))) (by omega) (by rw [crT_s i7_1, chS_at hra, if_pos c_83, htk]) (ok5) ((i7_3.tr i33_3).tr kn5) ((i7_4.tr i33_4).tr kg5) (hr5) (by omega) _ _ hH hS _ (lv_sub hl [2, 3, 0] rfl)
                  · refine kx_int (y := nI (G3 8 c2 + rateS G3 J2 c2 (N3 14) / 2 + 1)) (congrArg nI (show (if 100 < G3 8 c2 + rateS G3 J2 c2 (N3 14) / 2 + 1 then 100 else G3 8 c2 + rateS G3 J2 c2 (N3 14) / 2 + 1) = G3 8 c2 + rateS G3 J2 c2 (N3 14) / 2 + 1 by split <;> omega)) ?_
                    refine ko_putN (C := RX4) (T := TX4) (N := 11) (ci := 2) hx hb hts in_X4 tyX4 tyX4_ok nmX4 hown hG.1 hS (hH.2.2 6 c2 (show c2 < N3 3 from by omega)) (hH.cr (show c2 < N3 3 from by omega)) rfl 5 (by decide) (hG.2.1 _ q327 rfl) (fun _ h => h) rfl rfl rfl (Nat.le_of_ble_eq_true rfl) dX1_hour_131 (fun H locs e1 z1 o1 hS => ?_)
                    have hH := hH.c5 (v := G3 8 c2 + rateS G3 J2 c2 (N3 14) / 2 + 1) (show c2 < N3 3 from by omega) e1 o1
                    clear e1 z1 o1
                    refine lv_aload_n hx hb dX1_hour_134 rfl (lv_at hl 4 rfl) ?_
                    refine ko_getN (C := RX4) (T := TX4) (N := 11) (ci := 2) (v := .int (nI (G3 8 c2 + rateS G3 J2 c2 (N3 14) / 2 + 1))) hx hb hts in_X4 hown hG.1 (hH.cr (show c2 < N3 3 from by omega)) rfl 5 (by decide) (hG.2.1 _ q327 rfl) (fun _ h => h) (by simp [fC, fH, up2, up3, up1]) dX1_hour_135 ?_
                    refine lv_bipush (v := nI 100) hx hb dX1_hour_138 (by decide) ?_
                    refine kn_cne (tgt := 149) hx hb dX1_hour_140 (by decide) (by omega) (by omega) (fun c_140 => ?_) (fun c_140 => ?_)
                    · refine lv_iinc (v := nI (c2 + 1)) (lv' := [(2, .int (nI (c2 + 1))), (4, .int (nI (rateS G3 J2 c2 ((N3 14))))), (0, .ref (ad 0 0)), (1, .ref (ad 10 k1)), (3, .ref (ad 6 c2))]) hx hb dX1_hour_149 hl (k := 3) rfl (show nI c2 + Int32.ofInt 1 = nI (c2 + 1) from nI_add _ 1) (by decide) rfl (fun ls hl => ?_)
                      refine lv_goto (tgt := 7) hx hb dX1_hour_152 (by decide) ?_
                      have htk : tkS N3 G3 J2 c2 = (N3, (up2 (up2 G3 12 (600 * c2 + N3 14) (rateS G3 J2 c2 (N3 14) + 1)) 8 c2 (G3 8 c2 + rateS G3 J2 c2 (N3 14) / 2 + 1)), (up2 J2 13 c2 (nI (rateS G3 J2 c2 ((N3 14)))))) := by rw [tkS, if_neg h8]
                      have ok5 := tkS_ok i33_2 c2
                      have kn5 := tkS_keepN N3 G3 J2 c2
                      have kg5 := tkS_keepG (G := G3) KeepG.rf N3 J2 c2
                      have hr5 := tk_hr (Y' := (up3 Y3 1 c2 (N3 14) (nI (rateS G3 J2 c2 (N3 14))))) i33_5 i33_2 h14 (by first | rfl | rw [up3_o (by decide), wsY_o (by decide), up3_o (by decide)]) (fun c' k => by first | (rw [up3_o (by decide), wsY_o (by decide)]; exact up3_at) | exact up3_at) (fun c' e => by first | (rw [up3_0 e, wsY_o (by decide), up3_o (by decide)]) | rfl) (fun e => by first | exact absurd h8 e | rfl)
                      rw [htk] at ok5 kn5 kg5 hr5
                      exact ih7 (c2 + 1) (up3 Y3 1 c2 (N3 14) (nI (rateS G3 J2 c2 (N3 14)))) N3 (up2 (up2 G3 12 (600 * c2 + N3 14) (rateS G3 J2 c2 (N3 14) + 1)) 8 c2 (G3 8 c2 + rateS G3 J2 c2 (N3 14) / 2 + 1)) (up2 J2 13 c2 (nI (rateS G3 J2 c2 ((N3 14))))) (by omega) (by rw [crT_s i7_1, chS_at hra, if_pos c_83, htk]) (ok5) ((i7_3.tr i33_3).tr kn5) ((i7_4.tr i33_4).tr kg5) (hr5) (by omega) _ _ hH hS _ (lv_sub hl [2, 3, 0] rfl)
                    · exact absurd c_140 (by omega)
                · refine lv_goto (tgt := 149) hx hb dX1_hour_86 (by decide) ?_
                  refine lv_iinc (v := nI (c2 + 1)) (lv' := [(2, .int (nI (c2 + 1))), (0, .ref (ad 0 0)), (1, .ref (ad 10 k1)), (3, .ref (ad 6 c2)), (4, .int (nI q))]) hx hb dX1_hour_149 hl (k := 2) rfl (show nI c2 + Int32.ofInt 1 = nI (c2 + 1) from nI_add _ 1) (by decide) rfl (fun ls hl => ?_)
                  refine lv_goto (tgt := 7) hx hb dX1_hour_152 (by decide) ?_
                  exact ih7 (c2 + 1) Y3 N3 G3 J2 (by omega) (by rw [crT_s i7_1, chS_at hra, if_neg (by rw [c_83]; decide)]) (i33_2) ((i7_3.tr i33_3)) ((i7_4.tr i33_4)) (i33_5.dead c_83) (by omega) _ _ hH hS _ (lv_sub hl [1, 2, 0] rfl)
              · refine lv_aload_n hx hb dX1_hour_49 rfl (lv_at hl 3 rfl) ?_
                refine vp_callSi (va_Run.call (va_runV (As := []) (rest := []) ⟨hx, hb, hml, hown, hts⟩ (c_X4_isThere lh A D dA K ad X Y3 N3 I G3 J2 c2 (by omega) (hB)) (w_X4_isThere hts q305 rfl rfl ⟨Nat.le_of_ble_eq_true rfl, Nat.le_of_ble_eq_true rfl⟩) ⟨PX.blind (Mv.and Mv.heap Mv.gk), (O_recv hG (hH.cr (show c2 < N3 3 from by omega)) rfl), PX.pre (Mv.and Mv.heap Mv.gk) ⟨hH, hG⟩⟩ rfl rfl hl.1 rfl (lv_room (Nat.le_of_ble_eq_true rfl)) dX1_hour_50 ⟨Nat.le_of_ble_eq_true rfl, Nat.le_of_ble_eq_true rfl⟩)) (fun rr hrr => ?_)
                subst hrr
                refine kb_eq (tgt := 79) hx hb dX1_hour_53 (by decide) (fun c_53 => ?_) (fun c_53 => ?_)
                · have hra : (N3, G3) = ruA (some k1) J2 c2 N2 G2 := by show _ = ruS _ _ _ _ _ _; rw [ruS_dead (q := q) (by rw [← i33_1]; exact c_53) i33_0]; exact i33_1
                  refine lv_aload_n hx hb dX1_hour_79 rfl (lv_at hl 3 rfl) ?_
                  refine vp_callSi (va_Run.call (va_runV (As := []) (rest := []) ⟨hx, hb, hml, hown, hts⟩ (c_X4_isThere lh A D dA K ad X Y3 N3 I G3 J2 c2 (by omega) (hB)) (w_X4_isThere hts q305 rfl rfl ⟨Nat.le_of_ble_eq_true rfl, Nat.le_of_ble_eq_true rfl⟩) ⟨PX.blind (Mv.and Mv.heap Mv.gk), (O_recv hG (hH.cr (show c2 < N3 3 from by omega)) rfl), PX.pre (Mv.and Mv.heap Mv.gk) ⟨hH, hG⟩⟩ rfl rfl hl.1 rfl (lv_room (Nat.le_of_ble_eq_true rfl)) dX1_hour_80 ⟨Nat.le_of_ble_eq_true rfl, Nat.le_of_ble_eq_true rfl⟩)) (fun rr hrr => ?_)
                  subst hrr
                  refine kb_ne (tgt := 89) hx hb dX1_hour_83 (by decide) (fun c_83 => ?_) (fun c_83 => ?_)
                  · have hrl : rateS G3 J2 c2 (N3 14) ≤ 12 := rateS_le i33_2 _ _
                    have h14 : N3 14 < 600 := by omega
                    have hcc := hcr c2
                    refine lv_aload_n hx hb dX1_hour_89 rfl (lv_at hl 0 rfl) ?_
                    refine lv_aload_n hx hb dX1_hour_90 rfl (lv_at hl 3 rfl) ?_
                    refine vp_callSi (va_Run.call (va_runV (As := [.ref (ad 6 c2)]) (rest := []) ⟨hx, hb, hml, hown, hts⟩ (c_X1_rate lh A D dA K ad X Y3 N3 I G3 J2 c2 (hB) (by omega) (h14) (hcc.1) (by omega) (hwm) (i33_5.1.2.2.2.1) (c_83) (i33_5.1.2.1)) (w_X1_rate hts q556 rfl rfl ⟨Nat.le_of_ble_eq_true rfl, Nat.le_of_ble_eq_true rfl⟩) ⟨PX.blind (Mv.and Mv.heap Mv.gk), (O_recv hG hH.o0 rfl), PX.pre (Mv.and Mv.heap Mv.gk) ⟨hH, hG⟩⟩ rfl rfl hl.1 rfl (lv_room (Nat.le_of_ble_eq_true rfl)) dX1_hour_91 ⟨Nat.le_of_ble_eq_true rfl, Nat.le_of_ble_eq_true rfl⟩)) (fun rr hrr => ?_)
                    subst hrr
                    refine lv_istore (lv' := [(4, .int (nI (rateS G3 J2 c2 ((N3 14))))), (0, .ref (ad 0 0)), (1, .ref (ad 10 k1)), (2, .int (nI c2)), (3, .ref (ad 6 c2))]) hx hb dX1_hour_94 hl (by decide) rfl (fun ls hl => ?_)
                    refine lv_aload_n hx hb dX1_hour_96 rfl (lv_at hl 4 rfl) ?_
                    refine ko_getN (C := RX4) (T := TX4) (N := 11) (ci := 2) (v := .ref (ad 8 c2)) hx hb hts in_X4 hown hG.1 (hH.cr (show c2 < N3 3 from by omega)) rfl 2 (by decide) (hG.2.1 _ q319 rfl) (fun _ h => h) (rfl) dX1_hour_97 ?_
                    refine lv_aload_n hx hb dX1_hour_100 rfl (lv_at hl 1 rfl) ?_
                    refine ko_get (C := RX1) (T := TX1) (N := 28) (ci := 1) (v := .int (nI (N3 14))) hx hb hts in_X1 hown hG.1 hH.o0 rfl 9 (by decide) q194 (fun _ h => h) (rfl) dX1_hour_101 ?_
                    refine lv_iload hx hb dX1_hour_104 (lv_at hl 0 rfl) ?_
                    refine lv_i2b (v := (nI (rateS G3 J2 c2 ((N3 14)))).toInt8.toInt32) hx hb dX1_hour_106 rfl ?_
                    refine ka_bast hx hb hG.1 hS (hH.2.2 8 c2 (show c2 < N3 3 from by omega)) (hH.rt (show c2 < N3 3 from by omega)) 1 rfl (show N3 14 < 600 from by omega) (by decide) dX1_hour_107 (fun H locs e1 z1 o1 hS => ?_)
                    rw [show vp_nar .byte ((nI (rateS G3 J2 c2 ((N3 14)))).toInt8.toInt32) = nI (rateS G3 J2 c2 (N3 14)) from byt2 (by omega)] at e1
                    have hH := hH.rate (j := N3 14) (v := nI (rateS G3 J2 c2 (N3 14))) (show c2 < N3 3 from by omega) e1 o1
                    clear e1 z1 o1
                    have hH := hH.cgG (G1 := up2 G3 12 (600 * c2 + N3 14) (rateS G3 J2 c2 (N3 14) + 1)) (usG_up rfl)
                    refine lv_aload_n hx hb dX1_hour_108 rfl (lv_at hl 4 rfl) ?_
                    refine lv_iload hx hb dX1_hour_109 (lv_at hl 0 rfl) ?_
                    refine ko_putN (C := RX4) (T := TX4) (N := 11) (ci := 2) hx hb hts in_X4 tyX4 tyX4_ok nmX4 hown hG.1 hS (hH.2.2 6 c2 (show c2 < N3 3 from by omega)) (hH.cr (show c2 < N3 3 from by omega)) rfl 10 (by decide) (hG.2.1 _ q336 rfl) (fun _ h => h) rfl rfl rfl (Nat.le_of_ble_eq_true rfl) dX1_hour_111 (fun H locs e1 z1 o1 hS => ?_)
                    have hH := hH.c10 (v := nI (rateS G3 J2 c2 ((N3 14)))) (show c2 < N3 3 from by omega) e1 o1
                    clear e1 z1 o1
                    refine lv_aload_n hx hb dX1_hour_114 rfl (lv_at hl 4 rfl) ?_
                    refine lv_bipush (v := nI 100) hx hb dX1_hour_115 (by decide) ?_
                    refine lv_aload_n hx hb dX1_hour_117 rfl (lv_at hl 4 rfl) ?_
                    refine ko_getN (C := RX4) (T := TX4) (N := 11) (ci := 2) (v := .int (nI (G3 8 c2))) hx hb hts in_X4 hown hG.1 (hH.cr (show c2 < N3 3 from by omega)) rfl 5 (by decide) (hG.2.1 _ q327 rfl) (fun _ h => h) (rfl) dX1_hour_118 ?_
                    refine lv_iload hx hb dX1_hour_121 (lv_at hl 0 rfl) ?_
                    refine lv_iconst (v := nI 2) hx hb dX1_hour_123 (by decide) ?_
                    refine kn_div hx hb dX1_hour_124 (by omega) (by omega) (by omega) ?_
                    refine kn_add hx hb dX1_hour_125 ?_
                    refine lv_iconst (v := nI 1) hx hb dX1_hour_126 (by decide) ?_
                    refine kn_add hx hb dX1_hour_127 ?_
                    refine va_mmin hx hb (hml.trans hl.1.symm) hown (hts _ q500) (hts _ q425) (hts _ q75) (hts _ q426) (Nat.le_of_ble_eq_true rfl) (Nat.le_of_ble_eq_true rfl) (Nat.le_of_ble_eq_true rfl) (Nat.le_of_ble_eq_true rfl) dX1_hour_128 ?_
                    refine kx_int (y := nI (if 100 < G3 8 c2 + ((rateS G3 J2 c2 ((N3 14))) / 2) + 1 then 100 else G3 8 c2 + ((rateS G3 J2 c2 ((N3 14))) / 2) + 1)) (min_n (by decide) (by omega)) ?_
                    by_cases h8 : 100 ≤ G3 8 c2 + rateS G3 J2 c2 (N3 14) / 2 + 1
                    · refine kx_int (y := nI 100) (congrArg nI (show (if 100 < G3 8 c2 + rateS G3 J2 c2 (N3 14) / 2 + 1 then 100 else G3 8 c2 + rateS G3 J2 c2 (N3 14) / 2 + 1) = 100 by split <;> omega)) ?_
                      refine ko_putN (C := RX4) (T := TX4) (N := 11) (ci := 2) hx hb hts in_X4 tyX4 tyX4_ok nmX4 hown hG.1 hS (hH.2.2 6 c2 (show c2 < N3 3 from by omega)) (hH.cr (show c2 < N3 3 from by omega)) rfl 5 (by decide) (hG.2.1 _ q327 rfl) (fun _ h => h) rfl rfl rfl (Nat.le_of_ble_eq_true rfl) dX1_hour_131 (fun H locs e1 z1 o1 hS => ?_)
                      have hH := hH.c5 (v := 100) (show c2 < N3 3 from by omega) e1 o1
                      clear e1 z1 o1
                      refine lv_aload_n hx hb dX1_hour_134 rfl (lv_at hl 4 rfl) ?_
                      refine ko_getN (C := RX4) (T := TX4) (N := 11) (ci := 2) (v := .int (nI 100)) hx hb hts in_X4 hown hG.1 (hH.cr (show c2 < N3 3 from by omega)) rfl 5 (by decide) (hG.2.1 _ q327 rfl) (fun _ h => h) (by simp [fC, fH, up2, up3, up1]) dX1_hour_135 ?_
                      refine lv_bipush (v := nI 100) hx hb dX1_hour_138 (by decide) ?_
                      refine kn_cne (tgt := 149) hx hb dX1_hour_140 (by decide) (by decide) (by decide) (fun c => absurd c (by decide)) (fun _ => ?_)
                      refine lv_aload_n hx hb dX1_hour_143 rfl (lv_at hl 1 rfl) ?_
                      refine lv_aload_n hx hb dX1_hour_144 rfl (lv_at hl 4 rfl) ?_
                      refine lv_iconst (v := nI 3) hx hb dX1_hour_145 (by decide) ?_
                      refine va_callv (va_runV (As := [.ref (ad 6 c2), .int (nI 3)]) (rest := []) ⟨hx, hb, hml, hown, hts⟩ (c_X1_wastes lh A D dA K ad X (up3 Y3 1 c2 (N3 14) (nI (rateS G3 J2 c2 (N3 14)))) N3 I (up2 (up2 G3 12 (600 * c2 + N3 14) (rateS G3 J2 c2 (N3 14) + 1)) 8 c2 100) (up2 J2 13 c2 (nI (rateS G3 J2 c2 ((N3 14))))) H.size c2 3 (by omega) (fun q h => hA q (Nat.le_trans hS.1 h))) (w_X1_wastes hts q564 rfl rfl ⟨Nat.le_of_ble_eq_true rfl, Nat.le_of_ble_eq_true rfl⟩) ⟨PX.blind (Mv.and Mv.heap (Mv.and Mv.heap Mv.gk)), (O_recv hG hH.o0 rfl), PX.pre (Mv.and Mv.heap (Mv.and Mv.heap Mv.gk)) ⟨rfl, hH, hG⟩⟩ rfl rfl hl.1 rfl (lv_room (Nat.le_of_ble_eq_true rfl)) dX1_hour_146 ⟨Nat.le_of_ble_eq_true rfl, Nat.le_of_ble_eq_true rfl⟩) hS (fun q _ h => h) (fun q h => h) (fun u t H1 locs ht hvm hp hB hz hk hS => ?_)
                      obtain ⟨hH, -⟩ := hB
                      rw [ht] at hH
                      clear ht hz hk
                      generalize H1 = H at hH hS ⊢
                      subst hp
                      dsimp only at hH
                      refine lv_iinc (v := nI (c2 + 1)) (lv' := [(2, .int (nI (c2 + 1))), (4, .int (nI (rateS G3 J2 c2 ((N3 14))))), (0, .ref (ad 0 0)), (1, .ref (ad 10 k1)), (3, .ref (ad 6 c2))]) hx hb dX1_hour_149 hl (k := 3) rfl (show nI c2 + Int32.ofInt 1 = nI (c2 + 1) from nI_add _ 1) (by decide) rfl (fun ls hl => ?_)
                      refine lv_goto (tgt := 7) hx hb dX1_hour_152 (by decide) ?_
                      have htk : tkS N3 G3 J2 c2 = ((up1 N3 15 ((N3 15) + gr (up2 (up2 G3 12 (600 * c2 + N3 14) (rateS G3 J2 c2 (N3 14) + 1)) 8 c2 100) c2)), (goesG (up2 (up2 G3 12 (600 * c2 + N3 14) (rateS G3 J2 c2 (N3 14) + 1)) 8 c2 100) c2 3), (up2 J2 13 c2 (nI (rateS G3 J2 c2 ((N3 14)))))) := by rw [tkS, if_pos h8]
                      have ok5 := tkS_ok i33_2 c2
                      have kn5 := tkS_keepN N3 G3 J2 c2
                      have kg5 := tkS_keepG (G := G3) KeepG.rf N3 J2 c2
                      have hr5 := tk_hr (Y' := (up3 (wsY (up3 Y3 1 c2 (N3 14) (nI (rateS G3 J2 c2 (N3 14)))) (up2 (up2 G3 12 (600 * c2 + N3 14) (rateS G3 J2 c2 (N3 14) + 1)) 8 c2 100) c2 20) 0 c2 0 (-1))) i33_5 i33_2 h14 (by first | rfl | rw [up3_o (by decide), wsY_o (by decide), up3_o (by decide)]) (fun c' k => by first | (rw [up3_o (by decide), wsY_o (by decide)]; exact up3_at) | exact up3_at) (fun c' e => by first | (rw [up3_0 e, wsY_o (by decide), up3_o (by decide)]) | rfl) (fun e => by first | exact absurd h8 e | rfl)
                      rw [htk] at ok5 kn5 kg5 hr5
                      exact ih7 (c2 + 1) (up3 (wsY (up3 Y3 1 c2 (N3 14) (nI (rateS G3 J2 c2 (N3 14)))) (up2 (up2 G3 12 (600 * c2 + N3 14) (rateS G3 J2 c2 (N3 14) + 1)) 8 c2 100) c2 20) 0 c2 0 (-1)) (up1 N3 15 ((N3 15) + gr (up2 (up2 G3 12 (600 * c2 + N3 14) (rateS G3 J2 c2 (N3 14) + 1)) 8 c2 100) c2)) (goesG (up2 (up2 G3 12 (600 * c2 + N3 14) (rateS G3 J2 c2 (N3 14) + 1)) 8 c2 100) c2 3) (up2 J2 13 c2 (nI (rateS G3 J2 c2 ((N3 14))))) (by omega) (by rw [crT_s i7_1, chS_at hra, if_pos c_83, htk]) (ok5) ((i7_3.tr i33_3).tr kn5) ((i7_4.tr i33_4).tr kg5) (hr5) (by omega) _ _ hH hS _ (lv_sub hl [2, 3, 0] rfl)
                    · refine kx_int (y := nI (G3 8 c2 + rateS G3 J2 c2 (N3 14) / 2 + 1)) (congrArg nI (show (if 100 < G3 8 c2 + rateS G3 J2 c2 (N3 14) / 2 + 1 then 100 else G3 8 c2 + rateS G3 J2 c2 (N3 14) / 2 + 1) = G3 8 c2 + rateS G3 J2 c2 (N3 14) / 2 + 1 by split <;> omega)) ?_
                      refine ko_putN (C := RX4) (T := TX4) (N := 11) (ci := 2) hx hb hts in_X4 tyX4 tyX4_ok nmX4 hown hG.1 hS (hH.2.2 6 c2 (show c2 < N3 3 from by omega)) (hH.cr (show c2 < N3 3 from by omega)) rfl 5 (by decide) (hG.2.1 _ q327 rfl) (fun _ h => h) rfl rfl rfl (Nat.le_of_ble_eq_true rfl) dX1_hour_131 (fun H locs e1 z1 o1 hS => ?_)
                      have hH := hH.c5 (v := G3 8 c2 + rateS G3 J2 c2 (N3 14) / 2 + 1) (show c2 < N3 3 from by omega) e1 o1
                      clear e1 z1 o1
                      refine lv_aload_n hx hb dX1_hour_134 rfl (lv_at hl 4 rfl) ?_
                      refine ko_getN (C := RX4) (T := TX4) (N := 11) (ci := 2) (v := .int (nI (G3 8 c2 + rateS G3 J2 c2 (N3 14) / 2 + 1))) hx hb hts in_X4 hown hG.1 (hH.cr (show c2 < N3 3 from by omega)) rfl 5 (by decide) (hG.2.1 _ q327 rfl) (fun _ h => h) (by simp [fC, fH, up2, up3, up1]) dX1_hour_135 ?_
                      refine lv_bipush (v := nI 100) hx hb dX1_hour_138 (by decide) ?_
                      refine kn_cne (tgt := 149) hx hb dX1_hour_140 (by decide) (by omega) (by omega) (fun c_140 => ?_) (fun c_140 => ?_)
                      · refine lv_iinc (v := nI (c2 + 1)) (lv' := [(2, .int (nI (c2 + 1))), (4, .int (nI (rateS G3 J2 c2 ((N3 14))))), (0, .ref (ad 0 0)), (1, .ref (ad 10 k1)), (3, .ref (ad 6 c2))]) hx hb dX1_hour_149 hl (k := 3) rfl (show nI c2 + Int32.ofInt 1 = nI (c2 + 1) from nI_add _ 1) (by decide) rfl (fun ls hl => ?_)
                        refine lv_goto (tgt := 7) hx hb dX1_hour_152 (by decide) ?_
                        have htk : tkS N3 G3 J2 c2 = (N3, (up2 (up2 G3 12 (600 * c2 + N3 14) (rateS G3 J2 c2 (N3 14) + 1)) 8 c2 (G3 8 c2 + rateS G3 J2 c2 (N3 14) / 2 + 1)), (up2 J2 13 c2 (nI (rateS G3 J2 c2 ((N3 14)))))) := by rw [tkS, if_neg h8]
                        have ok5 := tkS_ok i33_2 c2
                        have kn5 := tkS_keepN N3 G3 J2 c2
                        have kg5 := tkS_keepG (G := G3) KeepG.rf N3 J2 c2
                        have hr5 := tk_hr (Y' := (up3 Y3 1 c2 (N3 14) (nI (rateS G3 J2 c2 (N3 14))))) i33_5 i33_2 h14 (by first | rfl | rw [up3_o (by decide), wsY_o (by decide), up3_o (by decide)]) (fun c' k => by first | (rw [up3_o (by decide), wsY_o (by decide)]; exact up3_at) | exact up3_at) (fun c' e => by first | (rw [up3_0 e, wsY_o (by decide), up3_o (by decide)]) | rfl) (fun e => by first | exact absurd h8 e | rfl)
                        rw [htk] at ok5 kn5 kg5 hr5
                        exact ih7 (c2 + 1) (up3 Y3 1 c2 (N3 14) (nI (rateS G3 J2 c2 (N3 14)))) N3 (up2 (up2 G3 12 (600 * c2 + N3 14) (rateS G3 J2 c2 (N3 14) + 1)) 8 c2 (G3 8 c2 + rateS G3 J2 c2 (N3 14) / 2 + 1)) (up2 J2 13 c2 (nI (rateS G3 J2 c2 ((N3 14))))) (by omega) (by rw [crT_s i7_1, chS_at hra, if_pos c_83, htk]) (ok5) ((i7_3.tr i33_3).tr kn5) ((i7_4.tr i33_4).tr kg5) (hr5) (by omega) _ _ hH hS _ (lv_sub hl [2, 3, 0] rfl)
                      · exact absurd c_140 (by omega)
                  · refine lv_goto (tgt := 149) hx hb dX1_hour_86 (by decide) ?_
                    refine lv_iinc (v := nI (c2 + 1)) (lv' := [(2, .int (nI (c2 + 1))), (0, .ref (ad 0 0)), (1, .ref (ad 10 k1)), (3, .ref (ad 6 c2)), (4, .int (nI q))]) hx hb dX1_hour_149 hl (k := 2) rfl (show nI c2 + Int32.ofInt 1 = nI (c2 + 1) from nI_add _ 1) (by decide) rfl (fun ls hl => ?_)
                    refine lv_goto (tgt := 7) hx hb dX1_hour_152 (by decide) ?_
                    exact ih7 (c2 + 1) Y3 N3 G3 J2 (by omega) (by rw [crT_s i7_1, chS_at hra, if_neg (by rw [c_83]; decide)]) (i33_2) ((i7_3.tr i33_3)) ((i7_4.tr i33_4)) (i33_5.dead c_83) (by omega) _ _ hH hS _ (lv_sub hl [1, 2, 0] rfl)
                · refine lv_aload_n hx hb dX1_hour_56 rfl (lv_at hl 1 rfl) ?_
                  refine ko_getN (C := RX6) (T := TX6) (N := 2) (ci := 5) (v := .ref (ad 13 k1)) hx hb hts in_X6 hown hG.1 (hH.re (show k1 < N3 23 from by omega)) rfl 1 (by decide) (hG.2.1 _ q1130 rfl) (fun _ h => h) (rfl) dX1_hour_57 ?_
                  refine lv_iload hx hb dX1_hour_60 (lv_at hl 4 rfl) ?_
                  refine va_csq (va_Run.call (va_runV (As := [.int (nI q)]) (rest := []) ⟨hx, hb, hml, hown, hts⟩ (c_J2_get lh D dA (ad 13 k1) (Y3 10 k1 0) (ad 14 k1) (G3 25 k1) (X 2 k1) (ltH ad 15 (G3 25 k1) (10 * k1)) (q) (ad 15 (10 * k1 + q)) (show q < G3 25 k1 from by omega) ((hX.2.1 k1 (by omega)).1) ((hX.2.1 k1 (by omega)).2) (ltH_b (show q < G3 25 k1 from by omega))) (w_J2_get hts q292 rfl rfl ⟨Nat.le_of_ble_eq_true rfl, Nat.le_of_ble_eq_true rfl⟩) ⟨PX.blind (Mv.and Mv.heap (Mv.and Mv.heap Mv.gk)), (O_recv hG (hH.1 13 k1 (show k1 < N3 23 from by omega)) rfl), PX.pre (Mv.and Mv.heap (Mv.and Mv.heap Mv.gk)) ⟨(hH.1 13 k1 (show k1 < N3 23 from by omega)), (hH.1 14 k1 (show k1 < N3 23 from by omega)), hG⟩⟩ rfl rfl hl.1 rfl (lv_room (Nat.le_of_ble_eq_true rfl)) dX1_hour_62 ⟨Nat.le_of_ble_eq_true rfl, Nat.le_of_ble_eq_true rfl⟩)) (fun rr hrr => ?_)
                  subst hrr
                  show W p lh e r_X1_hour s m args below meth cd _ _ _ _ Q (F0 m _ ls (.ref (ad 15 (10 * k1 + q)) :: _))
                  have hl15 : (10 * k1 + q) / 10 < N3 23 ∧ (10 * k1 + q) % 10 < G3 25 ((10 * k1 + q) / 10) := by rw [show (10 * k1 + q) / 10 = k1 by omega]; omega
                  have h26 := (h2k (10 * k1 + q)).1
                  obtain hk | hk | hk | hk | hk | hk : G3 26 (10 * k1 + q) = 0 ∨ G3 26 (10 * k1 + q) = 1 ∨ G3 26 (10 * k1 + q) = 2 ∨ G3 26 (10 * k1 + q) = 3 ∨ G3 26 (10 * k1 + q) = 4 ∨ G3 26 (10 * k1 + q) = 5 := by omega
                  · refine va_castY (C := RX11) hx hb hown (hts _ q463) (hG.2.1 _ q1710 rfl) (O_recv hG (hH.act hl15 0 hk (by decide)) rfl) dX1_hour_65 ?_
                    refine lv_aload_n hx hb dX1_hour_68 rfl (lv_at hl 0 rfl) ?_
                    refine lv_aload_n hx hb dX1_hour_69 rfl (lv_at hl 3 rfl) ?_
                    refine va_callv (va_runU (As := [.ref (ad 0 0), .ref (ad 6 c2)]) (rest := []) ⟨hx, hb, hml, hown, hts⟩ (c_X10_goes_0 lh A D dA K ad X Y3 N3 I G3 J2 H.size (10 * k1 + q) c2 (by omega) (hl15) (hk) (hB) (hn3) (hn14) (hn19) (hX) (i33_5.1.2.2.2.2) (c_53) (i33_5.1.2.2.1) (i33_5.1.2.1) ((hru.2 q (by omega)).2) (fun j => (h2k j).2) ((hru.2 q (by omega)).1) ((hcr c2).2.1) ((hst _).2) (fun q h => hA q (Nat.le_trans hS.1 h))) (va_cwU 2 hts (lw_U q464 q466 q468 q465 q90 q473) rfl rfl rfl rfl (by decide +kernel) ⟨Nat.le_of_ble_eq_true rfl, Nat.le_of_ble_eq_true rfl⟩) ⟨PX.blind (Mv.and Mv.heap (Mv.and Mv.heap Mv.gk)), (O_recv hG (hH.act hl15 0 hk (by decide)) rfl), PX.pre (Mv.and Mv.heap (Mv.and Mv.heap Mv.gk)) ⟨rfl, hH, hG⟩⟩ rfl rfl hl.1 rfl (lv_room (Nat.le_of_ble_eq_true rfl)) dX1_hour_70 ⟨Nat.le_of_ble_eq_true rfl, Nat.le_of_ble_eq_true rfl⟩) hS (fun q _ h => h) (fun q h => h) (fun u t H1 locs ht hvm hp hB hz hk hS => ?_)
                    obtain ⟨hH, -⟩ := hB
                    rw [ht] at hH
                    clear ht hz hk
                    generalize H1 = H at hH hS ⊢
                    subst hp
                    dsimp only at hH
                    refine lv_iinc (v := nI (q + 1)) (lv' := [(4, .int (nI (q + 1))), (0, .ref (ad 0 0)), (1, .ref (ad 10 k1)), (2, .int (nI c2)), (3, .ref (ad 6 c2))]) hx hb dX1_hour_73 hl (k := 4) rfl (show nI q + Int32.ofInt 1 = nI (q + 1) from nI_add _ 1) (by decide) rfl (fun ls hl => ?_)
                    refine lv_goto (tgt := 33) hx hb dX1_hour_76 (by decide) ?_
                    exact ih33 (q + 1) (goY Y3 N3 G3 J2 c2 (10 * k1 + q)) (goN N3 G3 J2 c2 (10 * k1 + q)) (goG N3 G3 J2 c2 (10 * k1 + q)) (by omega) (go_ru i33_1 c_53) (go_ok i33_2 _ _) (i33_3.tr (go_kN _ _ _ _ _)) (i33_4.tr (go_kG _ _ _ _ _)) (go_hr i33_5 (h2k _).1 c_53) (by omega) _ _ hH hS _ (lv_sub hl [1, 2, 3, 4, 0] rfl)
                  · refine va_castY (C := RX12) hx hb hown (hts _ q463) (hG.2.1 _ q1713 rfl) (O_recv hG (hH.act hl15 1 hk (by decide)) rfl) dX1_hour_65 ?_
                    refine lv_aload_n hx hb dX1_hour_68 rfl (lv_at hl 0 rfl) ?_
                    refine lv_aload_n hx hb dX1_hour_69 rfl (lv_at hl 3 rfl) ?_
                    refine va_callv (va_runU (As := [.ref (ad 0 0), .ref (ad 6 c2)]) (rest := []) ⟨hx, hb, hml, hown, hts⟩ (c_X10_goes_1 lh A D dA K ad X Y3 N3 I G3 J2 H.size (10 * k1 + q) c2 (by omega) (hl15) (hk) (hB) (hn3) (hn14) (hn19) (hX) (i33_5.1.2.2.2.2) (c_53) (i33_5.1.2.2.1) (i33_5.1.2.1) ((hru.2 q (by omega)).2) (fun j => (h2k j).2) ((hru.2 q (by omega)).1) ((hcr c2).2.1) ((hst _).2) (fun q h => hA q (Nat.le_trans hS.1 h))) (va_cwU 2 hts (lw_U q464 q466 q471 q465 q90 q473) rfl rfl rfl rfl (by decide +kernel) ⟨Nat.le_of_ble_eq_true rfl, Nat.le_of_ble_eq_true rfl⟩) ⟨PX.blind (Mv.and Mv.heap (Mv.and Mv.heap Mv.gk)), (O_recv hG (hH.act hl15 1 hk (by decide)) rfl), PX.pre (Mv.and Mv.heap (Mv.and Mv.heap Mv.gk)) ⟨rfl, hH, hG⟩⟩ rfl rfl hl.1 rfl (lv_room (Nat.le_of_ble_eq_true rfl)) dX1_hour_70 ⟨Nat.le_of_ble_eq_true rfl, Nat.le_of_ble_eq_true rfl⟩) hS (fun q _ h => h) (fun q h => h) (fun u t H1 locs ht hvm hp hB hz hk hS => ?_)
                    obtain ⟨hH, -⟩ := hB
                    rw [ht] at hH
                    clear ht hz hk
                    generalize H1 = H at hH hS ⊢
                    subst hp
                    dsimp only at hH
                    refine lv_iinc (v := nI (q + 1)) (lv' := [(4, .int (nI (q + 1))), (0, .ref (ad 0 0)), (1, .ref (ad 10 k1)), (2, .int (nI c2)), (3, .ref (ad 6 c2))]) hx hb dX1_hour_73 hl (k := 4) rfl (show nI q + Int32.ofInt 1 = nI (q + 1) from nI_add _ 1) (by decide) rfl (fun ls hl => ?_)
                    refine lv_goto (tgt := 33) hx hb dX1_hour_76 (by decide) ?_
                    exact ih33 (q + 1) (goY Y3 N3 G3 J2 c2 (10 * k1 + q)) (goN N3 G3 J2 c2 (10 * k1 + q)) (goG N3 G3 J2 c2 (10 * k1 + q)) (by omega) (go_ru i33_1 c_53) (go_ok i33_2 _ _) (i33_3.tr (go_kN _ _ _ _ _)) (i33_4.tr (go_kG _ _ _ _ _)) (go_hr i33_5 (h2k _).1 c_53) (by omega) _ _ hH hS _ (lv_sub hl [1, 2, 3, 4, 0] rfl)
                  · refine va_castY (C := RX13) hx hb hown (hts _ q463) (hG.2.1 _ q1711 rfl) (O_recv hG (hH.act hl15 2 hk (by decide)) rfl) dX1_hour_65 ?_
                    refine lv_aload_n hx hb dX1_hour_68 rfl (lv_at hl 0 rfl) ?_
                    refine lv_aload_n hx hb dX1_hour_69 rfl (lv_at hl 3 rfl) ?_
                    refine va_callv (va_runU (As := [.ref (ad 0 0), .ref (ad 6 c2)]) (rest := []) ⟨hx, hb, hml, hown, hts⟩ (c_X10_goes_2 lh A D dA K ad X Y3 N3 I G3 J2 H.size (10 * k1 + q) c2 (by omega) (hl15) (hk) (hB) (hn3) (hn14) (hn19) (hX) (i33_5.1.2.2.2.2) (c_53) (i33_5.1.2.2.1) (i33_5.1.2.1) ((hru.2 q (by omega)).2) (fun j => (h2k j).2) ((hru.2 q (by omega)).1) ((hcr c2).2.1) ((hst _).2) (fun q h => hA q (Nat.le_trans hS.1 h))) (va_cwU 2 hts (lw_U q464 q466 q469 q465 q90 q473) rfl rfl rfl rfl (by decide +kernel) ⟨Nat.le_of_ble_eq_true rfl, Nat.le_of_ble_eq_true rfl⟩) ⟨PX.blind (Mv.and Mv.heap (Mv.and Mv.heap Mv.gk)), (O_recv hG (hH.act hl15 2 hk (by decide)) rfl), PX.pre (Mv.and Mv.heap (Mv.and Mv.heap Mv.gk)) ⟨rfl, hH, hG⟩⟩ rfl rfl hl.1 rfl (lv_room (Nat.le_of_ble_eq_true rfl)) dX1_hour_70 ⟨Nat.le_of_ble_eq_true rfl, Nat.le_of_ble_eq_true rfl⟩) hS (fun q _ h => h) (fun q h => h) (fun u t H1 locs ht hvm hp hB hz hk hS => ?_)
                    obtain ⟨hH, -⟩ := hB
                    rw [ht] at hH
                    clear ht hz hk
                    generalize H1 = H at hH hS ⊢
                    subst hp
                    dsimp only at hH
                    refine lv_iinc (v := nI (q + 1)) (lv' := [(4, .int (nI (q + 1))), (0, .ref (ad 0 0)), (1, .ref (ad 10 k1)), (2, .int (nI c2)), (3, .ref (ad 6 c2))]) hx hb dX1_hour_73 hl (k := 4) rfl (show nI q + Int32.ofInt 1 = nI (q + 1) from nI_add _ 1) (by decide) rfl (fun ls hl => ?_)
                    refine lv_goto (tgt := 33) hx hb dX1_hour_76 (by decide) ?_
                    exact ih33 (q + 1) (goY Y3 N3 G3 J2 c2 (10 * k1 + q)) (goN N3 G3 J2 c2 (10 * k1 + q)) (goG N3 G3 J2 c2 (10 * k1 + q)) (by omega) (go_ru i33_1 c_53) (go_ok i33_2 _ _) (i33_3.tr (go_kN _ _ _ _ _)) (i33_4.tr (go_kG _ _ _ _ _)) (go_hr i33_5 (h2k _).1 c_53) (by omega) _ _ hH hS _ (lv_sub hl [1, 2, 3, 4, 0] rfl)
                  · refine va_castY (C := RX15) hx hb hown (hts _ q463) (hG.2.1 _ q1709 rfl) (O_recv hG (hH.act hl15 3 hk (by decide)) rfl) dX1_hour_65 ?_
                    refine lv_aload_n hx hb dX1_hour_68 rfl (lv_at hl 0 rfl) ?_
                    refine lv_aload_n hx hb dX1_hour_69 rfl (lv_at hl 3 rfl) ?_
                    refine va_callv (va_runU (As := [.ref (ad 0 0), .ref (ad 6 c2)]) (rest := []) ⟨hx, hb, hml, hown, hts⟩ (c_X10_goes_3 lh A D dA K ad X Y3 N3 I G3 J2 H.size (10 * k1 + q) c2 (by omega) (hl15) (hk) (hB) (hn3) (hn14) (hn19) (hX) (i33_5.1.2.2.2.2) (c_53) (i33_5.1.2.2.1) (i33_5.1.2.1) ((hru.2 q (by omega)).2) (fun j => (h2k j).2) ((hru.2 q (by omega)).1) ((hcr c2).2.1) ((hst _).2) (fun q h => hA q (Nat.le_trans hS.1 h))) (va_cwU 2 hts (lw_U q464 q466 q467 q465 q90 q473) rfl rfl rfl rfl (by decide +kernel) ⟨Nat.le_of_ble_eq_true rfl, Nat.le_of_ble_eq_true rfl⟩) ⟨PX.blind (Mv.and Mv.heap (Mv.and Mv.heap Mv.gk)), (O_recv hG (hH.act hl15 3 hk (by decide)) rfl), PX.pre (Mv.and Mv.heap (Mv.and Mv.heap Mv.gk)) ⟨rfl, hH, hG⟩⟩ rfl rfl hl.1 rfl (lv_room (Nat.le_of_ble_eq_true rfl)) dX1_hour_70 ⟨Nat.le_of_ble_eq_true rfl, Nat.le_of_ble_eq_true rfl⟩) hS (fun q _ h => h) (fun q h => h) (fun u t H1 locs ht hvm hp hB hz hk hS => ?_)
                    obtain ⟨hH, -⟩ := hB
                    rw [ht] at hH
                    clear ht hz hk
                    generalize H1 = H at hH hS ⊢
                    subst hp
                    dsimp only at hH
                    refine lv_iinc (v := nI (q + 1)) (lv' := [(4, .int (nI (q + 1))), (0, .ref (ad 0 0)), (1, .ref (ad 10 k1)), (2, .int (nI c2)), (3, .ref (ad 6 c2))]) hx hb dX1_hour_73 hl (k := 4) rfl (show nI q + Int32.ofInt 1 = nI (q + 1) from nI_add _ 1) (by decide) rfl (fun ls hl => ?_)
                    refine lv_goto (tgt := 33) hx hb dX1_hour_76 (by decide) ?_
                    exact ih33 (q + 1) (goY Y3 N3 G3 J2 c2 (10 * k1 + q)) (goN N3 G3 J2 c2 (10 * k1 + q)) (goG N3 G3 J2 c2 (10 * k1 + q)) (by omega) (go_ru i33_1 c_53) (go_ok i33_2 _ _) (i33_3.tr (go_kN _ _ _ _ _)) (i33_4.tr (go_kG _ _ _ _ _)) (go_hr i33_5 (h2k _).1 c_53) (by omega) _ _ hH hS _ (lv_sub hl [1, 2, 3, 4, 0] rfl)
                  · refine va_castY (C := RX16) hx hb hown (hts _ q463) (hG.2.1 _ q1714 rfl) (O_recv hG (hH.act hl15 4 hk (by decide)) rfl) dX1_hour_65 ?_
                    refine lv_aload_n hx hb dX1_hour_68 rfl (lv_at hl 0 rfl) ?_
                    refine lv_aload_n hx hb dX1_hour_69 rfl (lv_at hl 3 rfl) ?_
                    refine va_callv (va_runU (As := [.ref (ad 0 0), .ref (ad 6 c2)]) (rest := []) ⟨hx, hb, hml, hown, hts⟩ (c_X10_goes_4 lh A D dA K ad X Y3 N3 I G3 J2 H.size (10 * k1 + q) c2 (by omega) (hl15) (hk) (hB) (hn3) (hn14) (hn19) (hX) (i33_5.1.2.2.2.2) (c_53) (i33_5.1.2.2.1) (i33_5.1.2.1) ((hru.2 q (by omega)).2) (fun j => (h2k j).2) ((hru.2 q (by omega)).1) ((hcr c2).2.1) ((hst _).2) (fun q h => hA q (Nat.le_trans hS.1 h))) (va_cwU 2 hts (lw_U q464 q466 q472 q465 q90 q473) rfl rfl rfl rfl (by decide +kernel) ⟨Nat.le_of_ble_eq_true rfl, Nat.le_of_ble_eq_true rfl⟩) ⟨PX.blind (Mv.and Mv.heap (Mv.and Mv.heap Mv.gk)), (O_recv hG (hH.act hl15 4 hk (by decide)) rfl), PX.pre (Mv.and Mv.heap (Mv.and Mv.heap Mv.gk)) ⟨rfl, hH, hG⟩⟩ rfl rfl hl.1 rfl (lv_room (Nat.le_of_ble_eq_true rfl)) dX1_hour_70 ⟨Nat.le_of_ble_eq_true rfl, Nat.le_of_ble_eq_true rfl⟩) hS (fun q _ h => h) (fun q h => h) (fun u t H1 locs ht hvm hp hB hz hk hS => ?_)
                    obtain ⟨hH, -⟩ := hB
                    rw [ht] at hH
                    clear ht hz hk
                    generalize H1 = H at hH hS ⊢
                    subst hp
                    dsimp only at hH
                    refine lv_iinc (v := nI (q + 1)) (lv' := [(4, .int (nI (q + 1))), (0, .ref (ad 0 0)), (1, .ref (ad 10 k1)), (2, .int (nI c2)), (3, .ref (ad 6 c2))]) hx hb dX1_hour_73 hl (k := 4) rfl (show nI q + Int32.ofInt 1 = nI (q + 1) from nI_add _ 1) (by decide) rfl (fun ls hl => ?_)
                    refine lv_goto (tgt := 33) hx hb dX1_hour_76 (by decide) ?_
                    exact ih33 (q + 1) (goY Y3 N3 G3 J2 c2 (10 * k1 + q)) (goN N3 G3 J2 c2 (10 * k1 + q)) (goG N3 G3 J2 c2 (10 * k1 + q)) (by omega) (go_ru i33_1 c_53) (go_ok i33_2 _ _) (i33_3.tr (go_kN _ _ _ _ _)) (i33_4.tr (go_kG _ _ _ _ _)) (go_hr i33_5 (h2k _).1 c_53) (by omega) _ _ hH hS _ (lv_sub hl [1, 2, 3, 4, 0] rfl)
                  · refine va_castY (C := RX17) hx hb hown (hts _ q463) (hG.2.1 _ q1712 rfl) (O_recv hG (hH.act5 hl15 hk) rfl) dX1_hour_65 ?_
                    refine lv_aload_n hx hb dX1_hour_68 rfl (lv_at hl 0 rfl) ?_
                    refine lv_aload_n hx hb dX1_hour_69 rfl (lv_at hl 3 rfl) ?_
                    refine va_callv (va_runU (As := [.ref (ad 0 0), .ref (ad 6 c2)]) (rest := []) ⟨hx, hb, hml, hown, hts⟩ (c_X10_goes_5 lh A D dA K ad X Y3 N3 I G3 J2 H.size (10 * k1 + q) c2 (by omega) (hl15) (hk) (hB) (hn3) (hn14) (hn19) (hX) (i33_5.1.2.2.2.2) (c_53) (i33_5.1.2.2.1) (i33_5.1.2.1) ((hru.2 q (by omega)).2) (fun j => (h2k j).2) ((hru.2 q (by omega)).1) ((hcr c2).2.1) ((hst _).2) (fun q h => hA q (Nat.le_trans hS.1 h))) (va_cwU 2 hts (lw_U q464 q466 q470 q465 q90 q473) rfl rfl rfl rfl (by decide +kernel) ⟨Nat.le_of_ble_eq_true rfl, Nat.le_of_ble_eq_true rfl⟩) ⟨PX.blind (Mv.and Mv.heap (Mv.and Mv.heap Mv.gk)), (O_recv hG (hH.act5 hl15 hk) rfl), PX.pre (Mv.and Mv.heap (Mv.and Mv.heap Mv.gk)) ⟨rfl, hH, hG⟩⟩ rfl rfl hl.1 rfl (lv_room (Nat.le_of_ble_eq_true rfl)) dX1_hour_70 ⟨Nat.le_of_ble_eq_true rfl, Nat.le_of_ble_eq_true rfl⟩) hS (fun q _ h => h) (fun q h => h) (fun u t H1 locs ht hvm hp hB hz hk hS => ?_)
                    obtain ⟨hH, -⟩ := hB
                    rw [ht] at hH
                    clear ht hz hk
                    generalize H1 = H at hH hS ⊢
                    subst hp
                    dsimp only at hH
                    refine lv_iinc (v := nI (q + 1)) (lv' := [(4, .int (nI (q + 1))), (0, .ref (ad 0 0)), (1, .ref (ad 10 k1)), (2, .int (nI c2)), (3, .ref (ad 6 c2))]) hx hb dX1_hour_73 hl (k := 4) rfl (show nI q + Int32.ofInt 1 = nI (q + 1) from nI_add _ 1) (by decide) rfl (fun ls hl => ?_)
                    refine lv_goto (tgt := 33) hx hb dX1_hour_76 (by decide) ?_
                    exact ih33 (q + 1) (goY Y3 N3 G3 J2 c2 (10 * k1 + q)) (goN N3 G3 J2 c2 (10 * k1 + q)) (goG N3 G3 J2 c2 (10 * k1 + q)) (by omega) (go_ru i33_1 c_53) (go_ok i33_2 _ _) (i33_3.tr (go_kN _ _ _ _ _)) (i33_4.tr (go_kG _ _ _ _ _)) (go_hr i33_5 (h2k _).1 c_53) (by omega) _ _ hH hS _ (lv_sub hl [1, 2, 3, 4, 0] rfl)
          exact L33 _ 0 Y2 N2 G2 (by omega) (rfl) (i7_2) (KeepN.rf) (KeepG.rf) (i7_5) (Nat.lt_succ_self _) _ _ hH hS _ (lv_sub hl [2, 3, 4, 1, 0] rfl)
    exact L7 _ 0 Y N G J (by omega) (rfl) (h1) (KeepN.rf) (KeepG.rf) (⟨h2, fun c q => absurd q (Nat.not_lt_zero c)⟩) (Nat.lt_succ_self _) _ _ hH hS _ (lv_sub hl [2, 1, 0] rfl)
theorem w_X1_hour {R : Room} {s : State} {args : Array Value} {own : String} {idx : Nat} (hts : ∀ w ∈ lw_all, w.before args s = true) (h1 : Cond.methodLink own idx yX1_hour ∈ lw_all) {rm : Room} {mc ms : Nat} (hrc : rm.cells = mc) (hrs : rm.slots = ms) (hR : rm.frames + 1 ≤ R.frames ∧ 8 + (5 + 11) + rm.locals ≤ R.locals) : CallW R s args own RX1 idx yX1_hour cX1_hour 5 none (ws_ yX1_hour cX1_hour 5 none) rm mc ms 0 := cwV 0 hts (lw_V h1 q456 qs5 q62 q457) rfl hrc hrs (by decide +kernel) hR

abbrev r_X1_hours : Room := { frames := 9, cells := 0, slots := 0, locals := 209 }
set_option maxHeartbeats 1000000 in
theorem c_X1_hours (lh : Launch) (A : Nat → Prop) (D : va_G) (dA : Nat → ClassId) (K : Nat → Nat) (ad X : Nat → Nat → Nat) (Y : Nat → Nat → Nat → Int32) (N : Nat → Nat) (I : Nat → Int32) (G : Nat → Nat → Nat) (J : Nat → Nat → Int32) (sz : Nat) (n : Int32) (h1 : OkS N G J) (h2 : HOk N G J X Y) (h3 : R2Ok G) (hA : ∀ q, sz ≤ q → A q) : Met lh yX1_hours (ws_ yX1_hours cX1_hours 3 (some .int)) r_X1_hours (PX (fun U H => H.size = sz ∧ RH A D dA K ad X Y N I G J H ∧ GK D dA U) [.ref (ad 0 0), .int n]) (va_Qi (fun (r : Int32) (u : HgT) => if hoursB N n = true then ∃ Y1, r = nI (N 14 + tn n) ∧ u = (ad, X, Y1, (hoT N G J (tn n)).1, I, (hoT N G J (tn n)).2.1, (hoT N G J (tn n)).2.2) ∧ HOk (hoT N G J (tn n)).1 (hoT N G J (tn n)).2.1 (hoT N G J (tn n)).2.2 X Y1 ∧ OkS (hoT N G J (tn n)).1 (hoT N G J (tn n)).2.1 (hoT N G J (tn n)).2.2 ∧ R2Ok (hoT N G J (tn n)).2.1 else r = -1 ∧ u = (ad, X, Y, N, I, G, J)) (BmH A D dA K) A) 0 0 A := by
  refine Met.ofW (cc := cX1_hours) (maxL := 3) (ret := (some .int)) (by decide) rfl ?_
  intro p e s m args below meth cd s₁ B hml hv
  obtain ⟨hargs, hsz, hH, hG⟩ := hv
  have hx := B.exec
  have hb := B.bytes
  have hrt := B.returns
  have hts := atoms_spec (ws := (ws_ yX1_hours cX1_hours 3 (some .int))) B.pre
  have hts : ∀ w ∈ lw_all, w.before _ s = true := fun w h => hts w (List.mem_cons_of_mem _ h)
  have hown : s.vm.findClass RX1 = some m.cls := findClass_of_methodNamed B.named
  have hlocks := B.notSynchronized
  subst hsz
  have hS : va_S A s.heap s.heap [] := va_S.rf
  have hE : entryFrame m args 3 = F0 m 0 ((lg_sl ([.ref (ad 0 0), .int n]) ++ List.replicate (3 - (lg_sl ([.ref (ad 0 0), .int n])).length) Slot.unset).toArray) [] := by rw [hargs]; exact lg_entry_eq m _ 3
  have hl := lv_entry ([.ref (ad 0 0), .int n]) (n := 3) (Nat.le_of_ble_eq_true rfl)
  rw [hE]
  clear hE
  generalize (lg_sl ([.ref (ad 0 0), .int n]) ++ List.replicate (3 - (lg_sl ([.ref (ad 0 0), .int n])).length) Slot.unset).toArray = ls at hl ⊢
  have hl : lv_has ls 3 [(0, .ref (ad 0 0)), (1, .int n)] := hl
  generalize hQ : MQ _ _ _ _ _ _ _ = Q
  have hokk := h1
  obtain ⟨hB, ⟨hn1, hn3, hn14, hn19, hn23, hn33, hn40, hn44⟩, hcr, hst, hwm, hrc⟩ := hokk
  refine lv_iload_n hx hb dX1_hours_0 rfl (lv_at hl 1 rfl) ?_
  refine lv_iconst (v := nI 1) hx hb dX1_hours_1 (by decide) ?_
  refine lv_bipush (v := nI 100) hx hb dX1_hours_2 (by decide) ?_
  refine vp_callSi (W.runS (As := [.int n, .int (nI 1), .int (nI 100)]) (rest := []) ⟨hx, hb, hml, hown, hts⟩ (c_X1_in lh n (nI 1) (nI 100)) (w_X1_in hts q277 rfl rfl ⟨Nat.le_of_ble_eq_true rfl, Nat.le_of_ble_eq_true rfl⟩) ⟨P0.blind, P0.pre⟩ rfl rfl hl.1 rfl (lv_room (Nat.le_of_ble_eq_true rfl)) dX1_hours_4 ⟨Nat.le_of_ble_eq_true rfl, Nat.le_of_ble_eq_true rfl⟩) (fun rr hrr => ?_)
  subst hrr
  refine kb_eq (tgt := 22) hx hb dX1_hours_7 (by decide) (fun c_7 => ?_) (fun c_7 => ?_)
  · refine lv_iconst (v := -1) hx hb dX1_hours_22 (by decide) ?_
    subst hQ
    exact W.iret (v := (-1)) hx hb hrt (fun t ht hW => ⟨⟨_, (ad, X, Y, N, I, G, J), rfl, (by dsimp only; rw [if_neg (by simp [hoursB, c_7])]; exact ⟨rfl, rfl⟩), by rw [ht]; exact hH, GK.warm hW hG⟩, hS.F ht⟩) hS.2.2 dX1_hours_23
  · obtain ⟨j, hj1, hj2, rfl⟩ := wi_nat (by decide) (by decide) c_7
    refine lv_aload_n hx hb dX1_hours_10 rfl (lv_at hl 0 rfl) ?_
    refine ko_get (C := RX1) (T := TX1) (N := 28) (ci := 1) (v := .int (nI (N 14))) hx hb hts in_X1 hown hG.1 hH.o0 rfl 9 (by decide) q194 (fun _ h => h) (rfl) dX1_hours_11 ?_
    refine lv_iload_n hx hb dX1_hours_14 rfl (lv_at hl 1 rfl) ?_
    refine kn_add hx hb dX1_hours_15 ?_
    refine lv_sipush (v := nI 600) hx hb dX1_hours_16 (by decide) ?_
    refine kn_cle (tgt := 24) hx hb dX1_hours_19 (by decide) (by omega) (by omega) (fun c_19 => ?_) (fun c_19 => ?_)
    · refine lv_iconst (v := nI 0) hx hb dX1_hours_24 (by decide) ?_
      refine lv_istore_n (lv' := [(2, .int (nI 0)), (0, .ref (ad 0 0)), (1, .int (nI j))]) hx hb dX1_hours_25 rfl hl (by decide) rfl (fun ls hl => ?_)
      have L26 : ∀ (nn26 : Nat) (i : Nat) (Y1 : Nat → Nat → Nat → Int32) (N1 : Nat → Nat) (G1 : Nat → Nat → Nat) (J1 : Nat → Nat → Int32), (i ≤ j) → ((N1, G1, J1) = hoT N G J i) → (OkS N1 G1 J1) → (HOk N1 G1 J1 X Y1) → (R2Ok G1) → (N1 14 = N 14 + i) → j - i < nn26 → ∀ (H : Heap) (locs : List Loc), RH A D dA K ad X Y1 N1 I G1 J1 H → va_S A s.heap H locs → ∀ (ls : Array Slot), lv_has ls 3 [(0, .ref (ad 0 0)), (1, .int (nI j)), (2, .int (nI i))] → W p lh e r_X1_hours s m args below meth cd H locs 0 0 Q (F0 m 26 ls []) := by
        intro nn26
        induction nn26 with
        | zero => intro i Y1 N1 G1 J1 i26_0 i26_1 i26_2 i26_3 i26_4 i26_5 hm26; exact absurd hm26 (Nat.not_lt_zero _)
        | succ nn26 ih26 =>
          intro i Y1 N1 G1 J1 i26_0 i26_1 i26_2 i26_3 i26_4 i26_5 hm26 H locs hH hS ls hl
          refine lv_iload_n hx hb dX1_hours_26 rfl (lv_at hl 2 rfl) ?_
          refine lv_iload_n hx hb dX1_hours_27 rfl (lv_at hl 1 rfl) ?_
          refine kn_cge (tgt := 41) hx hb dX1_hours_28 (by decide) (by omega) (by omega) (fun c_28 => ?_) (fun c_28 => ?_)
          · refine lv_aload_n hx hb dX1_hours_41 rfl (lv_at hl 0 rfl) ?_
            refine ko_get (C := RX1) (T := TX1) (N := 28) (ci := 1) (v := .int (nI (N1 14))) hx hb hts in_X1 hown hG.1 hH.o0 rfl 9 (by decide) q194 (fun _ h => h) (rfl) dX1_hours_42 ?_
            subst hQ
            exact W.iret (v := nI (N1 14)) hx hb hrt (fun t ht hW => ⟨⟨_, (ad, X, Y1, N1, I, G1, J1), rfl, (by dsimp only; rw [if_pos (show hoursB N (nI j) = true by simp [hoursB, c_7, nI_add, nI_leI (show N 14 + j < 2 ^ 31 by omega) (show 600 < 2 ^ 31 by decide), c_19]), tn_nI (show j < 2 ^ 31 by omega)]; have e : i = j := (by omega); subst e; rw [← i26_1]; exact ⟨Y1, by rw [← i26_5], rfl, i26_3, i26_2, i26_4⟩), by rw [ht]; exact hH, GK.warm hW hG⟩, hS.F ht⟩) hS.2.2 dX1_hours_45
          · refine lv_aload_n hx hb dX1_hours_31 rfl (lv_at hl 0 rfl) ?_
            refine va_callv (va_runV (As := []) (rest := []) ⟨hx, hb, hml, hown, hts⟩ (c_X1_hour lh A D dA K ad X Y1 N1 I G1 J1 H.size (i26_2) (i26_3) (i26_4) (by omega) (fun q h => hA q (Nat.le_trans hS.1 h))) (w_X1_hour hts q454 rfl rfl ⟨Nat.le_of_ble_eq_true rfl, Nat.le_of_ble_eq_true rfl⟩) ⟨PX.blind (Mv.and Mv.heap (Mv.and Mv.heap Mv.gk)), (O_recv hG hH.o0 rfl), PX.pre (Mv.and Mv.heap (Mv.and Mv.heap Mv.gk)) ⟨rfl, hH, hG⟩⟩ rfl rfl hl.1 rfl (lv_room (Nat.le_of_ble_eq_true rfl)) dX1_hours_32 ⟨Nat.le_of_ble_eq_true rfl, Nat.le_of_ble_eq_true rfl⟩) hS (fun q _ h => h) (fun q h => h) (fun u t H1 locs ht hvm hp hB hz hk hS => ?_)
            obtain ⟨hH, -⟩ := hB
            rw [ht] at hH
            clear ht hz hk
            generalize H1 = H at hH hS ⊢
            obtain ⟨Y4, hp, hk4, ok4, r24, n14⟩ := hp
            subst hp
            dsimp only at hH
            have ehr := hoT_s i26_1
            generalize hhr : hrS N1 G1 J1 = z at hH hk4 ok4 r24 n14 ehr
            obtain ⟨N5, G5, J5⟩ := z
            dsimp only at hH hk4 ok4 r24 n14
            refine lv_iinc (v := nI (i + 1)) (lv' := [(2, .int (nI (i + 1))), (0, .ref (ad 0 0)), (1, .int (nI j))]) hx hb dX1_hours_35 hl (k := 2) rfl (show nI i + Int32.ofInt 1 = nI (i + 1) from nI_add _ 1) (by decide) rfl (fun ls hl => ?_)
            refine lv_goto (tgt := 26) hx hb dX1_hours_38 (by decide) ?_
            exact ih26 (i + 1) Y4 N5 G5 J5 (by omega) (ehr.symm) (ok4) (hk4) (r24) (by omega) (by omega) _ _ hH hS _ (lv_sub hl [1, 2, 0] rfl)
      exact L26 _ 0 Y N G J (by omega) (rfl) (h1) (h2) (h3) (rfl) (Nat.lt_succ_self _) _ _ hH hS _ (lv_sub hl [1, 2, 0] rfl)
    · refine lv_iconst (v := -1) hx hb dX1_hours_22 (by decide) ?_
      subst hQ
      exact W.iret (v := (-1)) hx hb hrt (fun t ht hW => ⟨⟨_, (ad, X, Y, N, I, G, J), rfl, (by dsimp only; rw [if_neg (by simp [hoursB, nI_add, c_7, nI_leI (show N 14 + j < 2 ^ 31 by omega) (show 600 < 2 ^ 31 by decide), Nat.not_le.mpr c_19])]; exact ⟨rfl, rfl⟩), by rw [ht]; exact hH, GK.warm hW hG⟩, hS.F ht⟩) hS.2.2 dX1_hours_23
theorem w_X1_hours {R : Room} {s : State} {args : Array Value} {own : String} {idx : Nat} (hts : ∀ w ∈ lw_all, w.before args s = true) (h1 : Cond.methodLink own idx yX1_hours ∈ lw_all) {rm : Room} {mc ms : Nat} (hrc : rm.cells = mc) (hrs : rm.slots = ms) (hR : rm.frames + 1 ≤ R.frames ∧ 8 + (3 + 11) + rm.locals ≤ R.locals) : CallW R s args own RX1 idx yX1_hours cX1_hours 3 (some .int) (ws_ yX1_hours cX1_hours 3 (some .int)) rm mc ms 1 := cwV 1 hts (lw_V h1 q451 q452 q62 q453) rfl hrc hrs (by decide +kernel) hR
