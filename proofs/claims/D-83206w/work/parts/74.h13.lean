set_option maxRecDepth 100000
abbrev r_X1_warmth : Room := { frames := 1, cells := 1, slots := 600, locals := 22 }
set_option maxHeartbeats 1000000 in
theorem c_X1_warmth (lh : Launch) (A : Nat → Prop) (D : va_G) (dA : Nat → ClassId) (K : Nat → Nat) (ad X : Nat → Nat → Nat) (Y : Nat → Nat → Nat → Int32) (N : Nat → Nat) (I : Nat → Int32) (G : Nat → Nat → Nat) (J : Nat → Nat → Int32) (sz : Nat) (z : Int32) (h : Int32) (v : Int32) (h1 : N 14 ≤ 600) (h2 : HOk N G J X Y) (h3 : X2Ok X) (hA : ∀ q, sz ≤ q → A q) : Met lh yX1_warmth (ws_ yX1_warmth cX1_warmth 5 (some .boolean)) r_X1_warmth (PX (fun U H => H.size = sz ∧ RH A D dA K ad X Y N I G J H ∧ GK D dA U ∧ AB dA U) [.ref (ad 0 0), .int z, .int h, .int v]) (va_Qi (fun (r : Int32) (u : HgT) => if warmB N z h v = true then ∃ ad1 X1 Y1, r = nI 1 ∧ u = (ad1, X1, Y1, N, I, up2 G 17 (600 * tn z + tn h) 1, up2 J 16 (600 * tn z + tn h) v) ∧ HOk N (up2 G 17 (600 * tn z + tn h) 1) (up2 J 16 (600 * tn z + tn h) v) X1 Y1 ∧ X2Ok X1 else r = nI 0 ∧ u = (ad, X, Y, N, I, G, J)) (BmH A D dA K) A) 1 600 A := by
  refine Met.ofW (cc := cX1_warmth) (maxL := 5) (ret := (some .boolean)) (by decide) rfl ?_
  intro p e s m args below meth cd s₁ B hml hv
  obtain ⟨hargs, hsz, hH, hG, hAB⟩ := hv
  have hx := B.exec
  have hb := B.bytes
  have hrt := B.returns
  have hts := atoms_spec (ws := (ws_ yX1_warmth cX1_warmth 5 (some .boolean))) B.pre
  have hts : ∀ w ∈ lw_all, w.before _ s = true := fun w h => hts w (List.mem_cons_of_mem _ h)
  have hown : s.vm.findClass RX1 = some m.cls := findClass_of_methodNamed B.named
  have hlocks := B.notSynchronized
  subst hsz
  have hS : va_S A s.heap s.heap [] := va_S.rf
  have hE : entryFrame m args 5 = F0 m 0 ((lg_sl ([.ref (ad 0 0), .int z, .int h, .int v]) ++ List.replicate (5 - (lg_sl ([.ref (ad 0 0), .int z, .int h, .int v])).length) Slot.unset).toArray) [] := by rw [hargs]; exact lg_entry_eq m _ 5
  have hl := lv_entry ([.ref (ad 0 0), .int z, .int h, .int v]) (n := 5) (Nat.le_of_ble_eq_true rfl)
  rw [hE]
  clear hE
  generalize (lg_sl ([.ref (ad 0 0), .int z, .int h, .int v]) ++ List.replicate (5 - (lg_sl ([.ref (ad 0 0), .int z, .int h, .int v])).length) Slot.unset).toArray = ls at hl ⊢
  have hl : lv_has ls 5 [(0, .ref (ad 0 0)), (1, .int z), (2, .int h), (3, .int v)] := hl
  generalize hQ : MQ _ _ _ _ _ _ _ = Q
  refine lv_iload_n hx hb dX1_warmth_0 rfl (lv_at hl 1 rfl) ?_
  refine lv_iconst (v := nI 0) hx hb dX1_warmth_1 (by decide) ?_
  refine lv_iconst (v := nI 2) hx hb dX1_warmth_2 (by decide) ?_
  refine vp_callSi (W.runS (As := [.int z, .int (nI 0), .int (nI 2)]) (rest := []) ⟨hx, hb, hml, hown, hts⟩ (c_X1_in lh z (nI 0) (nI 2)) (w_X1_in hts q277 rfl rfl ⟨Nat.le_of_ble_eq_true rfl, Nat.le_of_ble_eq_true rfl⟩) ⟨P0.blind, P0.pre⟩ rfl rfl hl.1 rfl (lv_room (Nat.le_of_ble_eq_true rfl)) dX1_warmth_3 ⟨Nat.le_of_ble_eq_true rfl, Nat.le_of_ble_eq_true rfl⟩) (fun rr hrr => ?_)
  subst hrr
  refine kb_eq (tgt := 34) hx hb dX1_warmth_6 (by decide) (fun c_6 => ?_) (fun c_6 => ?_)
  · refine lv_iconst (v := nI 0) hx hb dX1_warmth_34 (by decide) ?_
    subst hQ
    refine W.widen (k := 1) (n := 600) (by first | decide | omega) (by first | decide | omega) ?_
    exact W.zret (v := nI 0) hx hb hrt rfl (fun t ht hW => ⟨⟨_, (ad, X, Y, N, I, G, J), rfl, (by dsimp only; rw [if_neg (by simp [warmB, c_6])]; exact ⟨rfl, rfl⟩), by rw [ht]; exact hH, GK.warm hW hG⟩, hS.F ht⟩) hS.2.2 dX1_warmth_35
  · obtain ⟨j, hj1, hj2, rfl⟩ := wi_nat (by decide) (by decide) c_6
    refine lv_iload_n hx hb dX1_warmth_9 rfl (lv_at hl 2 rfl) ?_
    refine lv_aload_n hx hb dX1_warmth_10 rfl (lv_at hl 0 rfl) ?_
    refine ko_get (C := RX1) (T := TX1) (N := 28) (ci := 1) (v := .int (nI (N 14))) hx hb hts in_X1 hown hG.1 hH.o0 rfl 9 (by decide) q194 (fun _ h => h) (rfl) dX1_warmth_11 ?_
    refine lv_sipush (v := nI 599) hx hb dX1_warmth_14 (by decide) ?_
    refine vp_callSi (W.runS (As := [.int h, .int (nI (N 14)), .int (nI 599)]) (rest := []) ⟨hx, hb, hml, hown, hts⟩ (c_X1_in lh h (nI (N 14)) (nI 599)) (w_X1_in hts q277 rfl rfl ⟨Nat.le_of_ble_eq_true rfl, Nat.le_of_ble_eq_true rfl⟩) ⟨P0.blind, P0.pre⟩ rfl rfl hl.1 rfl (lv_room (Nat.le_of_ble_eq_true rfl)) dX1_warmth_17 ⟨Nat.le_of_ble_eq_true rfl, Nat.le_of_ble_eq_true rfl⟩) (fun rr hrr => ?_)
    subst hrr
    refine kb_eq (tgt := 34) hx hb dX1_warmth_20 (by decide) (fun c_20 => ?_) (fun c_20 => ?_)
    · refine lv_iconst (v := nI 0) hx hb dX1_warmth_34 (by decide) ?_
      subst hQ
      refine W.widen (k := 1) (n := 600) (by first | decide | omega) (by first | decide | omega) ?_
      exact W.zret (v := nI 0) hx hb hrt rfl (fun t ht hW => ⟨⟨_, (ad, X, Y, N, I, G, J), rfl, (by dsimp only; rw [if_neg (by simp [warmB, c_6, c_20, tn_nI (show j < 2 ^ 31 by omega)])]; exact ⟨rfl, rfl⟩), by rw [ht]; exact hH, GK.warm hW hG⟩, hS.F ht⟩) hS.2.2 dX1_warmth_35
    · obtain ⟨k, hk1, hk2, rfl⟩ := wi_nat (by omega) (by decide) c_20
      refine lv_iload_n hx hb dX1_warmth_23 rfl (lv_at hl 3 rfl) ?_
      refine lv_bipush (v := -5) hx hb dX1_warmth_24 (by decide) ?_
      refine lv_bipush (v := nI 42) hx hb dX1_warmth_26 (by decide) ?_
      refine vp_callSi (W.runS (As := [.int v, .int (-5), .int (nI 42)]) (rest := []) ⟨hx, hb, hml, hown, hts⟩ (c_X1_in lh v (-5) (nI 42)) (w_X1_in hts q277 rfl rfl ⟨Nat.le_of_ble_eq_true rfl, Nat.le_of_ble_eq_true rfl⟩) ⟨P0.blind, P0.pre⟩ rfl rfl hl.1 rfl (lv_room (Nat.le_of_ble_eq_true rfl)) dX1_warmth_28 ⟨Nat.le_of_ble_eq_true rfl, Nat.le_of_ble_eq_true rfl⟩) (fun rr hrr => ?_)
      subst hrr
      refine kb_ne (tgt := 36) hx hb dX1_warmth_31 (by decide) (fun c_31 => ?_) (fun c_31 => ?_)
      · refine lv_aload_n hx hb dX1_warmth_36 rfl (lv_at hl 0 rfl) ?_
        refine ko_get (C := RX1) (T := TX1) (N := 28) (ci := 1) (v := .ref (ad 2 0)) hx hb hts in_X1 hown hG.1 hH.o0 rfl 2 (by decide) q187 (fun _ h => h) (rfl) dX1_warmth_37 ?_
        refine lv_iload_n hx hb dX1_warmth_40 rfl (lv_at hl 1 rfl) ?_
        by_cases hw41 : X 1 j = 1
        · refine ka_aaldA (q := some (ad 3 j)) hx hb hG.1 hH.wm 5 rfl (show j < 3 from by omega) (by decide) (rwH_1 hw41) dX1_warmth_41 ?_
          show W p lh e r_X1_warmth s m args below meth cd _ _ _ _ Q (F0 m _ ls (.ref (ad 3 j) :: _))
          refine lv_ifnonnull (tgt := 84) hx hb dX1_warmth_42 (by decide) ?_
          have hz17 : ∀ q, q < 600 → Y 2 j q = if G 17 (600 * j + q) = 0 then nI 100 else J 16 (600 * j + q) := (h2.2.2.2.1 j (by omega)).elim (fun q => q.2) (fun q => absurd hw41 q.1)
          refine lv_aload_n hx hb dX1_warmth_84 rfl (lv_at hl 0 rfl) ?_
          refine ko_get (C := RX1) (T := TX1) (N := 28) (ci := 1) (v := .ref (ad 2 0)) hx hb hts in_X1 hown hG.1 hH.o0 rfl 2 (by decide) q187 (fun _ h => h) (rfl) dX1_warmth_85 ?_
          refine lv_iload_n hx hb dX1_warmth_88 rfl (lv_at hl 1 rfl) ?_
          refine ka_aaldA (q := some (ad 3 j)) hx hb hG.1 hH.wm 5 rfl (show j < 3 from by omega) (by decide) (rwH_1 hw41) dX1_warmth_89 ?_
          show W p lh e r_X1_warmth s m args below meth cd _ _ _ _ Q (F0 m _ ls (.ref (ad 3 j) :: _))
          refine lv_iload_n hx hb dX1_warmth_90 rfl (lv_at hl 2 rfl) ?_
          refine lv_iload_n hx hb dX1_warmth_91 rfl (lv_at hl 3 rfl) ?_
          refine lv_i2b (v := v.toInt8.toInt32) hx hb dX1_warmth_92 rfl ?_
          refine ka_bast hx hb hG.1 hS (hH.2.2 3 j (show j < 3 ∧ X 1 j = 1 from ⟨by omega, hw41⟩)) (hH.rw (show j < 3 ∧ X 1 j = 1 from ⟨by omega, hw41⟩)) 1 rfl (show k < 600 from by omega) (by decide) dX1_warmth_93 (fun H locs e1 z1 o1 hS => ?_)
          rw [show vp_nar .byte (v.toInt8.toInt32) = v from (vb_i c_31).1] at e1
          have hH := hH.row (j := k) (v := v) (show j < 3 ∧ X 1 j = 1 from ⟨by omega, hw41⟩) e1 o1
          clear e1 z1 o1
          have hH := hH.cg (N1 := N) (I1 := I) (G1 := up2 G 17 (600 * j + k) 1) (J1 := up2 J 16 (600 * j + k) v) (fun _ _ => rfl) rfl (usG_up rfl) (fun a ha => up2_o (by omega))
          refine lv_iconst (v := nI 1) hx hb dX1_warmth_94 (by decide) ?_
          subst hQ
          refine W.widen (k := 1) (n := 600) (by first | decide | omega) (by first | decide | omega) ?_
          exact W.zret (v := nI 1) hx hb hrt rfl (fun t ht hW => ⟨⟨_, (ad, X, (up3 Y 2 j k v), N, I, (up2 G 17 (600 * j + k) 1), (up2 J 16 (600 * j + k) v)), rfl, (by dsimp only; rw [if_pos (by simp [warmB, c_6, c_20, c_31, tn_nI (show j < 2 ^ 31 by omega), tn_nI (show k < 2 ^ 31 by omega)]), tn_nI (show j < 2 ^ 31 by omega), tn_nI (show k < 2 ^ 31 by omega)]; exact ⟨_, _, _, rfl, rfl, warm_hok h2 (show j < 3 by omega) (show k < 600 by omega) (fun a ha => up3_o ha) (fun z2 h2 => up3_n h2) (fun q hq => up3_at.trans (if e : q = k then (by rw [if_pos ⟨rfl, e⟩, if_pos e]) else (by rw [if_neg (fun h => e h.2), if_neg e]; exact hz17 q hq))) (fun a ha => rfl) hw41 (fun z2 h2 => rfl), h3⟩), by rw [ht]; exact hH, GK.warm hW hG⟩, hS.F ht⟩) hS.2.2 dX1_warmth_95
        · refine ka_aaldA (q := none) hx hb hG.1 hH.wm 5 rfl (show j < 3 from by omega) (by decide) (rwH_0 hw41) dX1_warmth_41 ?_
          show W p lh e r_X1_warmth s m args below meth cd _ _ _ _ Q (F0 m _ ls (.null :: _))
          refine lv_ifnonnullN hx hb dX1_warmth_42 ?_
          refine lv_aload_n hx hb dX1_warmth_45 rfl (lv_at hl 0 rfl) ?_
          refine ko_get (C := RX1) (T := TX1) (N := 28) (ci := 1) (v := .ref (ad 2 0)) hx hb hts in_X1 hown hG.1 hH.o0 rfl 2 (by decide) q187 (fun _ h => h) (rfl) dX1_warmth_46 ?_
          refine lv_iload_n hx hb dX1_warmth_49 rfl (lv_at hl 1 rfl) ?_
          refine lv_sipush (v := nI 600) hx hb dX1_warmth_50 (by decide) ?_
          have hz9 := hS.1
          refine ka_newi (D := D) (cl := CL) (atype := .byte) hx hb hS (hts _ q270) rfl dX1_warmth_53 (n := 600) (cA0 := dA 1) (hG.1.2 1 _ rfl).2 (by decide) (by decide) (Nat.le_of_ble_eq_true rfl) (Nat.le_of_ble_eq_true rfl) (fun H1 e53 z1 o1 hS => ?_)
          have fr_q53 : Fr ad N G X s.heap.size := Fr.of hH (Nat.le_refl _)
          have a_q53 : A s.heap.size := hA _ hz9
          have hH := hH.grow o1
          generalize s.heap.size = q53 at e53 z1 fr_q53 a_q53 ⊢
          clear hz9 o1 z1
          generalize H1 = H at e53 hH hS ⊢
          refine ka_aastB hx hb hAB hS (hH.2.2 2 0 rfl) hH.wm e53 (show j < 3 from by omega) (by decide) dX1_warmth_55 (fun H1 locs ew z1 o1 hS => ?_)
          have hH := hH.newRow (show j < 3 by omega) hw41 fr_q53 a_q53 (e53.kept (o1 _ (fr_q53.ne (show LH N G X 2 0 from rfl)).symm)) ew (fun k i h hn => o1 _ (fun e => hn (hH.2.1 k i 2 0 h rfl e)))
          clear ew z1 o1 e53
          generalize H1 = H at hH hS ⊢
          refine lv_iconst (v := nI 0) hx hb dX1_warmth_56 (by decide) ?_
          refine lv_istore (lv' := [(4, .int (nI 0)), (0, .ref (ad 0 0)), (1, .int (nI j)), (2, .int (nI k)), (3, .int v)]) hx hb dX1_warmth_57 hl (by decide) rfl (fun ls hl => ?_)
          have L59 : ∀ (nn59 : Nat) (n : Nat) (Y2 : Nat → Nat → Nat → Int32), (n ≤ 600) → (∀ a, a ≠ 2 → Y2 a = Y a) → (∀ z2, z2 ≠ j → Y2 2 z2 = Y 2 z2) → (∀ q, q < n → Y2 2 j q = nI 100) → 600 - n < nn59 → ∀ (H : Heap) (locs : List Loc), RH A D dA K (up2 ad 3 j q53) (up2 X 1 j 1) Y2 N I G J H → va_S A s.heap H locs → ∀ (ls : Array Slot), lv_has ls 5 [(0, .ref (ad 0 0)), (1, .int (nI j)), (2, .int (nI k)), (3, .int v), (4, .int (nI n))] → W p lh e r_X1_warmth s m args below meth cd H locs 1 600 Q (F0 m 59 ls []) := by
            intro nn59
            induction nn59 with
            | zero => intro n Y2 i59_0 i59_1 i59_2 i59_3 hm59; exact absurd hm59 (Nat.not_lt_zero _)
            | succ nn59 ih59 =>
              intro n Y2 i59_0 i59_1 i59_2 i59_3 hm59 H locs hH hS ls hl
              refine lv_iload hx hb dX1_warmth_59 (lv_at hl 4 rfl) ?_
              refine lv_sipush (v := nI 600) hx hb dX1_warmth_61 (by decide) ?_
              refine kn_cge (tgt := 84) hx hb dX1_warmth_64 (by decide) (by omega) (by decide) (fun c_64 => ?_) (fun c_64 => ?_)
              · have e600 : n = 600 := (by omega)
                subst e600
                have hz17 : ∀ q, q < 600 → G 17 (600 * j + q) = 0 := (h2.2.2.2.1 j (by omega)).elim (fun q => absurd q.1 hw41) (fun q => q.2)
                refine lv_aload_n hx hb dX1_warmth_84 rfl (lv_at hl 0 rfl) ?_
                refine ko_get (C := RX1) (T := TX1) (N := 28) (ci := 1) (v := .ref ((up2 ad 3 j q53) 2 0)) hx hb hts in_X1 hown hG.1 hH.o0 rfl 2 (by decide) q187 (fun _ h => h) (rfl) dX1_warmth_85 ?_
                refine lv_iload_n hx hb dX1_warmth_88 rfl (lv_at hl 1 rfl) ?_
                refine ka_aaldA (q := some ((up2 ad 3 j q53) 3 j)) hx hb hG.1 hH.wm 5 rfl (show j < 3 from by omega) (by decide) (rwH_1 up2_s) dX1_warmth_89 ?_
                show W p lh e r_X1_warmth s m args below meth cd _ _ _ _ Q (F0 m _ ls (.ref ((up2 ad 3 j q53) 3 j) :: _))
                refine lv_iload_n hx hb dX1_warmth_90 rfl (lv_at hl 2 rfl) ?_
                refine lv_iload_n hx hb dX1_warmth_91 rfl (lv_at hl 3 rfl) ?_
                refine lv_i2b (v := v.toInt8.toInt32) hx hb dX1_warmth_92 rfl ?_
                refine ka_bast hx hb hG.1 hS (hH.2.2 3 j (show j < 3 ∧ (up2 X 1 j 1) 1 j = 1 from ⟨by omega, up2_s⟩)) (hH.rw (show j < 3 ∧ (up2 X 1 j 1) 1 j = 1 from ⟨by omega, up2_s⟩)) 1 rfl (show k < 600 from by omega) (by decide) dX1_warmth_93 (fun H locs e1 z1 o1 hS => ?_)
                rw [show vp_nar .byte (v.toInt8.toInt32) = v from (vb_i c_31).1] at e1
                have hH := hH.row (j := k) (v := v) (show j < 3 ∧ (up2 X 1 j 1) 1 j = 1 from ⟨by omega, up2_s⟩) e1 o1
                clear e1 z1 o1
                have hH := hH.cg (N1 := N) (I1 := I) (G1 := up2 G 17 (600 * j + k) 1) (J1 := up2 J 16 (600 * j + k) v) (fun _ _ => rfl) rfl (usG_up rfl) (fun a ha => up2_o (by omega))
                refine lv_iconst (v := nI 1) hx hb dX1_warmth_94 (by decide) ?_
                subst hQ
                exact W.zret (v := nI 1) hx hb hrt rfl (fun t ht hW => ⟨⟨_, ((up2 ad 3 j q53), (up2 X 1 j 1), (up3 Y2 2 j k v), N, I, (up2 G 17 (600 * j + k) 1), (up2 J 16 (600 * j + k) v)), rfl, (by dsimp only; rw [if_pos (by simp [warmB, c_6, c_20, c_31, tn_nI (show j < 2 ^ 31 by omega), tn_nI (show k < 2 ^ 31 by omega)]), tn_nI (show j < 2 ^ 31 by omega), tn_nI (show k < 2 ^ 31 by omega)]; exact ⟨_, _, _, rfl, rfl, warm_hok h2 (show j < 3 by omega) (show k < 600 by omega) (fun a ha => by rw [up3_o ha, i59_1 a ha]) (fun z2 h2 => by rw [up3_n h2, i59_2 z2 h2]) (fun q hq => up3_at.trans (if e : q = k then (by rw [if_pos ⟨rfl, e⟩, if_pos e]) else (by rw [if_neg (fun h => e h.2), if_neg e, i59_3 q (by omega), hz17 q hq, if_pos rfl]))) (fun a ha => up2_o ha) up2_s (fun z2 h2 => up2_n h2), fun l hl => by rw [up2_o (by decide)]; exact h3 l hl⟩), by rw [ht]; exact hH, GK.warm hW hG⟩, hS.F ht⟩) hS.2.2 dX1_warmth_95
              · refine lv_aload_n hx hb dX1_warmth_67 rfl (lv_at hl 0 rfl) ?_
                refine ko_get (C := RX1) (T := TX1) (N := 28) (ci := 1) (v := .ref ((up2 ad 3 j q53) 2 0)) hx hb hts in_X1 hown hG.1 hH.o0 rfl 2 (by decide) q187 (fun _ h => h) (rfl) dX1_warmth_68 ?_
                refine lv_iload_n hx hb dX1_warmth_71 rfl (lv_at hl 1 rfl) ?_
                refine ka_aaldA (q := some ((up2 ad 3 j q53) 3 j)) hx hb hG.1 hH.wm 5 rfl (show j < 3 from by omega) (by decide) (rwH_1 up2_s) dX1_warmth_72 ?_
                show W p lh e r_X1_warmth s m args below meth cd _ _ _ _ Q (F0 m _ ls (.ref ((up2 ad 3 j q53) 3 j) :: _))
                refine lv_iload hx hb dX1_warmth_73 (lv_at hl 4 rfl) ?_
                refine lv_bipush (v := nI 100) hx hb dX1_warmth_75 (by decide) ?_
                refine ka_bast hx hb hG.1 hS (hH.2.2 3 j (show j < 3 ∧ (up2 X 1 j 1) 1 j = 1 from ⟨by omega, up2_s⟩)) (hH.rw (show j < 3 ∧ (up2 X 1 j 1) 1 j = 1 from ⟨by omega, up2_s⟩)) 1 rfl (show n < 600 from by omega) (by decide) dX1_warmth_77 (fun H locs e1 z1 o1 hS => ?_)
                rw [show vp_nar .byte (nI 100) = nI 100 from rfl] at e1
                have hH := hH.row (j := n) (v := nI 100) (show j < 3 ∧ (up2 X 1 j 1) 1 j = 1 from ⟨by omega, up2_s⟩) e1 o1
                clear e1 z1 o1
                refine lv_iinc (v := nI (n + 1)) (lv' := [(4, .int (nI (n + 1))), (0, .ref (ad 0 0)), (1, .int (nI j)), (2, .int (nI k)), (3, .int v)]) hx hb dX1_warmth_78 hl (k := 4) rfl (show nI n + Int32.ofInt 1 = nI (n + 1) from nI_add _ 1) (by decide) rfl (fun ls hl => ?_)
                refine lv_goto (tgt := 59) hx hb dX1_warmth_81 (by decide) ?_
                exact ih59 (n + 1) (up3 Y2 2 j n (nI 100)) (by omega) (fun a ha => by rw [up3_o ha]; exact i59_1 a ha) (fun z2 h2 => by rw [up3_n h2]; exact i59_2 z2 h2) (fun q hq => by rw [up3_at]; exact if e : q = n then if_pos ⟨rfl, e⟩ else (if_neg (fun h => e h.2)).trans (i59_3 q (by omega))) (by omega) _ _ hH hS _ (lv_sub hl [1, 2, 3, 4, 0] rfl)
          exact L59 _ 0 (upR Y 2 j (fun _ => 0)) (by omega) (fun a ha => upR_o ha) (fun z2 h2 => upR_n h2) (fun q hq => absurd hq (Nat.not_lt_zero q)) (Nat.lt_succ_self _) _ _ hH hS _ (lv_sub hl [1, 2, 3, 4, 0] rfl)
      · refine lv_iconst (v := nI 0) hx hb dX1_warmth_34 (by decide) ?_
        subst hQ
        refine W.widen (k := 1) (n := 600) (by first | decide | omega) (by first | decide | omega) ?_
        exact W.zret (v := nI 0) hx hb hrt rfl (fun t ht hW => ⟨⟨_, (ad, X, Y, N, I, G, J), rfl, (by dsimp only; rw [if_neg (by simp [warmB, c_6, c_20, c_31, tn_nI (show j < 2 ^ 31 by omega), tn_nI (show k < 2 ^ 31 by omega)])]; exact ⟨rfl, rfl⟩), by rw [ht]; exact hH, GK.warm hW hG⟩, hS.F ht⟩) hS.2.2 dX1_warmth_35
theorem w_X1_warmth {R : Room} {s : State} {args : Array Value} {own : String} {idx : Nat} (hts : ∀ w ∈ lw_all, w.before args s = true) (h1 : Cond.methodLink own idx yX1_warmth ∈ lw_all) {rm : Room} {mc ms : Nat} (hrc : rm.cells = mc) (hrs : rm.slots = ms) (hR : rm.frames + 1 ≤ R.frames ∧ 8 + (5 + 11) + rm.locals ≤ R.locals) : CallW R s args own RX1 idx yX1_warmth cX1_warmth 5 (some .boolean) (ws_ yX1_warmth cX1_warmth 5 (some .boolean)) rm mc ms 3 := cwV 3 hts (lw_V h1 q447 q448 q62 q449) rfl hrc hrs (by decide +kernel) hR
