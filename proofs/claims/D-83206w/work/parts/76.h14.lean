set_option maxRecDepth 100000
abbrev r_X1_feed : Room := { frames := 0, cells := 1, slots := 5, locals := 0 }
set_option maxHeartbeats 1000000 in
theorem c_X1_feed (lh : Launch) (A : Nat → Prop) (D : va_G) (dA : Nat → ClassId) (K : Nat → Nat) (ad X : Nat → Nat → Nat) (Y : Nat → Nat → Nat → Int32) (N : Nat → Nat) (I : Nat → Int32) (G : Nat → Nat → Nat) (J : Nat → Nat → Int32) (sz : Nat) (a : Int32) (b : Int32) (c : Int32) (d : Int32) (f : Int32) (h1 : N 33 ≤ 300) (hA : ∀ q, sz ≤ q → A q) : Met lh yX1_feed (ws_ yX1_feed cX1_feed 12 (some .int)) r_X1_feed (PX (fun U H => H.size = sz ∧ RH A D dA K ad X Y N I G J H ∧ GK D dA U) [.ref (ad 0 0), .int a, .int b, .int c, .int d, .int f]) (va_Qi (fun (r : Int32) (u : HgT) => if decide (N 33 ≤ 280) = true then r = nI (N 33 + 20) ∧ u = (ad, X, Y, up1 N 33 (N 33 + 20), I, G, sj J 32 (N 33) 20 (fdB a b c d f)) else r = -1 ∧ u = (ad, X, Y, N, I, G, J)) (BmH A D dA K) A) 1 5 A := by
  refine Met.ofW (cc := cX1_feed) (maxL := 12) (ret := (some .int)) (by decide) rfl ?_
  intro p e s m args below meth cd s₁ B hml hv
  obtain ⟨hargs, hsz, hH, hG⟩ := hv
  have hx := B.exec
  have hb := B.bytes
  have hrt := B.returns
  have hts := atoms_spec (ws := (ws_ yX1_feed cX1_feed 12 (some .int))) B.pre
  have hts : ∀ w ∈ lw_all, w.before _ s = true := fun w h => hts w (List.mem_cons_of_mem _ h)
  have hown : s.vm.findClass RX1 = some m.cls := findClass_of_methodNamed B.named
  have hlocks := B.notSynchronized
  subst hsz
  have hS : va_S A s.heap s.heap [] := va_S.rf
  have hE : entryFrame m args 12 = F0 m 0 ((lg_sl ([.ref (ad 0 0), .int a, .int b, .int c, .int d, .int f]) ++ List.replicate (12 - (lg_sl ([.ref (ad 0 0), .int a, .int b, .int c, .int d, .int f])).length) Slot.unset).toArray) [] := by rw [hargs]; exact lg_entry_eq m _ 12
  have hl := lv_entry ([.ref (ad 0 0), .int a, .int b, .int c, .int d, .int f]) (n := 12) (Nat.le_of_ble_eq_true rfl)
  rw [hE]
  clear hE
  generalize (lg_sl ([.ref (ad 0 0), .int a, .int b, .int c, .int d, .int f]) ++ List.replicate (12 - (lg_sl ([.ref (ad 0 0), .int a, .int b, .int c, .int d, .int f])).length) Slot.unset).toArray = ls at hl ⊢
  have hl : lv_has ls 12 [(0, .ref (ad 0 0)), (1, .int a), (2, .int b), (3, .int c), (4, .int d), (5, .int f)] := hl
  generalize hQ : MQ _ _ _ _ _ _ _ = Q
  refine lv_aload_n hx hb dX1_feed_0 rfl (lv_at hl 0 rfl) ?_
  refine ko_get (C := RX1) (T := TX1) (N := 28) (ci := 1) (v := .int (nI (N 33))) hx hb hts in_X1 hown hG.1 hH.o0 rfl 10 (by decide) q195 (fun _ h => h) (rfl) dX1_feed_1 ?_
  refine lv_bipush (v := nI 20) hx hb dX1_feed_4 (by decide) ?_
  refine kn_add hx hb dX1_feed_6 ?_
  refine lv_sipush (v := nI 300) hx hb dX1_feed_7 (by decide) ?_
  refine kn_cle (tgt := 15) hx hb dX1_feed_10 (by decide) (by omega) (by decide) (fun c_10 => ?_) (fun c_10 => ?_)
  · refine lv_iconst (v := nI 5) hx hb dX1_feed_15 (by decide) ?_
    have hz9 := hS.1
    refine ka_newi (D := D) (cl := CL) (atype := .int) hx hb hS (hts _ q135) rfl dX1_feed_16 (n := 5) (cA0 := dA 0) (hG.1.2 0 _ rfl).2 (by decide) (by decide) (Nat.le_of_ble_eq_true rfl) (Nat.le_of_ble_eq_true rfl) (fun H1 e16 z1 o1 hS => ?_)
    have fr_q16 : Fr ad N G X s.heap.size := Fr.of hH (Nat.le_refl _)
    have a_q16 : A s.heap.size := hA _ hz9
    have hH := hH.grow o1
    generalize s.heap.size = q16 at e16 z1 fr_q16 a_q16 ⊢
    clear hz9 o1 z1
    generalize H1 = H at e16 hH hS ⊢
    refine lv_dup hx hb dX1_feed_18 rfl ?_
    refine lv_iconst (v := nI 0) hx hb dX1_feed_19 (by decide) ?_
    refine lv_iload_n hx hb dX1_feed_20 rfl (lv_at hl 1 rfl) ?_
    refine ka_iast hx hb hG.1 hS a_q16 e16 0 rfl (show 0 < 5 from by omega) (by decide) dX1_feed_21 (fun H1 locs e16 z1 o1 hS => ?_)
    have hH := hH.kept (fun k i h => o1 _ (fr_q16.ne h))
    clear z1 o1
    generalize H1 = H at e16 hH hS ⊢
    refine lv_dup hx hb dX1_feed_22 rfl ?_
    refine lv_iconst (v := nI 1) hx hb dX1_feed_23 (by decide) ?_
    refine lv_iload_n hx hb dX1_feed_24 rfl (lv_at hl 2 rfl) ?_
    refine ka_iast hx hb hG.1 hS a_q16 e16 0 rfl (show 1 < 5 from by omega) (by decide) dX1_feed_25 (fun H1 locs e16 z1 o1 hS => ?_)
    have hH := hH.kept (fun k i h => o1 _ (fr_q16.ne h))
    clear z1 o1
    generalize H1 = H at e16 hH hS ⊢
    refine lv_dup hx hb dX1_feed_26 rfl ?_
    refine lv_iconst (v := nI 2) hx hb dX1_feed_27 (by decide) ?_
    refine lv_iload_n hx hb dX1_feed_28 rfl (lv_at hl 3 rfl) ?_
    refine ka_iast hx hb hG.1 hS a_q16 e16 0 rfl (show 2 < 5 from by omega) (by decide) dX1_feed_29 (fun H1 locs e16 z1 o1 hS => ?_)
    have hH := hH.kept (fun k i h => o1 _ (fr_q16.ne h))
    clear z1 o1
    generalize H1 = H at e16 hH hS ⊢
    refine lv_dup hx hb dX1_feed_30 rfl ?_
    refine lv_iconst (v := nI 3) hx hb dX1_feed_31 (by decide) ?_
    refine lv_iload hx hb dX1_feed_32 (lv_at hl 4 rfl) ?_
    refine ka_iast hx hb hG.1 hS a_q16 e16 0 rfl (show 3 < 5 from by omega) (by decide) dX1_feed_34 (fun H1 locs e16 z1 o1 hS => ?_)
    have hH := hH.kept (fun k i h => o1 _ (fr_q16.ne h))
    clear z1 o1
    generalize H1 = H at e16 hH hS ⊢
    refine lv_dup hx hb dX1_feed_35 rfl ?_
    refine lv_iconst (v := nI 4) hx hb dX1_feed_36 (by decide) ?_
    refine lv_iload hx hb dX1_feed_37 (lv_at hl 5 rfl) ?_
    refine ka_iast hx hb hG.1 hS a_q16 e16 0 rfl (show 4 < 5 from by omega) (by decide) dX1_feed_39 (fun H1 locs e16 z1 o1 hS => ?_)
    have hH := hH.kept (fun k i h => o1 _ (fr_q16.ne h))
    clear z1 o1
    generalize H1 = H at e16 hH hS ⊢
    refine lv_astore (lv' := [(6, .ref q16), (0, .ref (ad 0 0)), (1, .int a), (2, .int b), (3, .int c), (4, .int d), (5, .int f)]) hx hb dX1_feed_40 hl (by decide) rfl (fun ls hl => ?_)
    refine lv_aload hx hb dX1_feed_42 (lv_at hl 0 rfl) ?_
    refine lv_astore (lv' := [(7, .ref q16), (6, .ref q16), (0, .ref (ad 0 0)), (1, .int a), (2, .int b), (3, .int c), (4, .int d), (5, .int f)]) hx hb dX1_feed_44 hl (by decide) rfl (fun ls hl => ?_)
    refine lv_aload hx hb dX1_feed_46 (lv_at hl 0 rfl) ?_
    refine ka_alen hx hb hG.1 e16 0 rfl dX1_feed_48 ?_
    refine kx_int (y := nI 5) rfl ?_
    refine lv_istore (lv' := [(8, .int (nI 5)), (7, .ref q16), (6, .ref q16), (0, .ref (ad 0 0)), (1, .int a), (2, .int b), (3, .int c), (4, .int d), (5, .int f)]) hx hb dX1_feed_49 hl (by decide) rfl (fun ls hl => ?_)
    refine lv_iconst (v := nI 0) hx hb dX1_feed_51 (by decide) ?_
    refine lv_istore (lv' := [(9, .int (nI 0)), (8, .int (nI 5)), (7, .ref q16), (6, .ref q16), (0, .ref (ad 0 0)), (1, .int a), (2, .int b), (3, .int c), (4, .int d), (5, .int f)]) hx hb dX1_feed_52 hl (by decide) rfl (fun ls hl => ?_)
    have L54 : ∀ (nn54 : Nat) (i : Nat), (i ≤ 5) → 5 - i < nn54 → ∀ (H : Heap) (locs : List Loc), RH A D dA K ad X Y (up1 N 33 (N 33 + 4 * i)) I G (sj J 32 (N 33) (4 * i) (fdB a b c d f)) H → va_S A s.heap H locs → (va_at D CL (q16, .inl (dA 0, 5, .inl (upd (upd (upd (upd (upd (fun _ => 0) 0 a) 1 b) 2 c) 3 d) 4 f))) H) → ∀ (ls : Array Slot), lv_has ls 12 [(0, .ref (ad 0 0)), (7, .ref q16), (8, .int (nI 5)), (9, .int (nI i))] → W p lh e r_X1_feed s m args below meth cd H locs 1 5 Q (F0 m 54 ls []) := by
      intro nn54
      induction nn54 with
      | zero => intro i i54_0 hm54; exact absurd hm54 (Nat.not_lt_zero _)
      | succ nn54 ih54 =>
        intro i i54_0 hm54 H locs hH hS e16 ls hl
        refine lv_iload hx hb dX1_feed_54 (lv_at hl 3 rfl) ?_
        refine lv_iload hx hb dX1_feed_56 (lv_at hl 2 rfl) ?_
        refine kn_cge (tgt := 114) hx hb dX1_feed_58 (by decide) (by omega) (by decide) (fun c_58 => ?_) (fun c_58 => ?_)
        · refine lv_aload_n hx hb dX1_feed_114 rfl (lv_at hl 0 rfl) ?_
          refine ko_get (C := RX1) (T := TX1) (N := 28) (ci := 1) (v := .int (nI (N 33 + 4 * i))) hx hb hts in_X1 hown hG.1 hH.o0 rfl 10 (by decide) q195 (fun _ h => h) (by simp [fC, fH, up2, up3, up1]) dX1_feed_115 ?_
          subst hQ
          exact W.iret (v := nI (N 33 + 4 * i)) hx hb hrt (fun t ht hW => ⟨⟨_, (ad, X, Y, (up1 N 33 (N 33 + 4 * i)), I, G, (sj J 32 (N 33) (4 * i) (fdB a b c d f))), rfl, (by dsimp only; rw [if_pos (by simp; omega)]; have e5 : i = 5 := (by omega); subst e5; exact ⟨rfl, rfl⟩), by rw [ht]; exact hH, GK.warm hW hG⟩, hS.F ht⟩) hS.2.2 dX1_feed_118
        · refine lv_aload hx hb dX1_feed_61 (lv_at hl 1 rfl) ?_
          refine lv_iload hx hb dX1_feed_63 (lv_at hl 3 rfl) ?_
          refine ka_iald (v := fdA a b c d f i) hx hb hG.1 e16 0 rfl (show i < 5 from by omega) (by decide) (fd_arr (by omega)) dX1_feed_65 ?_
          refine lv_istore (lv' := [(10, .int (fdA a b c d f i)), (0, .ref (ad 0 0)), (7, .ref q16), (8, .int (nI 5)), (9, .int (nI i))]) hx hb dX1_feed_66 hl (by decide) rfl (fun ls hl => ?_)
          refine lv_bipush (v := nI 24) hx hb dX1_feed_68 (by decide) ?_
          refine lv_istore (lv' := [(11, .int (nI 24)), (10, .int (fdA a b c d f i)), (0, .ref (ad 0 0)), (7, .ref q16), (8, .int (nI 5)), (9, .int (nI i))]) hx hb dX1_feed_70 hl (by decide) rfl (fun ls hl => ?_)
          refine lv_iload hx hb dX1_feed_72 (lv_at hl 0 rfl) ?_
          refine kn_zlt hx hb dX1_feed_74 (tgt := 108) (by decide) (by omega) ?_
          refine lv_aload_n hx hb dX1_feed_77 rfl (lv_at hl 2 rfl) ?_
          refine ko_get (C := RX1) (T := TX1) (N := 28) (ci := 1) (v := .ref (ad 1 7)) hx hb hts in_X1 hown hG.1 hH.o0 rfl 7 (by decide) q192 (fun _ h => h) (rfl) dX1_feed_78 ?_
          refine lv_aload_n hx hb dX1_feed_81 rfl (lv_at hl 2 rfl) ?_
          refine ko_get (C := RX1) (T := TX1) (N := 28) (ci := 1) (v := .int (nI (N 33 + 4 * i))) hx hb hts in_X1 hown hG.1 hH.o0 rfl 10 (by decide) q195 (fun _ h => h) (by simp [fC, fH, up2, up3, up1]) dX1_feed_82 ?_
          refine lv_iload hx hb dX1_feed_85 (lv_at hl 1 rfl) ?_
          refine lv_iload hx hb dX1_feed_87 (lv_at hl 0 rfl) ?_
          refine lv_ishr hx hb dX1_feed_89 ?_
          refine lv_i2b (v := ((fdA a b c d f i) >>> ((nI 24) &&& 31)).toInt8.toInt32) hx hb dX1_feed_90 rfl ?_
          refine ka_bast hx hb hG.1 hS (hH.2.2 1 7 rfl) (hH.arr 7 rfl) 1 rfl (show N 33 + 4 * i < 300 from by omega) (by decide) dX1_feed_91 (fun H locs e1 z1 o1 hS => ?_)
          rw [show vp_nar .byte (((fdA a b c d f i) >>> ((nI 24) &&& 31)).toInt8.toInt32) = ((fdA a b c d f i) >>> ((nI 24) &&& 31)).toInt8.toInt32 from pk_vb _] at e1
          have hH := hH.h7 (j := N 33 + 4 * i) (v := ((fdA a b c d f i) >>> ((nI 24) &&& 31)).toInt8.toInt32) e1 o1
          have e16 := e16.kept (o1 _ (fr_q16.ne (show LH N G X 1 7 from rfl)).symm)
          clear e1 z1 o1
          have hfb : ((fdA a b c d f i) >>> ((nI 24) &&& 31)).toInt8.toInt32 = (fdB a b c d f) (4 * i + 0) := fdB_at (by decide) (by decide)
          have hH : RH A D dA K ad X Y (up1 N 33 (N 33 + (4 * i + 0))) I G (sj J 32 (N 33) (4 * i + 1) (fdB a b c d f)) H := by rw [← sj_s hfb]; exact hH
          refine lv_aload_n hx hb dX1_feed_92 rfl (lv_at hl 2 rfl) ?_
          refine lv_dup hx hb dX1_feed_93 rfl ?_
          refine ko_get (C := RX1) (T := TX1) (N := 28) (ci := 1) (v := .int (nI (N 33 + (4 * i + 0)))) hx hb hts in_X1 hown hG.1 hH.o0 rfl 10 (by decide) q195 (fun _ h => h) (by simp [fC, fH, up2, up3, up1]) dX1_feed_94 ?_
          refine lv_iconst (v := nI 1) hx hb dX1_feed_97 (by decide) ?_
          refine kn_add hx hb dX1_feed_98 ?_
          refine ko_put (C := RX1) (T := TX1) (N := 28) (ci := 1) hx hb hts in_X1 tyX1 tyX1_ok nmX1 hown hG.1 hS (hH.2.2 0 0 rfl) hH.o0 rfl 10 (by decide) q195 (fun _ h => h) rfl rfl rfl (Nat.le_of_ble_eq_true rfl) dX1_feed_99 (fun H locs e1 z1 o1 hS => ?_)
          have hH := hH.house (N1 := (up1 (up1 N 33 (N 33 + (4 * i + 0))) 33 (N 33 + (4 * i + 0) + 1))) (I1 := I) (Y1 := Y) e1 o1 rfl rfl rfl rfl (fun _ _ => rfl)
          have e16 := e16.kept (o1 _ (fr_q16.ne (show LH N G X 0 0 from rfl)).symm)
          clear e1 z1 o1
          refine lv_iinc (v := nI (24 - 8)) (lv' := [(11, .int (nI (24 - 8))), (10, .int (fdA a b c d f i)), (0, .ref (ad 0 0)), (7, .ref q16), (8, .int (nI 5)), (9, .int (nI i))]) hx hb dX1_feed_102 hl (k := 0) rfl (nI_dec 8 (by omega)) (by decide) rfl (fun ls hl => ?_)
          refine lv_goto (tgt := 72) hx hb dX1_feed_105 (by decide) ?_
          refine lv_iload hx hb dX1_feed_72 (lv_at hl 0 rfl) ?_
          refine kn_zlt hx hb dX1_feed_74 (tgt := 108) (by decide) (by omega) ?_
          refine lv_aload_n hx hb dX1_feed_77 rfl (lv_at hl 2 rfl) ?_
          refine ko_get (C := RX1) (T := TX1) (N := 28) (ci := 1) (v := .ref (ad 1 7)) hx hb hts in_X1 hown hG.1 hH.o0 rfl 7 (by decide) q192 (fun _ h => h) (rfl) dX1_feed_78 ?_
          refine lv_aload_n hx hb dX1_feed_81 rfl (lv_at hl 2 rfl) ?_
          refine ko_get (C := RX1) (T := TX1) (N := 28) (ci := 1) (v := .int (nI (N 33 + (4 * i + 0) + 1))) hx hb hts in_X1 hown hG.1 hH.o0 rfl 10 (by decide) q195 (fun _ h => h) (by simp [fC, fH, up2, up3, up1]) dX1_feed_82 ?_
          refine lv_iload hx hb dX1_feed_85 (lv_at hl 1 rfl) ?_
          refine lv_iload hx hb dX1_feed_87 (lv_at hl 0 rfl) ?_
          refine lv_ishr hx hb dX1_feed_89 ?_
          refine lv_i2b (v := ((fdA a b c d f i) >>> ((nI (24 - 8)) &&& 31)).toInt8.toInt32) hx hb dX1_feed_90 rfl ?_
          refine ka_bast hx hb hG.1 hS (hH.2.2 1 7 rfl) (hH.arr 7 rfl) 1 rfl (show N 33 + (4 * i + 0) + 1 < 300 from by omega) (by decide) dX1_feed_91 (fun H locs e1 z1 o1 hS => ?_)
          rw [show vp_nar .byte (((fdA a b c d f i) >>> ((nI (24 - 8)) &&& 31)).toInt8.toInt32) = ((fdA a b c d f i) >>> ((nI (24 - 8)) &&& 31)).toInt8.toInt32 from pk_vb _] at e1
          have hH := hH.h7 (j := N 33 + (4 * i + 0) + 1) (v := ((fdA a b c d f i) >>> ((nI (24 - 8)) &&& 31)).toInt8.toInt32) e1 o1
          have e16 := e16.kept (o1 _ (fr_q16.ne (show LH N G X 1 7 from rfl)).symm)
          clear e1 z1 o1
          have hfb : ((fdA a b c d f i) >>> ((nI (24 - 8)) &&& 31)).toInt8.toInt32 = (fdB a b c d f) (4 * i + 1) := fdB_at (by decide) (by decide)
          have hH : RH A D dA K ad X Y (up1 N 33 (N 33 + (4 * i + 1))) I G (sj J 32 (N 33) (4 * i + 2) (fdB a b c d f)) H := by rw [← sj_s hfb]; exact hH
          refine lv_aload_n hx hb dX1_feed_92 rfl (lv_at hl 2 rfl) ?_
          refine lv_dup hx hb dX1_feed_93 rfl ?_
          refine ko_get (C := RX1) (T := TX1) (N := 28) (ci := 1) (v := .int (nI (N 33 + (4 * i + 1)))) hx hb hts in_X1 hown hG.1 hH.o0 rfl 10 (by decide) q195 (fun _ h => h) (by simp [fC, fH, up2, up3, up1]) dX1_feed_94 ?_
          refine lv_iconst (v := nI 1) hx hb dX1_feed_97 (by decide) ?_
          refine kn_add hx hb dX1_feed_98 ?_
          refine ko_put (C := RX1) (T := TX1) (N := 28) (ci := 1) hx hb hts in_X1 tyX1 tyX1_ok nmX1 hown hG.1 hS (hH.2.2 0 0 rfl) hH.o0 rfl 10 (by decide) q195 (fun _ h => h) rfl rfl rfl (Nat.le_of_ble_eq_true rfl) dX1_feed_99 (fun H locs e1 z1 o1 hS => ?_)
          have hH := hH.house (N1 := (up1 (up1 N 33 (N 33 + (4 * i + 1))) 33 (N 33 + (4 * i + 1) + 1))) (I1 := I) (Y1 := Y) e1 o1 rfl rfl rfl rfl (fun _ _ => rfl)
          have e16 := e16.kept (o1 _ (fr_q16.ne (show LH N G X 0 0 from rfl)).symm)
          clear e1 z1 o1
          refine lv_iinc (v := nI (24 - 8 - 8)) (lv' := [(11, .int (nI (24 - 8 - 8))), (10, .int (fdA a b c d f i)), (0, .ref (ad 0 0)), (7, .ref q16), (8, .int (nI 5)), (9, .int (nI i))]) hx hb dX1_feed_102 hl (k := 0) rfl (nI_dec 8 (by omega)) (by decide) rfl (fun ls hl => ?_)
          refine lv_goto (tgt := 72) hx hb dX1_feed_105 (by decide) ?_
          refine lv_iload hx hb dX1_feed_72 (lv_at hl 0 rfl) ?_
          refine kn_zlt hx hb dX1_feed_74 (tgt := 108) (by decide) (by omega) ?_
          refine lv_aload_n hx hb dX1_feed_77 rfl (lv_at hl 2 rfl) ?_
          refine ko_get (C := RX1) (T := TX1) (N := 28) (ci := 1) (v := .ref (ad 1 7)) hx hb hts in_X1 hown hG.1 hH.o0 rfl 7 (by decide) q192 (fun _ h => h) (rfl) dX1_feed_78 ?_
          refine lv_aload_n hx hb dX1_feed_81 rfl (lv_at hl 2 rfl) ?_
          refine ko_get (C := RX1) (T := TX1) (N := 28) (ci := 1) (v := .int (nI (N 33 + (4 * i + 1) + 1))) hx hb hts in_X1 hown hG.1 hH.o0 rfl 10 (by decide) q195 (fun _ h => h) (by simp [fC, fH, up2, up3, up1]) dX1_feed_82 ?_
          refine lv_iload hx hb dX1_feed_85 (lv_at hl 1 rfl) ?_
          refine lv_iload hx hb dX1_feed_87 (lv_at hl 0 rfl) ?_
          refine lv_ishr hx hb dX1_feed_89 ?_
          refine lv_i2b (v := ((fdA a b c d f i) >>> ((nI (24 - 8 - 8)) &&& 31)).toInt8.toInt32) hx hb dX1_feed_90 rfl ?_
          refine ka_bast hx hb hG.1 hS (hH.2.2 1 7 rfl) (hH.arr 7 rfl) 1 rfl (show N 33 + (4 * i + 1) + 1 < 300 from by omega) (by decide) dX1_feed_91 (fun H locs e1 z1 o1 hS => ?_)
          rw [show vp_nar .byte (((fdA a b c d f i) >>> ((nI (24 - 8 - 8)) &&& 31)).toInt8.toInt32) = ((fdA a b c d f i) >>> ((nI (24 - 8 - 8)) &&& 31)).toInt8.toInt32 from pk_vb _] at e1
          have hH := hH.h7 (j := N 33 + (4 * i + 1) + 1) (v := ((fdA a b c d f i) >>> ((nI (24 - 8 - 8)) &&& 31)).toInt8.toInt32) e1 o1
          have e16 := e16.kept (o1 _ (fr_q16.ne (show LH N G X 1 7 from rfl)).symm)
          clear e1 z1 o1
          have hfb : ((fdA a b c d f i) >>> ((nI (24 - 8 - 8)) &&& 31)).toInt8.toInt32 = (fdB a b c d f) (4 * i + 2) := fdB_at (by decide) (by decide)
          have hH : RH A D dA K ad X Y (up1 N 33 (N 33 + (4 * i + 2))) I G (sj J 32 (N 33) (4 * i + 3) (fdB a b c d f)) H := by rw [← sj_s hfb]; exact hH
          refine lv_aload_n hx hb dX1_feed_92 rfl (lv_at hl 2 rfl) ?_
          refine lv_dup hx hb dX1_feed_93 rfl ?_
          refine ko_get (C := RX1) (T := TX1) (N := 28) (ci := 1) (v := .int (nI (N 33 + (4 * i + 2)))) hx hb hts in_X1 hown hG.1 hH.o0 rfl 10 (by decide) q195 (fun _ h => h) (by simp [fC, fH, up2, up3, up1]) dX1_feed_94 ?_
          refine lv_iconst (v := nI 1) hx hb dX1_feed_97 (by decide) ?_
          refine kn_add hx hb dX1_feed_98 ?_
          refine ko_put (C := RX1) (T := TX1) (N := 28) (ci := 1) hx hb hts in_X1 tyX1 tyX1_ok nmX1 hown hG.1 hS (hH.2.2 0 0 rfl) hH.o0 rfl 10 (by decide) q195 (fun _ h => h) rfl rfl rfl (Nat.le_of_ble_eq_true rfl) dX1_feed_99 (fun H locs e1 z1 o1 hS => ?_)
          have hH := hH.house (N1 := (up1 (up1 N 33 (N 33 + (4 * i + 2))) 33 (N 33 + (4 * i + 2) + 1))) (I1 := I) (Y1 := Y) e1 o1 rfl rfl rfl rfl (fun _ _ => rfl)
          have e16 := e16.kept (o1 _ (fr_q16.ne (show LH N G X 0 0 from rfl)).symm)
          clear e1 z1 o1
          refine lv_iinc (v := nI (24 - 8 - 8 - 8)) (lv' := [(11, .int (nI (24 - 8 - 8 - 8))), (10, .int (fdA a b c d f i)), (0, .ref (ad 0 0)), (7, .ref q16), (8, .int (nI 5)), (9, .int (nI i))]) hx hb dX1_feed_102 hl (k := 0) rfl (nI_dec 8 (by omega)) (by decide) rfl (fun ls hl => ?_)
          refine lv_goto (tgt := 72) hx hb dX1_feed_105 (by decide) ?_
          refine lv_iload hx hb dX1_feed_72 (lv_at hl 0 rfl) ?_
          refine kn_zlt hx hb dX1_feed_74 (tgt := 108) (by decide) (by omega) ?_
          refine lv_aload_n hx hb dX1_feed_77 rfl (lv_at hl 2 rfl) ?_
          refine ko_get (C := RX1) (T := TX1) (N := 28) (ci := 1) (v := .ref (ad 1 7)) hx hb hts in_X1 hown hG.1 hH.o0 rfl 7 (by decide) q192 (fun _ h => h) (rfl) dX1_feed_78 ?_
          refine lv_aload_n hx hb dX1_feed_81 rfl (lv_at hl 2 rfl) ?_
          refine ko_get (C := RX1) (T := TX1) (N := 28) (ci := 1) (v := .int (nI (N 33 + (4 * i + 2) + 1))) hx hb hts in_X1 hown hG.1 hH.o0 rfl 10 (by decide) q195 (fun _ h => h) (by simp [fC, fH, up2, up3, up1]) dX1_feed_82 ?_
          refine lv_iload hx hb dX1_feed_85 (lv_at hl 1 rfl) ?_
          refine lv_iload hx hb dX1_feed_87 (lv_at hl 0 rfl) ?_
          refine lv_ishr hx hb dX1_feed_89 ?_
          refine lv_i2b (v := ((fdA a b c d f i) >>> ((nI (24 - 8 - 8 - 8)) &&& 31)).toInt8.toInt32) hx hb dX1_feed_90 rfl ?_
          refine ka_bast hx hb hG.1 hS (hH.2.2 1 7 rfl) (hH.arr 7 rfl) 1 rfl (show N 33 + (4 * i + 2) + 1 < 300 from by omega) (by decide) dX1_feed_91 (fun H locs e1 z1 o1 hS => ?_)
          rw [show vp_nar .byte (((fdA a b c d f i) >>> ((nI (24 - 8 - 8 - 8)) &&& 31)).toInt8.toInt32) = ((fdA a b c d f i) >>> ((nI (24 - 8 - 8 - 8)) &&& 31)).toInt8.toInt32 from pk_vb _] at e1
          have hH := hH.h7 (j := N 33 + (4 * i + 2) + 1) (v := ((fdA a b c d f i) >>> ((nI (24 - 8 - 8 - 8)) &&& 31)).toInt8.toInt32) e1 o1
          have e16 := e16.kept (o1 _ (fr_q16.ne (show LH N G X 1 7 from rfl)).symm)
          clear e1 z1 o1
          have hfb : ((fdA a b c d f i) >>> ((nI (24 - 8 - 8 - 8)) &&& 31)).toInt8.toInt32 = (fdB a b c d f) (4 * i + 3) := fdB_at (by decide) (by decide)
          have hH : RH A D dA K ad X Y (up1 N 33 (N 33 + (4 * i + 3))) I G (sj J 32 (N 33) (4 * i + 4) (fdB a b c d f)) H := by rw [← sj_s hfb]; exact hH
          refine lv_aload_n hx hb dX1_feed_92 rfl (lv_at hl 2 rfl) ?_
          refine lv_dup hx hb dX1_feed_93 rfl ?_
          refine ko_get (C := RX1) (T := TX1) (N := 28) (ci := 1) (v := .int (nI (N 33 + (4 * i + 3)))) hx hb hts in_X1 hown hG.1 hH.o0 rfl 10 (by decide) q195 (fun _ h => h) (by simp [fC, fH, up2, up3, up1]) dX1_feed_94 ?_
          refine lv_iconst (v := nI 1) hx hb dX1_feed_97 (by decide) ?_
          refine kn_add hx hb dX1_feed_98 ?_
          refine ko_put (C := RX1) (T := TX1) (N := 28) (ci := 1) hx hb hts in_X1 tyX1 tyX1_ok nmX1 hown hG.1 hS (hH.2.2 0 0 rfl) hH.o0 rfl 10 (by decide) q195 (fun _ h => h) rfl rfl rfl (Nat.le_of_ble_eq_true rfl) dX1_feed_99 (fun H locs e1 z1 o1 hS => ?_)
          have hH := hH.house (N1 := (up1 (up1 N 33 (N 33 + (4 * i + 3))) 33 (N 33 + (4 * i + 3) + 1))) (I1 := I) (Y1 := Y) e1 o1 rfl rfl rfl rfl (fun _ _ => rfl)
          have e16 := e16.kept (o1 _ (fr_q16.ne (show LH N G X 0 0 from rfl)).symm)
          clear e1 z1 o1
          refine lv_iinc (v := nI (24 - 8 - 8 - 8) + (-8)) (lv' := [(11, .int (nI (24 - 8 - 8 - 8) + (-8))), (10, .int (fdA a b c d f i)), (0, .ref (ad 0 0)), (7, .ref q16), (8, .int (nI 5)), (9, .int (nI i))]) hx hb dX1_feed_102 hl (k := 0) rfl (rfl) (by decide) rfl (fun ls hl => ?_)
          refine lv_goto (tgt := 72) hx hb dX1_feed_105 (by decide) ?_
          refine lv_iload hx hb dX1_feed_72 (lv_at hl 0 rfl) ?_
          refine lv_if_lt (tgt := 108) hx hb dX1_feed_74 (by decide) (fun c_74 => ?_) (fun c_74 => ?_)
          · refine lv_iinc (v := nI (i + 1)) (lv' := [(9, .int (nI (i + 1))), (11, .int (nI (24 - 8 - 8 - 8) + (-8))), (10, .int (fdA a b c d f i)), (0, .ref (ad 0 0)), (7, .ref q16), (8, .int (nI 5))]) hx hb dX1_feed_108 hl (k := 5) rfl (show nI i + Int32.ofInt 1 = nI (i + 1) from nI_add _ 1) (by decide) rfl (fun ls hl => ?_)
            refine lv_goto (tgt := 54) hx hb dX1_feed_111 (by decide) ?_
            exact ih54 (i + 1) (by omega) (by omega) _ _ (by rw [show 4 * (i + 1) = 4 * i + 4 by omega]; exact hH) hS e16 _ (lv_sub hl [3, 4, 5, 0] rfl)
          · exact absurd (by decide) c_74
    exact L54 _ 0 (by omega) (Nat.lt_succ_self _) _ _ (by rw [sj_0]; exact hH) hS e16 _ (lv_sub hl [4, 2, 1, 0] rfl)
  · refine lv_iconst (v := -1) hx hb dX1_feed_13 (by decide) ?_
    subst hQ
    refine W.widen (k := 1) (n := 5) (by first | decide | omega) (by first | decide | omega) ?_
    exact W.iret (v := (-1)) hx hb hrt (fun t ht hW => ⟨⟨_, (ad, X, Y, N, I, G, J), rfl, (by dsimp only; rw [if_neg (by simp; omega)]; exact ⟨rfl, rfl⟩), by rw [ht]; exact hH, GK.warm hW hG⟩, hS.F ht⟩) hS.2.2 dX1_feed_14
theorem w_X1_feed {R : Room} {s : State} {args : Array Value} {own : String} {idx : Nat} (hts : ∀ w ∈ lw_all, w.before args s = true) (h1 : Cond.methodLink own idx yX1_feed ∈ lw_all) {rm : Room} {mc ms : Nat} (hrc : rm.cells = mc) (hrs : rm.slots = ms) (hR : rm.frames + 1 ≤ R.frames ∧ 8 + (12 + 11) + rm.locals ≤ R.locals) : CallW R s args own RX1 idx yX1_feed cX1_feed 12 (some .int) (ws_ yX1_feed cX1_feed 12 (some .int)) rm mc ms 5 := cwV 5 hts (lw_V h1 q600 q601 q62 q602) rfl hrc hrs (by decide +kernel) hR
