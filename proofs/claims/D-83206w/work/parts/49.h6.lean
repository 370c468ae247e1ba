set_option maxRecDepth 100000
theorem w_X1_tries {R : Room} {s : State} {args : Array Value} {own : String} {idx : Nat} (hts : ∀ w ∈ lw_all, w.before args s = true) (h1 : Cond.methodLink own idx yX1_tries ∈ lw_all) {rm : Room} {mc ms : Nat} (hrc : rm.cells = mc) (hrs : rm.slots = ms) (hR : rm.frames + 1 ≤ R.frames ∧ 8 + (6 + 11) + rm.locals ≤ R.locals) : CallW R s args own RX1 idx yX1_tries cX1_tries 6 none (ws_ yX1_tries cX1_tries 6 none) rm mc ms 4 := cwV 4 hts (lw_V h1 q1212 qs29 q62 q1213) rfl hrc hrs (by decide +kernel) hR

set_option maxHeartbeats 1000000 in
theorem c_X1_tries0 (lh : Launch) (A : Nat → Prop) (D : va_G) (dA : Nat → ClassId) (K : Nat → Nat) (ad X : Nat → Nat → Nat) (Y : Nat → Nat → Nat → Int32) (N : Nat → Nat) (I : Nat → Int32) (G : Nat → Nat → Nat) (J : Nat → Nat → Int32) (sz : Nat) (o : Nat) (u : Int32) (sm : Nat) (al : Nat) (mm : Nat → Nat) (bh : Nat → Nat) (x : TrT) (h1 : N 44 = o) (h2 : o ≤ 6) (hA : ∀ q, sz ≤ q → A q) : Met lh yX1_tries (ws_ yX1_tries cX1_tries 6 none) (r_tr 0) (PX (fun U H => H.size = sz ∧ RH A D dA K ad X (trY Y x) N I G J H ∧ GK D dA U) [.ref (ad 0 0), .int (nI o), .int u, .int (nI sm), .int (nI al)]) (va_Qv (fun u' : HgT => u' = (ad, X, trY Y (trP mm bh N G 0 o u sm al x), N, I, G, J)) (BmH A D dA K) A) 0 0 A := by
  refine Met.ofW (cc := cX1_tries) (maxL := 6) (ret := none) (by decide) rfl ?_
  intro p e s m args below meth cd s₁ B hml hv
  obtain ⟨hargs, hsz, hH, hG⟩ := hv
  have hx := B.exec
  have hb := B.bytes
  have hrt := B.returns
  have hts := atoms_spec (ws := (ws_ yX1_tries cX1_tries 6 none)) B.pre
  have hts : ∀ w ∈ lw_all, w.before _ s = true := fun w h => hts w (List.mem_cons_of_mem _ h)
  have hown : s.vm.findClass RX1 = some m.cls := findClass_of_methodNamed B.named
  have hlocks := B.notSynchronized
  subst hsz
  have hS : va_S A s.heap s.heap [] := va_S.rf
  have hE : entryFrame m args 6 = F0 m 0 ((lg_sl ([.ref (ad 0 0), .int (nI o), .int u, .int (nI sm), .int (nI al)]) ++ List.replicate (6 - (lg_sl ([.ref (ad 0 0), .int (nI o), .int u, .int (nI sm), .int (nI al)])).length) Slot.unset).toArray) [] := by rw [hargs]; exact lg_entry_eq m _ 6
  have hl := lv_entry ([.ref (ad 0 0), .int (nI o), .int u, .int (nI sm), .int (nI al)]) (n := 6) (Nat.le_of_ble_eq_true rfl)
  rw [hE]
  clear hE
  generalize (lg_sl ([.ref (ad 0 0), .int (nI o), .int u, .int (nI sm), .int (nI al)]) ++ List.replicate (6 - (lg_sl ([.ref (ad 0 0), .int (nI o), .int u, .int (nI sm), .int (nI al)])).length) Slot.unset).toArray = ls at hl ⊢
  have hl : lv_has ls 6 [(0, .ref (ad 0 0)), (1, .int (nI o)), (2, .int u), (3, .int (nI sm)), (4, .int (nI al))] := hl
  generalize hQ : MQ _ _ _ _ _ _ _ = Q
  refine lv_iload_n hx hb dX1_tries_0 rfl (lv_at hl 1 rfl) ?_
  refine lv_aload_n hx hb dX1_tries_1 rfl (lv_at hl 0 rfl) ?_
  refine ko_get (C := RX1) (T := TX1) (N := 28) (ci := 1) (v := .int (nI (N 44))) hx hb hts in_X1 hown hG.1 hH.o0 rfl 25 (by decide) q210 (fun _ h => h) (rfl) dX1_tries_2 ?_
  refine kn_cne (tgt := 78) hx hb dX1_tries_5 (by decide) (by omega) (by omega) (fun c_5 => ?_) (fun c_5 => ?_)
  · exact absurd h1.symm c_5
  · refine lv_iload_n hx hb dX1_tries_8 rfl (lv_at hl 3 rfl) ?_
    refine lv_aload_n hx hb dX1_tries_9 rfl (lv_at hl 0 rfl) ?_
    refine ko_get (C := RX1) (T := TX1) (N := 28) (ci := 1) (v := .int ((trY Y x) 12 0 0)) hx hb hts in_X1 hown hG.1 hH.o0 rfl 26 (by decide) q211 (fun _ h => h) (rfl) dX1_tries_10 ?_
    refine lv_icmp_lt (tgt := 33) hx hb dX1_tries_13 (by decide) (fun c_13 => ?_) (fun c_13 => ?_)
    · subst hQ
      exact W.vret hx hb hrt (fun t ht hW => ⟨⟨(ad, X, (trY Y x), N, I, G, J), rfl, (by rw [show trP mm bh N G 0 o u sm al x = x from if_pos (Or.inl c_13)]), by rw [ht]; exact hH, GK.warm hW hG⟩, hS.F ht⟩) hS.2.2 dX1_tries_33
    · refine lv_iload_n hx hb dX1_tries_16 rfl (lv_at hl 3 rfl) ?_
      refine lv_aload_n hx hb dX1_tries_17 rfl (lv_at hl 0 rfl) ?_
      refine ko_get (C := RX1) (T := TX1) (N := 28) (ci := 1) (v := .int ((trY Y x) 12 0 0)) hx hb hts in_X1 hown hG.1 hH.o0 rfl 26 (by decide) q211 (fun _ h => h) (rfl) dX1_tries_18 ?_
      refine lv_icmp_ne (tgt := 34) hx hb dX1_tries_21 (by decide) (fun c_21 => ?_) (fun c_21 => ?_)
      · refine lv_aload_n hx hb dX1_tries_34 rfl (lv_at hl 0 rfl) ?_
        refine lv_iload_n hx hb dX1_tries_35 rfl (lv_at hl 3 rfl) ?_
        refine ko_put (C := RX1) (T := TX1) (N := 28) (ci := 1) hx hb hts in_X1 tyX1 tyX1_ok nmX1 hown hG.1 hS (hH.2.2 0 0 rfl) hH.o0 rfl 26 (by decide) q211 (fun _ h => h) rfl rfl rfl (Nat.le_of_ble_eq_true rfl) dX1_tries_36 (fun H locs e1 z1 o1 hS => ?_)
        have hH := hH.house (N1 := N) (I1 := I) (Y1 := (up3 (trY Y x) 12 0 0 (nI sm))) e1 o1 rfl rfl rfl rfl (fun _ h => up3_o h)
        clear e1 z1 o1
        refine lv_aload_n hx hb dX1_tries_39 rfl (lv_at hl 0 rfl) ?_
        refine lv_iload hx hb dX1_tries_40 (lv_at hl 4 rfl) ?_
        refine ko_put (C := RX1) (T := TX1) (N := 28) (ci := 1) hx hb hts in_X1 tyX1 tyX1_ok nmX1 hown hG.1 hS (hH.2.2 0 0 rfl) hH.o0 rfl 27 (by decide) q212 (fun _ h => h) rfl rfl rfl (Nat.le_of_ble_eq_true rfl) dX1_tries_42 (fun H locs e1 z1 o1 hS => ?_)
        have hH := hH.house (N1 := N) (I1 := I) (Y1 := (up3 (up3 (trY Y x) 12 0 0 (nI sm)) 12 0 1 (nI al))) e1 o1 rfl rfl rfl rfl (fun _ h => up3_o h)
        clear e1 z1 o1
        refine lv_iconst (v := nI 0) hx hb dX1_tries_45 (by decide) ?_
        refine lv_istore (lv' := [(5, .int (nI 0)), (0, .ref (ad 0 0)), (1, .int (nI o)), (2, .int u), (3, .int (nI sm)), (4, .int (nI al))]) hx hb dX1_tries_46 hl (by decide) rfl (fun ls hl => ?_)
        have L48 : ∀ (nn48 : Nat) (k : Nat), (k ≤ N 44) → N 44 - k < nn48 → ∀ (H : Heap) (locs : List Loc), RH A D dA K ad X (trY Y (x.1, cpT x.1 x.2.1 k, nI sm, nI al)) N I G J H → va_S A s.heap H locs → ∀ (ls : Array Slot), lv_has ls 6 [(0, .ref (ad 0 0)), (5, .int (nI k))] → W p lh e (r_tr 0) s m args below meth cd H locs 0 0 Q (F0 m 48 ls []) := by
          intro nn48
          induction nn48 with
          | zero => intro k i48_0 hm48; exact absurd hm48 (Nat.not_lt_zero _)
          | succ nn48 ih48 =>
            intro k i48_0 hm48 H locs hH hS ls hl
            refine lv_iload hx hb dX1_tries_48 (lv_at hl 1 rfl) ?_
            refine lv_aload_n hx hb dX1_tries_50 rfl (lv_at hl 0 rfl) ?_
            refine ko_get (C := RX1) (T := TX1) (N := 28) (ci := 1) (v := .int (nI (N 44))) hx hb hts in_X1 hown hG.1 hH.o0 rfl 25 (by decide) q210 (fun _ h => h) (rfl) dX1_tries_51 ?_
            refine kn_cge (tgt := 77) hx hb dX1_tries_54 (by decide) (by omega) (by omega) (fun c_54 => ?_) (fun c_54 => ?_)
            · subst hQ
              exact W.vret hx hb hrt (fun t ht hW => ⟨⟨(ad, X, (trY Y (x.1, cpT x.1 x.2.1 k, nI sm, nI al)), N, I, G, J), rfl, (by rw [show trP mm bh N G 0 o u sm al x = (x.1, cpT x.1 x.2.1 (N 44), nI sm, nI al) from if_neg (fun q => q.elim (fun q => c_13 q) (fun q => c_21 q.1)), show N 44 = k by omega]), by rw [ht]; exact hH, GK.warm hW hG⟩, hS.F ht⟩) hS.2.2 dX1_tries_77
            · refine lv_aload_n hx hb dX1_tries_57 rfl (lv_at hl 0 rfl) ?_
              refine ko_get (C := RX1) (T := TX1) (N := 28) (ci := 1) (v := .ref (ad 1 21)) hx hb hts in_X1 hown hG.1 hH.o0 rfl 21 (by decide) q206 (fun _ h => h) (rfl) dX1_tries_58 ?_
              refine lv_iload hx hb dX1_tries_61 (lv_at hl 1 rfl) ?_
              refine lv_aload_n hx hb dX1_tries_63 rfl (lv_at hl 0 rfl) ?_
              refine ko_get (C := RX1) (T := TX1) (N := 28) (ci := 1) (v := .ref (ad 1 20)) hx hb hts in_X1 hown hG.1 hH.o0 rfl 20 (by decide) q205 (fun _ h => h) (rfl) dX1_tries_64 ?_
              refine lv_iload hx hb dX1_tries_67 (lv_at hl 1 rfl) ?_
              refine ka_iald (v := (trY Y (x.1, cpT x.1 x.2.1 k, nI sm, nI al)) 8 0 k) hx hb hG.1 (hH.arr 20 rfl) 0 rfl (show k < 6 from by omega) (by decide) (rfl) dX1_tries_69 ?_
              refine ka_iast hx hb hG.1 hS (hH.2.2 1 21 rfl) (hH.arr 21 rfl) 0 rfl (show k < 6 from by omega) (by decide) dX1_tries_70 (fun H locs e1 z1 o1 hS => ?_)
              have hH := hH.h21 (j := k) (v := (trY Y (x.1, cpT x.1 x.2.1 k, nI sm, nI al)) 8 0 k) e1 o1
              clear e1 z1 o1
              refine lv_iinc (v := nI (k + 1)) (lv' := [(5, .int (nI (k + 1))), (0, .ref (ad 0 0))]) hx hb dX1_tries_71 hl (k := 1) rfl (show nI k + Int32.ofInt 1 = nI (k + 1) from nI_add _ 1) (by decide) rfl (fun ls hl => ?_)
              refine lv_goto (tgt := 48) hx hb dX1_tries_74 (by decide) ?_
              exact ih48 (k + 1) (by omega) (by omega) _ _ (by rw [← trY_cp]; exact hH) hS _ (lv_sub hl [1, 0] rfl)
        exact L48 _ 0 (by omega) (Nat.lt_succ_self _) _ _ (by rw [cpT_0, ← trY_up]; exact hH) hS _ (lv_sub hl [1, 0] rfl)
      · refine lv_iload hx hb dX1_tries_24 (lv_at hl 4 rfl) ?_
        refine lv_aload_n hx hb dX1_tries_26 rfl (lv_at hl 0 rfl) ?_
        refine ko_get (C := RX1) (T := TX1) (N := 28) (ci := 1) (v := .int ((trY Y x) 12 0 1)) hx hb hts in_X1 hown hG.1 hH.o0 rfl 27 (by decide) q212 (fun _ h => h) (rfl) dX1_tries_27 ?_
        refine lv_icmp_lt (tgt := 34) hx hb dX1_tries_30 (by decide) (fun c_30 => ?_) (fun c_30 => ?_)
        · refine lv_aload_n hx hb dX1_tries_34 rfl (lv_at hl 0 rfl) ?_
          refine lv_iload_n hx hb dX1_tries_35 rfl (lv_at hl 3 rfl) ?_
          refine ko_put (C := RX1) (T := TX1) (N := 28) (ci := 1) hx hb hts in_X1 tyX1 tyX1_ok nmX1 hown hG.1 hS (hH.2.2 0 0 rfl) hH.o0 rfl 26 (by decide) q211 (fun _ h => h) rfl rfl rfl (Nat.le_of_ble_eq_true rfl) dX1_tries_36 (fun H locs e1 z1 o1 hS => ?_)
          have hH := hH.house (N1 := N) (I1 := I) (Y1 := (up3 (trY Y x) 12 0 0 (nI sm))) e1 o1 rfl rfl rfl rfl (fun _ h => up3_o h)
          clear e1 z1 o1
          refine lv_aload_n hx hb dX1_tries_39 rfl (lv_at hl 0 rfl) ?_
          refine lv_iload hx hb dX1_tries_40 (lv_at hl 4 rfl) ?_
          refine ko_put (C := RX1) (T := TX1) (N := 28) (ci := 1) hx hb hts in_X1 tyX1 tyX1_ok nmX1 hown hG.1 hS (hH.2.2 0 0 rfl) hH.o0 rfl 27 (by decide) q212 (fun _ h => h) rfl rfl rfl (Nat.le_of_ble_eq_true rfl) dX1_tries_42 (fun H locs e1 z1 o1 hS => ?_)
          have hH := hH.house (N1 := N) (I1 := I) (Y1 := (up3 (up3 (trY Y x) 12 0 0 (nI sm)) 12 0 1 (nI al))) e1 o1 rfl rfl rfl rfl (fun _ h => up3_o h)
          clear e1 z1 o1
          refine lv_iconst (v := nI 0) hx hb dX1_tries_45 (by decide) ?_
          refine lv_istore (lv' := [(5, .int (nI 0)), (0, .ref (ad 0 0)), (1, .int (nI o)), (2, .int u), (3, .int (nI sm)), (4, .int (nI al))]) hx hb dX1_tries_46 hl (by decide) rfl (fun ls hl => ?_)
          have L48 : ∀ (nn48 : Nat) (k : Nat), (k ≤ N 44) → N 44 - k < nn48 → ∀ (H : Heap) (locs : List Loc), RH A D dA K ad X (trY Y (x.1, cpT x.1 x.2.1 k, nI sm, nI al)) N I G J H → va_S A s.heap H locs → ∀ (ls : Array Slot), lv_has ls 6 [(0, .ref (ad 0 0)), (5, .int (nI k))] → W p lh e (r_tr 0) s m args below meth cd H locs 0 0 Q (F0 m 48 ls []) := by
            intro nn48
            induction nn48 with
            | zero => intro k i48_0 hm48; exact absurd hm48 (Nat.not_lt_zero _)
            | succ nn48 ih48 =>
              intro k i48_0 hm48 H locs hH hS ls hl
              refine lv_iload hx hb dX1_tries_48 (lv_at hl 1 rfl) ?_
              refine lv_aload_n hx hb dX1_tries_50 rfl (lv_at hl 0 rfl) ?_
              refine ko_get (C := RX1) (T := TX1) (N := 28) (ci := 1) (v := .int (nI (N 44))) hx hb hts in_X1 hown hG.1 hH.o0 rfl 25 (by decide) q210 (fun _ h => h) (rfl) dX1_tries_51 ?_
              refine kn_cge (tgt := 77) hx hb dX1_tries_54 (by decide) (by omega) (by omega) (fun c_54 => ?_) (fun c_54 => ?_)
              · subst hQ
                exact W.vret hx hb hrt (fun t ht hW => ⟨⟨(ad, X, (trY Y (x.1, cpT x.1 x.2.1 k, nI sm, nI al)), N, I, G, J), rfl, (by rw [show trP mm bh N G 0 o u sm al x = (x.1, cpT x.1 x.2.1 (N 44), nI sm, nI al) from if_neg (fun q => q.elim (fun q => c_13 q) (fun q => q.2 c_30)), show N 44 = k by omega]), by rw [ht]; exact hH, GK.warm hW hG⟩, hS.F ht⟩) hS.2.2 dX1_tries_77
              · refine lv_aload_n hx hb dX1_tries_57 rfl (lv_at hl 0 rfl) ?_
                refine ko_get (C := RX1) (T := TX1) (N := 28) (ci := 1) (v := .ref (ad 1 21)) hx hb hts in_X1 hown hG.1 hH.o0 rfl 21 (by decide) q206 (fun _ h => h) (rfl) dX1_tries_58 ?_
                refine lv_iload hx hb dX1_tries_61 (lv_at hl 1 rfl) ?_
                refine lv_aload_n hx hb dX1_tries_63 rfl (lv_at hl 0 rfl) ?_
                refine ko_get (C := RX1) (T := TX1) (N := 28) (ci := 1) (v := .ref (ad 1 20)) hx hb hts in_X1 hown hG.1 hH.o0 rfl 20 (by decide) q205 (fun _ h => h) (rfl) dX1_tries_64 ?_
                refine lv_iload hx hb dX1_tries_67 (lv_at hl 1 rfl) ?_
                refine ka_iald (v := (trY Y (x.1, cpT x.1 x.2.1 k, nI sm, nI al)) 8 0 k) hx hb hG.1 (hH.arr 20 rfl) 0 rfl (show k < 6 from by omega) (by decide) (rfl) dX1_tries_69 ?_
                refine ka_iast hx hb hG.1 hS (hH.2.2 1 21 rfl) (hH.arr 21 rfl) 0 rfl (show k < 6 from by omega) (by decide) dX1_tries_70 (fun H locs e1 z1 o1 hS => ?_)
                have hH := hH.h21 (j := k) (v := (trY Y (x.1, cpT x.1 x.2.1 k, nI sm, nI al)) 8 0 k) e1 o1
                clear e1 z1 o1
                refine lv_iinc (v := nI (k + 1)) (lv' := [(5, .int (nI (k + 1))), (0, .ref (ad 0 0))]) hx hb dX1_tries_71 hl (k := 1) rfl (show nI k + Int32.ofInt 1 = nI (k + 1) from nI_add _ 1) (by decide) rfl (fun ls hl => ?_)
                refine lv_goto (tgt := 48) hx hb dX1_tries_74 (by decide) ?_
                exact ih48 (k + 1) (by omega) (by omega) _ _ (by rw [← trY_cp]; exact hH) hS _ (lv_sub hl [1, 0] rfl)
          exact L48 _ 0 (by omega) (Nat.lt_succ_self _) _ _ (by rw [cpT_0, ← trY_up]; exact hH) hS _ (lv_sub hl [1, 0] rfl)
        · subst hQ
          exact W.vret hx hb hrt (fun t ht hW => ⟨⟨(ad, X, (trY Y x), N, I, G, J), rfl, (by rw [show trP mm bh N G 0 o u sm al x = x from if_pos (Or.inr ⟨c_21, c_30⟩)]), by rw [ht]; exact hH, GK.warm hW hG⟩, hS.F ht⟩) hS.2.2 dX1_tries_33

set_option maxHeartbeats 1000000 in
theorem c_X1_triesS (lh : Launch) (A : Nat → Prop) (D : va_G) (dA : Nat → ClassId) (K : Nat → Nat) (ad X : Nat → Nat → Nat) (Y : Nat → Nat → Nat → Int32) (N : Nat → Nat) (I : Nat → Int32) (G : Nat → Nat → Nat) (J : Nat → Nat → Int32) (sz : Nat) (o : Nat) (u : Int32) (sm : Nat) (al : Nat) (mm : Nat → Nat) (bh : Nat → Nat) (x : TrT) (d : Nat) (h1 : ∀ a b, G a b < 2 ^ 31) (h2 : N 3 ≤ 10) (h3 : N 44 = o + (d + 1)) (h4 : N 44 ≤ 6) (h5 : XOk N G X) (h6 : PlT mm bh N G Y) (h7 : ∀ (sz o : Nat) (u : Int32) (sm al : Nat) (x : TrT), N 44 = o + d → o ≤ 6 → (∀ q, sz ≤ q → A q) → Met lh yX1_tries (ws_ yX1_tries cX1_tries 6 none) (r_tr d) (PX (fun U H => H.size = sz ∧ RH A D dA K ad X (trY Y x) N I G J H ∧ GK D dA U) [.ref (ad 0 0), .int (nI o), .int u, .int (nI sm), .int (nI al)]) (va_Qv (fun u' : HgT => u' = (ad, X, trY Y (trP mm bh N G d o u sm al x), N, I, G, J)) (BmH A D dA K) A) 0 0 A) (hA : ∀ q, sz ≤ q → A q) : Met lh yX1_tries (ws_ yX1_tries cX1_tries 6 none) (r_tr (d + 1)) (PX (fun U H => H.size = sz ∧ RH A D dA K ad X (trY Y x) N I G J H ∧ GK D dA U) [.ref (ad 0 0), .int (nI o), .int u, .int (nI sm), .int (nI al)]) (va_Qv (fun u' : HgT => u' = (ad, X, trY Y (trP mm bh N G (d + 1) o u sm al x), N, I, G, J)) (BmH A D dA K) A) 0 0 A := by
  refine Met.ofW (cc := cX1_tries) (maxL := 6) (ret := none) (by decide) rfl ?_
  intro p e s m args below meth cd s₁ B hml hv
  obtain ⟨hargs, hsz, hH, hG⟩ := hv
  have hx := B.exec
  have hb := B.bytes
  have hrt := B.returns
  have hts := atoms_spec (ws := (ws_ yX1_tries cX1_tries 6 none)) B.pre
  have hts : ∀ w ∈ lw_all, w.before _ s = true := fun w h => hts w (List.mem_cons_of_mem _ h)
  have hown : s.vm.findClass RX1 = some m.cls := findClass_of_methodNamed B.named
  have hlocks := B.notSynchronized
  subst hsz
  have hS : va_S A s.heap s.heap [] := va_S.rf
  have hE : entryFrame m args 6 = F0 m 0 ((lg_sl ([.ref (ad 0 0), .int (nI o), .int u, .int (nI sm), .int (nI al)]) ++ List.replicate (6 - (lg_sl ([.ref (ad 0 0), .int (nI o), .int u, .int (nI sm), .int (nI al)])).length) Slot.unset).toArray) [] := by rw [hargs]; exact lg_entry_eq m _ 6
  have hl := lv_entry ([.ref (ad 0 0), .int (nI o), .int u, .int (nI sm), .int (nI al)]) (n := 6) (Nat.le_of_ble_eq_true rfl)
  rw [hE]
  clear hE
  generalize (lg_sl ([.ref (ad 0 0), .int (nI o), .int u, .int (nI sm), .int (nI al)]) ++ List.replicate (6 - (lg_sl ([.ref (ad 0 0), .int (nI o), .int u, .int (nI sm), .int (nI al)])).length) Slot.unset).toArray = ls at hl ⊢
  have hl : lv_has ls 6 [(0, .ref (ad 0 0)), (1, .int (nI o)), (2, .int u), (3, .int (nI sm)), (4, .int (nI al))] := hl
  generalize hQ : MQ _ _ _ _ _ _ _ = Q
  have hX := h5
  refine lv_iload_n hx hb dX1_tries_0 rfl (lv_at hl 1 rfl) ?_
  refine lv_aload_n hx hb dX1_tries_1 rfl (lv_at hl 0 rfl) ?_
  refine ko_get (C := RX1) (T := TX1) (N := 28) (ci := 1) (v := .int (nI (N 44))) hx hb hts in_X1 hown hG.1 hH.o0 rfl 25 (by decide) q210 (fun _ h => h) (rfl) dX1_tries_2 ?_
  refine kn_cne (tgt := 78) hx hb dX1_tries_5 (by decide) (by omega) (by omega) (fun c_5 => ?_) (fun c_5 => ?_)
  · refine lv_iconst (v := nI 0) hx hb dX1_tries_78 (by decide) ?_
    refine lv_istore (lv' := [(5, .int (nI 0)), (0, .ref (ad 0 0)), (1, .int (nI o)), (2, .int u), (3, .int (nI sm)), (4, .int (nI al))]) hx hb dX1_tries_79 hl (by decide) rfl (fun ls hl => ?_)
    have L81 : ∀ (nn81 : Nat) (c : Nat), (c ≤ N 3) → N 3 - c < nn81 → ∀ (H : Heap) (locs : List Loc), RH A D dA K ad X (trY Y (itN (trQ mm bh N G d o u sm al) x c)) N I G J H → va_S A s.heap H locs → ∀ (ls : Array Slot), lv_has ls 6 [(0, .ref (ad 0 0)), (1, .int (nI o)), (2, .int u), (3, .int (nI sm)), (4, .int (nI al)), (5, .int (nI c))] → W p lh e (r_tr (d + 1)) s m args below meth cd H locs 0 0 Q (F0 m 81 ls []) := by
      intro nn81
      induction nn81 with
      | zero => intro c i81_0 hm81; exact absurd hm81 (Nat.not_lt_zero _)
      | succ nn81 ih81 =>
        intro c i81_0 hm81 H locs hH hS ls hl
        refine lv_iload hx hb dX1_tries_81 (lv_at hl 5 rfl) ?_
        refine lv_aload_n hx hb dX1_tries_83 rfl (lv_at hl 0 rfl) ?_
        refine ko_get (C := RX1) (T := TX1) (N := 28) (ci := 1) (v := .ref (ad 4 0)) hx hb hts in_X1 hown hG.1 hH.o0 rfl 3 (by decide) q188 (fun _ h => h) (rfl) dX1_tries_84 ?_
        refine vp_callSi (va_Run.call (va_runV (As := []) (rest := [.int (nI c)]) ⟨hx, hb, hml, hown, hts⟩ (c_J2_size lh D dA (ad 4 0) ((trY Y (itN (trQ mm bh N G d o u sm al) x c)) 3 0 0) (elH K ad X 0) (N 3)) (w_J2_size hts q284 rfl rfl ⟨by show 0 + 1 ≤ d + 1 + 1; omega, by show 8 + (1 + 11) + 0 ≤ 25 * (d + 1) + 25; omega⟩) ⟨PX.blind (Mv.and Mv.heap Mv.gk), (O_recv hG (hH.li 0 (by decide)) rfl), PX.pre (Mv.and Mv.heap Mv.gk) ⟨(hH.li 0 (by decide)), hG⟩⟩ rfl rfl hl.1 rfl (lv_room (Nat.le_of_ble_eq_true rfl)) dX1_tries_87 ⟨Nat.le_of_ble_eq_true rfl, Nat.le_of_ble_eq_true rfl⟩)) (fun rr hrr => ?_)
        subst hrr
        refine kn_cge (tgt := 166) hx hb dX1_tries_90 (by decide) (by omega) (by omega) (fun c_90 => ?_) (fun c_90 => ?_)
        · have ec : c = N 3 := (by omega)
          subst ec
          refine lv_aload_n hx hb dX1_tries_166 rfl (lv_at hl 0 rfl) ?_
          refine ko_get (C := RX1) (T := TX1) (N := 28) (ci := 1) (v := .ref (ad 1 20)) hx hb hts in_X1 hown hG.1 hH.o0 rfl 20 (by decide) q205 (fun _ h => h) (rfl) dX1_tries_167 ?_
          refine lv_iload_n hx hb dX1_tries_170 rfl (lv_at hl 1 rfl) ?_
          refine lv_iconst (v := -1) hx hb dX1_tries_171 (by decide) ?_
          refine ka_iast hx hb hG.1 hS (hH.2.2 1 20 rfl) (hH.arr 20 rfl) 0 rfl (show o < 6 from by omega) (by decide) dX1_tries_172 (fun H locs e1 z1 o1 hS => ?_)
          have hH := hH.h20 (j := o) (v := (-1)) e1 o1
          clear e1 z1 o1
          rw [trY_t] at hH
          refine lv_iload_n hx hb dX1_tries_173 rfl (lv_at hl 3 rfl) ?_
          refine lv_aload_n hx hb dX1_tries_174 rfl (lv_at hl 0 rfl) ?_
          refine ko_get (C := RX1) (T := TX1) (N := 28) (ci := 1) (v := .ref (ad 1 24)) hx hb hts in_X1 hown hG.1 hH.o0 rfl 24 (by decide) q209 (fun _ h => h) (rfl) dX1_tries_175 ?_
          refine lv_iload_n hx hb dX1_tries_178 rfl (lv_at hl 1 rfl) ?_
          refine lv_iconst (v := nI 1) hx hb dX1_tries_179 (by decide) ?_
          refine kn_add hx hb dX1_tries_180 ?_
          refine ka_iald (v := (trY Y (up1 (itN (trQ mm bh N G d o u sm al) x (N 3)).1 o (-1), (itN (trQ mm bh N G d o u sm al) x (N 3)).2)) 7 0 (o + 1)) hx hb hG.1 (hH.arr 24 rfl) 0 rfl (show o + 1 < 7 from by omega) (by decide) (rfl) dX1_tries_181 ?_
          refine kx_int (y := nI (bh (o + 1))) (h6.2.2 (o + 1) (by omega)) ?_
          refine kn_add hx hb dX1_tries_182 ?_
          refine lv_aload_n hx hb dX1_tries_183 rfl (lv_at hl 0 rfl) ?_
          refine ko_get (C := RX1) (T := TX1) (N := 28) (ci := 1) (v := .int ((trY Y (up1 (itN (trQ mm bh N G d o u sm al) x (N 3)).1 o (-1), (itN (trQ mm bh N G d o u sm al) x (N 3)).2)) 12 0 0)) hx hb hts in_X1 hown hG.1 hH.o0 rfl 26 (by decide) q211 (fun _ h => h) (rfl) dX1_tries_184 ?_
          refine lv_icmp_lt (tgt := 201) hx hb dX1_tries_187 (by decide) (fun c_187 => ?_) (fun c_187 => ?_)
          · subst hQ
            exact W.vret hx hb hrt (fun t ht hW => ⟨⟨(ad, X, (trY Y (up1 (itN (trQ mm bh N G d o u sm al) x (N 3)).1 o (-1), (itN (trQ mm bh N G d o u sm al) x (N 3)).2)), N, I, G, J), rfl, (by rw [trP_s, if_pos (show nI (sm + bh (o + 1)) < (itN (trQ mm bh N G d o u sm al) x (N 3)).2.2.1 from c_187)]), by rw [ht]; exact hH, GK.warm hW hG⟩, hS.F ht⟩) hS.2.2 dX1_tries_201
          · refine lv_aload_n hx hb dX1_tries_190 rfl (lv_at hl 0 rfl) ?_
            refine lv_iload_n hx hb dX1_tries_191 rfl (lv_at hl 1 rfl) ?_
            refine lv_iconst (v := nI 1) hx hb dX1_tries_192 (by decide) ?_
            refine kn_add hx hb dX1_tries_193 ?_
            refine lv_iload_n hx hb dX1_tries_194 rfl (lv_at hl 2 rfl) ?_
            refine lv_iload_n hx hb dX1_tries_195 rfl (lv_at hl 3 rfl) ?_
            refine lv_iload hx hb dX1_tries_196 (lv_at hl 4 rfl) ?_
            refine va_callv (va_runV (As := [.int (nI (o + 1)), .int u, .int (nI sm), .int (nI al)]) (rest := []) ⟨hx, hb, hml, hown, hts⟩ (h7 H.size (o + 1) u sm al (up1 (itN (trQ mm bh N G d o u sm al) x (N 3)).1 o (-1), (itN (trQ mm bh N G d o u sm al) x (N 3)).2) (by omega) (by omega) (fun q h => hA q (Nat.le_trans hS.1 h))) (w_X1_tries hts q1210 rfl rfl ⟨by show d + 1 + 1 ≤ d + 1 + 1; omega, by show 8 + (6 + 11) + (25 * d + 25) ≤ 25 * (d + 1) + 25; omega⟩) ⟨PX.blind (Mv.and Mv.heap (Mv.and Mv.heap Mv.gk)), (O_recv hG hH.o0 rfl), PX.pre (Mv.and Mv.heap (Mv.and Mv.heap Mv.gk)) ⟨rfl, hH, hG⟩⟩ rfl rfl hl.1 rfl (lv_room (Nat.le_of_ble_eq_true rfl)) dX1_tries_198 ⟨Nat.le_of_ble_eq_true rfl, Nat.le_of_ble_eq_true rfl⟩) hS (fun q _ h => h) (fun q h => h) (fun u t H1 locs ht hvm hp hB hz hk hS => ?_)
            obtain ⟨hH, -⟩ := hB
            rw [ht] at hH
            clear ht hz hk
            generalize H1 = H at hH hS ⊢
            subst hp
            dsimp only at hH
            subst hQ
            exact W.vret hx hb hrt (fun t ht hW => ⟨⟨(ad, X, (trY Y (trP mm bh N G d (o + 1) u sm al (up1 (itN (trQ mm bh N G d o u sm al) x (N 3)).1 o (-1), (itN (trQ mm bh N G d o u sm al) x (N 3)).2))), N, I, G, J), rfl, (by rw [trP_s, if_neg (show ¬ nI (sm + bh (o + 1)) < (itN (trQ mm bh N G d o u sm al) x (N 3)).2.2.1 from c_187)]), by rw [ht]; exact hH, GK.warm hW hG⟩, hS.F ht⟩) hS.2.2 dX1_tries_201
        · refine lv_iload_n hx hb dX1_tries_93 rfl (lv_at hl 2 rfl) ?_
          refine lv_iload hx hb dX1_tries_94 (lv_at hl 5 rfl) ?_
          refine lv_ishr hx hb dX1_tries_96 ?_
          refine lv_iconst (v := nI 1) hx hb dX1_tries_97 (by decide) ?_
          refine lv_iand hx hb dX1_tries_98 ?_
          refine lv_iconst (v := nI 1) hx hb dX1_tries_99 (by decide) ?_
          refine lv_icmp_eq (tgt := 160) hx hb dX1_tries_100 (by decide) (fun c_100 => ?_) (fun c_100 => ?_)
          · refine lv_iinc (v := nI (c + 1)) (lv' := [(5, .int (nI (c + 1))), (0, .ref (ad 0 0)), (1, .int (nI o)), (2, .int u), (3, .int (nI sm)), (4, .int (nI al))]) hx hb dX1_tries_160 hl (k := 5) rfl (show nI c + Int32.ofInt 1 = nI (c + 1) from nI_add _ 1) (by decide) rfl (fun ls hl => ?_)
            refine lv_goto (tgt := 81) hx hb dX1_tries_163 (by decide) ?_
            have hYs : itN (trQ mm bh N G d o u sm al) x (c + 1) = (itN (trQ mm bh N G d o u sm al) x c) := if_pos (Or.inl (by simp [bitS, c_100]))
            exact ih81 (c + 1) (by omega) (by omega) _ _ (by rw [hYs]; exact hH) hS _ (lv_sub hl [1, 2, 3, 4, 5, 0] rfl)
          · refine lv_aload_n hx hb dX1_tries_103 rfl (lv_at hl 0 rfl) ?_
            refine ko_get (C := RX1) (T := TX1) (N := 28) (ci := 1) (v := .ref (ad 1 22)) hx hb hts in_X1 hown hG.1 hH.o0 rfl 22 (by decide) q207 (fun _ h => h) (rfl) dX1_tries_104 ?_
            refine lv_bipush (v := nI 10) hx hb dX1_tries_107 (by decide) ?_
            refine lv_iload_n hx hb dX1_tries_109 rfl (lv_at hl 1 rfl) ?_
            refine kn_mul hx hb dX1_tries_110 ?_
            refine lv_iload hx hb dX1_tries_111 (lv_at hl 5 rfl) ?_
            refine kn_add hx hb dX1_tries_113 ?_
            refine ka_zald (v := (trY Y (itN (trQ mm bh N G d o u sm al) x c)) 5 0 (10 * o + c)) hx hb hG.1 (hH.arr 22 rfl) 2 rfl (show 10 * o + c < 60 from by omega) (by decide) (rfl) dX1_tries_114 ?_
            refine kx_int (y := nI (mm (10 * o + c))) ((h6.1 o c (by omega) (by omega)).1) ?_
            refine kn_zne (tgt := 121) hx hb dX1_tries_115 (by decide) (by have := (h6.1 o c (by omega) (by omega)).2; omega) (fun c_115 => ?_) (fun c_115 => ?_)
            · refine lv_aload_n hx hb dX1_tries_121 rfl (lv_at hl 0 rfl) ?_
              refine ko_get (C := RX1) (T := TX1) (N := 28) (ci := 1) (v := .ref (ad 1 20)) hx hb hts in_X1 hown hG.1 hH.o0 rfl 20 (by decide) q205 (fun _ h => h) (rfl) dX1_tries_122 ?_
              refine lv_iload_n hx hb dX1_tries_125 rfl (lv_at hl 1 rfl) ?_
              refine lv_iload hx hb dX1_tries_126 (lv_at hl 5 rfl) ?_
              refine ka_iast hx hb hG.1 hS (hH.2.2 1 20 rfl) (hH.arr 20 rfl) 0 rfl (show o < 6 from by omega) (by decide) dX1_tries_128 (fun H locs e1 z1 o1 hS => ?_)
              have hH := hH.h20 (j := o) (v := nI c) e1 o1
              clear e1 z1 o1
              rw [trY_t] at hH
              refine lv_aload_n hx hb dX1_tries_129 rfl (lv_at hl 0 rfl) ?_
              refine lv_iload_n hx hb dX1_tries_130 rfl (lv_at hl 1 rfl) ?_
              refine lv_iconst (v := nI 1) hx hb dX1_tries_131 (by decide) ?_
              refine kn_add hx hb dX1_tries_132 ?_
              refine lv_iload_n hx hb dX1_tries_133 rfl (lv_at hl 2 rfl) ?_
              refine lv_iconst (v := nI 1) hx hb dX1_tries_134 (by decide) ?_
              refine lv_iload hx hb dX1_tries_135 (lv_at hl 5 rfl) ?_
              refine lv_ishl hx hb dX1_tries_137 ?_
              refine lv_ior hx hb dX1_tries_138 ?_
              refine lv_iload_n hx hb dX1_tries_139 rfl (lv_at hl 3 rfl) ?_
              refine lv_aload_n hx hb dX1_tries_140 rfl (lv_at hl 0 rfl) ?_
              refine ko_get (C := RX1) (T := TX1) (N := 28) (ci := 1) (v := .ref (ad 1 19)) hx hb hts in_X1 hown hG.1 hH.o0 rfl 19 (by decide) q204 (fun _ h => h) (rfl) dX1_tries_141 ?_
              refine lv_iload_n hx hb dX1_tries_144 rfl (lv_at hl 1 rfl) ?_
              refine ka_iald (v := nI (G 48 o)) hx hb hG.1 (hH.arr 19 rfl) 0 rfl (show o < 6 from by omega) (by decide) (rfl) dX1_tries_145 ?_
              refine kn_add hx hb dX1_tries_146 ?_
              refine lv_iload hx hb dX1_tries_147 (lv_at hl 4 rfl) ?_
              refine lv_aload_n hx hb dX1_tries_149 rfl (lv_at hl 0 rfl) ?_
              refine ko_get (C := RX1) (T := TX1) (N := 28) (ci := 1) (v := .ref (ad 1 23)) hx hb hts in_X1 hown hG.1 hH.o0 rfl 23 (by decide) q208 (fun _ h => h) (rfl) dX1_tries_150 ?_
              refine lv_iload hx hb dX1_tries_153 (lv_at hl 5 rfl) ?_
              refine ka_iald (v := (trY Y (up1 (itN (trQ mm bh N G d o u sm al) x c).1 o (nI c), (itN (trQ mm bh N G d o u sm al) x c).2)) 6 0 c) hx hb hG.1 (hH.arr 23 rfl) 0 rfl (show c < 10 from by omega) (by decide) (rfl) dX1_tries_155 ?_
              refine kx_int (y := nI (gr G c)) (h6.2.1 c (by omega)) ?_
              refine kn_add hx hb dX1_tries_156 ?_
              refine va_callv (va_runV (As := [.int (nI (o + 1)), .int (u ||| ((nI 1) <<< ((nI c) &&& 31))), .int (nI (sm + (G 48 o))), .int (nI (al + (gr G c)))]) (rest := []) ⟨hx, hb, hml, hown, hts⟩ (h7 H.size (o + 1) (u ||| (nI 1 <<< (nI c &&& 31))) (sm + G 48 o) (al + gr G c) (up1 (itN (trQ mm bh N G d o u sm al) x c).1 o (nI c), (itN (trQ mm bh N G d o u sm al) x c).2) (by omega) (by omega) (fun q h => hA q (Nat.le_trans hS.1 h))) (w_X1_tries hts q1210 rfl rfl ⟨by show d + 1 + 1 ≤ d + 1 + 1; omega, by show 8 + (6 + 11) + (25 * d + 25) ≤ 25 * (d + 1) + 25; omega⟩) ⟨PX.blind (Mv.and Mv.heap (Mv.and Mv.heap Mv.gk)), (O_recv hG hH.o0 rfl), PX.pre (Mv.and Mv.heap (Mv.and Mv.heap Mv.gk)) ⟨rfl, hH, hG⟩⟩ rfl rfl hl.1 rfl (lv_room (Nat.le_of_ble_eq_true rfl)) dX1_tries_157 ⟨Nat.le_of_ble_eq_true rfl, Nat.le_of_ble_eq_true rfl⟩) hS (fun q _ h => h) (fun q h => h) (fun u t H1 locs ht hvm hp hB hz hk hS => ?_)
              obtain ⟨hH, -⟩ := hB
              rw [ht] at hH
              clear ht hz hk
              generalize H1 = H at hH hS ⊢
              subst hp
              dsimp only at hH
              refine lv_iinc (v := nI (c + 1)) (lv' := [(5, .int (nI (c + 1))), (0, .ref (ad 0 0)), (1, .int (nI o)), (2, .int u), (3, .int (nI sm)), (4, .int (nI al))]) hx hb dX1_tries_160 hl (k := 5) rfl (show nI c + Int32.ofInt 1 = nI (c + 1) from nI_add _ 1) (by decide) rfl (fun ls hl => ?_)
              refine lv_goto (tgt := 81) hx hb dX1_tries_163 (by decide) ?_
              have hYs : itN (trQ mm bh N G d o u sm al) x (c + 1) = (trP mm bh N G d (o + 1) (u ||| (nI 1 <<< (nI c &&& 31))) (sm + G 48 o) (al + gr G c) (up1 (itN (trQ mm bh N G d o u sm al) x c).1 o (nI c), (itN (trQ mm bh N G d o u sm al) x c).2)) := if_neg (fun q => q.elim (fun q => c_100 (by simpa [bitS] using q)) c_115)
              exact ih81 (c + 1) (by omega) (by omega) _ _ (by rw [hYs]; exact hH) hS _ (lv_sub hl [1, 2, 3, 4, 5, 0] rfl)
            · refine lv_goto (tgt := 160) hx hb dX1_tries_118 (by decide) ?_
              refine lv_iinc (v := nI (c + 1)) (lv' := [(5, .int (nI (c + 1))), (0, .ref (ad 0 0)), (1, .int (nI o)), (2, .int u), (3, .int (nI sm)), (4, .int (nI al))]) hx hb dX1_tries_160 hl (k := 5) rfl (show nI c + Int32.ofInt 1 = nI (c + 1) from nI_add _ 1) (by decide) rfl (fun ls hl => ?_)
              refine lv_goto (tgt := 81) hx hb dX1_tries_163 (by decide) ?_
              have hYs : itN (trQ mm bh N G d o u sm al) x (c + 1) = (itN (trQ mm bh N G d o u sm al) x c) := if_pos (Or.inr c_115)
              exact ih81 (c + 1) (by omega) (by omega) _ _ (by rw [hYs]; exact hH) hS _ (lv_sub hl [1, 2, 3, 4, 5, 0] rfl)
    exact L81 _ 0 (by omega) (Nat.lt_succ_self _) _ _ hH hS _ (lv_sub hl [1, 2, 3, 4, 5, 0] rfl)
  · exact absurd c_5 (by omega)

theorem c_X1_tries (lh : Launch) (A : Nat → Prop) (D : va_G) (dA : Nat → ClassId) (K : Nat → Nat) (ad X : Nat → Nat → Nat) (Y : Nat → Nat → Nat → Int32) (N : Nat → Nat) (I : Nat → Int32) (G : Nat → Nat → Nat) (J : Nat → Nat → Int32) (mm bh : Nat → Nat) (hB : ∀ a b, G a b < 2 ^ 31) (h3 : N 3 ≤ 10) (h44 : N 44 ≤ 6) (hX : XOk N G X) (hP : PlT mm bh N G Y) : ∀ (d sz o : Nat) (u : Int32) (sm al : Nat) (x : TrT), N 44 = o + d → o ≤ 6 → (∀ q, sz ≤ q → A q) → Met lh yX1_tries (ws_ yX1_tries cX1_tries 6 none) (r_tr d) (PX (fun U H => H.size = sz ∧ RH A D dA K ad X (trY Y x) N I G J H ∧ GK D dA U) [.ref (ad 0 0), .int (nI o), .int u, .int (nI sm), .int (nI al)]) (va_Qv (fun u' : HgT => u' = (ad, X, trY Y (trP mm bh N G d o u sm al x), N, I, G, J)) (BmH A D dA K) A) 0 0 A := by
  intro d
  induction d with
  | zero => intro sz o u sm al x h1 h2 hA; exact c_X1_tries0 lh A D dA K ad X Y N I G J sz o u sm al mm bh x h1 h2 hA
  | succ d ih => intro sz o u sm al x h1 h2 hA; exact c_X1_triesS lh A D dA K ad X Y N I G J sz o u sm al mm bh x d hB h3 h1 h44 hX hP ih hA

abbrev r_X1_plans : Room := { frames := 9, cells := 0, slots := 0, locals := 225 }
set_option maxHeartbeats 1000000 in
theorem c_X1_plans (lh : Launch) (A : Nat → Prop) (D : va_G) (dA : Nat → ClassId) (K : Nat → Nat) (ad X : Nat → Nat → Nat) (Y : Nat → Nat → Nat → Int32) (N : Nat → Nat) (I : Nat → Int32) (G : Nat → Nat → Nat) (J : Nat → Nat → Int32) (sz : Nat) (h1 : OkS N G J) (h2 : XOk N G X) (h3 : TsOk N G) (h4 : RtOk N G Y) (hA : ∀ q, sz ≤ q → A q) : Met lh yX1_plans (ws_ yX1_plans cX1_plans 3 none) r_X1_plans (PX (fun U H => H.size = sz ∧ RH A D dA K ad X Y N I G J H ∧ GK D dA U) [.ref (ad 0 0)]) (va_Qv (fun u : HgT => u = (ad, X, (phY N G J Y), N, I, G, J)) (BmH A D dA K) A) 0 0 A := by
  refine Met.ofW (cc := cX1_plans) (maxL := 3) (ret := none) (by decide) rfl ?_
  intro p e s m args below meth cd s₁ B hml hv
  obtain ⟨hargs, hsz, hH, hG⟩ := hv
  have hx := B.exec
  have hb := B.bytes
  have hrt := B.returns
  have hts := atoms_spec (ws := (ws_ yX1_plans cX1_plans 3 none)) B.pre
  have hts : ∀ w ∈ lw_all, w.before _ s = true := fun w h => hts w (List.mem_cons_of_mem _ h)
  have hown : s.vm.findClass RX1 = some m.cls := findClass_of_methodNamed B.named
  have hlocks := B.notSynchronized
  subst hsz
  have hS : va_S A s.heap s.heap [] := va_S.rf
  have hE : entryFrame m args 3 = F0 m 0 ((lg_sl ([.ref (ad 0 0)]) ++ List.replicate (3 - (lg_sl ([.ref (ad 0 0)])).length) Slot.unset).toArray) [] := by rw [hargs]; exact lg_entry_eq m _ 3
  have hl := lv_entry ([.ref (ad 0 0)]) (n := 3) (Nat.le_of_ble_eq_true rfl)
  rw [hE]
  clear hE
  generalize (lg_sl ([.ref (ad 0 0)]) ++ List.replicate (3 - (lg_sl ([.ref (ad 0 0)])).length) Slot.unset).toArray = ls at hl ⊢
  have hl : lv_has ls 3 [(0, .ref (ad 0 0))] := hl
  generalize hQ : MQ _ _ _ _ _ _ _ = Q
  have hokk := h1
  obtain ⟨hB, ⟨hn1, hn3, hn14, hn19, hn23, hn33, hn40, hn44⟩, hcr, hst, hwm, hrc⟩ := hokk
  have hX := h2
  refine lv_iconst (v := nI 0) hx hb dX1_plans_0 (by decide) ?_
  refine lv_istore_n (lv' := [(1, .int (nI 0)), (0, .ref (ad 0 0))]) hx hb dX1_plans_1 rfl hl (by decide) rfl (fun ls hl => ?_)
  have L2 : ∀ (nn2 : Nat) (o : Nat), (o ≤ N 44) → N 44 - o < nn2 → ∀ (H : Heap) (locs : List Loc), RH A D dA K ad X (pmY N G J Y o 0) N I G J H → va_S A s.heap H locs → ∀ (ls : Array Slot), lv_has ls 3 [(0, .ref (ad 0 0)), (1, .int (nI o))] → W p lh e r_X1_plans s m args below meth cd H locs 0 0 Q (F0 m 2 ls []) := by
    intro nn2
    induction nn2 with
    | zero => intro o i2_0 hm2; exact absurd hm2 (Nat.not_lt_zero _)
    | succ nn2 ih2 =>
      intro o i2_0 hm2 H locs hH hS ls hl
      refine lv_iload_n hx hb dX1_plans_2 rfl (lv_at hl 1 rfl) ?_
      refine lv_aload_n hx hb dX1_plans_3 rfl (lv_at hl 0 rfl) ?_
      refine ko_get (C := RX1) (T := TX1) (N := 28) (ci := 1) (v := .int (nI (N 44))) hx hb hts in_X1 hown hG.1 hH.o0 rfl 25 (by decide) q210 (fun _ h => h) (rfl) dX1_plans_4 ?_
      refine kn_cge (tgt := 62) hx hb dX1_plans_7 (by decide) (by omega) (by omega) (fun c_7 => ?_) (fun c_7 => ?_)
      · have eo : o = N 44 := (by omega)
        subst eo
        refine lv_iconst (v := nI 0) hx hb dX1_plans_62 (by decide) ?_
        refine lv_istore_n (lv' := [(1, .int (nI 0)), (0, .ref (ad 0 0))]) hx hb dX1_plans_63 rfl hl (by decide) rfl (fun ls hl => ?_)
        have L64 : ∀ (nn64 : Nat) (c : Nat), (c ≤ N 3) → N 3 - c < nn64 → ∀ (H : Heap) (locs : List Loc), RH A D dA K ad X (sy (pmY N G J Y (N 44) 0) 6 0 c (fun c => nI (gr G c))) N I G J H → va_S A s.heap H locs → ∀ (ls : Array Slot), lv_has ls 3 [(0, .ref (ad 0 0)), (1, .int (nI c))] → W p lh e r_X1_plans s m args below meth cd H locs 0 0 Q (F0 m 64 ls []) := by
          intro nn64
          induction nn64 with
          | zero => intro c i64_0 hm64; exact absurd hm64 (Nat.not_lt_zero _)
          | succ nn64 ih64 =>
            intro c i64_0 hm64 H locs hH hS ls hl
            refine lv_iload_n hx hb dX1_plans_64 rfl (lv_at hl 1 rfl) ?_
            refine lv_aload_n hx hb dX1_plans_65 rfl (lv_at hl 0 rfl) ?_
            refine ko_get (C := RX1) (T := TX1) (N := 28) (ci := 1) (v := .ref (ad 4 0)) hx hb hts in_X1 hown hG.1 hH.o0 rfl 3 (by decide) q188 (fun _ h => h) (rfl) dX1_plans_66 ?_
            refine vp_callSi (va_Run.call (va_runV (As := []) (rest := [.int (nI c)]) ⟨hx, hb, hml, hown, hts⟩ (c_J2_size lh D dA (ad 4 0) ((sy (pmY N G J Y (N 44) 0) 6 0 c (fun c => nI (gr G c))) 3 0 0) (elH K ad X 0) (N 3)) (w_J2_size hts q284 rfl rfl ⟨Nat.le_of_ble_eq_true rfl, Nat.le_of_ble_eq_true rfl⟩) ⟨PX.blind (Mv.and Mv.heap Mv.gk), (O_recv hG (hH.li 0 (by decide)) rfl), PX.pre (Mv.and Mv.heap Mv.gk) ⟨(hH.li 0 (by decide)), hG⟩⟩ rfl rfl hl.1 rfl (lv_room (Nat.le_of_ble_eq_true rfl)) dX1_plans_69 ⟨Nat.le_of_ble_eq_true rfl, Nat.le_of_ble_eq_true rfl⟩)) (fun rr hrr => ?_)
            subst hrr
            refine kn_cge (tgt := 101) hx hb dX1_plans_72 (by decide) (by omega) (by omega) (fun c_72 => ?_) (fun c_72 => ?_)
            · have ec : c = N 3 := (by omega)
              subst ec
              refine lv_aload_n hx hb dX1_plans_101 rfl (lv_at hl 0 rfl) ?_
              refine ko_get (C := RX1) (T := TX1) (N := 28) (ci := 1) (v := .ref (ad 1 24)) hx hb hts in_X1 hown hG.1 hH.o0 rfl 24 (by decide) q209 (fun _ h => h) (rfl) dX1_plans_102 ?_
              refine lv_aload_n hx hb dX1_plans_105 rfl (lv_at hl 0 rfl) ?_
              refine ko_get (C := RX1) (T := TX1) (N := 28) (ci := 1) (v := .int (nI (N 44))) hx hb hts in_X1 hown hG.1 hH.o0 rfl 25 (by decide) q210 (fun _ h => h) (rfl) dX1_plans_106 ?_
              refine lv_iconst (v := nI 0) hx hb dX1_plans_109 (by decide) ?_
              refine ka_iast hx hb hG.1 hS (hH.2.2 1 24 rfl) (hH.arr 24 rfl) 0 rfl (show N 44 < 7 from by omega) (by decide) dX1_plans_110 (fun H locs e1 z1 o1 hS => ?_)
              have hH := hH.h24 (j := N 44) (v := nI 0) e1 o1
              clear e1 z1 o1
              refine lv_aload_n hx hb dX1_plans_111 rfl (lv_at hl 0 rfl) ?_
              refine ko_get (C := RX1) (T := TX1) (N := 28) (ci := 1) (v := .int (nI (N 44))) hx hb hts in_X1 hown hG.1 hH.o0 rfl 25 (by decide) q210 (fun _ h => h) (rfl) dX1_plans_112 ?_
              refine lv_iconst (v := nI 1) hx hb dX1_plans_115 (by decide) ?_
              refine lv_isub hx hb dX1_plans_116 ?_
              refine lv_istore_n (lv' := [(1, .int (nI (N 44) - (nI 1))), (0, .ref (ad 0 0))]) hx hb dX1_plans_117 rfl hl (by decide) rfl (fun ls hl => ?_)
              have L118 : ∀ (nn118 : Nat) (n : Nat), (n ≤ N 44) → n < nn118 → ∀ (H : Heap) (locs : List Loc), RH A D dA K ad X (sy (sy (pmY N G J Y (N 44) 0) 6 0 (N 3) (fun c => nI (gr G c))) 7 n (N 44 + 1 - n) (fun o => nI (bhS G (N 44) o))) N I G J H → va_S A s.heap H locs → ∀ (ls : Array Slot), lv_has ls 3 [(0, .ref (ad 0 0)), (1, .int (dI n))] → W p lh e r_X1_plans s m args below meth cd H locs 0 0 Q (F0 m 118 ls []) := by
                intro nn118
                induction nn118 with
                | zero => intro n i118_0 hm118; exact absurd hm118 (Nat.not_lt_zero _)
                | succ nn118 ih118 =>
                  intro n i118_0 hm118 H locs hH hS ls hl
                  rcases n with _ | k
                  · rw [dI_0] at hl
                    refine lv_iload_n hx hb dX1_plans_118 rfl (lv_at hl 1 rfl) ?_
                    refine lv_if_lt (tgt := 149) hx hb dX1_plans_119 (by decide) (fun _ => ?_) (fun c => absurd (by decide) c)
                    have hH : RH A D dA K ad X (pfY N G J Y) N I G J H := hH
                    refine lv_aload_n hx hb dX1_plans_149 rfl (lv_at hl 0 rfl) ?_
                    refine lv_iconst (v := -1) hx hb dX1_plans_150 (by decide) ?_
                    refine ko_put (C := RX1) (T := TX1) (N := 28) (ci := 1) hx hb hts in_X1 tyX1 tyX1_ok nmX1 hown hG.1 hS (hH.2.2 0 0 rfl) hH.o0 rfl 26 (by decide) q211 (fun _ h => h) rfl rfl rfl (Nat.le_of_ble_eq_true rfl) dX1_plans_151 (fun H locs e1 z1 o1 hS => ?_)
                    have hH := hH.house (N1 := N) (I1 := I) (Y1 := (up3 (pfY N G J Y) 12 0 0 (-1))) e1 o1 rfl rfl rfl rfl (fun _ h => up3_o h)
                    clear e1 z1 o1
                    refine lv_aload_n hx hb dX1_plans_154 rfl (lv_at hl 0 rfl) ?_
                    refine lv_iconst (v := nI 0) hx hb dX1_plans_155 (by decide) ?_
                    refine ko_put (C := RX1) (T := TX1) (N := 28) (ci := 1) hx hb hts in_X1 tyX1 tyX1_ok nmX1 hown hG.1 hS (hH.2.2 0 0 rfl) hH.o0 rfl 27 (by decide) q212 (fun _ h => h) rfl rfl rfl (Nat.le_of_ble_eq_true rfl) dX1_plans_156 (fun H locs e1 z1 o1 hS => ?_)
                    have hH := hH.house (N1 := N) (I1 := I) (Y1 := (up3 (up3 (pfY N G J Y) 12 0 0 (-1)) 12 0 1 (nI 0))) e1 o1 rfl rfl rfl rfl (fun _ h => up3_o h)
                    clear e1 z1 o1
                    refine lv_aload_n hx hb dX1_plans_159 rfl (lv_at hl 0 rfl) ?_
                    have hH : RH A D dA K ad X (trY (pfY N G J Y) (pfY N G J Y 8 0, pfY N G J Y 9 0, -1, nI 0)) N I G J H := by rw [← trY_id]; exact hH
                    refine lv_iconst (v := nI 0) hx hb dX1_plans_160 (by decide) ?_
                    refine lv_iconst (v := nI 0) hx hb dX1_plans_161 (by decide) ?_
                    refine lv_iconst (v := nI 0) hx hb dX1_plans_162 (by decide) ?_
                    refine lv_iconst (v := nI 0) hx hb dX1_plans_163 (by decide) ?_
                    refine va_callv (va_runV (As := [.int (nI 0), .int (nI 0), .int (nI 0), .int (nI 0)]) (rest := []) ⟨hx, hb, hml, hown, hts⟩ (c_X1_tries lh A D dA K ad X (pfY N G J Y) N I G J (mmS N G J) (bhS G (N 44)) hB hn3 hn44 h2 (pfY_ok N G J Y hn3) (N 44) H.size 0 (nI 0) 0 0 (pfY N G J Y 8 0, pfY N G J Y 9 0, -1, nI 0) (by omega) (by decide) (fun q h => hA q (Nat.le_trans hS.1 h))) (w_X1_tries hts q1210 rfl rfl ⟨by show N 44 + 1 + 1 ≤ 9; omega, by show 8 + (6 + 11) + (25 * N 44 + 25) ≤ 225; omega⟩) ⟨PX.blind (Mv.and Mv.heap (Mv.and Mv.heap Mv.gk)), (O_recv hG hH.o0 rfl), PX.pre (Mv.and Mv.heap (Mv.and Mv.heap Mv.gk)) ⟨rfl, hH, hG⟩⟩ rfl rfl hl.1 rfl (lv_room (Nat.le_of_ble_eq_true rfl)) dX1_plans_164 ⟨Nat.le_of_ble_eq_true rfl, Nat.le_of_ble_eq_true rfl⟩) hS (fun q _ h => h) (fun q h => h) (fun u t H1 locs ht hvm hp hB hz hk hS => ?_)
                    obtain ⟨hH, -⟩ := hB
                    rw [ht] at hH
                    clear ht hz hk
                    generalize H1 = H at hH hS ⊢
                    subst hp
                    dsimp only at hH
                    subst hQ
                    exact W.vret hx hb hrt (fun t ht hW => ⟨⟨(ad, X, (phY N G J Y), N, I, G, J), rfl, (rfl), by rw [ht]; exact hH, GK.warm hW hG⟩, hS.F ht⟩) hS.2.2 dX1_plans_167
                  · rw [dI_s] at hl
                    refine lv_iload_n hx hb dX1_plans_118 rfl (lv_at hl 1 rfl) ?_
                    refine kn_zlt hx hb dX1_plans_119 (tgt := 149) (by decide) (by omega) ?_
                    refine lv_aload_n hx hb dX1_plans_122 rfl (lv_at hl 0 rfl) ?_
                    refine ko_get (C := RX1) (T := TX1) (N := 28) (ci := 1) (v := .ref (ad 1 24)) hx hb hts in_X1 hown hG.1 hH.o0 rfl 24 (by decide) q209 (fun _ h => h) (rfl) dX1_plans_123 ?_
                    refine lv_iload_n hx hb dX1_plans_126 rfl (lv_at hl 1 rfl) ?_
                    refine lv_aload_n hx hb dX1_plans_127 rfl (lv_at hl 0 rfl) ?_
                    refine ko_get (C := RX1) (T := TX1) (N := 28) (ci := 1) (v := .ref (ad 1 24)) hx hb hts in_X1 hown hG.1 hH.o0 rfl 24 (by decide) q209 (fun _ h => h) (rfl) dX1_plans_128 ?_
                    refine lv_iload_n hx hb dX1_plans_131 rfl (lv_at hl 1 rfl) ?_
                    refine lv_iconst (v := nI 1) hx hb dX1_plans_132 (by decide) ?_
                    refine kn_add hx hb dX1_plans_133 ?_
                    refine ka_iald (v := nI (bhS G (N 44) (k + 1))) hx hb hG.1 (hH.arr 24 rfl) 0 rfl (show k + 1 < 7 from by omega) (by decide) (show sy (sy (pmY N G J Y (N 44) 0) 6 0 (N 3) (fun c => nI (gr G c))) 7 (k + 1) (N 44 + 1 - (k + 1)) (fun o => nI (bhS G (N 44) o)) 7 0 (k + 1) = nI (bhS G (N 44) (k + 1)) from sy_in (by omega)) dX1_plans_134 ?_
                    refine lv_aload_n hx hb dX1_plans_135 rfl (lv_at hl 0 rfl) ?_
                    refine ko_get (C := RX1) (T := TX1) (N := 28) (ci := 1) (v := .ref (ad 1 19)) hx hb hts in_X1 hown hG.1 hH.o0 rfl 19 (by decide) q204 (fun _ h => h) (rfl) dX1_plans_136 ?_
                    refine lv_iload_n hx hb dX1_plans_139 rfl (lv_at hl 1 rfl) ?_
                    refine ka_iald (v := nI (G 48 k)) hx hb hG.1 (hH.arr 19 rfl) 0 rfl (show k < 6 from by omega) (by decide) (rfl) dX1_plans_140 ?_
                    refine lv_iadd hx hb dX1_plans_141 ?_
                    refine ka_iast hx hb hG.1 hS (hH.2.2 1 24 rfl) (hH.arr 24 rfl) 0 rfl (show k < 7 from by omega) (by decide) dX1_plans_142 (fun H locs e1 z1 o1 hS => ?_)
                    have hH := hH.h24 (j := k) (v := nI (bhS G (N 44) (k + 1)) + (nI (G 48 k))) e1 o1
                    clear e1 z1 o1
                    refine lv_iinc (v := dI k) (lv' := [(1, .int (dI k)), (0, .ref (ad 0 0))]) hx hb dX1_plans_143 hl (k := 1) rfl (rfl) (by decide) rfl (fun ls hl => ?_)
                    refine lv_goto (tgt := 118) hx hb dX1_plans_146 (by decide) ?_
                    exact ih118 k (by omega) (by omega) _ _ (by have e := @sy_d (sy (pmY N G J Y (N 44) 0) 6 0 (N 3) (fun c => nI (gr G c))) 7 k (N 44 + 1 - (k + 1)) (fun o => nI (bhS G (N 44) o)) (nI (bhS G (N 44) (k + 1)) + nI (G 48 k)) (by rw [bhS_s (show k < N 44 by omega), nI_add]); rw [show N 44 + 1 - k = (N 44 + 1 - (k + 1)) + 1 by omega, ← e]; exact hH) hS _ (lv_sub hl [1, 0] rfl)
              exact L118 _ (N 44) (by omega) (Nat.lt_succ_self _) _ _ (by have e := @sy_s (sy (pmY N G J Y (N 44) 0) 6 0 (N 3) (fun c => nI (gr G c))) 7 (N 44) 0 (fun o => nI (bhS G (N 44) o)) (nI 0) (by rw [Nat.add_zero, bhS_m]); rw [sy_0] at e; rw [show N 44 + 1 - N 44 = 0 + 1 by omega, ← e]; exact hH) hS _ (lv_conv (show lv_has ls 3 [(0, .ref (ad 0 0)), (1, .int (nI (N 44) - (nI 1)))] from (lv_sub hl [1, 0] rfl)) (by rw [dI_sub]))
            · refine lv_aload_n hx hb dX1_plans_75 rfl (lv_at hl 0 rfl) ?_
              refine ko_get (C := RX1) (T := TX1) (N := 28) (ci := 1) (v := .ref (ad 1 23)) hx hb hts in_X1 hown hG.1 hH.o0 rfl 23 (by decide) q208 (fun _ h => h) (rfl) dX1_plans_76 ?_
              refine lv_iload_n hx hb dX1_plans_79 rfl (lv_at hl 1 rfl) ?_
              refine lv_aload_n hx hb dX1_plans_80 rfl (lv_at hl 0 rfl) ?_
              refine ko_get (C := RX1) (T := TX1) (N := 28) (ci := 1) (v := .ref (ad 4 0)) hx hb hts in_X1 hown hG.1 hH.o0 rfl 3 (by decide) q188 (fun _ h => h) (rfl) dX1_plans_81 ?_
              refine lv_iload_n hx hb dX1_plans_84 rfl (lv_at hl 1 rfl) ?_
              refine va_csq (va_Run.call (va_runV (As := [.int (nI c)]) (rest := [.int (nI c), .ref (ad 1 23)]) ⟨hx, hb, hml, hown, hts⟩ (c_J2_get lh D dA (ad 4 0) ((sy (pmY N G J Y (N 44) 0) 6 0 c (fun c => nI (gr G c))) 3 0 0) (ad 5 0) (N 3) (X 0 0) (ltH ad 6 (N 3) 0) (c) (ad 6 c) (show c < N 3 from by omega) ((hX.1 0 (by decide)).1) ((hX.1 0 (by decide)).2) (ltH_0 (show c < N 3 from by omega))) (w_J2_get hts q292 rfl rfl ⟨Nat.le_of_ble_eq_true rfl, Nat.le_of_ble_eq_true rfl⟩) ⟨PX.blind (Mv.and Mv.heap (Mv.and Mv.heap Mv.gk)), (O_recv hG (hH.lo 0 (by decide) (by have hx0 : N 3 ≤ X 0 0 := (hX.1 0 (by decide)).1; omega)) rfl), PX.pre (Mv.and Mv.heap (Mv.and Mv.heap Mv.gk)) ⟨(hH.lo 0 (by decide) (by have hx0 : N 3 ≤ X 0 0 := (hX.1 0 (by decide)).1; omega)), (hH.la 0 (by decide) (by have hx0 : N 3 ≤ X 0 0 := (hX.1 0 (by decide)).1; omega)), hG⟩⟩ rfl rfl hl.1 rfl (lv_room (Nat.le_of_ble_eq_true rfl)) dX1_plans_85 ⟨Nat.le_of_ble_eq_true rfl, Nat.le_of_ble_eq_true rfl⟩)) (fun rr hrr => ?_)
              subst hrr
              show W p lh e r_X1_plans s m args below meth cd _ _ _ _ Q (F0 m _ ls (.ref (ad 6 c) :: _))
              refine va_castE hx hb hown (hts _ q304) (O_recv hG (hH.cr (show c < N 3 from by omega)) rfl) dX1_plans_88 ?_
              refine vp_callSi (va_Run.call (va_runU (As := []) (rest := [.int (nI c), .ref (ad 1 23)]) ⟨hx, hb, hml, hown, hts⟩ (c_X3_all_C lh A D dA K ad X (sy (pmY N G J Y (N 44) 0) 6 0 c (fun c => nI (gr G c))) N I G J c (show c < (N 3) from by first | omega | assumption)) (va_cwU 0 hts (lw_U q440 q441 q443 q444 q72 q445) rfl rfl rfl rfl (by decide +kernel) ⟨Nat.le_of_ble_eq_true rfl, Nat.le_of_ble_eq_true rfl⟩) ⟨PX.blind (Mv.and Mv.heap Mv.gk), (O_recv hG (hH.cr (show c < N 3 from by omega)) rfl), PX.pre (Mv.and Mv.heap Mv.gk) ⟨hH, hG⟩⟩ rfl rfl hl.1 rfl (lv_room (Nat.le_of_ble_eq_true rfl)) dX1_plans_91 ⟨Nat.le_of_ble_eq_true rfl, Nat.le_of_ble_eq_true rfl⟩)) (fun rr hrr => ?_)
              subst hrr
              refine ka_iast hx hb hG.1 hS (hH.2.2 1 23 rfl) (hH.arr 23 rfl) 0 rfl (show c < 10 from by omega) (by decide) dX1_plans_94 (fun H locs e1 z1 o1 hS => ?_)
              have hH := hH.h23 (j := c) (v := nI (gr G c)) e1 o1
              clear e1 z1 o1
              refine lv_iinc (v := nI (c + 1)) (lv' := [(1, .int (nI (c + 1))), (0, .ref (ad 0 0))]) hx hb dX1_plans_95 hl (k := 1) rfl (show nI c + Int32.ofInt 1 = nI (c + 1) from nI_add _ 1) (by decide) rfl (fun ls hl => ?_)
              refine lv_goto (tgt := 64) hx hb dX1_plans_98 (by decide) ?_
              exact ih64 (c + 1) (by omega) (by omega) _ _ (by have e := @sy_s (pmY N G J Y (N 44) 0) 6 0 c (fun c => nI (gr G c)) (nI (gr G c)) (by rw [Nat.zero_add]); rw [Nat.zero_add] at e; rw [← e]; exact hH) hS _ (lv_sub hl [1, 0] rfl)
        exact L64 _ 0 (by omega) (Nat.lt_succ_self _) _ _ (by rw [sy_0]; exact hH) hS _ (lv_sub hl [1, 0] rfl)
      · refine lv_iconst (v := nI 0) hx hb dX1_plans_10 (by decide) ?_
        refine lv_istore_n (lv' := [(2, .int (nI 0)), (0, .ref (ad 0 0)), (1, .int (nI o))]) hx hb dX1_plans_11 rfl hl (by decide) rfl (fun ls hl => ?_)
        have L12 : ∀ (nn12 : Nat) (c : Nat), (c ≤ N 3) → N 3 - c < nn12 → ∀ (H : Heap) (locs : List Loc), RH A D dA K ad X (pmY N G J Y o c) N I G J H → va_S A s.heap H locs → ∀ (ls : Array Slot), lv_has ls 3 [(0, .ref (ad 0 0)), (1, .int (nI o)), (2, .int (nI c))] → W p lh e r_X1_plans s m args below meth cd H locs 0 0 Q (F0 m 12 ls []) := by
          intro nn12
          induction nn12 with
          | zero => intro c i12_0 hm12; exact absurd hm12 (Nat.not_lt_zero _)
          | succ nn12 ih12 =>
            intro c i12_0 hm12 H locs hH hS ls hl
            refine lv_iload_n hx hb dX1_plans_12 rfl (lv_at hl 2 rfl) ?_
            refine lv_aload_n hx hb dX1_plans_13 rfl (lv_at hl 0 rfl) ?_
            refine ko_get (C := RX1) (T := TX1) (N := 28) (ci := 1) (v := .ref (ad 4 0)) hx hb hts in_X1 hown hG.1 hH.o0 rfl 3 (by decide) q188 (fun _ h => h) (rfl) dX1_plans_14 ?_
            refine vp_callSi (va_Run.call (va_runV (As := []) (rest := [.int (nI c)]) ⟨hx, hb, hml, hown, hts⟩ (c_J2_size lh D dA (ad 4 0) ((pmY N G J Y o c) 3 0 0) (elH K ad X 0) (N 3)) (w_J2_size hts q284 rfl rfl ⟨Nat.le_of_ble_eq_true rfl, Nat.le_of_ble_eq_true rfl⟩) ⟨PX.blind (Mv.and Mv.heap Mv.gk), (O_recv hG (hH.li 0 (by decide)) rfl), PX.pre (Mv.and Mv.heap Mv.gk) ⟨(hH.li 0 (by decide)), hG⟩⟩ rfl rfl hl.1 rfl (lv_room (Nat.le_of_ble_eq_true rfl)) dX1_plans_17 ⟨Nat.le_of_ble_eq_true rfl, Nat.le_of_ble_eq_true rfl⟩)) (fun rr hrr => ?_)
            subst hrr
            refine kn_cge (tgt := 56) hx hb dX1_plans_20 (by decide) (by omega) (by omega) (fun c_20 => ?_) (fun c_20 => ?_)
            · refine lv_iinc (v := nI (o + 1)) (lv' := [(1, .int (nI (o + 1))), (0, .ref (ad 0 0)), (2, .int (nI c))]) hx hb dX1_plans_56 hl (k := 1) rfl (show nI o + Int32.ofInt 1 = nI (o + 1) from nI_add _ 1) (by decide) rfl (fun ls hl => ?_)
              refine lv_goto (tgt := 2) hx hb dX1_plans_59 (by decide) ?_
              exact ih2 (o + 1) (by omega) (by omega) _ _ (by rw [← pmY_n, show N 3 = c by omega]; exact hH) hS _ (lv_sub hl [1, 0] rfl)
            · refine lv_aload_n hx hb dX1_plans_23 rfl (lv_at hl 0 rfl) ?_
              refine ko_get (C := RX1) (T := TX1) (N := 28) (ci := 1) (v := .ref (ad 1 22)) hx hb hts in_X1 hown hG.1 hH.o0 rfl 22 (by decide) q207 (fun _ h => h) (rfl) dX1_plans_24 ?_
              refine lv_bipush (v := nI 10) hx hb dX1_plans_27 (by decide) ?_
              refine lv_iload_n hx hb dX1_plans_29 rfl (lv_at hl 1 rfl) ?_
              refine kn_mul hx hb dX1_plans_30 ?_
              refine lv_iload_n hx hb dX1_plans_31 rfl (lv_at hl 2 rfl) ?_
              refine kn_add hx hb dX1_plans_32 ?_
              refine lv_aload_n hx hb dX1_plans_33 rfl (lv_at hl 0 rfl) ?_
              refine lv_aload_n hx hb dX1_plans_34 rfl (lv_at hl 0 rfl) ?_
              refine ko_get (C := RX1) (T := TX1) (N := 28) (ci := 1) (v := .ref (ad 4 0)) hx hb hts in_X1 hown hG.1 hH.o0 rfl 3 (by decide) q188 (fun _ h => h) (rfl) dX1_plans_35 ?_
              refine lv_iload_n hx hb dX1_plans_38 rfl (lv_at hl 2 rfl) ?_
              refine va_csq (va_Run.call (va_runV (As := [.int (nI c)]) (rest := [.ref (ad 0 0), .int (nI (10 * o + c)), .ref (ad 1 22)]) ⟨hx, hb, hml, hown, hts⟩ (c_J2_get lh D dA (ad 4 0) ((pmY N G J Y o c) 3 0 0) (ad 5 0) (N 3) (X 0 0) (ltH ad 6 (N 3) 0) (c) (ad 6 c) (show c < N 3 from by omega) ((hX.1 0 (by decide)).1) ((hX.1 0 (by decide)).2) (ltH_0 (show c < N 3 from by omega))) (w_J2_get hts q292 rfl rfl ⟨Nat.le_of_ble_eq_true rfl, Nat.le_of_ble_eq_true rfl⟩) ⟨PX.blind (Mv.and Mv.heap (Mv.and Mv.heap Mv.gk)), (O_recv hG (hH.lo 0 (by decide) (by have hx0 : N 3 ≤ X 0 0 := (hX.1 0 (by decide)).1; omega)) rfl), PX.pre (Mv.and Mv.heap (Mv.and Mv.heap Mv.gk)) ⟨(hH.lo 0 (by decide) (by have hx0 : N 3 ≤ X 0 0 := (hX.1 0 (by decide)).1; omega)), (hH.la 0 (by decide) (by have hx0 : N 3 ≤ X 0 0 := (hX.1 0 (by decide)).1; omega)), hG⟩⟩ rfl rfl hl.1 rfl (lv_room (Nat.le_of_ble_eq_true rfl)) dX1_plans_39 ⟨Nat.le_of_ble_eq_true rfl, Nat.le_of_ble_eq_true rfl⟩)) (fun rr hrr => ?_)
              subst hrr
              show W p lh e r_X1_plans s m args below meth cd _ _ _ _ Q (F0 m _ ls (.ref (ad 6 c) :: _))
              refine va_castE hx hb hown (hts _ q304) (O_recv hG (hH.cr (show c < N 3 from by omega)) rfl) dX1_plans_42 ?_
              refine lv_iload_n hx hb dX1_plans_45 rfl (lv_at hl 1 rfl) ?_
              refine vp_callSi (va_Run.call (va_runV (As := [.ref (ad 6 c), .int (nI o)]) (rest := [.int (nI (10 * o + c)), .ref (ad 1 22)]) ⟨hx, hb, hml, hown, hts⟩ (c_X1_doesMeet lh A D dA K ad X (pmY N G J Y o c) N I G J c o (hB) (by omega) (by omega) (hn14) (hn19) (h2) (h3) (h4)) (w_X1_doesMeet hts q1198 rfl rfl ⟨Nat.le_of_ble_eq_true rfl, Nat.le_of_ble_eq_true rfl⟩) ⟨PX.blind (Mv.and Mv.heap Mv.gk), (O_recv hG hH.o0 rfl), PX.pre (Mv.and Mv.heap Mv.gk) ⟨hH, hG⟩⟩ rfl rfl hl.1 rfl (lv_room (Nat.le_of_ble_eq_true rfl)) dX1_plans_46 ⟨Nat.le_of_ble_eq_true rfl, Nat.le_of_ble_eq_true rfl⟩)) (fun rr hrr => ?_)
              subst hrr
              refine ka_zast hx hb hG.1 hS (hH.2.2 1 22 rfl) (hH.arr 22 rfl) 2 rfl (show 10 * o + c < 60 from by omega) (by decide) dX1_plans_49 (fun H locs e1 z1 o1 hS => ?_)
              rw [show vp_nar .boolean (bI (dmS G J c o ((N 14)) ((N 19)) ((N 42)) ((N 43)))) = bI (dmS G J c o (N 14) (N 19) (N 42) (N 43)) from narBv _] at e1
              have hH := hH.h22 (j := 10 * o + c) (v := bI (dmS G J c o (N 14) (N 19) (N 42) (N 43))) e1 o1
              clear e1 z1 o1
              refine lv_iinc (v := nI (c + 1)) (lv' := [(2, .int (nI (c + 1))), (0, .ref (ad 0 0)), (1, .int (nI o))]) hx hb dX1_plans_50 hl (k := 2) rfl (show nI c + Int32.ofInt 1 = nI (c + 1) from nI_add _ 1) (by decide) rfl (fun ls hl => ?_)
              refine lv_goto (tgt := 12) hx hb dX1_plans_53 (by decide) ?_
              exact ih12 (c + 1) (by omega) (by omega) _ _ (by rw [← pmY_s (by omega) rfl]; exact hH) hS _ (lv_sub hl [1, 2, 0] rfl)
        exact L12 _ 0 (by omega) (Nat.lt_succ_self _) _ _ hH hS _ (lv_sub hl [1, 2, 0] rfl)
  exact L2 _ 0 (by omega) (Nat.lt_succ_self _) _ _ (by rw [pmY_0]; exact hH) hS _ (lv_sub hl [1, 0] rfl)
theorem w_X1_plans {R : Room} {s : State} {args : Array Value} {own : String} {idx : Nat} (hts : ∀ w ∈ lw_all, w.before args s = true) (h1 : Cond.methodLink own idx yX1_plans ∈ lw_all) {rm : Room} {mc ms : Nat} (hrc : rm.cells = mc) (hrs : rm.slots = ms) (hR : rm.frames + 1 ≤ R.frames ∧ 8 + (3 + 11) + rm.locals ≤ R.locals) : CallW R s args own RX1 idx yX1_plans cX1_plans 3 none (ws_ yX1_plans cX1_plans 3 none) rm mc ms 0 := cwV 0 hts (lw_V h1 q1208 qs28 q62 q1209) rfl hrc hrs (by decide +kernel) hR

abbrev r_X1_plan : Room := { frames := 10, cells := 0, slots := 0, locals := 247 }
set_option maxHeartbeats 1000000 in
theorem c_X1_plan (lh : Launch) (A : Nat → Prop) (D : va_G) (dA : Nat → ClassId) (K : Nat → Nat) (ad X : Nat → Nat → Nat) (Y : Nat → Nat → Nat → Int32) (N : Nat → Nat) (I : Nat → Int32) (G : Nat → Nat → Nat) (J : Nat → Nat → Int32) (sz : Nat) (h1 : OkS N G J) (h2 : XOk N G X) (h3 : TsOk N G) (h4 : RtOk N G Y) (hA : ∀ q, sz ≤ q → A q) : Met lh yX1_plan (ws_ yX1_plan cX1_plan 1 (some .int)) r_X1_plan (PX (fun U H => H.size = sz ∧ RH A D dA K ad X Y N I G J H ∧ GK D dA U) [.ref (ad 0 0)]) (va_Qi (fun (r : Int32) (u : HgT) => r = (phT N G J Y).2.2.1 ∧ u = (ad, X, (phY N G J Y), N, I, G, J)) (BmH A D dA K) A) 0 0 A := by
  refine Met.ofW (cc := cX1_plan) (maxL := 1) (ret := (some .int)) (by decide) rfl ?_
  intro p e s m args below meth cd s₁ B hml hv
  obtain ⟨hargs, hsz, hH, hG⟩ := hv
  have hx := B.exec
  have hb := B.bytes
  have hrt := B.returns
  have hts := atoms_spec (ws := (ws_ yX1_plan cX1_plan 1 (some .int))) B.pre
  have hts : ∀ w ∈ lw_all, w.before _ s = true := fun w h => hts w (List.mem_cons_of_mem _ h)
  have hown : s.vm.findClass RX1 = some m.cls := findClass_of_methodNamed B.named
  have hlocks := B.notSynchronized
  subst hsz
  have hS : va_S A s.heap s.heap [] := va_S.rf
  have hE : entryFrame m args 1 = F0 m 0 ((lg_sl ([.ref (ad 0 0)]) ++ List.replicate (1 - (lg_sl ([.ref (ad 0 0)])).length) Slot.unset).toArray) [] := by rw [hargs]; exact lg_entry_eq m _ 1
  have hl := lv_entry ([.ref (ad 0 0)]) (n := 1) (Nat.le_of_ble_eq_true rfl)
  rw [hE]
  clear hE
  generalize (lg_sl ([.ref (ad 0 0)]) ++ List.replicate (1 - (lg_sl ([.ref (ad 0 0)])).length) Slot.unset).toArray = ls at hl ⊢
  have hl : lv_has ls 1 [(0, .ref (ad 0 0))] := hl
  generalize hQ : MQ _ _ _ _ _ _ _ = Q
  refine lv_aload_n hx hb dX1_plan_0 rfl (lv_at hl 0 rfl) ?_
  refine va_callv (va_runV (As := []) (rest := []) ⟨hx, hb, hml, hown, hts⟩ (c_X1_plans lh A D dA K ad X Y N I G J s.heap.size (h1) (h2) (h3) (h4) (fun q h => hA q (Nat.le_trans hS.1 h))) (w_X1_plans hts q1206 rfl rfl ⟨Nat.le_of_ble_eq_true rfl, Nat.le_of_ble_eq_true rfl⟩) ⟨PX.blind (Mv.and Mv.heap (Mv.and Mv.heap Mv.gk)), (O_recv hG hH.o0 rfl), PX.pre (Mv.and Mv.heap (Mv.and Mv.heap Mv.gk)) ⟨rfl, hH, hG⟩⟩ rfl rfl hl.1 rfl (lv_room (Nat.le_of_ble_eq_true rfl)) dX1_plan_1 ⟨Nat.le_of_ble_eq_true rfl, Nat.le_of_ble_eq_true rfl⟩) hS (fun q _ h => h) (fun q h => h) (fun u t H1 locs ht hvm hp hB hz hk hS => ?_)
  obtain ⟨hH, -⟩ := hB
  rw [ht] at hH
  clear ht hz hk
  generalize H1 = H at hH hS ⊢
  subst hp
  dsimp only at hH
  refine lv_aload_n hx hb dX1_plan_4 rfl (lv_at hl 0 rfl) ?_
  refine ko_get (C := RX1) (T := TX1) (N := 28) (ci := 1) (v := .int ((phY N G J Y) 12 0 0)) hx hb hts in_X1 hown hG.1 hH.o0 rfl 26 (by decide) q211 (fun _ h => h) (rfl) dX1_plan_5 ?_
  subst hQ
  exact W.iret (v := (phY N G J Y) 12 0 0) hx hb hrt (fun t ht hW => ⟨⟨_, (ad, X, (phY N G J Y), N, I, G, J), rfl, (⟨rfl, rfl⟩), by rw [ht]; exact hH, GK.warm hW hG⟩, hS.F ht⟩) hS.2.2 dX1_plan_8
theorem w_X1_plan {R : Room} {s : State} {args : Array Value} {own : String} {idx : Nat} (hts : ∀ w ∈ lw_all, w.before args s = true) (h1 : Cond.methodLink own idx yX1_plan ∈ lw_all) {rm : Room} {mc ms : Nat} (hrc : rm.cells = mc) (hrs : rm.slots = ms) (hR : rm.frames + 1 ≤ R.frames ∧ 8 + (1 + 11) + rm.locals ≤ R.locals) : CallW R s args own RX1 idx yX1_plan cX1_plan 1 (some .int) (ws_ yX1_plan cX1_plan 1 (some .int)) rm mc ms 0 := cwV 0 hts (lw_V h1 q1203 q1204 q62 q1205) rfl hrc hrs (by decide +kernel) hR

abbrev r_X1_planned : Room := { frames := 10, cells := 0, slots := 0, locals := 247 }
set_option maxHeartbeats 1000000 in
theorem c_X1_planned (lh : Launch) (A : Nat → Prop) (D : va_G) (dA : Nat → ClassId) (K : Nat → Nat) (ad X : Nat → Nat → Nat) (Y : Nat → Nat → Nat → Int32) (N : Nat → Nat) (I : Nat → Int32) (G : Nat → Nat → Nat) (J : Nat → Nat → Int32) (sz : Nat) (o : Int32) (h1 : OkS N G J) (h2 : XOk N G X) (h3 : TsOk N G) (h4 : RtOk N G Y) (hA : ∀ q, sz ≤ q → A q) : Met lh yX1_planned (ws_ yX1_planned cX1_planned 2 (some .int)) r_X1_planned (PX (fun U H => H.size = sz ∧ RH A D dA K ad X Y N I G J H ∧ GK D dA U) [.ref (ad 0 0), .int o]) (va_Qi (fun (r : Int32) (u : HgT) => if wi o (nI 0) (nI (N 44) - nI 1) = true then r = (phT N G J Y).2.1 (tn o) ∧ u = (ad, X, (phY N G J Y), N, I, G, J) else r = -1 ∧ u = (ad, X, Y, N, I, G, J)) (BmH A D dA K) A) 0 0 A := by
  refine Met.ofW (cc := cX1_planned) (maxL := 2) (ret := (some .int)) (by decide) rfl ?_
  intro p e s m args below meth cd s₁ B hml hv
  obtain ⟨hargs, hsz, hH, hG⟩ := hv
  have hx := B.exec
  have hb := B.bytes
  have hrt := B.returns
  have hts := atoms_spec (ws := (ws_ yX1_planned cX1_planned 2 (some .int))) B.pre
  have hts : ∀ w ∈ lw_all, w.before _ s = true := fun w h => hts w (List.mem_cons_of_mem _ h)
  have hown : s.vm.findClass RX1 = some m.cls := findClass_of_methodNamed B.named
  have hlocks := B.notSynchronized
  subst hsz
  have hS : va_S A s.heap s.heap [] := va_S.rf
  have hE : entryFrame m args 2 = F0 m 0 ((lg_sl ([.ref (ad 0 0), .int o]) ++ List.replicate (2 - (lg_sl ([.ref (ad 0 0), .int o])).length) Slot.unset).toArray) [] := by rw [hargs]; exact lg_entry_eq m _ 2
  have hl := lv_entry ([.ref (ad 0 0), .int o]) (n := 2) (Nat.le_of_ble_eq_true rfl)
  rw [hE]
  clear hE
  generalize (lg_sl ([.ref (ad 0 0), .int o]) ++ List.replicate (2 - (lg_sl ([.ref (ad 0 0), .int o])).length) Slot.unset).toArray = ls at hl ⊢
  have hl : lv_has ls 2 [(0, .ref (ad 0 0)), (1, .int o)] := hl
  generalize hQ : MQ _ _ _ _ _ _ _ = Q
  have hokk := h1
  obtain ⟨hB, ⟨hn1, hn3, hn14, hn19, hn23, hn33, hn40, hn44⟩, hcr, hst, hwm, hrc⟩ := hokk
  refine lv_iload_n hx hb dX1_planned_0 rfl (lv_at hl 1 rfl) ?_
  refine lv_iconst (v := nI 0) hx hb dX1_planned_1 (by decide) ?_
  refine lv_aload_n hx hb dX1_planned_2 rfl (lv_at hl 0 rfl) ?_
  refine ko_get (C := RX1) (T := TX1) (N := 28) (ci := 1) (v := .int (nI (N 44))) hx hb hts in_X1 hown hG.1 hH.o0 rfl 25 (by decide) q210 (fun _ h => h) (rfl) dX1_planned_3 ?_
  refine lv_iconst (v := nI 1) hx hb dX1_planned_6 (by decide) ?_
  refine lv_isub hx hb dX1_planned_7 ?_
  refine vp_callSi (W.runS (As := [.int o, .int (nI 0), .int (nI (N 44) - (nI 1))]) (rest := []) ⟨hx, hb, hml, hown, hts⟩ (c_X1_in lh o (nI 0) (nI (N 44) - (nI 1))) (w_X1_in hts q277 rfl rfl ⟨Nat.le_of_ble_eq_true rfl, Nat.le_of_ble_eq_true rfl⟩) ⟨P0.blind, P0.pre⟩ rfl rfl hl.1 rfl (lv_room (Nat.le_of_ble_eq_true rfl)) dX1_planned_8 ⟨Nat.le_of_ble_eq_true rfl, Nat.le_of_ble_eq_true rfl⟩) (fun rr hrr => ?_)
  subst hrr
  refine kb_ne (tgt := 16) hx hb dX1_planned_11 (by decide) (fun c_11 => ?_) (fun c_11 => ?_)
  · obtain ⟨j, hj, rfl⟩ := wi_cnt (by omega) c_11
    refine lv_aload_n hx hb dX1_planned_16 rfl (lv_at hl 0 rfl) ?_
    refine va_callv (va_runV (As := []) (rest := []) ⟨hx, hb, hml, hown, hts⟩ (c_X1_plans lh A D dA K ad X Y N I G J s.heap.size (h1) (h2) (h3) (h4) (fun q h => hA q (Nat.le_trans hS.1 h))) (w_X1_plans hts q1206 rfl rfl ⟨Nat.le_of_ble_eq_true rfl, Nat.le_of_ble_eq_true rfl⟩) ⟨PX.blind (Mv.and Mv.heap (Mv.and Mv.heap Mv.gk)), (O_recv hG hH.o0 rfl), PX.pre (Mv.and Mv.heap (Mv.and Mv.heap Mv.gk)) ⟨rfl, hH, hG⟩⟩ rfl rfl hl.1 rfl (lv_room (Nat.le_of_ble_eq_true rfl)) dX1_planned_17 ⟨Nat.le_of_ble_eq_true rfl, Nat.le_of_ble_eq_true rfl⟩) hS (fun q _ h => h) (fun q h => h) (fun u t H1 locs ht hvm hp hB hz hk hS => ?_)
    obtain ⟨hH, -⟩ := hB
    rw [ht] at hH
    clear ht hz hk
    generalize H1 = H at hH hS ⊢
    subst hp
    dsimp only at hH
    refine lv_aload_n hx hb dX1_planned_20 rfl (lv_at hl 0 rfl) ?_
    refine ko_get (C := RX1) (T := TX1) (N := 28) (ci := 1) (v := .ref (ad 1 21)) hx hb hts in_X1 hown hG.1 hH.o0 rfl 21 (by decide) q206 (fun _ h => h) (rfl) dX1_planned_21 ?_
    refine lv_iload_n hx hb dX1_planned_24 rfl (lv_at hl 1 rfl) ?_
    refine ka_iald (v := (phY N G J Y) 9 0 j) hx hb hG.1 (hH.arr 21 rfl) 0 rfl (show j < 6 from by omega) (by decide) (rfl) dX1_planned_25 ?_
    subst hQ
    exact W.iret (v := (phY N G J Y) 9 0 j) hx hb hrt (fun t ht hW => ⟨⟨_, (ad, X, (phY N G J Y), N, I, G, J), rfl, (by dsimp only; rw [if_pos c_11, tn_nI (show j < 2 ^ 31 by omega)]; exact ⟨rfl, rfl⟩), by rw [ht]; exact hH, GK.warm hW hG⟩, hS.F ht⟩) hS.2.2 dX1_planned_26
  · refine lv_iconst (v := -1) hx hb dX1_planned_14 (by decide) ?_
    subst hQ
    exact W.iret (v := (-1)) hx hb hrt (fun t ht hW => ⟨⟨_, (ad, X, Y, N, I, G, J), rfl, (by dsimp only; rw [if_neg (by rw [c_11]; decide)]; exact ⟨rfl, rfl⟩), by rw [ht]; exact hH, GK.warm hW hG⟩, hS.F ht⟩) hS.2.2 dX1_planned_15
theorem w_X1_planned {R : Room} {s : State} {args : Array Value} {own : String} {idx : Nat} (hts : ∀ w ∈ lw_all, w.before args s = true) (h1 : Cond.methodLink own idx yX1_planned ∈ lw_all) {rm : Room} {mc ms : Nat} (hrc : rm.cells = mc) (hrs : rm.slots = ms) (hR : rm.frames + 1 ≤ R.frames ∧ 8 + (2 + 11) + rm.locals ≤ R.locals) : CallW R s args own RX1 idx yX1_planned cX1_planned 2 (some .int) (ws_ yX1_planned cX1_planned 2 (some .int)) rm mc ms 1 := cwV 1 hts (lw_V h1 q1215 q1216 q62 q1217) rfl hrc hrs (by decide +kernel) hR
