set_option maxRecDepth 100000
abbrev r_X1_wastes : Room := { frames := 1, cells := 0, slots := 0, locals := 25 }
set_option maxHeartbeats 1000000 in
theorem c_X1_wastes (lh : Launch) (A : Nat → Prop) (D : va_G) (dA : Nat → ClassId) (K : Nat → Nat) (ad X : Nat → Nat → Nat) (Y : Nat → Nat → Nat → Int32) (N : Nat → Nat) (I : Nat → Int32) (G : Nat → Nat → Nat) (J : Nat → Nat → Int32) (sz : Nat) (c : Nat) (sv : Nat) (h1 : c < N 3) (hA : ∀ q, sz ≤ q → A q) : Met lh yX1_wastes (ws_ yX1_wastes cX1_wastes 4 none) r_X1_wastes (PX (fun U H => H.size = sz ∧ RH A D dA K ad X Y N I G J H ∧ GK D dA U) [.ref (ad 0 0), .ref (ad 6 c), .int (nI sv)]) (va_Qv (fun u : HgT => u = (ad, X, (up3 (wsY Y G c 20) 0 c 0 (-1)), up1 N 15 (N 15 + gr G c), I, goesG G c sv, J)) (BmH A D dA K) A) 0 0 A := by
  refine Met.ofW (cc := cX1_wastes) (maxL := 4) (ret := none) (by decide) rfl ?_
  intro p e s m args below meth cd s₁ B hml hv
  obtain ⟨hargs, hsz, hH, hG⟩ := hv
  have hx := B.exec
  have hb := B.bytes
  have hrt := B.returns
  have hts := atoms_spec (ws := (ws_ yX1_wastes cX1_wastes 4 none)) B.pre
  have hts : ∀ w ∈ lw_all, w.before _ s = true := fun w h => hts w (List.mem_cons_of_mem _ h)
  have hown : s.vm.findClass RX1 = some m.cls := findClass_of_methodNamed B.named
  have hlocks := B.notSynchronized
  subst hsz
  have hS : va_S A s.heap s.heap [] := va_S.rf
  have hE : entryFrame m args 4 = F0 m 0 ((lg_sl ([.ref (ad 0 0), .ref (ad 6 c), .int (nI sv)]) ++ List.replicate (4 - (lg_sl ([.ref (ad 0 0), .ref (ad 6 c), .int (nI sv)])).length) Slot.unset).toArray) [] := by rw [hargs]; exact lg_entry_eq m _ 4
  have hl := lv_entry ([.ref (ad 0 0), .ref (ad 6 c), .int (nI sv)]) (n := 4) (Nat.le_of_ble_eq_true rfl)
  rw [hE]
  clear hE
  generalize (lg_sl ([.ref (ad 0 0), .ref (ad 6 c), .int (nI sv)]) ++ List.replicate (4 - (lg_sl ([.ref (ad 0 0), .ref (ad 6 c), .int (nI sv)])).length) Slot.unset).toArray = ls at hl ⊢
  have hl : lv_has ls 4 [(0, .ref (ad 0 0)), (1, .ref (ad 6 c)), (2, .int (nI sv))] := hl
  generalize hQ : MQ _ _ _ _ _ _ _ = Q
  refine lv_aload_n hx hb dX1_wastes_0 rfl (lv_at hl 0 rfl) ?_
  refine lv_dup hx hb dX1_wastes_1 rfl ?_
  refine ko_get (C := RX1) (T := TX1) (N := 28) (ci := 1) (v := .int (nI (N 15))) hx hb hts in_X1 hown hG.1 hH.o0 rfl 12 (by decide) q197 (fun _ h => h) (rfl) dX1_wastes_2 ?_
  refine lv_aload_n hx hb dX1_wastes_5 rfl (lv_at hl 1 rfl) ?_
  refine vp_callSi (va_Run.call (va_runU (As := []) (rest := [.int (nI (N 15)), .ref (ad 0 0)]) ⟨hx, hb, hml, hown, hts⟩ (c_X3_all_C lh A D dA K ad X Y N I G J c (show c < (N 3) from by first | omega | assumption)) (va_cwU 0 hts (lw_U q440 q441 q443 q444 q72 q445) rfl rfl rfl rfl (by decide +kernel) ⟨Nat.le_of_ble_eq_true rfl, Nat.le_of_ble_eq_true rfl⟩) ⟨PX.blind (Mv.and Mv.heap Mv.gk), (O_recv hG (hH.cr (show c < N 3 from by omega)) rfl), PX.pre (Mv.and Mv.heap Mv.gk) ⟨hH, hG⟩⟩ rfl rfl hl.1 rfl (lv_room (Nat.le_of_ble_eq_true rfl)) dX1_wastes_6 ⟨Nat.le_of_ble_eq_true rfl, Nat.le_of_ble_eq_true rfl⟩)) (fun rr hrr => ?_)
  subst hrr
  refine kn_add hx hb dX1_wastes_9 ?_
  refine ko_put (C := RX1) (T := TX1) (N := 28) (ci := 1) hx hb hts in_X1 tyX1 tyX1_ok nmX1 hown hG.1 hS (hH.2.2 0 0 rfl) hH.o0 rfl 12 (by decide) q197 (fun _ h => h) rfl rfl rfl (Nat.le_of_ble_eq_true rfl) dX1_wastes_10 (fun H locs e1 z1 o1 hS => ?_)
  have hH := hH.house (N1 := (up1 N 15 (N 15 + (gr G c)))) (I1 := I) (Y1 := Y) e1 o1 rfl rfl rfl rfl (fun _ _ => rfl)
  clear e1 z1 o1
  refine lv_iconst (v := nI 0) hx hb dX1_wastes_13 (by decide) ?_
  refine lv_istore_n (lv' := [(3, .int (nI 0)), (0, .ref (ad 0 0)), (1, .ref (ad 6 c)), (2, .int (nI sv))]) hx hb dX1_wastes_14 rfl hl (by decide) rfl (fun ls hl => ?_)
  have L15 : ∀ (nn15 : Nat) (l : Nat), (l ≤ 20) → 20 - l < nn15 → ∀ (H : Heap) (locs : List Loc), RH A D dA K ad X (wsY Y G c l) (up1 N 15 (N 15 + gr G c)) I (zeroG G c l) J H → va_S A s.heap H locs → ∀ (ls : Array Slot), lv_has ls 4 [(0, .ref (ad 0 0)), (1, .ref (ad 6 c)), (2, .int (nI sv)), (3, .int (nI l))] → W p lh e r_X1_wastes s m args below meth cd H locs 0 0 Q (F0 m 15 ls []) := by
    intro nn15
    induction nn15 with
    | zero => intro l i15_0 hm15; exact absurd hm15 (Nat.not_lt_zero _)
    | succ nn15 ih15 =>
      intro l i15_0 hm15 H locs hH hS ls hl
      refine lv_iload_n hx hb dX1_wastes_15 rfl (lv_at hl 3 rfl) ?_
      refine lv_bipush (v := nI 20) hx hb dX1_wastes_16 (by decide) ?_
      refine kn_cge (tgt := 49) hx hb dX1_wastes_18 (by decide) (by omega) (by omega) (fun c_18 => ?_) (fun c_18 => ?_)
      · have e : l = 20 := (by omega)
        subst e
        refine lv_aload_n hx hb dX1_wastes_49 rfl (lv_at hl 1 rfl) ?_
        refine lv_iload_n hx hb dX1_wastes_50 rfl (lv_at hl 2 rfl) ?_
        refine va_callv (va_runV (As := [.int (nI sv)]) (rest := []) ⟨hx, hb, hml, hown, hts⟩ (c_X4_goes lh A D dA K ad X (wsY Y G c 20) (up1 N 15 (N 15 + gr G c)) I (zeroG G c 20) J H.size c sv (show c < (N 3) from by first | omega | assumption) (fun q h => hA q (Nat.le_trans hS.1 h))) (w_X4_goes hts q551 rfl rfl ⟨Nat.le_of_ble_eq_true rfl, Nat.le_of_ble_eq_true rfl⟩) ⟨PX.blind (Mv.and Mv.heap (Mv.and Mv.heap Mv.gk)), (O_recv hG (hH.cr (show c < N 3 from by omega)) rfl), PX.pre (Mv.and Mv.heap (Mv.and Mv.heap Mv.gk)) ⟨rfl, hH, hG⟩⟩ rfl rfl hl.1 rfl (lv_room (Nat.le_of_ble_eq_true rfl)) dX1_wastes_51 ⟨Nat.le_of_ble_eq_true rfl, Nat.le_of_ble_eq_true rfl⟩) hS (fun q _ h => h) (fun q h => h) (fun u t H1 locs ht hvm hp hB hz hk hS => ?_)
        obtain ⟨hH, -⟩ := hB
        rw [ht] at hH
        clear ht hz hk
        generalize H1 = H at hH hS ⊢
        subst hp
        dsimp only at hH
        subst hQ
        exact W.vret hx hb hrt (fun t ht hW => ⟨⟨(ad, X, (up3 (wsY Y G c 20) 0 c 0 (-1)), (up1 N 15 (N 15 + gr G c)), I, (up2 (zeroG G c 20) 6 c sv), J), rfl, (rfl), by rw [ht]; exact hH, GK.warm hW hG⟩, hS.F ht⟩) hS.2.2 dX1_wastes_54
      · refine lv_aload_n hx hb dX1_wastes_21 rfl (lv_at hl 0 rfl) ?_
        refine ko_get (C := RX1) (T := TX1) (N := 28) (ci := 1) (v := .ref (ad 1 15)) hx hb hts in_X1 hown hG.1 hH.o0 rfl 15 (by decide) q200 (fun _ h => h) (rfl) dX1_wastes_22 ?_
        refine lv_iload_n hx hb dX1_wastes_25 rfl (lv_at hl 3 rfl) ?_
        refine lv_dup2_11 hx hb dX1_wastes_26 rfl rfl ?_
        refine ka_iald (v := (wsY Y G c l) 4 0 l) hx hb hG.1 (hH.arr 15 rfl) 0 rfl (show l < 20 from by omega) (by decide) (rfl) dX1_wastes_27 ?_
        refine lv_aload_n hx hb dX1_wastes_28 rfl (lv_at hl 1 rfl) ?_
        refine ko_get (C := RX4) (T := TX4) (N := 11) (ci := 2) (v := .ref (ad 7 c)) hx hb hts in_X4 hown hG.1 (hH.cr (show c < N 3 from by omega)) rfl 0 (by decide) q338 (u_same (hts _ q339)) (rfl) dX1_wastes_29 ?_
        refine lv_iload_n hx hb dX1_wastes_32 rfl (lv_at hl 3 rfl) ?_
        refine ka_iald (v := nI (G 4 (20 * c + l))) hx hb hG.1 (hH.gm (show c < N 3 from by omega)) 0 rfl (show l < 20 from by omega) (by decide) ((tr20_in (by omega)).trans (by rw [zeroG_hi (Nat.le_refl l)])) dX1_wastes_33 ?_
        refine lv_iadd hx hb dX1_wastes_34 ?_
        refine ka_iast hx hb hG.1 hS (hH.2.2 1 15 rfl) (hH.arr 15 rfl) 0 rfl (show l < 20 from by omega) (by decide) dX1_wastes_35 (fun H locs e1 z1 o1 hS => ?_)
        have hH := hH.h15 (j := l) (v := ((wsY Y G c l) 4 0 l) + (nI (G 4 (20 * c + l)))) e1 o1
        clear e1 z1 o1
        refine lv_aload_n hx hb dX1_wastes_36 rfl (lv_at hl 1 rfl) ?_
        refine ko_get (C := RX4) (T := TX4) (N := 11) (ci := 2) (v := .ref (ad 7 c)) hx hb hts in_X4 hown hG.1 (hH.cr (show c < N 3 from by omega)) rfl 0 (by decide) q338 (u_same (hts _ q339)) (rfl) dX1_wastes_37 ?_
        refine lv_iload_n hx hb dX1_wastes_40 rfl (lv_at hl 3 rfl) ?_
        refine lv_iconst (v := nI 0) hx hb dX1_wastes_41 (by decide) ?_
        refine ka_iast hx hb hG.1 hS (hH.2.2 7 c (show c < N 3 from by omega)) (hH.gm (show c < N 3 from by omega)) 0 rfl (show l < 20 from by omega) (by decide) dX1_wastes_42 (fun H locs e1 z1 o1 hS => ?_)
        have hH := hH.gram (show c < N 3 from by omega) (j := l) (v := 0) (by omega) e1 o1
        clear e1 z1 o1
        refine lv_iinc (v := nI (l + 1)) (lv' := [(3, .int (nI (l + 1))), (0, .ref (ad 0 0)), (1, .ref (ad 6 c)), (2, .int (nI sv))]) hx hb dX1_wastes_43 hl (k := 3) rfl (show nI l + Int32.ofInt 1 = nI (l + 1) from nI_add _ 1) (by decide) rfl (fun ls hl => ?_)
        refine lv_goto (tgt := 15) hx hb dX1_wastes_46 (by decide) ?_
        exact ih15 (l + 1) (by omega) (by omega) _ _ hH hS _ (lv_sub hl [1, 2, 3, 0] rfl)
  exact L15 _ 0 (by omega) (Nat.lt_succ_self _) _ _ hH hS _ (lv_sub hl [1, 2, 3, 0] rfl)
theorem w_X1_wastes {R : Room} {s : State} {args : Array Value} {own : String} {idx : Nat} (hts : ∀ w ∈ lw_all, w.before args s = true) (h1 : Cond.methodLink own idx yX1_wastes ∈ lw_all) {rm : Room} {mc ms : Nat} (hrc : rm.cells = mc) (hrs : rm.slots = ms) (hR : rm.frames + 1 ≤ R.frames ∧ 8 + (4 + 11) + rm.locals ≤ R.locals) : CallW R s args own RX1 idx yX1_wastes cX1_wastes 4 none (ws_ yX1_wastes cX1_wastes 4 none) rm mc ms 2 := cwV 2 hts (lw_V h1 q549 qs12 q62 q550) rfl hrc hrs (by decide +kernel) hR

abbrev r_X3_takesAll_C : Room := { frames := 0, cells := 0, slots := 0, locals := 0 }
set_option maxHeartbeats 1000000 in
theorem c_X3_takesAll_C (lh : Launch) (A : Nat → Prop) (D : va_G) (dA : Nat → ClassId) (K : Nat → Nat) (ad X : Nat → Nat → Nat) (Y : Nat → Nat → Nat → Int32) (N : Nat → Nat) (I : Nat → Int32) (G : Nat → Nat → Nat) (J : Nat → Nat → Int32) (sz : Nat) (b : Nat) (a : Nat) (h1 : b < N 3) (h2 : a < N 3) (h3 : a ≠ b) (hA : ∀ q, sz ≤ q → A q) : Met lh yX3_takesAll (ws_ yX3_takesAll cX3_takesAll 3 none) r_X3_takesAll_C (PX (fun U H => H.size = sz ∧ RH A D dA K ad X Y N I G J H ∧ GK D dA U) [.ref (ad 6 b), .ref (ad 6 a)]) (va_Qv (fun u : HgT => u = (ad, X, Y, N, I, (pourT G a b 20), J)) (BmH A D dA K) A) 0 0 A := by
  refine Met.ofW (cc := cX3_takesAll) (maxL := 3) (ret := none) (by decide) rfl ?_
  intro p e s m args below meth cd s₁ B hml hv
  obtain ⟨hargs, hsz, hH, hG⟩ := hv
  have hx := B.exec
  have hb := B.bytes
  have hrt := B.returns
  have hts := atoms_spec (ws := (ws_ yX3_takesAll cX3_takesAll 3 none)) B.pre
  have hts : ∀ w ∈ lw_all, w.before _ s = true := fun w h => hts w (List.mem_cons_of_mem _ h)
  have hown : s.vm.findClass RX3 = some m.cls := findClass_of_methodNamed B.named
  have hlocks := B.notSynchronized
  subst hsz
  have hS : va_S A s.heap s.heap [] := va_S.rf
  have hE : entryFrame m args 3 = F0 m 0 ((lg_sl ([.ref (ad 6 b), .ref (ad 6 a)]) ++ List.replicate (3 - (lg_sl ([.ref (ad 6 b), .ref (ad 6 a)])).length) Slot.unset).toArray) [] := by rw [hargs]; exact lg_entry_eq m _ 3
  have hl := lv_entry ([.ref (ad 6 b), .ref (ad 6 a)]) (n := 3) (Nat.le_of_ble_eq_true rfl)
  rw [hE]
  clear hE
  generalize (lg_sl ([.ref (ad 6 b), .ref (ad 6 a)]) ++ List.replicate (3 - (lg_sl ([.ref (ad 6 b), .ref (ad 6 a)])).length) Slot.unset).toArray = ls at hl ⊢
  have hl : lv_has ls 3 [(0, .ref (ad 6 b)), (1, .ref (ad 6 a))] := hl
  generalize hQ : MQ _ _ _ _ _ _ _ = Q
  refine lv_iconst (v := nI 0) hx hb dX3_takesAll_0 (by decide) ?_
  refine lv_istore_n (lv' := [(2, .int (nI 0)), (0, .ref (ad 6 b)), (1, .ref (ad 6 a))]) hx hb dX3_takesAll_1 rfl hl (by decide) rfl (fun ls hl => ?_)
  have L2 : ∀ (nn2 : Nat) (l : Nat), (l ≤ 20) → 20 - l < nn2 → ∀ (H : Heap) (locs : List Loc), RH A D dA K ad X Y N I (pourT G a b l) J H → va_S A s.heap H locs → ∀ (ls : Array Slot), lv_has ls 3 [(0, .ref (ad 6 b)), (1, .ref (ad 6 a)), (2, .int (nI l))] → W p lh e r_X3_takesAll_C s m args below meth cd H locs 0 0 Q (F0 m 2 ls []) := by
    intro nn2
    induction nn2 with
    | zero => intro l i2_0 hm2; exact absurd hm2 (Nat.not_lt_zero _)
    | succ nn2 ih2 =>
      intro l i2_0 hm2 H locs hH hS ls hl
      refine lv_iload_n hx hb dX3_takesAll_2 rfl (lv_at hl 2 rfl) ?_
      refine lv_bipush (v := nI 20) hx hb dX3_takesAll_3 (by decide) ?_
      refine kn_cge (tgt := 36) hx hb dX3_takesAll_5 (by decide) (by omega) (by omega) (fun c_5 => ?_) (fun c_5 => ?_)
      · have e : l = 20 := (by omega)
        subst e
        subst hQ
        exact W.vret hx hb hrt (fun t ht hW => ⟨⟨(ad, X, Y, N, I, (pourT G a b 20), J), rfl, (rfl), by rw [ht]; exact hH, GK.warm hW hG⟩, hS.F ht⟩) hS.2.2 dX3_takesAll_36
      · refine lv_aload_n hx hb dX3_takesAll_8 rfl (lv_at hl 0 rfl) ?_
        refine ko_get (C := RX4) (T := TX4) (N := 11) (ci := 2) (v := .ref (ad 7 b)) hx hb hts in_X4 hown hG.1 (hH.cr (show b < N 3 from by omega)) rfl 0 (by decide) q337 (fun _ h => h) (rfl) dX3_takesAll_9 ?_
        refine lv_iload_n hx hb dX3_takesAll_12 rfl (lv_at hl 2 rfl) ?_
        refine lv_dup2_11 hx hb dX3_takesAll_13 rfl rfl ?_
        refine ka_iald (v := nI ((pourT G a b l) 4 (20 * b + l))) hx hb hG.1 (hH.gm (show b < N 3 from by omega)) 0 rfl (show l < 20 from by omega) (by decide) (tr20_in (by omega)) dX3_takesAll_14 ?_
        refine lv_aload_n hx hb dX3_takesAll_15 rfl (lv_at hl 1 rfl) ?_
        refine ko_get (C := RX4) (T := TX4) (N := 11) (ci := 2) (v := .ref (ad 7 a)) hx hb hts in_X4 hown hG.1 (hH.cr (show a < N 3 from by omega)) rfl 0 (by decide) q337 (fun _ h => h) (rfl) dX3_takesAll_16 ?_
        refine lv_iload_n hx hb dX3_takesAll_19 rfl (lv_at hl 2 rfl) ?_
        refine ka_iald (v := nI ((pourT G a b l) 4 (20 * a + l))) hx hb hG.1 (hH.gm (show a < N 3 from by omega)) 0 rfl (show l < 20 from by omega) (by decide) (tr20_in (by omega)) dX3_takesAll_20 ?_
        refine kn_add hx hb dX3_takesAll_21 ?_
        refine ka_iast hx hb hG.1 hS (hH.2.2 7 b (show b < N 3 from by omega)) (hH.gm (show b < N 3 from by omega)) 0 rfl (show l < 20 from by omega) (by decide) dX3_takesAll_22 (fun H locs e1 z1 o1 hS => ?_)
        have hH := hH.gram (show b < N 3 from by omega) (j := l) (v := (pourT G a b l) 4 (20 * b + l) + ((pourT G a b l) 4 (20 * a + l))) (by omega) e1 o1
        clear e1 z1 o1
        refine lv_aload_n hx hb dX3_takesAll_23 rfl (lv_at hl 1 rfl) ?_
        refine ko_get (C := RX4) (T := TX4) (N := 11) (ci := 2) (v := .ref (ad 7 a)) hx hb hts in_X4 hown hG.1 (hH.cr (show a < N 3 from by omega)) rfl 0 (by decide) q337 (fun _ h => h) (rfl) dX3_takesAll_24 ?_
        refine lv_iload_n hx hb dX3_takesAll_27 rfl (lv_at hl 2 rfl) ?_
        refine lv_iconst (v := nI 0) hx hb dX3_takesAll_28 (by decide) ?_
        refine ka_iast hx hb hG.1 hS (hH.2.2 7 a (show a < N 3 from by omega)) (hH.gm (show a < N 3 from by omega)) 0 rfl (show l < 20 from by omega) (by decide) dX3_takesAll_29 (fun H locs e1 z1 o1 hS => ?_)
        have hH := hH.gram (show a < N 3 from by omega) (j := l) (v := 0) (by omega) e1 o1
        clear e1 z1 o1
        refine lv_iinc (v := nI (l + 1)) (lv' := [(2, .int (nI (l + 1))), (0, .ref (ad 6 b)), (1, .ref (ad 6 a))]) hx hb dX3_takesAll_30 hl (k := 2) rfl (show nI l + Int32.ofInt 1 = nI (l + 1) from nI_add _ 1) (by decide) rfl (fun ls hl => ?_)
        refine lv_goto (tgt := 2) hx hb dX3_takesAll_33 (by decide) ?_
        exact ih2 (l + 1) (by omega) (by omega) _ _ hH hS _ (lv_sub hl [1, 2, 0] rfl)
  exact L2 _ 0 (by omega) (Nat.lt_succ_self _) _ _ hH hS _ (lv_sub hl [1, 2, 0] rfl)

abbrev r_X4_takesAll : Room := { frames := 1, cells := 0, slots := 0, locals := 22 }
set_option maxHeartbeats 1000000 in
theorem c_X4_takesAll (lh : Launch) (A : Nat → Prop) (D : va_G) (dA : Nat → ClassId) (K : Nat → Nat) (ad X : Nat → Nat → Nat) (Y : Nat → Nat → Nat → Int32) (N : Nat → Nat) (I : Nat → Int32) (G : Nat → Nat → Nat) (J : Nat → Nat → Int32) (sz : Nat) (b : Nat) (a : Nat) (h1 : b < N 3) (h2 : a < N 3) (h3 : a ≠ b) (hA : ∀ q, sz ≤ q → A q) : Met lh yX4_takesAll (ws_ yX4_takesAll cX4_takesAll 2 none) r_X4_takesAll (PX (fun U H => H.size = sz ∧ RH A D dA K ad X Y N I G J H ∧ GK D dA U) [.ref (ad 6 b), .ref (ad 6 a)]) (va_Qv (fun u : HgT => u = (ad, X, Y, N, I, (up2 (pourT G a b 20) 6 b 0), J)) (BmH A D dA K) A) 0 0 A := by
  refine Met.ofW (cc := cX4_takesAll) (maxL := 2) (ret := none) (by decide) rfl ?_
  intro p e s m args below meth cd s₁ B hml hv
  obtain ⟨hargs, hsz, hH, hG⟩ := hv
  have hx := B.exec
  have hb := B.bytes
  have hrt := B.returns
  have hts := atoms_spec (ws := (ws_ yX4_takesAll cX4_takesAll 2 none)) B.pre
  have hts : ∀ w ∈ lw_all, w.before _ s = true := fun w h => hts w (List.mem_cons_of_mem _ h)
  have hown : s.vm.findClass RX4 = some m.cls := findClass_of_methodNamed B.named
  have hlocks := B.notSynchronized
  subst hsz
  have hS : va_S A s.heap s.heap [] := va_S.rf
  have hE : entryFrame m args 2 = F0 m 0 ((lg_sl ([.ref (ad 6 b), .ref (ad 6 a)]) ++ List.replicate (2 - (lg_sl ([.ref (ad 6 b), .ref (ad 6 a)])).length) Slot.unset).toArray) [] := by rw [hargs]; exact lg_entry_eq m _ 2
  have hl := lv_entry ([.ref (ad 6 b), .ref (ad 6 a)]) (n := 2) (Nat.le_of_ble_eq_true rfl)
  rw [hE]
  clear hE
  generalize (lg_sl ([.ref (ad 6 b), .ref (ad 6 a)]) ++ List.replicate (2 - (lg_sl ([.ref (ad 6 b), .ref (ad 6 a)])).length) Slot.unset).toArray = ls at hl ⊢
  have hl : lv_has ls 2 [(0, .ref (ad 6 b)), (1, .ref (ad 6 a))] := hl
  generalize hQ : MQ _ _ _ _ _ _ _ = Q
  refine lv_aload_n hx hb dX4_takesAll_0 rfl (lv_at hl 0 rfl) ?_
  refine lv_aload_n hx hb dX4_takesAll_1 rfl (lv_at hl 1 rfl) ?_
  refine va_callv (va_runSU (hG.1.1 2 _ rfl).2 (As := [.ref (ad 6 a)]) (rest := []) ⟨hx, hb, hml, hown, hts⟩ (c_X3_takesAll_C lh A D dA K ad X Y N I G J s.heap.size b a (show b < (N 3) from by first | omega | assumption) (show a < (N 3) from by first | omega | assumption) (show a ≠ b from by first | omega | assumption) (fun q h => hA q (Nat.le_trans hS.1 h))) (va_cwSU 1 hts (lw_SU q1152 q1705 q364 q1153 q72 q1154) rfl rfl rfl (by decide +kernel) ⟨Nat.le_of_ble_eq_true rfl, Nat.le_of_ble_eq_true rfl⟩) ⟨PX.blind (Mv.and Mv.heap (Mv.and Mv.heap Mv.gk)), (O_recv hG (hH.cr (show b < N 3 from by omega)) rfl), PX.pre (Mv.and Mv.heap (Mv.and Mv.heap Mv.gk)) ⟨rfl, hH, hG⟩⟩ rfl rfl hl.1 rfl (lv_room (Nat.le_of_ble_eq_true rfl)) dX4_takesAll_2 ⟨Nat.le_of_ble_eq_true rfl, Nat.le_of_ble_eq_true rfl⟩) hS (fun q _ h => h) (fun q h => h) (fun u t H1 locs ht hvm hp hB hz hk hS => ?_)
  obtain ⟨hH, -⟩ := hB
  rw [ht] at hH
  clear ht hz hk
  generalize H1 = H at hH hS ⊢
  subst hp
  dsimp only at hH
  refine lv_aload_n hx hb dX4_takesAll_5 rfl (lv_at hl 0 rfl) ?_
  refine lv_iconst (v := nI 0) hx hb dX4_takesAll_6 (by decide) ?_
  refine ko_put (C := RX4) (T := TX4) (N := 11) (ci := 2) hx hb hts in_X4 tyX4 tyX4_ok nmX4 hown hG.1 hS (hH.2.2 6 b (show b < N 3 from by omega)) (hH.cr (show b < N 3 from by omega)) rfl 9 (by decide) q332 (fun _ h => h) rfl rfl rfl (Nat.le_of_ble_eq_true rfl) dX4_takesAll_7 (fun H locs e1 z1 o1 hS => ?_)
  have hH := hH.c9 (v := 0) (show b < N 3 from by omega) e1 o1
  clear e1 z1 o1
  subst hQ
  exact W.vret hx hb hrt (fun t ht hW => ⟨⟨(ad, X, Y, N, I, (up2 (pourT G a b 20) 6 b 0), J), rfl, (rfl), by rw [ht]; exact hH, GK.warm hW hG⟩, hS.F ht⟩) hS.2.2 dX4_takesAll_10
theorem w_X4_takesAll {R : Room} {s : State} {args : Array Value} {own : String} {idx : Nat} (hts : ∀ w ∈ lw_all, w.before args s = true) (h1 : Cond.methodLink own idx yX4_takesAll ∈ lw_all) {rm : Room} {mc ms : Nat} (hrc : rm.cells = mc) (hrs : rm.slots = ms) (hR : rm.frames + 1 ≤ R.frames ∧ 8 + (2 + 11) + rm.locals ≤ R.locals) : CallW R s args own RX4 idx yX4_takesAll cX4_takesAll 2 none (ws_ yX4_takesAll cX4_takesAll 2 none) rm mc ms 1 := cwV 1 hts (lw_V h1 q1149 q1150 q73 q1151) rfl hrc hrs (by decide +kernel) hR
