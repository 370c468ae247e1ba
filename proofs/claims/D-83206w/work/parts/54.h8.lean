set_option maxRecDepth 100000
abbrev r_X10_goes_0 : Room := { frames := 7, cells := 0, slots := 0, locals := 162 }
set_option maxHeartbeats 1000000 in
theorem c_X10_goes_0 (lh : Launch) (A : Nat → Prop) (D : va_G) (dA : Nat → ClassId) (K : Nat → Nat) (ad X : Nat → Nat → Nat) (Y : Nat → Nat → Nat → Int32) (N : Nat → Nat) (I : Nat → Int32) (G : Nat → Nat → Nat) (J : Nat → Nat → Int32) (sz : Nat) (i : Nat) (c : Nat) (h1 : c < N 3) (h2 : i / 10 < N 23 ∧ i % 10 < G 25 (i / 10)) (h3 : G 26 i = 0) (h4 : ∀ a b, G a b < 2 ^ 31) (h5 : N 3 ≤ 10) (h6 : N 14 ≤ 600) (h7 : N 19 ≤ 100) (h8 : XOk N G X) (h9 : TsOk N G) (h10 : lv G c = true) (h11 : RtOk N G Y) (h12 : PlOk N G Y) (h13 : ∀ j, j < 3 → G 29 (3 * i + j) ≤ 7) (h14 : ∀ j, G 30 j ≤ 2) (h15 : G 28 i ≤ 3) (h16 : G 7 c ≤ 60) (h17 : G 27 i ≤ 9999) (hA : ∀ q, sz ≤ q → A q) : Met lh yX10_goes (ws_ yX10_goes cX10_goes 4 none) r_X10_goes_0 (PX (fun U H => H.size = sz ∧ RH A D dA K ad X Y N I G J H ∧ GK D dA U) [.ref (ad 15 i), .ref (ad 0 0), .ref (ad 6 c)]) (va_Qv (fun u : HgT => u = (ad, X, goY Y N G J c i, goN N G J c i, I, goG N G J c i, J)) (BmH A D dA K) A) 0 0 A := by
  refine Met.ofW (cc := cX10_goes) (maxL := 4) (ret := none) (by decide) rfl ?_
  intro p e s m args below meth cd s₁ B hml hv
  obtain ⟨hargs, hsz, hH, hG⟩ := hv
  have hx := B.exec
  have hb := B.bytes
  have hrt := B.returns
  have hts := atoms_spec (ws := (ws_ yX10_goes cX10_goes 4 none)) B.pre
  have hts : ∀ w ∈ lw_all, w.before _ s = true := fun w h => hts w (List.mem_cons_of_mem _ h)
  have hown : s.vm.findClass RX10 = some m.cls := findClass_of_methodNamed B.named
  have hlocks := B.notSynchronized
  subst hsz
  have hS : va_S A s.heap s.heap [] := va_S.rf
  have hE : entryFrame m args 4 = F0 m 0 ((lg_sl ([.ref (ad 15 i), .ref (ad 0 0), .ref (ad 6 c)]) ++ List.replicate (4 - (lg_sl ([.ref (ad 15 i), .ref (ad 0 0), .ref (ad 6 c)])).length) Slot.unset).toArray) [] := by rw [hargs]; exact lg_entry_eq m _ 4
  have hl := lv_entry ([.ref (ad 15 i), .ref (ad 0 0), .ref (ad 6 c)]) (n := 4) (Nat.le_of_ble_eq_true rfl)
  rw [hE]
  clear hE
  generalize (lg_sl ([.ref (ad 15 i), .ref (ad 0 0), .ref (ad 6 c)]) ++ List.replicate (4 - (lg_sl ([.ref (ad 15 i), .ref (ad 0 0), .ref (ad 6 c)])).length) Slot.unset).toArray = ls at hl ⊢
  have hl : lv_has ls 4 [(0, .ref (ad 15 i)), (1, .ref (ad 0 0)), (2, .ref (ad 6 c))] := hl
  generalize hQ : MQ _ _ _ _ _ _ _ = Q
  have hX := h8
  refine lv_iconst (v := nI 0) hx hb dX10_goes_0 (by decide) ?_
  refine lv_istore_n (lv' := [(3, .int (nI 0)), (0, .ref (ad 15 i)), (1, .ref (ad 0 0)), (2, .ref (ad 6 c))]) hx hb dX10_goes_1 rfl hl (by decide) rfl (fun ls hl => ?_)
  have L2 : ∀ (nn2 : Nat) (q : Nat), (q ≤ G 28 i) → (hdS G J c (N 14) (N 19) i q = true) → G 28 i - q < nn2 → ∀ (ls : Array Slot), lv_has ls 4 [(0, .ref (ad 15 i)), (1, .ref (ad 0 0)), (2, .ref (ad 6 c)), (3, .int (nI q))] → W p lh e r_X10_goes_0 s m args below meth cd s.heap [] 0 0 Q (F0 m 2 ls []) := by
    intro nn2
    induction nn2 with
    | zero => intro q i2_0 i2_1 hm2; exact absurd hm2 (Nat.not_lt_zero _)
    | succ nn2 ih2 =>
      intro q i2_0 i2_1 hm2 ls hl
      refine lv_iload_n hx hb dX10_goes_2 rfl (lv_at hl 3 rfl) ?_
      refine lv_aload_n hx hb dX10_goes_3 rfl (lv_at hl 0 rfl) ?_
      refine ko_get (C := RX11) (T := TX11) (N := 1) (ci := 9) (v := .ref (ad 16 i)) hx hb hts in_X11 hown hG.1 (hH.act h2 0 h3 (by decide)) rfl 0 (by decide) q1071 (fun _ h => h) (rfl) dX10_goes_4 ?_
      refine vp_callSi (va_Run.call (va_runV (As := []) (rest := [.int (nI q)]) ⟨hx, hb, hml, hown, hts⟩ (c_J2_size lh D dA (ad 16 i) (Y 11 i 0) (ad 17 i) (G 28 i)) (w_J2_size hts q474 rfl rfl ⟨Nat.le_of_ble_eq_true rfl, Nat.le_of_ble_eq_true rfl⟩) ⟨PX.blind (Mv.and Mv.heap Mv.gk), (O_recv hG (hH.1 16 i h2) rfl), PX.pre (Mv.and Mv.heap Mv.gk) ⟨(hH.1 16 i h2), hG⟩⟩ rfl rfl hl.1 rfl (lv_room (Nat.le_of_ble_eq_true rfl)) dX10_goes_7 ⟨Nat.le_of_ble_eq_true rfl, Nat.le_of_ble_eq_true rfl⟩)) (fun rr hrr => ?_)
      subst hrr
      refine kn_cge (tgt := 41) hx hb dX10_goes_10 (by decide) (by omega) (by omega) (fun c_10 => ?_) (fun c_10 => ?_)
      · refine lv_aload_n hx hb dX10_goes_41 rfl (lv_at hl 0 rfl) ?_
        refine lv_aload_n hx hb dX10_goes_42 rfl (lv_at hl 1 rfl) ?_
        refine lv_aload_n hx hb dX10_goes_43 rfl (lv_at hl 2 rfl) ?_
        refine va_callv (va_runU (As := [.ref (ad 0 0), .ref (ad 6 c)]) (rest := []) ⟨hx, hb, hml, hown, hts⟩ (c_X11_does lh A D dA K ad X Y N I G J s.heap.size i c (h1) (fun q h => hA q (Nat.le_trans hS.1 h))) (va_cwA 2 hts (lw_U q510 q512 q534 q535 q91 q536) rfl rfl rfl (hG.2.1 _ q511 rfl) (by decide +kernel) ⟨Nat.le_of_ble_eq_true rfl, Nat.le_of_ble_eq_true rfl⟩) ⟨PX.blind (Mv.and Mv.heap (Mv.and Mv.heap Mv.gk)), (O_recv hG (hH.act h2 0 h3 (by decide)) rfl), PX.pre (Mv.and Mv.heap (Mv.and Mv.heap Mv.gk)) ⟨rfl, hH, hG⟩⟩ rfl rfl hl.1 rfl (lv_room (Nat.le_of_ble_eq_true rfl)) dX10_goes_44 ⟨Nat.le_of_ble_eq_true rfl, Nat.le_of_ble_eq_true rfl⟩) hS (fun q _ h => h) (fun q h => h) (fun u t H1 locs ht hvm hp hB hz hk hS => ?_)
        obtain ⟨hH, -⟩ := hB
        rw [ht] at hH
        clear ht hz hk
        generalize H1 = H at hH hS ⊢
        subst hp
        dsimp only at hH
        subst hQ
        exact W.vret hx hb hrt (fun t ht hW => ⟨⟨(ad, X, Y, N, I, (up2 G 8 c 0), J), rfl, (by have hz : hdS G J c (N 14) (N 19) i (G 28 i) = true := (by rw [show G 28 i = q by omega]; exact i2_1); rw [(go_yes (Y := Y) hz).1, (go_yes (Y := Y) hz).2.1, (go_yes (Y := Y) hz).2.2, (act0 (Y := Y) (N := N) (c := c) h3).1, (act0 (Y := Y) (N := N) (c := c) h3).2.1, (act0 (Y := Y) (N := N) (c := c) h3).2.2]), by rw [ht]; exact hH, GK.warm hW hG⟩, hS.F ht⟩) hS.2.2 dX10_goes_47
      · refine lv_aload_n hx hb dX10_goes_13 rfl (lv_at hl 0 rfl) ?_
        refine ko_get (C := RX11) (T := TX11) (N := 1) (ci := 9) (v := .ref (ad 16 i)) hx hb hts in_X11 hown hG.1 (hH.act h2 0 h3 (by decide)) rfl 0 (by decide) q1071 (fun _ h => h) (rfl) dX10_goes_14 ?_
        refine lv_iload_n hx hb dX10_goes_17 rfl (lv_at hl 3 rfl) ?_
        refine va_csq (va_Run.call (va_runV (As := [.int (nI q)]) (rest := []) ⟨hx, hb, hml, hown, hts⟩ (c_J2_get lh D dA (ad 16 i) (Y 11 i 0) (ad 17 i) (G 28 i) (X 3 i) (ltH ad 18 (G 28 i) (3 * i)) (q) (ad 18 (3 * i + q)) (show q < G 28 i from by omega) ((hX.2.2 i h2.1 h2.2).1) ((hX.2.2 i h2.1 h2.2).2) (ltH_b (show q < G 28 i from by omega))) (w_J2_get hts q475 rfl rfl ⟨Nat.le_of_ble_eq_true rfl, Nat.le_of_ble_eq_true rfl⟩) ⟨PX.blind (Mv.and Mv.heap (Mv.and Mv.heap Mv.gk)), (O_recv hG (hH.1 16 i h2) rfl), PX.pre (Mv.and Mv.heap (Mv.and Mv.heap Mv.gk)) ⟨(hH.1 16 i h2), (hH.1 17 i h2), hG⟩⟩ rfl rfl hl.1 rfl (lv_room (Nat.le_of_ble_eq_true rfl)) dX10_goes_18 ⟨Nat.le_of_ble_eq_true rfl, Nat.le_of_ble_eq_true rfl⟩)) (fun rr hrr => ?_)
        subst hrr
        show W p lh e r_X10_goes_0 s m args below meth cd _ _ _ _ Q (F0 m _ ls (.ref (ad 18 (3 * i + q)) :: _))
        refine va_castY (C := RX9) hx hb hown (hts _ q476) (hG.2.1 _ q481 rfl) (O_recv hG (hH.cp (live18 h2 (show q < G 28 i by omega) h15)) rfl) dX10_goes_21 ?_
        refine lv_aload_n hx hb dX10_goes_24 rfl (lv_at hl 1 rfl) ?_
        refine lv_aload_n hx hb dX10_goes_25 rfl (lv_at hl 2 rfl) ?_
        refine va_csFi (va_runF (hG.1.1 8 _ rfl).2 (As := [.ref (ad 0 0), .ref (ad 6 c)]) (rest := []) ⟨hx, hb, hml, hown, hts⟩ (c_X9_holds lh A D dA K ad X Y N I G J (3 * i + q) c ((live18 h2 (show q < G 28 i by omega) h15)) (h4) (h1) (h6) (h7) (h8) (h9) (h10) (h11) (h12) (h13 q (by omega)) (h14 _)) (va_cwF 2 hts (lw_F q478 q482 q484 q89 q486) rfl rfl rfl hG.2.2.2 (by decide +kernel) ⟨Nat.le_of_ble_eq_true rfl, Nat.le_of_ble_eq_true rfl⟩) ⟨PX.blind (Mv.and Mv.heap Mv.gk), (O_recv hG (hH.cp (live18 h2 (show q < G 28 i by omega) h15)) rfl), PX.pre (Mv.and Mv.heap Mv.gk) ⟨hH, hG⟩⟩ rfl rfl hl.1 rfl (lv_room (Nat.le_of_ble_eq_true rfl)) dX10_goes_26 ⟨Nat.le_of_ble_eq_true rfl, Nat.le_of_ble_eq_true rfl⟩) (fun rr hrr => ?_)
        subst hrr
        refine kx_int (y := bI (cmpS (G 30 (3 * i + q)) (fldS G J c (N 14) (N 19) (G 29 (3 * i + q))) (G 31 (3 * i + q)))) rfl ?_
        refine kb_ne (tgt := 35) hx hb dX10_goes_31 (by decide) (fun c_31 => ?_) (fun c_31 => ?_)
        · refine lv_iinc (v := nI (q + 1)) (lv' := [(3, .int (nI (q + 1))), (0, .ref (ad 15 i)), (1, .ref (ad 0 0)), (2, .ref (ad 6 c))]) hx hb dX10_goes_35 hl (k := 3) rfl (show nI q + Int32.ofInt 1 = nI (q + 1) from nI_add _ 1) (by decide) rfl (fun ls hl => ?_)
          refine lv_goto (tgt := 2) hx hb dX10_goes_38 (by decide) ?_
          exact ih2 (q + 1) (by omega) (by rw [hdS, i2_1, Bool.true_and]; exact c_31) (by omega) _ (lv_sub hl [1, 2, 3, 0] rfl)
        · subst hQ
          exact W.vret hx hb hrt (fun t ht hW => ⟨⟨(ad, X, Y, N, I, G, J), rfl, (by have hz : hdS G J c (N 14) (N 19) i (q + 1) = false := (by rw [hdS, i2_1, Bool.true_and]; exact c_31); have hz := hdS_no' hz (show q + 1 ≤ G 28 i by omega); rw [(go_no (Y := Y) hz).1, (go_no (Y := Y) hz).2.1, (go_no (Y := Y) hz).2.2]), by rw [ht]; exact hH, GK.warm hW hG⟩, hS.F ht⟩) hS.2.2 dX10_goes_34
  exact L2 _ 0 (by omega) (rfl) (Nat.lt_succ_self _) _ (lv_sub hl [1, 2, 3, 0] rfl)

abbrev r_X10_goes_1 : Room := { frames := 7, cells := 0, slots := 0, locals := 162 }
set_option maxHeartbeats 1000000 in
theorem c_X10_goes_1 (lh : Launch) (A : Nat → Prop) (D : va_G) (dA : Nat → ClassId) (K : Nat → Nat) (ad X : Nat → Nat → Nat) (Y : Nat → Nat → Nat → Int32) (N : Nat → Nat) (I : Nat → Int32) (G : Nat → Nat → Nat) (J : Nat → Nat → Int32) (sz : Nat) (i : Nat) (c : Nat) (h1 : c < N 3) (h2 : i / 10 < N 23 ∧ i % 10 < G 25 (i / 10)) (h3 : G 26 i = 1) (h4 : ∀ a b, G a b < 2 ^ 31) (h5 : N 3 ≤ 10) (h6 : N 14 ≤ 600) (h7 : N 19 ≤ 100) (h8 : XOk N G X) (h9 : TsOk N G) (h10 : lv G c = true) (h11 : RtOk N G Y) (h12 : PlOk N G Y) (h13 : ∀ j, j < 3 → G 29 (3 * i + j) ≤ 7) (h14 : ∀ j, G 30 j ≤ 2) (h15 : G 28 i ≤ 3) (h16 : G 7 c ≤ 60) (h17 : G 27 i ≤ 9999) (hA : ∀ q, sz ≤ q → A q) : Met lh yX10_goes (ws_ yX10_goes cX10_goes 4 none) r_X10_goes_1 (PX (fun U H => H.size = sz ∧ RH A D dA K ad X Y N I G J H ∧ GK D dA U) [.ref (ad 15 i), .ref (ad 0 0), .ref (ad 6 c)]) (va_Qv (fun u : HgT => u = (ad, X, goY Y N G J c i, goN N G J c i, I, goG N G J c i, J)) (BmH A D dA K) A) 0 0 A := by
  refine Met.ofW (cc := cX10_goes) (maxL := 4) (ret := none) (by decide) rfl ?_
  intro p e s m args below meth cd s₁ B hml hv
  obtain ⟨hargs, hsz, hH, hG⟩ := hv
  have hx := B.exec
  have hb := B.bytes
  have hrt := B.returns
  have hts := atoms_spec (ws := (ws_ yX10_goes cX10_goes 4 none)) B.pre
  have hts : ∀ w ∈ lw_all, w.before _ s = true := fun w h => hts w (List.mem_cons_of_mem _ h)
  have hown : s.vm.findClass RX10 = some m.cls := findClass_of_methodNamed B.named
  have hlocks := B.notSynchronized
  subst hsz
  have hS : va_S A s.heap s.heap [] := va_S.rf
  have hE : entryFrame m args 4 = F0 m 0 ((lg_sl ([.ref (ad 15 i), .ref (ad 0 0), .ref (ad 6 c)]) ++ List.replicate (4 - (lg_sl ([.ref (ad 15 i), .ref (ad 0 0), .ref (ad 6 c)])).length) Slot.unset).toArray) [] := by rw [hargs]; exact lg_entry_eq m _ 4
  have hl := lv_entry ([.ref (ad 15 i), .ref (ad 0 0), .ref (ad 6 c)]) (n := 4) (Nat.le_of_ble_eq_true rfl)
  rw [hE]
  clear hE
  generalize (lg_sl ([.ref (ad 15 i), .ref (ad 0 0), .ref (ad 6 c)]) ++ List.replicate (4 - (lg_sl ([.ref (ad 15 i), .ref (ad 0 0), .ref (ad 6 c)])).length) Slot.unset).toArray = ls at hl ⊢
  have hl : lv_has ls 4 [(0, .ref (ad 15 i)), (1, .ref (ad 0 0)), (2, .ref (ad 6 c))] := hl
  generalize hQ : MQ _ _ _ _ _ _ _ = Q
  have hX := h8
  refine lv_iconst (v := nI 0) hx hb dX10_goes_0 (by decide) ?_
  refine lv_istore_n (lv' := [(3, .int (nI 0)), (0, .ref (ad 15 i)), (1, .ref (ad 0 0)), (2, .ref (ad 6 c))]) hx hb dX10_goes_1 rfl hl (by decide) rfl (fun ls hl => ?_)
  have L2 : ∀ (nn2 : Nat) (q : Nat), (q ≤ G 28 i) → (hdS G J c (N 14) (N 19) i q = true) → G 28 i - q < nn2 → ∀ (ls : Array Slot), lv_has ls 4 [(0, .ref (ad 15 i)), (1, .ref (ad 0 0)), (2, .ref (ad 6 c)), (3, .int (nI q))] → W p lh e r_X10_goes_1 s m args below meth cd s.heap [] 0 0 Q (F0 m 2 ls []) := by
    intro nn2
    induction nn2 with
    | zero => intro q i2_0 i2_1 hm2; exact absurd hm2 (Nat.not_lt_zero _)
    | succ nn2 ih2 =>
      intro q i2_0 i2_1 hm2 ls hl
      refine lv_iload_n hx hb dX10_goes_2 rfl (lv_at hl 3 rfl) ?_
      refine lv_aload_n hx hb dX10_goes_3 rfl (lv_at hl 0 rfl) ?_
      refine ko_get (C := RX12) (T := TX12) (N := 1) (ci := 10) (v := .ref (ad 16 i)) hx hb hts in_X12 hown hG.1 (hH.act h2 1 h3 (by decide)) rfl 0 (by decide) q1071 (fun _ h => h) (rfl) dX10_goes_4 ?_
      refine vp_callSi (va_Run.call (va_runV (As := []) (rest := [.int (nI q)]) ⟨hx, hb, hml, hown, hts⟩ (c_J2_size lh D dA (ad 16 i) (Y 11 i 0) (ad 17 i) (G 28 i)) (w_J2_size hts q474 rfl rfl ⟨Nat.le_of_ble_eq_true rfl, Nat.le_of_ble_eq_true rfl⟩) ⟨PX.blind (Mv.and Mv.heap Mv.gk), (O_recv hG (hH.1 16 i h2) rfl), PX.pre (Mv.and Mv.heap Mv.gk) ⟨(hH.1 16 i h2), hG⟩⟩ rfl rfl hl.1 rfl (lv_room (Nat.le_of_ble_eq_true rfl)) dX10_goes_7 ⟨Nat.le_of_ble_eq_true rfl, Nat.le_of_ble_eq_true rfl⟩)) (fun rr hrr => ?_)
      subst hrr
      refine kn_cge (tgt := 41) hx hb dX10_goes_10 (by decide) (by omega) (by omega) (fun c_10 => ?_) (fun c_10 => ?_)
      · refine lv_aload_n hx hb dX10_goes_41 rfl (lv_at hl 0 rfl) ?_
        refine lv_aload_n hx hb dX10_goes_42 rfl (lv_at hl 1 rfl) ?_
        refine lv_aload_n hx hb dX10_goes_43 rfl (lv_at hl 2 rfl) ?_
        refine va_callv (va_runU (As := [.ref (ad 0 0), .ref (ad 6 c)]) (rest := []) ⟨hx, hb, hml, hown, hts⟩ (c_X12_does lh A D dA K ad X Y N I G J s.heap.size i c (h1) (fun q h => hA q (Nat.le_trans hS.1 h))) (va_cwA 2 hts (lw_U q510 q512 q544 q545 q92 q546) rfl rfl rfl (hG.2.1 _ q511 rfl) (by decide +kernel) ⟨Nat.le_of_ble_eq_true rfl, Nat.le_of_ble_eq_true rfl⟩) ⟨PX.blind (Mv.and Mv.heap (Mv.and Mv.heap Mv.gk)), (O_recv hG (hH.act h2 1 h3 (by decide)) rfl), PX.pre (Mv.and Mv.heap (Mv.and Mv.heap Mv.gk)) ⟨rfl, hH, hG⟩⟩ rfl rfl hl.1 rfl (lv_room (Nat.le_of_ble_eq_true rfl)) dX10_goes_44 ⟨Nat.le_of_ble_eq_true rfl, Nat.le_of_ble_eq_true rfl⟩) hS (fun q _ h => h) (fun q h => h) (fun u t H1 locs ht hvm hp hB hz hk hS => ?_)
        obtain ⟨hH, -⟩ := hB
        rw [ht] at hH
        clear ht hz hk
        generalize H1 = H at hH hS ⊢
        subst hp
        dsimp only at hH
        subst hQ
        exact W.vret hx hb hrt (fun t ht hW => ⟨⟨(ad, X, (up3 (wsY Y G c 20) 0 c 0 (-1)), (up1 N 15 ((N 15) + gr G c)), I, (goesG G c 2), J), rfl, (by have hz : hdS G J c (N 14) (N 19) i (G 28 i) = true := (by rw [show G 28 i = q by omega]; exact i2_1); rw [(go_yes (Y := Y) hz).1, (go_yes (Y := Y) hz).2.1, (go_yes (Y := Y) hz).2.2, (act1 (Y := Y) (N := N) (c := c) h3).1, (act1 (Y := Y) (N := N) (c := c) h3).2.1, (act1 (Y := Y) (N := N) (c := c) h3).2.2]), by rw [ht]; exact hH, GK.warm hW hG⟩, hS.F ht⟩) hS.2.2 dX10_goes_47
      · refine lv_aload_n hx hb dX10_goes_13 rfl (lv_at hl 0 rfl) ?_
        refine ko_get (C := RX12) (T := TX12) (N := 1) (ci := 10) (v := .ref (ad 16 i)) hx hb hts in_X12 hown hG.1 (hH.act h2 1 h3 (by decide)) rfl 0 (by decide) q1071 (fun _ h => h) (rfl) dX10_goes_14 ?_
        refine lv_iload_n hx hb dX10_goes_17 rfl (lv_at hl 3 rfl) ?_
        refine va_csq (va_Run.call (va_runV (As := [.int (nI q)]) (rest := []) ⟨hx, hb, hml, hown, hts⟩ (c_J2_get lh D dA (ad 16 i) (Y 11 i 0) (ad 17 i) (G 28 i) (X 3 i) (ltH ad 18 (G 28 i) (3 * i)) (q) (ad 18 (3 * i + q)) (show q < G 28 i from by omega) ((hX.2.2 i h2.1 h2.2).1) ((hX.2.2 i h2.1 h2.2).2) (ltH_b (show q < G 28 i from by omega))) (w_J2_get hts q475 rfl rfl ⟨Nat.le_of_ble_eq_true rfl, Nat.le_of_ble_eq_true rfl⟩) ⟨PX.blind (Mv.and Mv.heap (Mv.and Mv.heap Mv.gk)), (O_recv hG (hH.1 16 i h2) rfl), PX.pre (Mv.and Mv.heap (Mv.and Mv.heap Mv.gk)) ⟨(hH.1 16 i h2), (hH.1 17 i h2), hG⟩⟩ rfl rfl hl.1 rfl (lv_room (Nat.le_of_ble_eq_true rfl)) dX10_goes_18 ⟨Nat.le_of_ble_eq_true rfl, Nat.le_of_ble_eq_true rfl⟩)) (fun rr hrr => ?_)
        subst hrr
        show W p lh e r_X10_goes_1 s m args below meth cd _ _ _ _ Q (F0 m _ ls (.ref (ad 18 (3 * i + q)) :: _))
        refine va_castY (C := RX9) hx hb hown (hts _ q476) (hG.2.1 _ q481 rfl) (O_recv hG (hH.cp (live18 h2 (show q < G 28 i by omega) h15)) rfl) dX10_goes_21 ?_
        refine lv_aload_n hx hb dX10_goes_24 rfl (lv_at hl 1 rfl) ?_
        refine lv_aload_n hx hb dX10_goes_25 rfl (lv_at hl 2 rfl) ?_
        refine va_csFi (va_runF (hG.1.1 8 _ rfl).2 (As := [.ref (ad 0 0), .ref (ad 6 c)]) (rest := []) ⟨hx, hb, hml, hown, hts⟩ (c_X9_holds lh A D dA K ad X Y N I G J (3 * i + q) c ((live18 h2 (show q < G 28 i by omega) h15)) (h4) (h1) (h6) (h7) (h8) (h9) (h10) (h11) (h12) (h13 q (by omega)) (h14 _)) (va_cwF 2 hts (lw_F q478 q482 q484 q89 q486) rfl rfl rfl hG.2.2.2 (by decide +kernel) ⟨Nat.le_of_ble_eq_true rfl, Nat.le_of_ble_eq_true rfl⟩) ⟨PX.blind (Mv.and Mv.heap Mv.gk), (O_recv hG (hH.cp (live18 h2 (show q < G 28 i by omega) h15)) rfl), PX.pre (Mv.and Mv.heap Mv.gk) ⟨hH, hG⟩⟩ rfl rfl hl.1 rfl (lv_room (Nat.le_of_ble_eq_true rfl)) dX10_goes_26 ⟨Nat.le_of_ble_eq_true rfl, Nat.le_of_ble_eq_true rfl⟩) (fun rr hrr => ?_)
        subst hrr
        refine kx_int (y := bI (cmpS (G 30 (3 * i + q)) (fldS G J c (N 14) (N 19) (G 29 (3 * i + q))) (G 31 (3 * i + q)))) rfl ?_
        refine kb_ne (tgt := 35) hx hb dX10_goes_31 (by decide) (fun c_31 => ?_) (fun c_31 => ?_)
        · refine lv_iinc (v := nI (q + 1)) (lv' := [(3, .int (nI (q + 1))), (0, .ref (ad 15 i)), (1, .ref (ad 0 0)), (2, .ref (ad 6 c))]) hx hb dX10_goes_35 hl (k := 3) rfl (show nI q + Int32.ofInt 1 = nI (q + 1) from nI_add _ 1) (by decide) rfl (fun ls hl => ?_)
          refine lv_goto (tgt := 2) hx hb dX10_goes_38 (by decide) ?_
          exact ih2 (q + 1) (by omega) (by rw [hdS, i2_1, Bool.true_and]; exact c_31) (by omega) _ (lv_sub hl [1, 2, 3, 0] rfl)
        · subst hQ
          exact W.vret hx hb hrt (fun t ht hW => ⟨⟨(ad, X, Y, N, I, G, J), rfl, (by have hz : hdS G J c (N 14) (N 19) i (q + 1) = false := (by rw [hdS, i2_1, Bool.true_and]; exact c_31); have hz := hdS_no' hz (show q + 1 ≤ G 28 i by omega); rw [(go_no (Y := Y) hz).1, (go_no (Y := Y) hz).2.1, (go_no (Y := Y) hz).2.2]), by rw [ht]; exact hH, GK.warm hW hG⟩, hS.F ht⟩) hS.2.2 dX10_goes_34
  exact L2 _ 0 (by omega) (rfl) (Nat.lt_succ_self _) _ (lv_sub hl [1, 2, 3, 0] rfl)

abbrev r_X10_goes_2 : Room := { frames := 7, cells := 0, slots := 0, locals := 162 }
set_option maxHeartbeats 1000000 in
theorem c_X10_goes_2 (lh : Launch) (A : Nat → Prop) (D : va_G) (dA : Nat → ClassId) (K : Nat → Nat) (ad X : Nat → Nat → Nat) (Y : Nat → Nat → Nat → Int32) (N : Nat → Nat) (I : Nat → Int32) (G : Nat → Nat → Nat) (J : Nat → Nat → Int32) (sz : Nat) (i : Nat) (c : Nat) (h1 : c < N 3) (h2 : i / 10 < N 23 ∧ i % 10 < G 25 (i / 10)) (h3 : G 26 i = 2) (h4 : ∀ a b, G a b < 2 ^ 31) (h5 : N 3 ≤ 10) (h6 : N 14 ≤ 600) (h7 : N 19 ≤ 100) (h8 : XOk N G X) (h9 : TsOk N G) (h10 : lv G c = true) (h11 : RtOk N G Y) (h12 : PlOk N G Y) (h13 : ∀ j, j < 3 → G 29 (3 * i + j) ≤ 7) (h14 : ∀ j, G 30 j ≤ 2) (h15 : G 28 i ≤ 3) (h16 : G 7 c ≤ 60) (h17 : G 27 i ≤ 9999) (hA : ∀ q, sz ≤ q → A q) : Met lh yX10_goes (ws_ yX10_goes cX10_goes 4 none) r_X10_goes_2 (PX (fun U H => H.size = sz ∧ RH A D dA K ad X Y N I G J H ∧ GK D dA U) [.ref (ad 15 i), .ref (ad 0 0), .ref (ad 6 c)]) (va_Qv (fun u : HgT => u = (ad, X, goY Y N G J c i, goN N G J c i, I, goG N G J c i, J)) (BmH A D dA K) A) 0 0 A := by
  refine Met.ofW (cc := cX10_goes) (maxL := 4) (ret := none) (by decide) rfl ?_
  intro p e s m args below meth cd s₁ B hml hv
  obtain ⟨hargs, hsz, hH, hG⟩ := hv
  have hx := B.exec
  have hb := B.bytes
  have hrt := B.returns
  have hts := atoms_spec (ws := (ws_ yX10_goes cX10_goes 4 none)) B.pre
  have hts : ∀ w ∈ lw_all, w.before _ s = true := fun w h => hts w (List.mem_cons_of_mem _ h)
  have hown : s.vm.findClass RX10 = some m.cls := findClass_of_methodNamed B.named
  have hlocks := B.notSynchronized
  subst hsz
  have hS : va_S A s.heap s.heap [] := va_S.rf
  have hE : entryFrame m args 4 = F0 m 0 ((lg_sl ([.ref (ad 15 i), .ref (ad 0 0), .ref (ad 6 c)]) ++ List.replicate (4 - (lg_sl ([.ref (ad 15 i), .ref (ad 0 0), .ref (ad 6 c)])).length) Slot.unset).toArray) [] := by rw [hargs]; exact lg_entry_eq m _ 4
  have hl := lv_entry ([.ref (ad 15 i), .ref (ad 0 0), .ref (ad 6 c)]) (n := 4) (Nat.le_of_ble_eq_true rfl)
  rw [hE]
  clear hE
  generalize (lg_sl ([.ref (ad 15 i), .ref (ad 0 0), .ref (ad 6 c)]) ++ List.replicate (4 - (lg_sl ([.ref (ad 15 i), .ref (ad 0 0), .ref (ad 6 c)])).length) Slot.unset).toArray = ls at hl ⊢
  have hl : lv_has ls 4 [(0, .ref (ad 15 i)), (1, .ref (ad 0 0)), (2, .ref (ad 6 c))] := hl
  generalize hQ : MQ _ _ _ _ _ _ _ = Q
  have hX := h8
  refine lv_iconst (v := nI 0) hx hb dX10_goes_0 (by decide) ?_
  refine lv_istore_n (lv' := [(3, .int (nI 0)), (0, .ref (ad 15 i)), (1, .ref (ad 0 0)), (2, .ref (ad 6 c))]) hx hb dX10_goes_1 rfl hl (by decide) rfl (fun ls hl => ?_)
  have L2 : ∀ (nn2 : Nat) (q : Nat), (q ≤ G 28 i) → (hdS G J c (N 14) (N 19) i q = true) → G 28 i - q < nn2 → ∀ (ls : Array Slot), lv_has ls 4 [(0, .ref (ad 15 i)), (1, .ref (ad 0 0)), (2, .ref (ad 6 c)), (3, .int (nI q))] → W p lh e r_X10_goes_2 s m args below meth cd s.heap [] 0 0 Q (F0 m 2 ls []) := by
    intro nn2
    induction nn2 with
    | zero => intro q i2_0 i2_1 hm2; exact absurd hm2 (Nat.not_lt_zero _)
    | succ nn2 ih2 =>
      intro q i2_0 i2_1 hm2 ls hl
      refine lv_iload_n hx hb dX10_goes_2 rfl (lv_at hl 3 rfl) ?_
      refine lv_aload_n hx hb dX10_goes_3 rfl (lv_at hl 0 rfl) ?_
      refine ko_get (C := RX13) (T := TX13) (N := 1) (ci := 11) (v := .ref (ad 16 i)) hx hb hts in_X13 hown hG.1 (hH.act h2 2 h3 (by decide)) rfl 0 (by decide) q1071 (fun _ h => h) (rfl) dX10_goes_4 ?_
      refine vp_callSi (va_Run.call (va_runV (As := []) (rest := [.int (nI q)]) ⟨hx, hb, hml, hown, hts⟩ (c_J2_size lh D dA (ad 16 i) (Y 11 i 0) (ad 17 i) (G 28 i)) (w_J2_size hts q474 rfl rfl ⟨Nat.le_of_ble_eq_true rfl, Nat.le_of_ble_eq_true rfl⟩) ⟨PX.blind (Mv.and Mv.heap Mv.gk), (O_recv hG (hH.1 16 i h2) rfl), PX.pre (Mv.and Mv.heap Mv.gk) ⟨(hH.1 16 i h2), hG⟩⟩ rfl rfl hl.1 rfl (lv_room (Nat.le_of_ble_eq_true rfl)) dX10_goes_7 ⟨Nat.le_of_ble_eq_true rfl, Nat.le_of_ble_eq_true rfl⟩)) (fun rr hrr => ?_)
      subst hrr
      refine kn_cge (tgt := 41) hx hb dX10_goes_10 (by decide) (by omega) (by omega) (fun c_10 => ?_) (fun c_10 => ?_)
      · refine lv_aload_n hx hb dX10_goes_41 rfl (lv_at hl 0 rfl) ?_
        refine lv_aload_n hx hb dX10_goes_42 rfl (lv_at hl 1 rfl) ?_
        refine lv_aload_n hx hb dX10_goes_43 rfl (lv_at hl 2 rfl) ?_
        refine va_callv (va_runU (As := [.ref (ad 0 0), .ref (ad 6 c)]) (rest := []) ⟨hx, hb, hml, hown, hts⟩ (c_X13_does lh A D dA K ad X Y N I G J s.heap.size i c (h1) (fun q h => hA q (Nat.le_trans hS.1 h))) (va_cwA 2 hts (lw_U q510 q512 q537 q538 q93 q539) rfl rfl rfl (hG.2.1 _ q511 rfl) (by decide +kernel) ⟨Nat.le_of_ble_eq_true rfl, Nat.le_of_ble_eq_true rfl⟩) ⟨PX.blind (Mv.and Mv.heap (Mv.and Mv.heap Mv.gk)), (O_recv hG (hH.act h2 2 h3 (by decide)) rfl), PX.pre (Mv.and Mv.heap (Mv.and Mv.heap Mv.gk)) ⟨rfl, hH, hG⟩⟩ rfl rfl hl.1 rfl (lv_room (Nat.le_of_ble_eq_true rfl)) dX10_goes_44 ⟨Nat.le_of_ble_eq_true rfl, Nat.le_of_ble_eq_true rfl⟩) hS (fun q _ h => h) (fun q h => h) (fun u t H1 locs ht hvm hp hB hz hk hS => ?_)
        obtain ⟨hH, -⟩ := hB
        rw [ht] at hH
        clear ht hz hk
        generalize H1 = H at hH hS ⊢
        subst hp
        dsimp only at hH
        subst hQ
        exact W.vret hx hb hrt (fun t ht hW => ⟨⟨(ad, X, Y, N, I, (up2 G 6 c 1), J), rfl, (by have hz : hdS G J c (N 14) (N 19) i (G 28 i) = true := (by rw [show G 28 i = q by omega]; exact i2_1); rw [(go_yes (Y := Y) hz).1, (go_yes (Y := Y) hz).2.1, (go_yes (Y := Y) hz).2.2, (act2 (Y := Y) (N := N) (c := c) h3).1, (act2 (Y := Y) (N := N) (c := c) h3).2.1, (act2 (Y := Y) (N := N) (c := c) h3).2.2]), by rw [ht]; exact hH, GK.warm hW hG⟩, hS.F ht⟩) hS.2.2 dX10_goes_47
      · refine lv_aload_n hx hb dX10_goes_13 rfl (lv_at hl 0 rfl) ?_
        refine ko_get (C := RX13) (T := TX13) (N := 1) (ci := 11) (v := .ref (ad 16 i)) hx hb hts in_X13 hown hG.1 (hH.act h2 2 h3 (by decide)) rfl 0 (by decide) q1071 (fun _ h => h) (rfl) dX10_goes_14 ?_
        refine lv_iload_n hx hb dX10_goes_17 rfl (lv_at hl 3 rfl) ?_
        refine va_csq (va_Run.call (va_runV (As := [.int (nI q)]) (rest := []) ⟨hx, hb, hml, hown, hts⟩ (c_J2_get lh D dA (ad 16 i) (Y 11 i 0) (ad 17 i) (G 28 i) (X 3 i) (ltH ad 18 (G 28 i) (3 * i)) (q) (ad 18 (3 * i + q)) (show q < G 28 i from by omega) ((hX.2.2 i h2.1 h2.2).1) ((hX.2.2 i h2.1 h2.2).2) (ltH_b (show q < G 28 i from by omega))) (w_J2_get hts q475 rfl rfl ⟨Nat.le_of_ble_eq_true rfl, Nat.le_of_ble_eq_true rfl⟩) ⟨PX.blind (Mv.and Mv.heap (Mv.and Mv.heap Mv.gk)), (O_recv hG (hH.1 16 i h2) rfl), PX.pre (Mv.and Mv.heap (Mv.and Mv.heap Mv.gk)) ⟨(hH.1 16 i h2), (hH.1 17 i h2), hG⟩⟩ rfl rfl hl.1 rfl (lv_room (Nat.le_of_ble_eq_true rfl)) dX10_goes_18 ⟨Nat.le_of_ble_eq_true rfl, Nat.le_of_ble_eq_true rfl⟩)) (fun rr hrr => ?_)
        subst hrr
        show W p lh e r_X10_goes_2 s m args below meth cd _ _ _ _ Q (F0 m _ ls (.ref (ad 18 (3 * i + q)) :: _))
        refine va_castY (C := RX9) hx hb hown (hts _ q476) (hG.2.1 _ q481 rfl) (O_recv hG (hH.cp (live18 h2 (show q < G 28 i by omega) h15)) rfl) dX10_goes_21 ?_
        refine lv_aload_n hx hb dX10_goes_24 rfl (lv_at hl 1 rfl) ?_
        refine lv_aload_n hx hb dX10_goes_25 rfl (lv_at hl 2 rfl) ?_
        refine va_csFi (va_runF (hG.1.1 8 _ rfl).2 (As := [.ref (ad 0 0), .ref (ad 6 c)]) (rest := []) ⟨hx, hb, hml, hown, hts⟩ (c_X9_holds lh A D dA K ad X Y N I G J (3 * i + q) c ((live18 h2 (show q < G 28 i by omega) h15)) (h4) (h1) (h6) (h7) (h8) (h9) (h10) (h11) (h12) (h13 q (by omega)) (h14 _)) (va_cwF 2 hts (lw_F q478 q482 q484 q89 q486) rfl rfl rfl hG.2.2.2 (by decide +kernel) ⟨Nat.le_of_ble_eq_true rfl, Nat.le_of_ble_eq_true rfl⟩) ⟨PX.blind (Mv.and Mv.heap Mv.gk), (O_recv hG (hH.cp (live18 h2 (show q < G 28 i by omega) h15)) rfl), PX.pre (Mv.and Mv.heap Mv.gk) ⟨hH, hG⟩⟩ rfl rfl hl.1 rfl (lv_room (Nat.le_of_ble_eq_true rfl)) dX10_goes_26 ⟨Nat.le_of_ble_eq_true rfl, Nat.le_of_ble_eq_true rfl⟩) (fun rr hrr => ?_)
        subst hrr
        refine kx_int (y := bI (cmpS (G 30 (3 * i + q)) (fldS G J c (N 14) (N 19) (G 29 (3 * i + q))) (G 31 (3 * i + q)))) rfl ?_
        refine kb_ne (tgt := 35) hx hb dX10_goes_31 (by decide) (fun c_31 => ?_) (fun c_31 => ?_)
        · refine lv_iinc (v := nI (q + 1)) (lv' := [(3, .int (nI (q + 1))), (0, .ref (ad 15 i)), (1, .ref (ad 0 0)), (2, .ref (ad 6 c))]) hx hb dX10_goes_35 hl (k := 3) rfl (show nI q + Int32.ofInt 1 = nI (q + 1) from nI_add _ 1) (by decide) rfl (fun ls hl => ?_)
          refine lv_goto (tgt := 2) hx hb dX10_goes_38 (by decide) ?_
          exact ih2 (q + 1) (by omega) (by rw [hdS, i2_1, Bool.true_and]; exact c_31) (by omega) _ (lv_sub hl [1, 2, 3, 0] rfl)
        · subst hQ
          exact W.vret hx hb hrt (fun t ht hW => ⟨⟨(ad, X, Y, N, I, G, J), rfl, (by have hz : hdS G J c (N 14) (N 19) i (q + 1) = false := (by rw [hdS, i2_1, Bool.true_and]; exact c_31); have hz := hdS_no' hz (show q + 1 ≤ G 28 i by omega); rw [(go_no (Y := Y) hz).1, (go_no (Y := Y) hz).2.1, (go_no (Y := Y) hz).2.2]), by rw [ht]; exact hH, GK.warm hW hG⟩, hS.F ht⟩) hS.2.2 dX10_goes_34
  exact L2 _ 0 (by omega) (rfl) (Nat.lt_succ_self _) _ (lv_sub hl [1, 2, 3, 0] rfl)

abbrev r_X10_goes_3 : Room := { frames := 7, cells := 0, slots := 0, locals := 162 }
set_option maxHeartbeats 1000000 in
theorem c_X10_goes_3 (lh : Launch) (A : Nat → Prop) (D : va_G) (dA : Nat → ClassId) (K : Nat → Nat) (ad X : Nat → Nat → Nat) (Y : Nat → Nat → Nat → Int32) (N : Nat → Nat) (I : Nat → Int32) (G : Nat → Nat → Nat) (J : Nat → Nat → Int32) (sz : Nat) (i : Nat) (c : Nat) (h1 : c < N 3) (h2 : i / 10 < N 23 ∧ i % 10 < G 25 (i / 10)) (h3 : G 26 i = 3) (h4 : ∀ a b, G a b < 2 ^ 31) (h5 : N 3 ≤ 10) (h6 : N 14 ≤ 600) (h7 : N 19 ≤ 100) (h8 : XOk N G X) (h9 : TsOk N G) (h10 : lv G c = true) (h11 : RtOk N G Y) (h12 : PlOk N G Y) (h13 : ∀ j, j < 3 → G 29 (3 * i + j) ≤ 7) (h14 : ∀ j, G 30 j ≤ 2) (h15 : G 28 i ≤ 3) (h16 : G 7 c ≤ 60) (h17 : G 27 i ≤ 9999) (hA : ∀ q, sz ≤ q → A q) : Met lh yX10_goes (ws_ yX10_goes cX10_goes 4 none) r_X10_goes_3 (PX (fun U H => H.size = sz ∧ RH A D dA K ad X Y N I G J H ∧ GK D dA U) [.ref (ad 15 i), .ref (ad 0 0), .ref (ad 6 c)]) (va_Qv (fun u : HgT => u = (ad, X, goY Y N G J c i, goN N G J c i, I, goG N G J c i, J)) (BmH A D dA K) A) 0 0 A := by
  refine Met.ofW (cc := cX10_goes) (maxL := 4) (ret := none) (by decide) rfl ?_
  intro p e s m args below meth cd s₁ B hml hv
  obtain ⟨hargs, hsz, hH, hG⟩ := hv
  have hx := B.exec
  have hb := B.bytes
  have hrt := B.returns
  have hts := atoms_spec (ws := (ws_ yX10_goes cX10_goes 4 none)) B.pre
  have hts : ∀ w ∈ lw_all, w.before _ s = true := fun w h => hts w (List.mem_cons_of_mem _ h)
  have hown : s.vm.findClass RX10 = some m.cls := findClass_of_methodNamed B.named
  have hlocks := B.notSynchronized
  subst hsz
  have hS : va_S A s.heap s.heap [] := va_S.rf
  have hE : entryFrame m args 4 = F0 m 0 ((lg_sl ([.ref (ad 15 i), .ref (ad 0 0), .ref (ad 6 c)]) ++ List.replicate (4 - (lg_sl ([.ref (ad 15 i), .ref (ad 0 0), .ref (ad 6 c)])).length) Slot.unset).toArray) [] := by rw [hargs]; exact lg_entry_eq m _ 4
  have hl := lv_entry ([.ref (ad 15 i), .ref (ad 0 0), .ref (ad 6 c)]) (n := 4) (Nat.le_of_ble_eq_true rfl)
  rw [hE]
  clear hE
  generalize (lg_sl ([.ref (ad 15 i), .ref (ad 0 0), .ref (ad 6 c)]) ++ List.replicate (4 - (lg_sl ([.ref (ad 15 i), .ref (ad 0 0), .ref (ad 6 c)])).length) Slot.unset).toArray = ls at hl ⊢
  have hl : lv_has ls 4 [(0, .ref (ad 15 i)), (1, .ref (ad 0 0)), (2, .ref (ad 6 c))] := hl
  generalize hQ : MQ _ _ _ _ _ _ _ = Q
  have hX := h8
  refine lv_iconst (v := nI 0) hx hb dX10_goes_0 (by decide) ?_
  refine lv_istore_n (lv' := [(3, .int (nI 0)), (0, .ref (ad 15 i)), (1, .ref (ad 0 0)), (2, .ref (ad 6 c))]) hx hb dX10_goes_1 rfl hl (by decide) rfl (fun ls hl => ?_)
  have L2 : ∀ (nn2 : Nat) (q : Nat), (q ≤ G 28 i) → (hdS G J c (N 14) (N 19) i q = true) → G 28 i - q < nn2 → ∀ (ls : Array Slot), lv_has ls 4 [(0, .ref (ad 15 i)), (1, .ref (ad 0 0)), (2, .ref (ad 6 c)), (3, .int (nI q))] → W p lh e r_X10_goes_3 s m args below meth cd s.heap [] 0 0 Q (F0 m 2 ls []) := by
    intro nn2
    induction nn2 with
    | zero => intro q i2_0 i2_1 hm2; exact absurd hm2 (Nat.not_lt_zero _)
    | succ nn2 ih2 =>
      intro q i2_0 i2_1 hm2 ls hl
      refine lv_iload_n hx hb dX10_goes_2 rfl (lv_at hl 3 rfl) ?_
      refine lv_aload_n hx hb dX10_goes_3 rfl (lv_at hl 0 rfl) ?_
      refine ko_get (C := RX15) (T := TX15) (N := 1) (ci := 12) (v := .ref (ad 16 i)) hx hb hts in_X15 hown hG.1 (hH.act h2 3 h3 (by decide)) rfl 0 (by decide) q1071 (fun _ h => h) (rfl) dX10_goes_4 ?_
      refine vp_callSi (va_Run.call (va_runV (As := []) (rest := [.int (nI q)]) ⟨hx, hb, hml, hown, hts⟩ (c_J2_size lh D dA (ad 16 i) (Y 11 i 0) (ad 17 i) (G 28 i)) (w_J2_size hts q474 rfl rfl ⟨Nat.le_of_ble_eq_true rfl, Nat.le_of_ble_eq_true rfl⟩) ⟨PX.blind (Mv.and Mv.heap Mv.gk), (O_recv hG (hH.1 16 i h2) rfl), PX.pre (Mv.and Mv.heap Mv.gk) ⟨(hH.1 16 i h2), hG⟩⟩ rfl rfl hl.1 rfl (lv_room (Nat.le_of_ble_eq_true rfl)) dX10_goes_7 ⟨Nat.le_of_ble_eq_true rfl, Nat.le_of_ble_eq_true rfl⟩)) (fun rr hrr => ?_)
      subst hrr
      refine kn_cge (tgt := 41) hx hb dX10_goes_10 (by decide) (by omega) (by omega) (fun c_10 => ?_) (fun c_10 => ?_)
      · refine lv_aload_n hx hb dX10_goes_41 rfl (lv_at hl 0 rfl) ?_
        refine lv_aload_n hx hb dX10_goes_42 rfl (lv_at hl 1 rfl) ?_
        refine lv_aload_n hx hb dX10_goes_43 rfl (lv_at hl 2 rfl) ?_
        refine va_callv (va_runU (As := [.ref (ad 0 0), .ref (ad 6 c)]) (rest := []) ⟨hx, hb, hml, hown, hts⟩ (c_X15_does lh A D dA K ad X Y N I G J s.heap.size i c (h1) (h2) (h3) (h4) (h5) (h8) (h12) (h10) (fun q h => hA q (Nat.le_trans hS.1 h))) (va_cwA 2 hts (lw_U q510 q512 q513 q514 q95 q515) rfl rfl rfl (hG.2.1 _ q511 rfl) (by decide +kernel) ⟨Nat.le_of_ble_eq_true rfl, Nat.le_of_ble_eq_true rfl⟩) ⟨PX.blind (Mv.and Mv.heap (Mv.and Mv.heap Mv.gk)), (O_recv hG (hH.act h2 3 h3 (by decide)) rfl), PX.pre (Mv.and Mv.heap (Mv.and Mv.heap Mv.gk)) ⟨rfl, hH, hG⟩⟩ rfl rfl hl.1 rfl (lv_room (Nat.le_of_ble_eq_true rfl)) dX10_goes_44 ⟨Nat.le_of_ble_eq_true rfl, Nat.le_of_ble_eq_true rfl⟩) hS (fun q _ h => h) (fun q h => h) (fun u t H1 locs ht hvm hp hB hz hk hS => ?_)
        obtain ⟨hH, -⟩ := hB
        rw [ht] at hH
        clear ht hz hk
        generalize H1 = H at hH hS ⊢
        subst hp
        dsimp only at hH
        subst hQ
        exact W.vret hx hb hrt (fun t ht hW => ⟨⟨(ad, X, (if G 5 c < 8 then mvY Y G ((N 3)) c 8 4 else Y), N, I, (if G 5 c < 8 then mvG G ((N 3)) c 8 4 else G), J), rfl, (by have hz : hdS G J c (N 14) (N 19) i (G 28 i) = true := (by rw [show G 28 i = q by omega]; exact i2_1); rw [(go_yes (Y := Y) hz).1, (go_yes (Y := Y) hz).2.1, (go_yes (Y := Y) hz).2.2, (act3 (Y := Y) (N := N) (c := c) h3).1, (act3 (Y := Y) (N := N) (c := c) h3).2.1, (act3 (Y := Y) (N := N) (c := c) h3).2.2]), by rw [ht]; exact hH, GK.warm hW hG⟩, hS.F ht⟩) hS.2.2 dX10_goes_47
      · refine lv_aload_n hx hb dX10_goes_13 rfl (lv_at hl 0 rfl) ?_
        refine ko_get (C := RX15) (T := TX15) (N := 1) (ci := 12) (v := .ref (ad 16 i)) hx hb hts in_X15 hown hG.1 (hH.act h2 3 h3 (by decide)) rfl 0 (by decide) q1071 (fun _ h => h) (rfl) dX10_goes_14 ?_
        refine lv_iload_n hx hb dX10_goes_17 rfl (lv_at hl 3 rfl) ?_
        refine va_csq (va_Run.call (va_runV (As := [.int (nI q)]) (rest := []) ⟨hx, hb, hml, hown, hts⟩ (c_J2_get lh D dA (ad 16 i) (Y 11 i 0) (ad 17 i) (G 28 i) (X 3 i) (ltH ad 18 (G 28 i) (3 * i)) (q) (ad 18 (3 * i + q)) (show q < G 28 i from by omega) ((hX.2.2 i h2.1 h2.2).1) ((hX.2.2 i h2.1 h2.2).2) (ltH_b (show q < G 28 i from by omega))) (w_J2_get hts q475 rfl rfl ⟨Nat.le_of_ble_eq_true rfl, Nat.le_of_ble_eq_true rfl⟩) ⟨PX.blind (Mv.and Mv.heap (Mv.and Mv.heap Mv.gk)), (O_recv hG (hH.1 16 i h2) rfl), PX.pre (Mv.and Mv.heap (Mv.and Mv.heap Mv.gk)) ⟨(hH.1 16 i h2), (hH.1 17 i h2), hG⟩⟩ rfl rfl hl.1 rfl (lv_room (Nat.le_of_ble_eq_true rfl)) dX10_goes_18 ⟨Nat.le_of_ble_eq_true rfl, Nat.le_of_ble_eq_true rfl⟩)) (fun rr hrr => ?_)
        subst hrr
        show W p lh e r_X10_goes_3 s m args below meth cd _ _ _ _ Q (F0 m _ ls (.ref (ad 18 (3 * i + q)) :: _))
        refine va_castY (C := RX9) hx hb hown (hts _ q476) (hG.2.1 _ q481 rfl) (O_recv hG (hH.cp (live18 h2 (show q < G 28 i by omega) h15)) rfl) dX10_goes_21 ?_
        refine lv_aload_n hx hb dX10_goes_24 rfl (lv_at hl 1 rfl) ?_
        refine lv_aload_n hx hb dX10_goes_25 rfl (lv_at hl 2 rfl) ?_
        refine va_csFi (va_runF (hG.1.1 8 _ rfl).2 (As := [.ref (ad 0 0), .ref (ad 6 c)]) (rest := []) ⟨hx, hb, hml, hown, hts⟩ (c_X9_holds lh A D dA K ad X Y N I G J (3 * i + q) c ((live18 h2 (show q < G 28 i by omega) h15)) (h4) (h1) (h6) (h7) (h8) (h9) (h10) (h11) (h12) (h13 q (by omega)) (h14 _)) (va_cwF 2 hts (lw_F q478 q482 q484 q89 q486) rfl rfl rfl hG.2.2.2 (by decide +kernel) ⟨Nat.le_of_ble_eq_true rfl, Nat.le_of_ble_eq_true rfl⟩) ⟨PX.blind (Mv.and Mv.heap Mv.gk), (O_recv hG (hH.cp (live18 h2 (show q < G 28 i by omega) h15)) rfl), PX.pre (Mv.and Mv.heap Mv.gk) ⟨hH, hG⟩⟩ rfl rfl hl.1 rfl (lv_room (Nat.le_of_ble_eq_true rfl)) dX10_goes_26 ⟨Nat.le_of_ble_eq_true rfl, Nat.le_of_ble_eq_true rfl⟩) (fun rr hrr => ?_)
        subst hrr
        refine kx_int (y := bI (cmpS (G 30 (3 * i + q)) (fldS G J c (N 14) (N 19) (G 29 (3 * i + q))) (G 31 (3 * i + q)))) rfl ?_
        refine kb_ne (tgt := 35) hx hb dX10_goes_31 (by decide) (fun c_31 => ?_) (fun c_31 => ?_)
        · refine lv_iinc (v := nI (q + 1)) (lv' := [(3, .int (nI (q + 1))), (0, .ref (ad 15 i)), (1, .ref (ad 0 0)), (2, .ref (ad 6 c))]) hx hb dX10_goes_35 hl (k := 3) rfl (show nI q + Int32.ofInt 1 = nI (q + 1) from nI_add _ 1) (by decide) rfl (fun ls hl => ?_)
          refine lv_goto (tgt := 2) hx hb dX10_goes_38 (by decide) ?_
          exact ih2 (q + 1) (by omega) (by rw [hdS, i2_1, Bool.true_and]; exact c_31) (by omega) _ (lv_sub hl [1, 2, 3, 0] rfl)
        · subst hQ
          exact W.vret hx hb hrt (fun t ht hW => ⟨⟨(ad, X, Y, N, I, G, J), rfl, (by have hz : hdS G J c (N 14) (N 19) i (q + 1) = false := (by rw [hdS, i2_1, Bool.true_and]; exact c_31); have hz := hdS_no' hz (show q + 1 ≤ G 28 i by omega); rw [(go_no (Y := Y) hz).1, (go_no (Y := Y) hz).2.1, (go_no (Y := Y) hz).2.2]), by rw [ht]; exact hH, GK.warm hW hG⟩, hS.F ht⟩) hS.2.2 dX10_goes_34
  exact L2 _ 0 (by omega) (rfl) (Nat.lt_succ_self _) _ (lv_sub hl [1, 2, 3, 0] rfl)

abbrev r_X10_goes_4 : Room := { frames := 7, cells := 0, slots := 0, locals := 162 }
set_option maxHeartbeats 1000000 in
theorem c_X10_goes_4 (lh : Launch) (A : Nat → Prop) (D : va_G) (dA : Nat → ClassId) (K : Nat → Nat) (ad X : Nat → Nat → Nat) (Y : Nat → Nat → Nat → Int32) (N : Nat → Nat) (I : Nat → Int32) (G : Nat → Nat → Nat) (J : Nat → Nat → Int32) (sz : Nat) (i : Nat) (c : Nat) (h1 : c < N 3) (h2 : i / 10 < N 23 ∧ i % 10 < G 25 (i / 10)) (h3 : G 26 i = 4) (h4 : ∀ a b, G a b < 2 ^ 31) (h5 : N 3 ≤ 10) (h6 : N 14 ≤ 600) (h7 : N 19 ≤ 100) (h8 : XOk N G X) (h9 : TsOk N G) (h10 : lv G c = true) (h11 : RtOk N G Y) (h12 : PlOk N G Y) (h13 : ∀ j, j < 3 → G 29 (3 * i + j) ≤ 7) (h14 : ∀ j, G 30 j ≤ 2) (h15 : G 28 i ≤ 3) (h16 : G 7 c ≤ 60) (h17 : G 27 i ≤ 9999) (hA : ∀ q, sz ≤ q → A q) : Met lh yX10_goes (ws_ yX10_goes cX10_goes 4 none) r_X10_goes_4 (PX (fun U H => H.size = sz ∧ RH A D dA K ad X Y N I G J H ∧ GK D dA U) [.ref (ad 15 i), .ref (ad 0 0), .ref (ad 6 c)]) (va_Qv (fun u : HgT => u = (ad, X, goY Y N G J c i, goN N G J c i, I, goG N G J c i, J)) (BmH A D dA K) A) 0 0 A := by
  refine Met.ofW (cc := cX10_goes) (maxL := 4) (ret := none) (by decide) rfl ?_
  intro p e s m args below meth cd s₁ B hml hv
  obtain ⟨hargs, hsz, hH, hG⟩ := hv
  have hx := B.exec
  have hb := B.bytes
  have hrt := B.returns
  have hts := atoms_spec (ws := (ws_ yX10_goes cX10_goes 4 none)) B.pre
  have hts : ∀ w ∈ lw_all, w.before _ s = true := fun w h => hts w (List.mem_cons_of_mem _ h)
  have hown : s.vm.findClass RX10 = some m.cls := findClass_of_methodNamed B.named
  have hlocks := B.notSynchronized
  subst hsz
  have hS : va_S A s.heap s.heap [] := va_S.rf
  have hE : entryFrame m args 4 = F0 m 0 ((lg_sl ([.ref (ad 15 i), .ref (ad 0 0), .ref (ad 6 c)]) ++ List.replicate (4 - (lg_sl ([.ref (ad 15 i), .ref (ad 0 0), .ref (ad 6 c)])).length) Slot.unset).toArray) [] := by rw [hargs]; exact lg_entry_eq m _ 4
  have hl := lv_entry ([.ref (ad 15 i), .ref (ad 0 0), .ref (ad 6 c)]) (n := 4) (Nat.le_of_ble_eq_true rfl)
  rw [hE]
  clear hE
  generalize (lg_sl ([.ref (ad 15 i), .ref (ad 0 0), .ref (ad 6 c)]) ++ List.replicate (4 - (lg_sl ([.ref (ad 15 i), .ref (ad 0 0), .ref (ad 6 c)])).length) Slot.unset).toArray = ls at hl ⊢
  have hl : lv_has ls 4 [(0, .ref (ad 15 i)), (1, .ref (ad 0 0)), (2, .ref (ad 6 c))] := hl
  generalize hQ : MQ _ _ _ _ _ _ _ = Q
  have hX := h8
  refine lv_iconst (v := nI 0) hx hb dX10_goes_0 (by decide) ?_
  refine lv_istore_n (lv' := [(3, .int (nI 0)), (0, .ref (ad 15 i)), (1, .ref (ad 0 0)), (2, .ref (ad 6 c))]) hx hb dX10_goes_1 rfl hl (by decide) rfl (fun ls hl => ?_)
  have L2 : ∀ (nn2 : Nat) (q : Nat), (q ≤ G 28 i) → (hdS G J c (N 14) (N 19) i q = true) → G 28 i - q < nn2 → ∀ (ls : Array Slot), lv_has ls 4 [(0, .ref (ad 15 i)), (1, .ref (ad 0 0)), (2, .ref (ad 6 c)), (3, .int (nI q))] → W p lh e r_X10_goes_4 s m args below meth cd s.heap [] 0 0 Q (F0 m 2 ls []) := by
    intro nn2
    induction nn2 with
    | zero => intro q i2_0 i2_1 hm2; exact absurd hm2 (Nat.not_lt_zero _)
    | succ nn2 ih2 =>
      intro q i2_0 i2_1 hm2 ls hl
      refine lv_iload_n hx hb dX10_goes_2 rfl (lv_at hl 3 rfl) ?_
      refine lv_aload_n hx hb dX10_goes_3 rfl (lv_at hl 0 rfl) ?_
      refine ko_get (C := RX16) (T := TX16) (N := 1) (ci := 13) (v := .ref (ad 16 i)) hx hb hts in_X16 hown hG.1 (hH.act h2 4 h3 (by decide)) rfl 0 (by decide) q1071 (fun _ h => h) (rfl) dX10_goes_4 ?_
      refine vp_callSi (va_Run.call (va_runV (As := []) (rest := [.int (nI q)]) ⟨hx, hb, hml, hown, hts⟩ (c_J2_size lh D dA (ad 16 i) (Y 11 i 0) (ad 17 i) (G 28 i)) (w_J2_size hts q474 rfl rfl ⟨Nat.le_of_ble_eq_true rfl, Nat.le_of_ble_eq_true rfl⟩) ⟨PX.blind (Mv.and Mv.heap Mv.gk), (O_recv hG (hH.1 16 i h2) rfl), PX.pre (Mv.and Mv.heap Mv.gk) ⟨(hH.1 16 i h2), hG⟩⟩ rfl rfl hl.1 rfl (lv_room (Nat.le_of_ble_eq_true rfl)) dX10_goes_7 ⟨Nat.le_of_ble_eq_true rfl, Nat.le_of_ble_eq_true rfl⟩)) (fun rr hrr => ?_)
      subst hrr
      refine kn_cge (tgt := 41) hx hb dX10_goes_10 (by decide) (by omega) (by omega) (fun c_10 => ?_) (fun c_10 => ?_)
      · refine lv_aload_n hx hb dX10_goes_41 rfl (lv_at hl 0 rfl) ?_
        refine lv_aload_n hx hb dX10_goes_42 rfl (lv_at hl 1 rfl) ?_
        refine lv_aload_n hx hb dX10_goes_43 rfl (lv_at hl 2 rfl) ?_
        refine va_callv (va_runU (As := [.ref (ad 0 0), .ref (ad 6 c)]) (rest := []) ⟨hx, hb, hml, hown, hts⟩ (c_X14_does_4 lh A D dA K ad X Y N I G J s.heap.size i c (h1) (h2) (h3) (h4) (h5) (h8) (h12) (h10) (fun q h => hA q (Nat.le_trans hS.1 h))) (va_cwA 2 hts (lw_U q510 q512 q555 q518 q94 q519) rfl rfl rfl (hG.2.1 _ q511 rfl) (by decide +kernel) ⟨Nat.le_of_ble_eq_true rfl, Nat.le_of_ble_eq_true rfl⟩) ⟨PX.blind (Mv.and Mv.heap (Mv.and Mv.heap Mv.gk)), (O_recv hG (hH.act h2 4 h3 (by decide)) rfl), PX.pre (Mv.and Mv.heap (Mv.and Mv.heap Mv.gk)) ⟨rfl, hH, hG⟩⟩ rfl rfl hl.1 rfl (lv_room (Nat.le_of_ble_eq_true rfl)) dX10_goes_44 ⟨Nat.le_of_ble_eq_true rfl, Nat.le_of_ble_eq_true rfl⟩) hS (fun q _ h => h) (fun q h => h) (fun u t H1 locs ht hvm hp hB hz hk hS => ?_)
        obtain ⟨hH, -⟩ := hB
        rw [ht] at hH
        clear ht hz hk
        generalize H1 = H at hH hS ⊢
        subst hp
        dsimp only at hH
        subst hQ
        exact W.vret hx hb hrt (fun t ht hW => ⟨⟨(ad, X, (if 7 < G 5 c then mvY Y G ((N 3)) c 0 8 else Y), N, I, (if 7 < G 5 c then mvG G ((N 3)) c 0 8 else G), J), rfl, (by have hz : hdS G J c (N 14) (N 19) i (G 28 i) = true := (by rw [show G 28 i = q by omega]; exact i2_1); rw [(go_yes (Y := Y) hz).1, (go_yes (Y := Y) hz).2.1, (go_yes (Y := Y) hz).2.2, (act4 (Y := Y) (N := N) (c := c) h3).1, (act4 (Y := Y) (N := N) (c := c) h3).2.1, (act4 (Y := Y) (N := N) (c := c) h3).2.2]), by rw [ht]; exact hH, GK.warm hW hG⟩, hS.F ht⟩) hS.2.2 dX10_goes_47
      · refine lv_aload_n hx hb dX10_goes_13 rfl (lv_at hl 0 rfl) ?_
        refine ko_get (C := RX16) (T := TX16) (N := 1) (ci := 13) (v := .ref (ad 16 i)) hx hb hts in_X16 hown hG.1 (hH.act h2 4 h3 (by decide)) rfl 0 (by decide) q1071 (fun _ h => h) (rfl) dX10_goes_14 ?_
        refine lv_iload_n hx hb dX10_goes_17 rfl (lv_at hl 3 rfl) ?_
        refine va_csq (va_Run.call (va_runV (As := [.int (nI q)]) (rest := []) ⟨hx, hb, hml, hown, hts⟩ (c_J2_get lh D dA (ad 16 i) (Y 11 i 0) (ad 17 i) (G 28 i) (X 3 i) (ltH ad 18 (G 28 i) (3 * i)) (q) (ad 18 (3 * i + q)) (show q < G 28 i from by omega) ((hX.2.2 i h2.1 h2.2).1) ((hX.2.2 i h2.1 h2.2).2) (ltH_b (show q < G 28 i from by omega))) (w_J2_get hts q475 rfl rfl ⟨Nat.le_of_ble_eq_true rfl, Nat.le_of_ble_eq_true rfl⟩) ⟨PX.blind (Mv.and Mv.heap (Mv.and Mv.heap Mv.gk)), (O_recv hG (hH.1 16 i h2) rfl), PX.pre (Mv.and Mv.heap (Mv.and Mv.heap Mv.gk)) ⟨(hH.1 16 i h2), (hH.1 17 i h2), hG⟩⟩ rfl rfl hl.1 rfl (lv_room (Nat.le_of_ble_eq_true rfl)) dX10_goes_18 ⟨Nat.le_of_ble_eq_true rfl, Nat.le_of_ble_eq_true rfl⟩)) (fun rr hrr => ?_)
        subst hrr
        show W p lh e r_X10_goes_4 s m args below meth cd _ _ _ _ Q (F0 m _ ls (.ref (ad 18 (3 * i + q)) :: _))
        refine va_castY (C := RX9) hx hb hown (hts _ q476) (hG.2.1 _ q481 rfl) (O_recv hG (hH.cp (live18 h2 (show q < G 28 i by omega) h15)) rfl) dX10_goes_21 ?_
        refine lv_aload_n hx hb dX10_goes_24 rfl (lv_at hl 1 rfl) ?_
        refine lv_aload_n hx hb dX10_goes_25 rfl (lv_at hl 2 rfl) ?_
        refine va_csFi (va_runF (hG.1.1 8 _ rfl).2 (As := [.ref (ad 0 0), .ref (ad 6 c)]) (rest := []) ⟨hx, hb, hml, hown, hts⟩ (c_X9_holds lh A D dA K ad X Y N I G J (3 * i + q) c ((live18 h2 (show q < G 28 i by omega) h15)) (h4) (h1) (h6) (h7) (h8) (h9) (h10) (h11) (h12) (h13 q (by omega)) (h14 _)) (va_cwF 2 hts (lw_F q478 q482 q484 q89 q486) rfl rfl rfl hG.2.2.2 (by decide +kernel) ⟨Nat.le_of_ble_eq_true rfl, Nat.le_of_ble_eq_true rfl⟩) ⟨PX.blind (Mv.and Mv.heap Mv.gk), (O_recv hG (hH.cp (live18 h2 (show q < G 28 i by omega) h15)) rfl), PX.pre (Mv.and Mv.heap Mv.gk) ⟨hH, hG⟩⟩ rfl rfl hl.1 rfl (lv_room (Nat.le_of_ble_eq_true rfl)) dX10_goes_26 ⟨Nat.le_of_ble_eq_true rfl, Nat.le_of_ble_eq_true rfl⟩) (fun rr hrr => ?_)
        subst hrr
        refine kx_int (y := bI (cmpS (G 30 (3 * i + q)) (fldS G J c (N 14) (N 19) (G 29 (3 * i + q))) (G 31 (3 * i + q)))) rfl ?_
        refine kb_ne (tgt := 35) hx hb dX10_goes_31 (by decide) (fun c_31 => ?_) (fun c_31 => ?_)
        · refine lv_iinc (v := nI (q + 1)) (lv' := [(3, .int (nI (q + 1))), (0, .ref (ad 15 i)), (1, .ref (ad 0 0)), (2, .ref (ad 6 c))]) hx hb dX10_goes_35 hl (k := 3) rfl (show nI q + Int32.ofInt 1 = nI (q + 1) from nI_add _ 1) (by decide) rfl (fun ls hl => ?_)
          refine lv_goto (tgt := 2) hx hb dX10_goes_38 (by decide) ?_
          exact ih2 (q + 1) (by omega) (by rw [hdS, i2_1, Bool.true_and]; exact c_31) (by omega) _ (lv_sub hl [1, 2, 3, 0] rfl)
        · subst hQ
          exact W.vret hx hb hrt (fun t ht hW => ⟨⟨(ad, X, Y, N, I, G, J), rfl, (by have hz : hdS G J c (N 14) (N 19) i (q + 1) = false := (by rw [hdS, i2_1, Bool.true_and]; exact c_31); have hz := hdS_no' hz (show q + 1 ≤ G 28 i by omega); rw [(go_no (Y := Y) hz).1, (go_no (Y := Y) hz).2.1, (go_no (Y := Y) hz).2.2]), by rw [ht]; exact hH, GK.warm hW hG⟩, hS.F ht⟩) hS.2.2 dX10_goes_34
  exact L2 _ 0 (by omega) (rfl) (Nat.lt_succ_self _) _ (lv_sub hl [1, 2, 3, 0] rfl)

abbrev r_X10_goes_5 : Room := { frames := 7, cells := 0, slots := 0, locals := 162 }
set_option maxHeartbeats 1000000 in
theorem c_X10_goes_5 (lh : Launch) (A : Nat → Prop) (D : va_G) (dA : Nat → ClassId) (K : Nat → Nat) (ad X : Nat → Nat → Nat) (Y : Nat → Nat → Nat → Int32) (N : Nat → Nat) (I : Nat → Int32) (G : Nat → Nat → Nat) (J : Nat → Nat → Int32) (sz : Nat) (i : Nat) (c : Nat) (h1 : c < N 3) (h2 : i / 10 < N 23 ∧ i % 10 < G 25 (i / 10)) (h3 : G 26 i = 5) (h4 : ∀ a b, G a b < 2 ^ 31) (h5 : N 3 ≤ 10) (h6 : N 14 ≤ 600) (h7 : N 19 ≤ 100) (h8 : XOk N G X) (h9 : TsOk N G) (h10 : lv G c = true) (h11 : RtOk N G Y) (h12 : PlOk N G Y) (h13 : ∀ j, j < 3 → G 29 (3 * i + j) ≤ 7) (h14 : ∀ j, G 30 j ≤ 2) (h15 : G 28 i ≤ 3) (h16 : G 7 c ≤ 60) (h17 : G 27 i ≤ 9999) (hA : ∀ q, sz ≤ q → A q) : Met lh yX10_goes (ws_ yX10_goes cX10_goes 4 none) r_X10_goes_5 (PX (fun U H => H.size = sz ∧ RH A D dA K ad X Y N I G J H ∧ GK D dA U) [.ref (ad 15 i), .ref (ad 0 0), .ref (ad 6 c)]) (va_Qv (fun u : HgT => u = (ad, X, goY Y N G J c i, goN N G J c i, I, goG N G J c i, J)) (BmH A D dA K) A) 0 0 A := by
  refine Met.ofW (cc := cX10_goes) (maxL := 4) (ret := none) (by decide) rfl ?_
  intro p e s m args below meth cd s₁ B hml hv
  obtain ⟨hargs, hsz, hH, hG⟩ := hv
  have hx := B.exec
  have hb := B.bytes
  have hrt := B.returns
  have hts := atoms_spec (ws := (ws_ yX10_goes cX10_goes 4 none)) B.pre
  have hts : ∀ w ∈ lw_all, w.before _ s = true := fun w h => hts w (List.mem_cons_of_mem _ h)
  have hown : s.vm.findClass RX10 = some m.cls := findClass_of_methodNamed B.named
  have hlocks := B.notSynchronized
  subst hsz
  have hS : va_S A s.heap s.heap [] := va_S.rf
  have hE : entryFrame m args 4 = F0 m 0 ((lg_sl ([.ref (ad 15 i), .ref (ad 0 0), .ref (ad 6 c)]) ++ List.replicate (4 - (lg_sl ([.ref (ad 15 i), .ref (ad 0 0), .ref (ad 6 c)])).length) Slot.unset).toArray) [] := by rw [hargs]; exact lg_entry_eq m _ 4
  have hl := lv_entry ([.ref (ad 15 i), .ref (ad 0 0), .ref (ad 6 c)]) (n := 4) (Nat.le_of_ble_eq_true rfl)
  rw [hE]
  clear hE
  generalize (lg_sl ([.ref (ad 15 i), .ref (ad 0 0), .ref (ad 6 c)]) ++ List.replicate (4 - (lg_sl ([.ref (ad 15 i), .ref (ad 0 0), .ref (ad 6 c)])).length) Slot.unset).toArray = ls at hl ⊢
  have hl : lv_has ls 4 [(0, .ref (ad 15 i)), (1, .ref (ad 0 0)), (2, .ref (ad 6 c))] := hl
  generalize hQ : MQ _ _ _ _ _ _ _ = Q
  have hX := h8
  refine lv_iconst (v := nI 0) hx hb dX10_goes_0 (by decide) ?_
  refine lv_istore_n (lv' := [(3, .int (nI 0)), (0, .ref (ad 15 i)), (1, .ref (ad 0 0)), (2, .ref (ad 6 c))]) hx hb dX10_goes_1 rfl hl (by decide) rfl (fun ls hl => ?_)
  have L2 : ∀ (nn2 : Nat) (q : Nat), (q ≤ G 28 i) → (hdS G J c (N 14) (N 19) i q = true) → G 28 i - q < nn2 → ∀ (ls : Array Slot), lv_has ls 4 [(0, .ref (ad 15 i)), (1, .ref (ad 0 0)), (2, .ref (ad 6 c)), (3, .int (nI q))] → W p lh e r_X10_goes_5 s m args below meth cd s.heap [] 0 0 Q (F0 m 2 ls []) := by
    intro nn2
    induction nn2 with
    | zero => intro q i2_0 i2_1 hm2; exact absurd hm2 (Nat.not_lt_zero _)
    | succ nn2 ih2 =>
      intro q i2_0 i2_1 hm2 ls hl
      refine lv_iload_n hx hb dX10_goes_2 rfl (lv_at hl 3 rfl) ?_
      refine lv_aload_n hx hb dX10_goes_3 rfl (lv_at hl 0 rfl) ?_
      refine ko_get (C := RX17) (T := TX17) (N := 2) (ci := 14) (v := .ref (ad 16 i)) hx hb hts in_X17 hown hG.1 (hH.act5 h2 h3) rfl 0 (by decide) q1071 (fun _ h => h) (rfl) dX10_goes_4 ?_
      refine vp_callSi (va_Run.call (va_runV (As := []) (rest := [.int (nI q)]) ⟨hx, hb, hml, hown, hts⟩ (c_J2_size lh D dA (ad 16 i) (Y 11 i 0) (ad 17 i) (G 28 i)) (w_J2_size hts q474 rfl rfl ⟨Nat.le_of_ble_eq_true rfl, Nat.le_of_ble_eq_true rfl⟩) ⟨PX.blind (Mv.and Mv.heap Mv.gk), (O_recv hG (hH.1 16 i h2) rfl), PX.pre (Mv.and Mv.heap Mv.gk) ⟨(hH.1 16 i h2), hG⟩⟩ rfl rfl hl.1 rfl (lv_room (Nat.le_of_ble_eq_true rfl)) dX10_goes_7 ⟨Nat.le_of_ble_eq_true rfl, Nat.le_of_ble_eq_true rfl⟩)) (fun rr hrr => ?_)
      subst hrr
      refine kn_cge (tgt := 41) hx hb dX10_goes_10 (by decide) (by omega) (by omega) (fun c_10 => ?_) (fun c_10 => ?_)
      · refine lv_aload_n hx hb dX10_goes_41 rfl (lv_at hl 0 rfl) ?_
        refine lv_aload_n hx hb dX10_goes_42 rfl (lv_at hl 1 rfl) ?_
        refine lv_aload_n hx hb dX10_goes_43 rfl (lv_at hl 2 rfl) ?_
        refine va_callv (va_runU (As := [.ref (ad 0 0), .ref (ad 6 c)]) (rest := []) ⟨hx, hb, hml, hown, hts⟩ (c_X17_does lh A D dA K ad X Y N I G J s.heap.size i c (h1) (h2) (h3) (h16) (h17) (fun q h => hA q (Nat.le_trans hS.1 h))) (va_cwA 2 hts (lw_U q510 q512 q540 q541 q97 q542) rfl rfl rfl (hG.2.1 _ q511 rfl) (by decide +kernel) ⟨Nat.le_of_ble_eq_true rfl, Nat.le_of_ble_eq_true rfl⟩) ⟨PX.blind (Mv.and Mv.heap (Mv.and Mv.heap Mv.gk)), (O_recv hG (hH.act5 h2 h3) rfl), PX.pre (Mv.and Mv.heap (Mv.and Mv.heap Mv.gk)) ⟨rfl, hH, hG⟩⟩ rfl rfl hl.1 rfl (lv_room (Nat.le_of_ble_eq_true rfl)) dX10_goes_44 ⟨Nat.le_of_ble_eq_true rfl, Nat.le_of_ble_eq_true rfl⟩) hS (fun q _ h => h) (fun q h => h) (fun u t H1 locs ht hvm hp hB hz hk hS => ?_)
        obtain ⟨hH, -⟩ := hB
        rw [ht] at hH
        clear ht hz hk
        generalize H1 = H at hH hS ⊢
        subst hp
        dsimp only at hH
        subst hQ
        exact W.vret hx hb hrt (fun t ht hW => ⟨⟨(ad, X, Y, N, I, (up2 G 7 c (if 60 < G 7 c + G 27 i then 60 else G 7 c + G 27 i)), J), rfl, (by have hz : hdS G J c (N 14) (N 19) i (G 28 i) = true := (by rw [show G 28 i = q by omega]; exact i2_1); rw [(go_yes (Y := Y) hz).1, (go_yes (Y := Y) hz).2.1, (go_yes (Y := Y) hz).2.2, (act5 (Y := Y) (N := N) (c := c) h3).1, (act5 (Y := Y) (N := N) (c := c) h3).2.1, (act5 (Y := Y) (N := N) (c := c) h3).2.2]), by rw [ht]; exact hH, GK.warm hW hG⟩, hS.F ht⟩) hS.2.2 dX10_goes_47
      · refine lv_aload_n hx hb dX10_goes_13 rfl (lv_at hl 0 rfl) ?_
        refine ko_get (C := RX17) (T := TX17) (N := 2) (ci := 14) (v := .ref (ad 16 i)) hx hb hts in_X17 hown hG.1 (hH.act5 h2 h3) rfl 0 (by decide) q1071 (fun _ h => h) (rfl) dX10_goes_14 ?_
        refine lv_iload_n hx hb dX10_goes_17 rfl (lv_at hl 3 rfl) ?_
        refine va_csq (va_Run.call (va_runV (As := [.int (nI q)]) (rest := []) ⟨hx, hb, hml, hown, hts⟩ (c_J2_get lh D dA (ad 16 i) (Y 11 i 0) (ad 17 i) (G 28 i) (X 3 i) (ltH ad 18 (G 28 i) (3 * i)) (q) (ad 18 (3 * i + q)) (show q < G 28 i from by omega) ((hX.2.2 i h2.1 h2.2).1) ((hX.2.2 i h2.1 h2.2).2) (ltH_b (show q < G 28 i from by omega))) (w_J2_get hts q475 rfl rfl ⟨Nat.le_of_ble_eq_true rfl, Nat.le_of_ble_eq_true rfl⟩) ⟨PX.blind (Mv.and Mv.heap (Mv.and Mv.heap Mv.gk)), (O_recv hG (hH.1 16 i h2) rfl), PX.pre (Mv.and Mv.heap (Mv.and Mv.heap Mv.gk)) ⟨(hH.1 16 i h2), (hH.1 17 i h2), hG⟩⟩ rfl rfl hl.1 rfl (lv_room (Nat.le_of_ble_eq_true rfl)) dX10_goes_18 ⟨Nat.le_of_ble_eq_true rfl, Nat.le_of_ble_eq_true rfl⟩)) (fun rr hrr => ?_)
        subst hrr
        show W p lh e r_X10_goes_5 s m args below meth cd _ _ _ _ Q (F0 m _ ls (.ref (ad 18 (3 * i + q)) :: _))
        refine va_castY (C := RX9) hx hb hown (hts _ q476) (hG.2.1 _ q481 rfl) (O_recv hG (hH.cp (live18 h2 (show q < G 28 i by omega) h15)) rfl) dX10_goes_21 ?_
        refine lv_aload_n hx hb dX10_goes_24 rfl (lv_at hl 1 rfl) ?_
        refine lv_aload_n hx hb dX10_goes_25 rfl (lv_at hl 2 rfl) ?_
        refine va_csFi (va_runF (hG.1.1 8 _ rfl).2 (As := [.ref (ad 0 0), .ref (ad 6 c)]) (rest := []) ⟨hx, hb, hml, hown, hts⟩ (c_X9_holds lh A D dA K ad X Y N I G J (3 * i + q) c ((live18 h2 (show q < G 28 i by omega) h15)) (h4) (h1) (h6) (h7) (h8) (h9) (h10) (h11) (h12) (h13 q (by omega)) (h14 _)) (va_cwF 2 hts (lw_F q478 q482 q484 q89 q486) rfl rfl rfl hG.2.2.2 (by decide +kernel) ⟨Nat.le_of_ble_eq_true rfl, Nat.le_of_ble_eq_true rfl⟩) ⟨PX.blind (Mv.and Mv.heap Mv.gk), (O_recv hG (hH.cp (live18 h2 (show q < G 28 i by omega) h15)) rfl), PX.pre (Mv.and Mv.heap Mv.gk) ⟨hH, hG⟩⟩ rfl rfl hl.1 rfl (lv_room (Nat.le_of_ble_eq_true rfl)) dX10_goes_26 ⟨Nat.le_of_ble_eq_true rfl, Nat.le_of_ble_eq_true rfl⟩) (fun rr hrr => ?_)
        subst hrr
        refine kx_int (y := bI (cmpS (G 30 (3 * i + q)) (fldS G J c (N 14) (N 19) (G 29 (3 * i + q))) (G 31 (3 * i + q)))) rfl ?_
        refine kb_ne (tgt := 35) hx hb dX10_goes_31 (by decide) (fun c_31 => ?_) (fun c_31 => ?_)
        · refine lv_iinc (v := nI (q + 1)) (lv' := [(3, .int (nI (q + 1))), (0, .ref (ad 15 i)), (1, .ref (ad 0 0)), (2, .ref (ad 6 c))]) hx hb dX10_goes_35 hl (k := 3) rfl (show nI q + Int32.ofInt 1 = nI (q + 1) from nI_add _ 1) (by decide) rfl (fun ls hl => ?_)
          refine lv_goto (tgt := 2) hx hb dX10_goes_38 (by decide) ?_
          exact ih2 (q + 1) (by omega) (by rw [hdS, i2_1, Bool.true_and]; exact c_31) (by omega) _ (lv_sub hl [1, 2, 3, 0] rfl)
        · subst hQ
          exact W.vret hx hb hrt (fun t ht hW => ⟨⟨(ad, X, Y, N, I, G, J), rfl, (by have hz : hdS G J c (N 14) (N 19) i (q + 1) = false := (by rw [hdS, i2_1, Bool.true_and]; exact c_31); have hz := hdS_no' hz (show q + 1 ≤ G 28 i by omega); rw [(go_no (Y := Y) hz).1, (go_no (Y := Y) hz).2.1, (go_no (Y := Y) hz).2.2]), by rw [ht]; exact hH, GK.warm hW hG⟩, hS.F ht⟩) hS.2.2 dX10_goes_34
  exact L2 _ 0 (by omega) (rfl) (Nat.lt_succ_self _) _ (lv_sub hl [1, 2, 3, 0] rfl)
