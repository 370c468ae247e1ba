set_option maxRecDepth 100000
abbrev r_X9_holds : Room := { frames := 6, cells := 0, slots := 0, locals := 139 }
set_option maxHeartbeats 1000000 in
theorem c_X9_holds (lh : Launch) (A : Nat → Prop) (D : va_G) (dA : Nat → ClassId) (K : Nat → Nat) (ad X : Nat → Nat → Nat) (Y : Nat → Nat → Nat → Int32) (N : Nat → Nat) (I : Nat → Int32) (G : Nat → Nat → Nat) (J : Nat → Nat → Int32) (i : Nat) (c : Nat) (h1 : i / 30 < N 23 ∧ i / 3 % 10 < G 25 (i / 30) ∧ i % 3 < G 28 (i / 3)) (h2 : ∀ a b, G a b < 2 ^ 31) (h3 : c < N 3) (h4 : N 14 ≤ 600) (h5 : N 19 ≤ 100) (h6 : XOk N G X) (h7 : TsOk N G) (h8 : lv G c = true) (h9 : RtOk N G Y) (h10 : PlOk N G Y) (h11 : G 29 i ≤ 7) (h12 : G 30 i ≤ 2) : Met lh yX9_holds (ws_ yX9_holds cX9_holds 4 (some .boolean)) r_X9_holds (PX (fun U H => RH A D dA K ad X Y N I G J H ∧ GK D dA U) [.ref (ad 18 i), .ref (ad 0 0), .ref (ad 6 c)]) (vp_Si (fun rv => rv = bI (cmpS (G 30 i) (fldS G J c (N 14) (N 19) (G 29 i)) (G 31 i)))) 0 0 (fun _ => False) := by
  refine Met.ofW (cc := cX9_holds) (maxL := 4) (ret := (some .boolean)) (by decide) rfl ?_
  intro p e s m args below meth cd s₁ B hml hv
  obtain ⟨hargs, hH, hG⟩ := hv
  have hx := B.exec
  have hb := B.bytes
  have hrt := B.returns
  have hts := atoms_spec (ws := (ws_ yX9_holds cX9_holds 4 (some .boolean))) B.pre
  have hts : ∀ w ∈ lw_all, w.before _ s = true := fun w h => hts w (List.mem_cons_of_mem _ h)
  have hown : s.vm.findClass RX9 = some m.cls := findClass_of_methodNamed B.named
  have hlocks := B.notSynchronized
  have hE : entryFrame m args 4 = F0 m 0 ((lg_sl ([.ref (ad 18 i), .ref (ad 0 0), .ref (ad 6 c)]) ++ List.replicate (4 - (lg_sl ([.ref (ad 18 i), .ref (ad 0 0), .ref (ad 6 c)])).length) Slot.unset).toArray) [] := by rw [hargs]; exact lg_entry_eq m _ 4
  have hl := lv_entry ([.ref (ad 18 i), .ref (ad 0 0), .ref (ad 6 c)]) (n := 4) (Nat.le_of_ble_eq_true rfl)
  rw [hE]
  clear hE
  generalize (lg_sl ([.ref (ad 18 i), .ref (ad 0 0), .ref (ad 6 c)]) ++ List.replicate (4 - (lg_sl ([.ref (ad 18 i), .ref (ad 0 0), .ref (ad 6 c)])).length) Slot.unset).toArray = ls at hl ⊢
  have hl : lv_has ls 4 [(0, .ref (ad 18 i)), (1, .ref (ad 0 0)), (2, .ref (ad 6 c))] := hl
  generalize hQ : MQ _ _ _ _ _ _ _ = Q
  refine lv_aload_n hx hb dX9_holds_0 rfl (lv_at hl 1 rfl) ?_
  refine lv_aload_n hx hb dX9_holds_1 rfl (lv_at hl 2 rfl) ?_
  refine lv_aload_n hx hb dX9_holds_2 rfl (lv_at hl 0 rfl) ?_
  refine ko_get (C := RX9) (T := TX9) (N := 3) (ci := 8) (v := .int (nI (G 29 i))) hx hb hts in_X9 hown hG.1 (hH.cp h1) rfl 0 (by decide) q990 (fun _ h => h) (rfl) dX9_holds_3 ?_
  refine vp_callSi (va_Run.call (va_runVN (As := [.ref (ad 6 c), .int (nI (G 29 i))]) (rest := []) ⟨hx, hb, hml, hown, hts⟩ (c_X1_field lh A D dA K ad X Y N I G J c (G 29 i) (h2) (h3) (h4) (h5) (h6) (h7) (h8) (h9) (h10) (h11)) ⟨(va_cnB 2 hts (lw_meth q490) rfl rfl rfl (hG.2.1 _ q487 rfl) (hts _ q62) (by decide +kernel) ⟨Nat.le_of_ble_eq_true rfl, Nat.le_of_ble_eq_true rfl⟩), hts _ q489, hts _ qs7⟩ ⟨PX.blind (Mv.and Mv.heap Mv.gk), (O_recv hG hH.o0 rfl), PX.pre (Mv.and Mv.heap Mv.gk) ⟨hH, hG⟩⟩ rfl rfl hl.1 rfl (lv_room (Nat.le_of_ble_eq_true rfl)) dX9_holds_6 ⟨Nat.le_of_ble_eq_true rfl, Nat.le_of_ble_eq_true rfl⟩)) (fun rr hrr => ?_)
  subst hrr
  refine lv_istore_n (lv' := [(3, .int (fldS G J c ((N 14)) ((N 19)) (G 29 i))), (0, .ref (ad 18 i)), (1, .ref (ad 0 0)), (2, .ref (ad 6 c))]) hx hb dX9_holds_9 rfl hl (by decide) rfl (fun ls hl => ?_)
  refine lv_aload_n hx hb dX9_holds_10 rfl (lv_at hl 1 rfl) ?_
  refine ko_get (C := RX9) (T := TX9) (N := 3) (ci := 8) (v := .int (nI (60 + G 30 i))) hx hb hts in_X9 hown hG.1 (hH.cp h1) rfl 1 (by decide) q991 (fun _ h => h) (rfl) dX9_holds_11 ?_
  refine lv_bipush (v := nI 60) hx hb dX9_holds_14 (by decide) ?_
  refine kn_cne (tgt := 35) hx hb dX9_holds_16 (by decide) (by omega) (by omega) (fun c_16 => ?_) (fun c_16 => ?_)
  · refine lv_aload_n hx hb dX9_holds_35 rfl (lv_at hl 1 rfl) ?_
    refine ko_get (C := RX9) (T := TX9) (N := 3) (ci := 8) (v := .int (nI (60 + G 30 i))) hx hb hts in_X9 hown hG.1 (hH.cp h1) rfl 1 (by decide) q991 (fun _ h => h) (rfl) dX9_holds_36 ?_
    refine lv_bipush (v := nI 61) hx hb dX9_holds_39 (by decide) ?_
    refine kn_cne (tgt := 60) hx hb dX9_holds_41 (by decide) (by omega) (by omega) (fun c_41 => ?_) (fun c_41 => ?_)
    · refine lv_iload_n hx hb dX9_holds_60 rfl (lv_at hl 0 rfl) ?_
      refine lv_aload_n hx hb dX9_holds_61 rfl (lv_at hl 1 rfl) ?_
      refine ko_get (C := RX9) (T := TX9) (N := 3) (ci := 8) (v := .int (nI (G 31 i))) hx hb hts in_X9 hown hG.1 (hH.cp h1) rfl 2 (by decide) q992 (fun _ h => h) (rfl) dX9_holds_62 ?_
      refine lv_icmp_le (tgt := 72) hx hb dX9_holds_65 (by decide) (fun c_65 => ?_) (fun c_65 => ?_)
      · refine lv_iconst (v := nI 0) hx hb dX9_holds_72 (by decide) ?_
        subst hQ
        exact W.zret (v := nI 0) hx hb hrt rfl (fun t ht _ => ⟨_, rfl, (show nI 0 = bI (cmpS (G 30 i) (fldS G J c (N 14) (N 19) (G 29 i)) (G 31 i)) from retB0 (by simp [cmpS, show ¬ G 30 i = 0 by omega, show ¬ G 30 i = 1 by omega, Int32.not_lt.mpr c_65])), ht⟩) t_nil dX9_holds_73
      · refine lv_iconst (v := nI 1) hx hb dX9_holds_68 (by decide) ?_
        refine lv_goto (tgt := 73) hx hb dX9_holds_69 (by decide) ?_
        subst hQ
        exact W.zret (v := nI 1) hx hb hrt rfl (fun t ht _ => ⟨_, rfl, (show nI 1 = bI (cmpS (G 30 i) (fldS G J c (N 14) (N 19) (G 29 i)) (G 31 i)) from retB1 (by simp [cmpS, show ¬ G 30 i = 0 by omega, show ¬ G 30 i = 1 by omega, Int32.not_le.mp c_65])), ht⟩) t_nil dX9_holds_73
    · refine lv_iload_n hx hb dX9_holds_44 rfl (lv_at hl 0 rfl) ?_
      refine lv_aload_n hx hb dX9_holds_45 rfl (lv_at hl 1 rfl) ?_
      refine ko_get (C := RX9) (T := TX9) (N := 3) (ci := 8) (v := .int (nI (G 31 i))) hx hb hts in_X9 hown hG.1 (hH.cp h1) rfl 2 (by decide) q992 (fun _ h => h) (rfl) dX9_holds_46 ?_
      refine lv_icmp_ne (tgt := 56) hx hb dX9_holds_49 (by decide) (fun c_49 => ?_) (fun c_49 => ?_)
      · refine lv_iconst (v := nI 0) hx hb dX9_holds_56 (by decide) ?_
        refine lv_goto (tgt := 73) hx hb dX9_holds_57 (by decide) ?_
        subst hQ
        exact W.zret (v := nI 0) hx hb hrt rfl (fun t ht _ => ⟨_, rfl, (show nI 0 = bI (cmpS (G 30 i) (fldS G J c (N 14) (N 19) (G 29 i)) (G 31 i)) from retB0 (by simp [cmpS, show ¬ G 30 i = 0 by omega, show G 30 i = 1 by omega, c_49])), ht⟩) t_nil dX9_holds_73
      · refine lv_iconst (v := nI 1) hx hb dX9_holds_52 (by decide) ?_
        refine lv_goto (tgt := 73) hx hb dX9_holds_53 (by decide) ?_
        subst hQ
        exact W.zret (v := nI 1) hx hb hrt rfl (fun t ht _ => ⟨_, rfl, (show nI 1 = bI (cmpS (G 30 i) (fldS G J c (N 14) (N 19) (G 29 i)) (G 31 i)) from retB1 (by simp [cmpS, show ¬ G 30 i = 0 by omega, show G 30 i = 1 by omega, c_49])), ht⟩) t_nil dX9_holds_73
  · refine lv_iload_n hx hb dX9_holds_19 rfl (lv_at hl 0 rfl) ?_
    refine lv_aload_n hx hb dX9_holds_20 rfl (lv_at hl 1 rfl) ?_
    refine ko_get (C := RX9) (T := TX9) (N := 3) (ci := 8) (v := .int (nI (G 31 i))) hx hb hts in_X9 hown hG.1 (hH.cp h1) rfl 2 (by decide) q992 (fun _ h => h) (rfl) dX9_holds_21 ?_
    refine lv_icmp_ge (tgt := 31) hx hb dX9_holds_24 (by decide) (fun c_24 => ?_) (fun c_24 => ?_)
    · refine lv_iconst (v := nI 0) hx hb dX9_holds_31 (by decide) ?_
      refine lv_goto (tgt := 73) hx hb dX9_holds_32 (by decide) ?_
      subst hQ
      exact W.zret (v := nI 0) hx hb hrt rfl (fun t ht _ => ⟨_, rfl, (show nI 0 = bI (cmpS (G 30 i) (fldS G J c (N 14) (N 19) (G 29 i)) (G 31 i)) from retB0 (by simp [cmpS, show G 30 i = 0 by omega, Int32.not_lt.mpr c_24])), ht⟩) t_nil dX9_holds_73
    · refine lv_iconst (v := nI 1) hx hb dX9_holds_27 (by decide) ?_
      refine lv_goto (tgt := 73) hx hb dX9_holds_28 (by decide) ?_
      subst hQ
      exact W.zret (v := nI 1) hx hb hrt rfl (fun t ht _ => ⟨_, rfl, (show nI 1 = bI (cmpS (G 30 i) (fldS G J c (N 14) (N 19) (G 29 i)) (G 31 i)) from retB1 (by simp [cmpS, show G 30 i = 0 by omega, Int32.not_le.mp c_24])), ht⟩) t_nil dX9_holds_73

abbrev r_X11_does : Room := { frames := 0, cells := 0, slots := 0, locals := 0 }
set_option maxHeartbeats 1000000 in
theorem c_X11_does (lh : Launch) (A : Nat → Prop) (D : va_G) (dA : Nat → ClassId) (K : Nat → Nat) (ad X : Nat → Nat → Nat) (Y : Nat → Nat → Nat → Int32) (N : Nat → Nat) (I : Nat → Int32) (G : Nat → Nat → Nat) (J : Nat → Nat → Int32) (sz : Nat) (i : Nat) (c : Nat) (h1 : c < N 3) (hA : ∀ q, sz ≤ q → A q) : Met lh yX11_does (ws_ yX11_does cX11_does 3 none) r_X11_does (PX (fun U H => H.size = sz ∧ RH A D dA K ad X Y N I G J H ∧ GK D dA U) [.ref (ad 15 i), .ref (ad 0 0), .ref (ad 6 c)]) (va_Qv (fun u : HgT => u = (ad, X, Y, N, I, up2 G 8 c 0, J)) (BmH A D dA K) A) 0 0 A := by
  refine Met.ofW (cc := cX11_does) (maxL := 3) (ret := none) (by decide) rfl ?_
  intro p e s m args below meth cd s₁ B hml hv
  obtain ⟨hargs, hsz, hH, hG⟩ := hv
  have hx := B.exec
  have hb := B.bytes
  have hrt := B.returns
  have hts := atoms_spec (ws := (ws_ yX11_does cX11_does 3 none)) B.pre
  have hts : ∀ w ∈ lw_all, w.before _ s = true := fun w h => hts w (List.mem_cons_of_mem _ h)
  have hown : s.vm.findClass RX11 = some m.cls := findClass_of_methodNamed B.named
  have hlocks := B.notSynchronized
  subst hsz
  have hS : va_S A s.heap s.heap [] := va_S.rf
  have hE : entryFrame m args 3 = F0 m 0 ((lg_sl ([.ref (ad 15 i), .ref (ad 0 0), .ref (ad 6 c)]) ++ List.replicate (3 - (lg_sl ([.ref (ad 15 i), .ref (ad 0 0), .ref (ad 6 c)])).length) Slot.unset).toArray) [] := by rw [hargs]; exact lg_entry_eq m _ 3
  have hl := lv_entry ([.ref (ad 15 i), .ref (ad 0 0), .ref (ad 6 c)]) (n := 3) (Nat.le_of_ble_eq_true rfl)
  rw [hE]
  clear hE
  generalize (lg_sl ([.ref (ad 15 i), .ref (ad 0 0), .ref (ad 6 c)]) ++ List.replicate (3 - (lg_sl ([.ref (ad 15 i), .ref (ad 0 0), .ref (ad 6 c)])).length) Slot.unset).toArray = ls at hl ⊢
  have hl : lv_has ls 3 [(0, .ref (ad 15 i)), (1, .ref (ad 0 0)), (2, .ref (ad 6 c))] := hl
  generalize hQ : MQ _ _ _ _ _ _ _ = Q
  refine lv_aload_n hx hb dX11_does_0 rfl (lv_at hl 2 rfl) ?_
  refine lv_iconst (v := nI 0) hx hb dX11_does_1 (by decide) ?_
  refine ko_putN (C := RX4) (T := TX4) (N := 11) (ci := 2) hx hb hts in_X4 tyX4 tyX4_ok nmX4 hown hG.1 hS (hH.2.2 6 c (show c < N 3 from by omega)) (hH.cr (show c < N 3 from by omega)) rfl 5 (by decide) (hG.2.1 _ q326 rfl) (fun _ h => h) rfl rfl rfl (Nat.le_of_ble_eq_true rfl) dX11_does_2 (fun H locs e1 z1 o1 hS => ?_)
  have hH := hH.c5 (v := 0) (show c < N 3 from by omega) e1 o1
  clear e1 z1 o1
  subst hQ
  exact W.vret hx hb hrt (fun t ht hW => ⟨⟨(ad, X, Y, N, I, (up2 G 8 c 0), J), rfl, (rfl), by rw [ht]; exact hH, GK.warm hW hG⟩, hS.F ht⟩) hS.2.2 dX11_does_5

abbrev r_X12_does : Room := { frames := 2, cells := 0, slots := 0, locals := 48 }
set_option maxHeartbeats 1000000 in
theorem c_X12_does (lh : Launch) (A : Nat → Prop) (D : va_G) (dA : Nat → ClassId) (K : Nat → Nat) (ad X : Nat → Nat → Nat) (Y : Nat → Nat → Nat → Int32) (N : Nat → Nat) (I : Nat → Int32) (G : Nat → Nat → Nat) (J : Nat → Nat → Int32) (sz : Nat) (i : Nat) (c : Nat) (h1 : c < N 3) (hA : ∀ q, sz ≤ q → A q) : Met lh yX12_does (ws_ yX12_does cX12_does 3 none) r_X12_does (PX (fun U H => H.size = sz ∧ RH A D dA K ad X Y N I G J H ∧ GK D dA U) [.ref (ad 15 i), .ref (ad 0 0), .ref (ad 6 c)]) (va_Qv (fun u : HgT => u = (ad, X, (up3 (wsY Y G c 20) 0 c 0 (-1)), up1 N 15 (N 15 + gr G c), I, goesG G c 2, J)) (BmH A D dA K) A) 0 0 A := by
  refine Met.ofW (cc := cX12_does) (maxL := 3) (ret := none) (by decide) rfl ?_
  intro p e s m args below meth cd s₁ B hml hv
  obtain ⟨hargs, hsz, hH, hG⟩ := hv
  have hx := B.exec
  have hb := B.bytes
  have hrt := B.returns
  have hts := atoms_spec (ws := (ws_ yX12_does cX12_does 3 none)) B.pre
  have hts : ∀ w ∈ lw_all, w.before _ s = true := fun w h => hts w (List.mem_cons_of_mem _ h)
  have hown : s.vm.findClass RX12 = some m.cls := findClass_of_methodNamed B.named
  have hlocks := B.notSynchronized
  subst hsz
  have hS : va_S A s.heap s.heap [] := va_S.rf
  have hE : entryFrame m args 3 = F0 m 0 ((lg_sl ([.ref (ad 15 i), .ref (ad 0 0), .ref (ad 6 c)]) ++ List.replicate (3 - (lg_sl ([.ref (ad 15 i), .ref (ad 0 0), .ref (ad 6 c)])).length) Slot.unset).toArray) [] := by rw [hargs]; exact lg_entry_eq m _ 3
  have hl := lv_entry ([.ref (ad 15 i), .ref (ad 0 0), .ref (ad 6 c)]) (n := 3) (Nat.le_of_ble_eq_true rfl)
  rw [hE]
  clear hE
  generalize (lg_sl ([.ref (ad 15 i), .ref (ad 0 0), .ref (ad 6 c)]) ++ List.replicate (3 - (lg_sl ([.ref (ad 15 i), .ref (ad 0 0), .ref (ad 6 c)])).length) Slot.unset).toArray = ls at hl ⊢
  have hl : lv_has ls 3 [(0, .ref (ad 15 i)), (1, .ref (ad 0 0)), (2, .ref (ad 6 c))] := hl
  generalize hQ : MQ _ _ _ _ _ _ _ = Q
  refine lv_aload_n hx hb dX12_does_0 rfl (lv_at hl 1 rfl) ?_
  refine lv_aload_n hx hb dX12_does_1 rfl (lv_at hl 2 rfl) ?_
  refine lv_iconst (v := nI 2) hx hb dX12_does_2 (by decide) ?_
  refine va_callv (va_runVN (As := [.ref (ad 6 c), .int (nI 2)]) (rest := []) ⟨hx, hb, hml, hown, hts⟩ (c_X1_wastes lh A D dA K ad X Y N I G J s.heap.size c 2 (show c < (N 3) from by first | omega | assumption) (fun q h => hA q (Nat.le_trans hS.1 h))) ⟨(va_cnB 2 hts (lw_meth q550) rfl rfl rfl (hG.2.1 _ q547 rfl) (hts _ q62) (by decide +kernel) ⟨Nat.le_of_ble_eq_true rfl, Nat.le_of_ble_eq_true rfl⟩), hts _ q549, hts _ qs12⟩ ⟨PX.blind (Mv.and Mv.heap (Mv.and Mv.heap Mv.gk)), (O_recv hG hH.o0 rfl), PX.pre (Mv.and Mv.heap (Mv.and Mv.heap Mv.gk)) ⟨rfl, hH, hG⟩⟩ rfl rfl hl.1 rfl (lv_room (Nat.le_of_ble_eq_true rfl)) dX12_does_3 ⟨Nat.le_of_ble_eq_true rfl, Nat.le_of_ble_eq_true rfl⟩) hS (fun q _ h => h) (fun q h => h) (fun u t H1 locs ht hvm hp hB hz hk hS => ?_)
  obtain ⟨hH, -⟩ := hB
  rw [ht] at hH
  clear ht hz hk
  generalize H1 = H at hH hS ⊢
  subst hp
  dsimp only at hH
  subst hQ
  exact W.vret hx hb hrt (fun t ht hW => ⟨⟨(ad, X, (up3 (wsY Y G c 20) 0 c 0 (-1)), (up1 N 15 ((N 15) + gr G c)), I, (goesG G c 2), J), rfl, (rfl), by rw [ht]; exact hH, GK.warm hW hG⟩, hS.F ht⟩) hS.2.2 dX12_does_6

abbrev r_X13_does : Room := { frames := 0, cells := 0, slots := 0, locals := 0 }
set_option maxHeartbeats 1000000 in
theorem c_X13_does (lh : Launch) (A : Nat → Prop) (D : va_G) (dA : Nat → ClassId) (K : Nat → Nat) (ad X : Nat → Nat → Nat) (Y : Nat → Nat → Nat → Int32) (N : Nat → Nat) (I : Nat → Int32) (G : Nat → Nat → Nat) (J : Nat → Nat → Int32) (sz : Nat) (i : Nat) (c : Nat) (h1 : c < N 3) (hA : ∀ q, sz ≤ q → A q) : Met lh yX13_does (ws_ yX13_does cX13_does 3 none) r_X13_does (PX (fun U H => H.size = sz ∧ RH A D dA K ad X Y N I G J H ∧ GK D dA U) [.ref (ad 15 i), .ref (ad 0 0), .ref (ad 6 c)]) (va_Qv (fun u : HgT => u = (ad, X, Y, N, I, up2 G 6 c 1, J)) (BmH A D dA K) A) 0 0 A := by
  refine Met.ofW (cc := cX13_does) (maxL := 3) (ret := none) (by decide) rfl ?_
  intro p e s m args below meth cd s₁ B hml hv
  obtain ⟨hargs, hsz, hH, hG⟩ := hv
  have hx := B.exec
  have hb := B.bytes
  have hrt := B.returns
  have hts := atoms_spec (ws := (ws_ yX13_does cX13_does 3 none)) B.pre
  have hts : ∀ w ∈ lw_all, w.before _ s = true := fun w h => hts w (List.mem_cons_of_mem _ h)
  have hown : s.vm.findClass RX13 = some m.cls := findClass_of_methodNamed B.named
  have hlocks := B.notSynchronized
  subst hsz
  have hS : va_S A s.heap s.heap [] := va_S.rf
  have hE : entryFrame m args 3 = F0 m 0 ((lg_sl ([.ref (ad 15 i), .ref (ad 0 0), .ref (ad 6 c)]) ++ List.replicate (3 - (lg_sl ([.ref (ad 15 i), .ref (ad 0 0), .ref (ad 6 c)])).length) Slot.unset).toArray) [] := by rw [hargs]; exact lg_entry_eq m _ 3
  have hl := lv_entry ([.ref (ad 15 i), .ref (ad 0 0), .ref (ad 6 c)]) (n := 3) (Nat.le_of_ble_eq_true rfl)
  rw [hE]
  clear hE
  generalize (lg_sl ([.ref (ad 15 i), .ref (ad 0 0), .ref (ad 6 c)]) ++ List.replicate (3 - (lg_sl ([.ref (ad 15 i), .ref (ad 0 0), .ref (ad 6 c)])).length) Slot.unset).toArray = ls at hl ⊢
  have hl : lv_has ls 3 [(0, .ref (ad 15 i)), (1, .ref (ad 0 0)), (2, .ref (ad 6 c))] := hl
  generalize hQ : MQ _ _ _ _ _ _ _ = Q
  refine lv_aload_n hx hb dX13_does_0 rfl (lv_at hl 2 rfl) ?_
  refine lv_iconst (v := nI 1) hx hb dX13_does_1 (by decide) ?_
  refine ko_putN (C := RX4) (T := TX4) (N := 11) (ci := 2) hx hb hts in_X4 tyX4 tyX4_ok nmX4 hown hG.1 hS (hH.2.2 6 c (show c < N 3 from by omega)) (hH.cr (show c < N 3 from by omega)) rfl 9 (by decide) (hG.2.1 _ q333 rfl) (fun _ h => h) rfl rfl rfl (Nat.le_of_ble_eq_true rfl) dX13_does_2 (fun H locs e1 z1 o1 hS => ?_)
  have hH := hH.c9 (v := 1) (show c < N 3 from by omega) e1 o1
  clear e1 z1 o1
  subst hQ
  exact W.vret hx hb hrt (fun t ht hW => ⟨⟨(ad, X, Y, N, I, (up2 G 6 c 1), J), rfl, (rfl), by rw [ht]; exact hH, GK.warm hW hG⟩, hS.F ht⟩) hS.2.2 dX13_does_5

abbrev r_X17_does : Room := { frames := 1, cells := 0, slots := 0, locals := 21 }
set_option maxHeartbeats 1000000 in
theorem c_X17_does (lh : Launch) (A : Nat → Prop) (D : va_G) (dA : Nat → ClassId) (K : Nat → Nat) (ad X : Nat → Nat → Nat) (Y : Nat → Nat → Nat → Int32) (N : Nat → Nat) (I : Nat → Int32) (G : Nat → Nat → Nat) (J : Nat → Nat → Int32) (sz : Nat) (i : Nat) (c : Nat) (h1 : c < N 3) (h2 : i / 10 < N 23 ∧ i % 10 < G 25 (i / 10)) (h3 : G 26 i = 5) (h4 : G 7 c ≤ 60) (h5 : G 27 i ≤ 9999) (hA : ∀ q, sz ≤ q → A q) : Met lh yX17_does (ws_ yX17_does cX17_does 3 none) r_X17_does (PX (fun U H => H.size = sz ∧ RH A D dA K ad X Y N I G J H ∧ GK D dA U) [.ref (ad 15 i), .ref (ad 0 0), .ref (ad 6 c)]) (va_Qv (fun u : HgT => u = (ad, X, Y, N, I, (up2 G 7 c (if 60 < G 7 c + G 27 i then 60 else G 7 c + G 27 i)), J)) (BmH A D dA K) A) 0 0 A := by
  refine Met.ofW (cc := cX17_does) (maxL := 3) (ret := none) (by decide) rfl ?_
  intro p e s m args below meth cd s₁ B hml hv
  obtain ⟨hargs, hsz, hH, hG⟩ := hv
  have hx := B.exec
  have hb := B.bytes
  have hrt := B.returns
  have hts := atoms_spec (ws := (ws_ yX17_does cX17_does 3 none)) B.pre
  have hts : ∀ w ∈ lw_all, w.before _ s = true := fun w h => hts w (List.mem_cons_of_mem _ h)
  have hown : s.vm.findClass RX17 = some m.cls := findClass_of_methodNamed B.named
  have hlocks := B.notSynchronized
  subst hsz
  have hS : va_S A s.heap s.heap [] := va_S.rf
  have hE : entryFrame m args 3 = F0 m 0 ((lg_sl ([.ref (ad 15 i), .ref (ad 0 0), .ref (ad 6 c)]) ++ List.replicate (3 - (lg_sl ([.ref (ad 15 i), .ref (ad 0 0), .ref (ad 6 c)])).length) Slot.unset).toArray) [] := by rw [hargs]; exact lg_entry_eq m _ 3
  have hl := lv_entry ([.ref (ad 15 i), .ref (ad 0 0), .ref (ad 6 c)]) (n := 3) (Nat.le_of_ble_eq_true rfl)
  rw [hE]
  clear hE
  generalize (lg_sl ([.ref (ad 15 i), .ref (ad 0 0), .ref (ad 6 c)]) ++ List.replicate (3 - (lg_sl ([.ref (ad 15 i), .ref (ad 0 0), .ref (ad 6 c)])).length) Slot.unset).toArray = ls at hl ⊢
  have hl : lv_has ls 3 [(0, .ref (ad 15 i)), (1, .ref (ad 0 0)), (2, .ref (ad 6 c))] := hl
  generalize hQ : MQ _ _ _ _ _ _ _ = Q
  refine lv_aload_n hx hb dX17_does_0 rfl (lv_at hl 2 rfl) ?_
  refine lv_bipush (v := nI 60) hx hb dX17_does_1 (by decide) ?_
  refine lv_aload_n hx hb dX17_does_3 rfl (lv_at hl 2 rfl) ?_
  refine ko_getN (C := RX4) (T := TX4) (N := 11) (ci := 2) (v := .int (nI (G 7 c))) hx hb hts in_X4 hown hG.1 (hH.cr (show c < N 3 from by omega)) rfl 4 (by decide) (hG.2.1 _ q324 rfl) (fun _ h => h) (rfl) dX17_does_4 ?_
  refine lv_aload_n hx hb dX17_does_7 rfl (lv_at hl 0 rfl) ?_
  refine ko_get (C := RX17) (T := TX17) (N := 2) (ci := 14) (v := .int (nI (G 27 i))) hx hb hts in_X17 hown hG.1 (hH.act5 h2 h3) rfl 1 (by decide) q1116 (fun _ h => h) (rfl) dX17_does_8 ?_
  refine kn_add hx hb dX17_does_11 ?_
  refine va_mmin hx hb (hml.trans hl.1.symm) hown (hts _ q543) (hts _ q425) (hts _ q75) (hts _ q426) (Nat.le_of_ble_eq_true rfl) (Nat.le_of_ble_eq_true rfl) (Nat.le_of_ble_eq_true rfl) (Nat.le_of_ble_eq_true rfl) dX17_does_12 ?_
  refine kx_int (y := nI (if 60 < G 7 c + G 27 i then 60 else G 7 c + G 27 i)) (min_n (by decide) (by omega)) ?_
  refine ko_putN (C := RX4) (T := TX4) (N := 11) (ci := 2) hx hb hts in_X4 tyX4 tyX4_ok nmX4 hown hG.1 hS (hH.2.2 6 c (show c < N 3 from by omega)) (hH.cr (show c < N 3 from by omega)) rfl 4 (by decide) (hG.2.1 _ q324 rfl) (fun _ h => h) rfl rfl rfl (Nat.le_of_ble_eq_true rfl) dX17_does_15 (fun H locs e1 z1 o1 hS => ?_)
  have hH := hH.c4 (v := (if 60 < G 7 c + G 27 i then 60 else G 7 c + G 27 i)) (show c < N 3 from by omega) e1 o1
  clear e1 z1 o1
  subst hQ
  exact W.vret hx hb hrt (fun t ht hW => ⟨⟨(ad, X, Y, N, I, (up2 G 7 c (if 60 < G 7 c + G 27 i then 60 else G 7 c + G 27 i)), J), rfl, (rfl), by rw [ht]; exact hH, GK.warm hW hG⟩, hS.F ht⟩) hS.2.2 dX17_does_18

abbrev r_X15_toCold : Room := { frames := 0, cells := 0, slots := 0, locals := 0 }
set_option maxHeartbeats 1000000 in
theorem c_X15_toCold (lh : Launch) (A : Nat → Prop) (D : va_G) (dA : Nat → ClassId) (K : Nat → Nat) (ad X : Nat → Nat → Nat) (Y : Nat → Nat → Nat → Int32) (N : Nat → Nat) (I : Nat → Int32) (G : Nat → Nat → Nat) (J : Nat → Nat → Int32) (i : Nat) : Met lh yX15_toCold (ws_ yX15_toCold cX15_toCold 1 (some .boolean)) r_X15_toCold (PX (fun U H => RH A D dA K ad X Y N I G J H ∧ GK D dA U) [.ref (ad 15 i)]) (vp_Si (fun rv => rv = nI 1)) 0 0 (fun _ => False) := by
  refine Met.ofW (cc := cX15_toCold) (maxL := 1) (ret := (some .boolean)) (by decide) rfl ?_
  intro p e s m args below meth cd s₁ B hml hv
  obtain ⟨hargs, hH, hG⟩ := hv
  have hx := B.exec
  have hb := B.bytes
  have hrt := B.returns
  have hts := atoms_spec (ws := (ws_ yX15_toCold cX15_toCold 1 (some .boolean))) B.pre
  have hts : ∀ w ∈ lw_all, w.before _ s = true := fun w h => hts w (List.mem_cons_of_mem _ h)
  have hown : s.vm.findClass RX15 = some m.cls := findClass_of_methodNamed B.named
  have hlocks := B.notSynchronized
  have hE : entryFrame m args 1 = F0 m 0 ((lg_sl ([.ref (ad 15 i)]) ++ List.replicate (1 - (lg_sl ([.ref (ad 15 i)])).length) Slot.unset).toArray) [] := by rw [hargs]; exact lg_entry_eq m _ 1
  have hl := lv_entry ([.ref (ad 15 i)]) (n := 1) (Nat.le_of_ble_eq_true rfl)
  rw [hE]
  clear hE
  generalize (lg_sl ([.ref (ad 15 i)]) ++ List.replicate (1 - (lg_sl ([.ref (ad 15 i)])).length) Slot.unset).toArray = ls at hl ⊢
  have hl : lv_has ls 1 [(0, .ref (ad 15 i))] := hl
  generalize hQ : MQ _ _ _ _ _ _ _ = Q
  refine lv_iconst (v := nI 1) hx hb dX15_toCold_0 (by decide) ?_
  subst hQ
  exact W.zret (v := nI 1) hx hb hrt rfl (fun t ht _ => ⟨_, rfl, (show nI 1 = nI 1 from rfl), ht⟩) t_nil dX15_toCold_1

abbrev r_X16_toCold : Room := { frames := 0, cells := 0, slots := 0, locals := 0 }
set_option maxHeartbeats 1000000 in
theorem c_X16_toCold (lh : Launch) (A : Nat → Prop) (D : va_G) (dA : Nat → ClassId) (K : Nat → Nat) (ad X : Nat → Nat → Nat) (Y : Nat → Nat → Nat → Int32) (N : Nat → Nat) (I : Nat → Int32) (G : Nat → Nat → Nat) (J : Nat → Nat → Int32) (i : Nat) : Met lh yX16_toCold (ws_ yX16_toCold cX16_toCold 1 (some .boolean)) r_X16_toCold (PX (fun U H => RH A D dA K ad X Y N I G J H ∧ GK D dA U) [.ref (ad 15 i)]) (vp_Si (fun rv => rv = nI 0)) 0 0 (fun _ => False) := by
  refine Met.ofW (cc := cX16_toCold) (maxL := 1) (ret := (some .boolean)) (by decide) rfl ?_
  intro p e s m args below meth cd s₁ B hml hv
  obtain ⟨hargs, hH, hG⟩ := hv
  have hx := B.exec
  have hb := B.bytes
  have hrt := B.returns
  have hts := atoms_spec (ws := (ws_ yX16_toCold cX16_toCold 1 (some .boolean))) B.pre
  have hts : ∀ w ∈ lw_all, w.before _ s = true := fun w h => hts w (List.mem_cons_of_mem _ h)
  have hown : s.vm.findClass RX16 = some m.cls := findClass_of_methodNamed B.named
  have hlocks := B.notSynchronized
  have hE : entryFrame m args 1 = F0 m 0 ((lg_sl ([.ref (ad 15 i)]) ++ List.replicate (1 - (lg_sl ([.ref (ad 15 i)])).length) Slot.unset).toArray) [] := by rw [hargs]; exact lg_entry_eq m _ 1
  have hl := lv_entry ([.ref (ad 15 i)]) (n := 1) (Nat.le_of_ble_eq_true rfl)
  rw [hE]
  clear hE
  generalize (lg_sl ([.ref (ad 15 i)]) ++ List.replicate (1 - (lg_sl ([.ref (ad 15 i)])).length) Slot.unset).toArray = ls at hl ⊢
  have hl : lv_has ls 1 [(0, .ref (ad 15 i))] := hl
  generalize hQ : MQ _ _ _ _ _ _ _ = Q
  refine lv_iconst (v := nI 0) hx hb dX16_toCold_0 (by decide) ?_
  subst hQ
  exact W.zret (v := nI 0) hx hb hrt rfl (fun t ht _ => ⟨_, rfl, (show nI 0 = nI 0 from rfl), ht⟩) t_nil dX16_toCold_1

abbrev r_X14_does_3 : Room := { frames := 5, cells := 0, slots := 0, locals := 109 }
set_option maxHeartbeats 1000000 in
theorem c_X14_does_3 (lh : Launch) (A : Nat → Prop) (D : va_G) (dA : Nat → ClassId) (K : Nat → Nat) (ad X : Nat → Nat → Nat) (Y : Nat → Nat → Nat → Int32) (N : Nat → Nat) (I : Nat → Int32) (G : Nat → Nat → Nat) (J : Nat → Nat → Int32) (sz : Nat) (i : Nat) (c : Nat) (h1 : c < N 3) (h2 : i / 10 < N 23 ∧ i % 10 < G 25 (i / 10)) (h3 : G 26 i = 3) (h4 : ∀ a b, G a b < 2 ^ 31) (h5 : N 3 ≤ 10) (h6 : XOk N G X) (h7 : PlOk N G Y) (h8 : lv G c = true) (hA : ∀ q, sz ≤ q → A q) : Met lh yX14_does (ws_ yX14_does cX14_does 4 none) r_X14_does_3 (PX (fun U H => H.size = sz ∧ RH A D dA K ad X Y N I G J H ∧ GK D dA U) [.ref (ad 15 i), .ref (ad 0 0), .ref (ad 6 c)]) (va_Qv (fun u : HgT => u = (ad, X, if G 5 c < 8 then mvY Y G (N 3) c 8 4 else Y, N, I, if G 5 c < 8 then mvG G (N 3) c 8 4 else G, J)) (BmH A D dA K) A) 0 0 A := by
  refine Met.ofW (cc := cX14_does) (maxL := 4) (ret := none) (by decide) rfl ?_
  intro p e s m args below meth cd s₁ B hml hv
  obtain ⟨hargs, hsz, hH, hG⟩ := hv
  have hx := B.exec
  have hb := B.bytes
  have hrt := B.returns
  have hts := atoms_spec (ws := (ws_ yX14_does cX14_does 4 none)) B.pre
  have hts : ∀ w ∈ lw_all, w.before _ s = true := fun w h => hts w (List.mem_cons_of_mem _ h)
  have hown : s.vm.findClass RX14 = some m.cls := findClass_of_methodNamed B.named
  have hlocks := B.notSynchronized
  subst hsz
  have hS : va_S A s.heap s.heap [] := va_S.rf
  have hE : entryFrame m args 4 = F0 m 0 ((lg_sl ([.ref (ad 15 i), .ref (ad 0 0), .ref (ad 6 c)]) ++ List.replicate (4 - (lg_sl ([.ref (ad 15 i), .ref (ad 0 0), .ref (ad 6 c)])).length) Slot.unset).toArray) [] := by rw [hargs]; exact lg_entry_eq m _ 4
  have hl := lv_entry ([.ref (ad 15 i), .ref (ad 0 0), .ref (ad 6 c)]) (n := 4) (Nat.le_of_ble_eq_true rfl)
  rw [hE]
  clear hE
  generalize (lg_sl ([.ref (ad 15 i), .ref (ad 0 0), .ref (ad 6 c)]) ++ List.replicate (4 - (lg_sl ([.ref (ad 15 i), .ref (ad 0 0), .ref (ad 6 c)])).length) Slot.unset).toArray = ls at hl ⊢
  have hl : lv_has ls 4 [(0, .ref (ad 15 i)), (1, .ref (ad 0 0)), (2, .ref (ad 6 c))] := hl
  generalize hQ : MQ _ _ _ _ _ _ _ = Q
  refine lv_aload_n hx hb dX14_does_0 rfl (lv_at hl 2 rfl) ?_
  refine vp_callSi (va_Run.call (va_runV (As := []) (rest := []) ⟨hx, hb, hml, hown, hts⟩ (c_X4_isCold lh A D dA K ad X Y N I G J c (h1) (h4) (h7)) (w_X4_isCold hts q520 rfl rfl ⟨Nat.le_of_ble_eq_true rfl, Nat.le_of_ble_eq_true rfl⟩) ⟨PX.blind (Mv.and Mv.heap Mv.gk), (O_recv hG (hH.cr (show c < N 3 from by omega)) rfl), PX.pre (Mv.and Mv.heap Mv.gk) ⟨hH, hG⟩⟩ rfl rfl hl.1 rfl (lv_room (Nat.le_of_ble_eq_true rfl)) dX14_does_1 ⟨Nat.le_of_ble_eq_true rfl, Nat.le_of_ble_eq_true rfl⟩)) (fun rr hrr => ?_)
  subst hrr
  refine lv_aload_n hx hb dX14_does_4 rfl (lv_at hl 0 rfl) ?_
  refine vp_callSi (va_Run.call (va_runU (As := []) (rest := [.int (bI (lv G c && decide (8 ≤ G 5 c)))]) ⟨hx, hb, hml, hown, hts⟩ (c_X15_toCold lh A D dA K ad X Y N I G J i) (va_cwA 0 hts (lw_U q521 q523 q524 q525 q95 q526) rfl rfl rfl (hG.2.1 _ q522 rfl) (by decide +kernel) ⟨Nat.le_of_ble_eq_true rfl, Nat.le_of_ble_eq_true rfl⟩) ⟨PX.blind (Mv.and Mv.heap Mv.gk), (O_recv hG (hH.act h2 3 h3 (by decide)) rfl), PX.pre (Mv.and Mv.heap Mv.gk) ⟨hH, hG⟩⟩ rfl rfl hl.1 rfl (lv_room (Nat.le_of_ble_eq_true rfl)) dX14_does_5 ⟨Nat.le_of_ble_eq_true rfl, Nat.le_of_ble_eq_true rfl⟩)) (fun rr hrr => ?_)
  subst hrr
  refine lv_icmp_ne (tgt := 12) hx hb dX14_does_8 (by decide) (fun c_8 => ?_) (fun c_8 => ?_)
  · refine lv_aload_n hx hb dX14_does_12 rfl (lv_at hl 0 rfl) ?_
    refine vp_callSi (va_Run.call (va_runU (As := []) (rest := []) ⟨hx, hb, hml, hown, hts⟩ (c_X15_toCold lh A D dA K ad X Y N I G J i) (va_cwA 0 hts (lw_U q521 q523 q524 q525 q95 q526) rfl rfl rfl (hG.2.1 _ q522 rfl) (by decide +kernel) ⟨Nat.le_of_ble_eq_true rfl, Nat.le_of_ble_eq_true rfl⟩) ⟨PX.blind (Mv.and Mv.heap Mv.gk), (O_recv hG (hH.act h2 3 h3 (by decide)) rfl), PX.pre (Mv.and Mv.heap Mv.gk) ⟨hH, hG⟩⟩ rfl rfl hl.1 rfl (lv_room (Nat.le_of_ble_eq_true rfl)) dX14_does_13 ⟨Nat.le_of_ble_eq_true rfl, Nat.le_of_ble_eq_true rfl⟩)) (fun rr hrr => ?_)
    subst hrr
    refine kn_zeq (tgt := 30) hx hb dX14_does_16 (by decide) (by decide) (fun c => absurd c (by decide)) (fun _ => ?_)
    refine lv_aload_n hx hb dX14_does_19 rfl (lv_at hl 1 rfl) ?_
    refine lv_bipush (v := nI 8) hx hb dX14_does_20 (by decide) ?_
    refine lv_bipush (v := nI 12) hx hb dX14_does_22 (by decide) ?_
    refine vp_callSi (va_Run.call (va_runVN (As := [.int (nI 8), .int (nI 12)]) (rest := []) ⟨hx, hb, hml, hown, hts⟩ (c_X1_free lh A D dA K ad X Y N I G J 8 12 (h4) (h5) (by decide) (h6) (h7) (by decide)) ⟨(va_cnB 2 hts (lw_meth q533) rfl rfl rfl (hG.2.1 _ q530 rfl) (hts _ q62) (by decide +kernel) ⟨Nat.le_of_ble_eq_true rfl, Nat.le_of_ble_eq_true rfl⟩), hts _ q532, hts _ qs11⟩ ⟨PX.blind (Mv.and Mv.heap Mv.gk), (O_recv hG hH.o0 rfl), PX.pre (Mv.and Mv.heap Mv.gk) ⟨hH, hG⟩⟩ rfl rfl hl.1 rfl (lv_room (Nat.le_of_ble_eq_true rfl)) dX14_does_24 ⟨Nat.le_of_ble_eq_true rfl, Nat.le_of_ble_eq_true rfl⟩)) (fun rr hrr => ?_)
    subst hrr
    refine kx_int (y := oI (frP G (N 3) 8 4)) rfl ?_
    rcases ho24 : frP G (N 3) 8 4 with _ | k24
    · show W p lh e r_X14_does_3 s m args below meth cd _ _ _ _ Q (F0 m _ ls (.int (-1) :: _))
      refine lv_goto (tgt := 37) hx hb dX14_does_27 (by decide) ?_
      refine lv_istore_n (lv' := [(3, .int (-1)), (0, .ref (ad 15 i)), (1, .ref (ad 0 0)), (2, .ref (ad 6 c))]) hx hb dX14_does_37 rfl hl (by decide) rfl (fun ls hl => ?_)
      refine lv_iload_n hx hb dX14_does_38 rfl (lv_at hl 0 rfl) ?_
      refine lv_iconst (v := -1) hx hb dX14_does_39 (by decide) ?_
      refine lv_icmp_eq (tgt := 48) hx hb dX14_does_40 (by decide) (fun _ => ?_) (fun c => absurd rfl c)
      subst hQ
      exact W.vret hx hb hrt (fun t ht hW => ⟨⟨(ad, X, Y, N, I, G, J), rfl, (by rw [if_pos (by have h9 : ¬ 8 ≤ G 5 c := fun q => c_8 ((bI_cold h8).1.mpr q); omega), if_pos (by have h9 : ¬ 8 ≤ G 5 c := fun q => c_8 ((bI_cold h8).1.mpr q); omega)]; unfold mvY mvG; rw [ho24]), by rw [ht]; exact hH, GK.warm hW hG⟩, hS.F ht⟩) hS.2.2 dX14_does_48
    · show W p lh e r_X14_does_3 s m args below meth cd _ _ _ _ Q (F0 m _ ls (.int (nI k24) :: _))
      have hfp := frP_in ho24
      refine lv_goto (tgt := 37) hx hb dX14_does_27 (by decide) ?_
      refine lv_istore_n (lv' := [(3, .int (nI k24)), (0, .ref (ad 15 i)), (1, .ref (ad 0 0)), (2, .ref (ad 6 c))]) hx hb dX14_does_37 rfl hl (by decide) rfl (fun ls hl => ?_)
      refine lv_iload_n hx hb dX14_does_38 rfl (lv_at hl 0 rfl) ?_
      refine lv_iconst (v := -1) hx hb dX14_does_39 (by decide) ?_
      refine lv_icmp_eq (tgt := 48) hx hb dX14_does_40 (by decide) (fun c => absurd c (nI_nm1 (by omega))) (fun _ => ?_)
      refine lv_aload_n hx hb dX14_does_43 rfl (lv_at hl 3 rfl) ?_
      refine lv_iload_n hx hb dX14_does_44 rfl (lv_at hl 0 rfl) ?_
      refine ko_putN (C := RX4) (T := TX4) (N := 11) (ci := 2) hx hb hts in_X4 tyX4 tyX4_ok nmX4 hown hG.1 hS (hH.2.2 6 c (show c < N 3 from by omega)) (hH.cr (show c < N 3 from by omega)) rfl 3 (by decide) (hG.2.1 _ q321 rfl) (fun _ h => h) rfl rfl rfl (Nat.le_of_ble_eq_true rfl) dX14_does_45 (fun H locs e1 z1 o1 hS => ?_)
      have hH := hH.c3 (v := nI k24) (show c < N 3 from by omega) e1 o1
      clear e1 z1 o1
      have hH := hH.cgG (G1 := up2 G 5 c k24) (usG_up rfl)
      subst hQ
      exact W.vret hx hb hrt (fun t ht hW => ⟨⟨(ad, X, (up3 Y 0 c 0 (nI k24)), N, I, (up2 G 5 c k24), J), rfl, (by rw [if_pos (by have h9 : ¬ 8 ≤ G 5 c := fun q => c_8 ((bI_cold h8).1.mpr q); omega), if_pos (by have h9 : ¬ 8 ≤ G 5 c := fun q => c_8 ((bI_cold h8).1.mpr q); omega)]; unfold mvY mvG; rw [ho24]), by rw [ht]; exact hH, GK.warm hW hG⟩, hS.F ht⟩) hS.2.2 dX14_does_48
  · subst hQ
    exact W.vret hx hb hrt (fun t ht hW => ⟨⟨(ad, X, Y, N, I, G, J), rfl, (by rw [if_neg (by have := (bI_cold h8).1.mp c_8; omega), if_neg (by have := (bI_cold h8).1.mp c_8; omega)]), by rw [ht]; exact hH, GK.warm hW hG⟩, hS.F ht⟩) hS.2.2 dX14_does_11

abbrev r_X14_does_4 : Room := { frames := 5, cells := 0, slots := 0, locals := 109 }
set_option maxHeartbeats 1000000 in
theorem c_X14_does_4 (lh : Launch) (A : Nat → Prop) (D : va_G) (dA : Nat → ClassId) (K : Nat → Nat) (ad X : Nat → Nat → Nat) (Y : Nat → Nat → Nat → Int32) (N : Nat → Nat) (I : Nat → Int32) (G : Nat → Nat → Nat) (J : Nat → Nat → Int32) (sz : Nat) (i : Nat) (c : Nat) (h1 : c < N 3) (h2 : i / 10 < N 23 ∧ i % 10 < G 25 (i / 10)) (h3 : G 26 i = 4) (h4 : ∀ a b, G a b < 2 ^ 31) (h5 : N 3 ≤ 10) (h6 : XOk N G X) (h7 : PlOk N G Y) (h8 : lv G c = true) (hA : ∀ q, sz ≤ q → A q) : Met lh yX14_does (ws_ yX14_does cX14_does 4 none) r_X14_does_4 (PX (fun U H => H.size = sz ∧ RH A D dA K ad X Y N I G J H ∧ GK D dA U) [.ref (ad 15 i), .ref (ad 0 0), .ref (ad 6 c)]) (va_Qv (fun u : HgT => u = (ad, X, if 7 < G 5 c then mvY Y G (N 3) c 0 8 else Y, N, I, if 7 < G 5 c then mvG G (N 3) c 0 8 else G, J)) (BmH A D dA K) A) 0 0 A := by
  refine Met.ofW (cc := cX14_does) (maxL := 4) (ret := none) (by decide) rfl ?_
  intro p e s m args below meth cd s₁ B hml hv
  obtain ⟨hargs, hsz, hH, hG⟩ := hv
  have hx := B.exec
  have hb := B.bytes
  have hrt := B.returns
  have hts := atoms_spec (ws := (ws_ yX14_does cX14_does 4 none)) B.pre
  have hts : ∀ w ∈ lw_all, w.before _ s = true := fun w h => hts w (List.mem_cons_of_mem _ h)
  have hown : s.vm.findClass RX14 = some m.cls := findClass_of_methodNamed B.named
  have hlocks := B.notSynchronized
  subst hsz
  have hS : va_S A s.heap s.heap [] := va_S.rf
  have hE : entryFrame m args 4 = F0 m 0 ((lg_sl ([.ref (ad 15 i), .ref (ad 0 0), .ref (ad 6 c)]) ++ List.replicate (4 - (lg_sl ([.ref (ad 15 i), .ref (ad 0 0), .ref (ad 6 c)])).length) Slot.unset).toArray) [] := by rw [hargs]; exact lg_entry_eq m _ 4
  have hl := lv_entry ([.ref (ad 15 i), .ref (ad 0 0), .ref (ad 6 c)]) (n := 4) (Nat.le_of_ble_eq_true rfl)
  rw [hE]
  clear hE
  generalize (lg_sl ([.ref (ad 15 i), .ref (ad 0 0), .ref (ad 6 c)]) ++ List.replicate (4 - (lg_sl ([.ref (ad 15 i), .ref (ad 0 0), .ref (ad 6 c)])).length) Slot.unset).toArray = ls at hl ⊢
  have hl : lv_has ls 4 [(0, .ref (ad 15 i)), (1, .ref (ad 0 0)), (2, .ref (ad 6 c))] := hl
  generalize hQ : MQ _ _ _ _ _ _ _ = Q
  refine lv_aload_n hx hb dX14_does_0 rfl (lv_at hl 2 rfl) ?_
  refine vp_callSi (va_Run.call (va_runV (As := []) (rest := []) ⟨hx, hb, hml, hown, hts⟩ (c_X4_isCold lh A D dA K ad X Y N I G J c (h1) (h4) (h7)) (w_X4_isCold hts q520 rfl rfl ⟨Nat.le_of_ble_eq_true rfl, Nat.le_of_ble_eq_true rfl⟩) ⟨PX.blind (Mv.and Mv.heap Mv.gk), (O_recv hG (hH.cr (show c < N 3 from by omega)) rfl), PX.pre (Mv.and Mv.heap Mv.gk) ⟨hH, hG⟩⟩ rfl rfl hl.1 rfl (lv_room (Nat.le_of_ble_eq_true rfl)) dX14_does_1 ⟨Nat.le_of_ble_eq_true rfl, Nat.le_of_ble_eq_true rfl⟩)) (fun rr hrr => ?_)
  subst hrr
  refine lv_aload_n hx hb dX14_does_4 rfl (lv_at hl 0 rfl) ?_
  refine vp_callSi (va_Run.call (va_runU (As := []) (rest := [.int (bI (lv G c && decide (8 ≤ G 5 c)))]) ⟨hx, hb, hml, hown, hts⟩ (c_X16_toCold lh A D dA K ad X Y N I G J i) (va_cwA 0 hts (lw_U q521 q523 q527 q528 q96 q529) rfl rfl rfl (hG.2.1 _ q522 rfl) (by decide +kernel) ⟨Nat.le_of_ble_eq_true rfl, Nat.le_of_ble_eq_true rfl⟩) ⟨PX.blind (Mv.and Mv.heap Mv.gk), (O_recv hG (hH.act h2 4 h3 (by decide)) rfl), PX.pre (Mv.and Mv.heap Mv.gk) ⟨hH, hG⟩⟩ rfl rfl hl.1 rfl (lv_room (Nat.le_of_ble_eq_true rfl)) dX14_does_5 ⟨Nat.le_of_ble_eq_true rfl, Nat.le_of_ble_eq_true rfl⟩)) (fun rr hrr => ?_)
  subst hrr
  refine lv_icmp_ne (tgt := 12) hx hb dX14_does_8 (by decide) (fun c_8 => ?_) (fun c_8 => ?_)
  · refine lv_aload_n hx hb dX14_does_12 rfl (lv_at hl 0 rfl) ?_
    refine vp_callSi (va_Run.call (va_runU (As := []) (rest := []) ⟨hx, hb, hml, hown, hts⟩ (c_X16_toCold lh A D dA K ad X Y N I G J i) (va_cwA 0 hts (lw_U q521 q523 q527 q528 q96 q529) rfl rfl rfl (hG.2.1 _ q522 rfl) (by decide +kernel) ⟨Nat.le_of_ble_eq_true rfl, Nat.le_of_ble_eq_true rfl⟩) ⟨PX.blind (Mv.and Mv.heap Mv.gk), (O_recv hG (hH.act h2 4 h3 (by decide)) rfl), PX.pre (Mv.and Mv.heap Mv.gk) ⟨hH, hG⟩⟩ rfl rfl hl.1 rfl (lv_room (Nat.le_of_ble_eq_true rfl)) dX14_does_13 ⟨Nat.le_of_ble_eq_true rfl, Nat.le_of_ble_eq_true rfl⟩)) (fun rr hrr => ?_)
    subst hrr
    refine kn_zeq (tgt := 30) hx hb dX14_does_16 (by decide) (by decide) (fun _ => ?_) (fun c => absurd c (by decide))
    refine lv_aload_n hx hb dX14_does_30 rfl (lv_at hl 1 rfl) ?_
    refine lv_iconst (v := nI 0) hx hb dX14_does_31 (by decide) ?_
    refine lv_bipush (v := nI 8) hx hb dX14_does_32 (by decide) ?_
    refine vp_callSi (va_Run.call (va_runVN (As := [.int (nI 0), .int (nI 8)]) (rest := []) ⟨hx, hb, hml, hown, hts⟩ (c_X1_free lh A D dA K ad X Y N I G J 0 8 (h4) (h5) (by decide) (h6) (h7) (by decide)) ⟨(va_cnB 2 hts (lw_meth q533) rfl rfl rfl (hG.2.1 _ q530 rfl) (hts _ q62) (by decide +kernel) ⟨Nat.le_of_ble_eq_true rfl, Nat.le_of_ble_eq_true rfl⟩), hts _ q532, hts _ qs11⟩ ⟨PX.blind (Mv.and Mv.heap Mv.gk), (O_recv hG hH.o0 rfl), PX.pre (Mv.and Mv.heap Mv.gk) ⟨hH, hG⟩⟩ rfl rfl hl.1 rfl (lv_room (Nat.le_of_ble_eq_true rfl)) dX14_does_34 ⟨Nat.le_of_ble_eq_true rfl, Nat.le_of_ble_eq_true rfl⟩)) (fun rr hrr => ?_)
    subst hrr
    refine kx_int (y := oI (frP G (N 3) 0 8)) rfl ?_
    rcases ho34 : frP G (N 3) 0 8 with _ | k34
    · show W p lh e r_X14_does_4 s m args below meth cd _ _ _ _ Q (F0 m _ ls (.int (-1) :: _))
      refine lv_istore_n (lv' := [(3, .int (-1)), (0, .ref (ad 15 i)), (1, .ref (ad 0 0)), (2, .ref (ad 6 c))]) hx hb dX14_does_37 rfl hl (by decide) rfl (fun ls hl => ?_)
      refine lv_iload_n hx hb dX14_does_38 rfl (lv_at hl 0 rfl) ?_
      refine lv_iconst (v := -1) hx hb dX14_does_39 (by decide) ?_
      refine lv_icmp_eq (tgt := 48) hx hb dX14_does_40 (by decide) (fun _ => ?_) (fun c => absurd rfl c)
      subst hQ
      exact W.vret hx hb hrt (fun t ht hW => ⟨⟨(ad, X, Y, N, I, G, J), rfl, (by rw [if_pos (by have h9 : ¬ ¬ 8 ≤ G 5 c := fun q => c_8 ((bI_cold h8).2.mpr q); omega), if_pos (by have h9 : ¬ ¬ 8 ≤ G 5 c := fun q => c_8 ((bI_cold h8).2.mpr q); omega)]; unfold mvY mvG; rw [ho34]), by rw [ht]; exact hH, GK.warm hW hG⟩, hS.F ht⟩) hS.2.2 dX14_does_48
    · show W p lh e r_X14_does_4 s m args below meth cd _ _ _ _ Q (F0 m _ ls (.int (nI k34) :: _))
      have hfp := frP_in ho34
      refine lv_istore_n (lv' := [(3, .int (nI k34)), (0, .ref (ad 15 i)), (1, .ref (ad 0 0)), (2, .ref (ad 6 c))]) hx hb dX14_does_37 rfl hl (by decide) rfl (fun ls hl => ?_)
      refine lv_iload_n hx hb dX14_does_38 rfl (lv_at hl 0 rfl) ?_
      refine lv_iconst (v := -1) hx hb dX14_does_39 (by decide) ?_
      refine lv_icmp_eq (tgt := 48) hx hb dX14_does_40 (by decide) (fun c => absurd c (nI_nm1 (by omega))) (fun _ => ?_)
      refine lv_aload_n hx hb dX14_does_43 rfl (lv_at hl 3 rfl) ?_
      refine lv_iload_n hx hb dX14_does_44 rfl (lv_at hl 0 rfl) ?_
      refine ko_putN (C := RX4) (T := TX4) (N := 11) (ci := 2) hx hb hts in_X4 tyX4 tyX4_ok nmX4 hown hG.1 hS (hH.2.2 6 c (show c < N 3 from by omega)) (hH.cr (show c < N 3 from by omega)) rfl 3 (by decide) (hG.2.1 _ q321 rfl) (fun _ h => h) rfl rfl rfl (Nat.le_of_ble_eq_true rfl) dX14_does_45 (fun H locs e1 z1 o1 hS => ?_)
      have hH := hH.c3 (v := nI k34) (show c < N 3 from by omega) e1 o1
      clear e1 z1 o1
      have hH := hH.cgG (G1 := up2 G 5 c k34) (usG_up rfl)
      subst hQ
      exact W.vret hx hb hrt (fun t ht hW => ⟨⟨(ad, X, (up3 Y 0 c 0 (nI k34)), N, I, (up2 G 5 c k34), J), rfl, (by rw [if_pos (by have h9 : ¬ ¬ 8 ≤ G 5 c := fun q => c_8 ((bI_cold h8).2.mpr q); omega), if_pos (by have h9 : ¬ ¬ 8 ≤ G 5 c := fun q => c_8 ((bI_cold h8).2.mpr q); omega)]; unfold mvY mvG; rw [ho34]), by rw [ht]; exact hH, GK.warm hW hG⟩, hS.F ht⟩) hS.2.2 dX14_does_48
  · subst hQ
    exact W.vret hx hb hrt (fun t ht hW => ⟨⟨(ad, X, Y, N, I, G, J), rfl, (by rw [if_neg (by have := (bI_cold h8).2.mp c_8; omega), if_neg (by have := (bI_cold h8).2.mp c_8; omega)]), by rw [ht]; exact hH, GK.warm hW hG⟩, hS.F ht⟩) hS.2.2 dX14_does_11

abbrev r_X15_does : Room := { frames := 6, cells := 0, slots := 0, locals := 132 }
set_option maxHeartbeats 1000000 in
theorem c_X15_does (lh : Launch) (A : Nat → Prop) (D : va_G) (dA : Nat → ClassId) (K : Nat → Nat) (ad X : Nat → Nat → Nat) (Y : Nat → Nat → Nat → Int32) (N : Nat → Nat) (I : Nat → Int32) (G : Nat → Nat → Nat) (J : Nat → Nat → Int32) (sz : Nat) (i : Nat) (c : Nat) (h1 : c < N 3) (h2 : i / 10 < N 23 ∧ i % 10 < G 25 (i / 10)) (h3 : G 26 i = 3) (h4 : ∀ a b, G a b < 2 ^ 31) (h5 : N 3 ≤ 10) (h6 : XOk N G X) (h7 : PlOk N G Y) (h8 : lv G c = true) (hA : ∀ q, sz ≤ q → A q) : Met lh yX15_does (ws_ yX15_does cX15_does 3 none) r_X15_does (PX (fun U H => H.size = sz ∧ RH A D dA K ad X Y N I G J H ∧ GK D dA U) [.ref (ad 15 i), .ref (ad 0 0), .ref (ad 6 c)]) (va_Qv (fun u : HgT => u = (ad, X, if G 5 c < 8 then mvY Y G (N 3) c 8 4 else Y, N, I, if G 5 c < 8 then mvG G (N 3) c 8 4 else G, J)) (BmH A D dA K) A) 0 0 A := by
  refine Met.ofW (cc := cX15_does) (maxL := 3) (ret := none) (by decide) rfl ?_
  intro p e s m args below meth cd s₁ B hml hv
  obtain ⟨hargs, hsz, hH, hG⟩ := hv
  have hx := B.exec
  have hb := B.bytes
  have hrt := B.returns
  have hts := atoms_spec (ws := (ws_ yX15_does cX15_does 3 none)) B.pre
  have hts : ∀ w ∈ lw_all, w.before _ s = true := fun w h => hts w (List.mem_cons_of_mem _ h)
  have hown : s.vm.findClass RX15 = some m.cls := findClass_of_methodNamed B.named
  have hlocks := B.notSynchronized
  subst hsz
  have hS : va_S A s.heap s.heap [] := va_S.rf
  have hE : entryFrame m args 3 = F0 m 0 ((lg_sl ([.ref (ad 15 i), .ref (ad 0 0), .ref (ad 6 c)]) ++ List.replicate (3 - (lg_sl ([.ref (ad 15 i), .ref (ad 0 0), .ref (ad 6 c)])).length) Slot.unset).toArray) [] := by rw [hargs]; exact lg_entry_eq m _ 3
  have hl := lv_entry ([.ref (ad 15 i), .ref (ad 0 0), .ref (ad 6 c)]) (n := 3) (Nat.le_of_ble_eq_true rfl)
  rw [hE]
  clear hE
  generalize (lg_sl ([.ref (ad 15 i), .ref (ad 0 0), .ref (ad 6 c)]) ++ List.replicate (3 - (lg_sl ([.ref (ad 15 i), .ref (ad 0 0), .ref (ad 6 c)])).length) Slot.unset).toArray = ls at hl ⊢
  have hl : lv_has ls 3 [(0, .ref (ad 15 i)), (1, .ref (ad 0 0)), (2, .ref (ad 6 c))] := hl
  generalize hQ : MQ _ _ _ _ _ _ _ = Q
  refine lv_aload_n hx hb dX15_does_0 rfl (lv_at hl 0 rfl) ?_
  refine lv_aload_n hx hb dX15_does_1 rfl (lv_at hl 1 rfl) ?_
  refine lv_aload_n hx hb dX15_does_2 rfl (lv_at hl 2 rfl) ?_
  refine va_callv (va_runSU (hG.1.1 12 _ rfl).2 (As := [.ref (ad 0 0), .ref (ad 6 c)]) (rest := []) ⟨hx, hb, hml, hown, hts⟩ (c_X14_does_3 lh A D dA K ad X Y N I G J s.heap.size i c (h1) (h2) (h3) (h4) (h5) (h6) (h7) (h8) (fun q h => hA q (Nat.le_trans hS.1 h))) (va_cwSU 2 hts (lw_SU q516 q1695 q517 q518 q94 q519) rfl rfl rfl (by decide +kernel) ⟨Nat.le_of_ble_eq_true rfl, Nat.le_of_ble_eq_true rfl⟩) ⟨PX.blind (Mv.and Mv.heap (Mv.and Mv.heap Mv.gk)), (O_recv hG (hH.act h2 3 h3 (by decide)) rfl), PX.pre (Mv.and Mv.heap (Mv.and Mv.heap Mv.gk)) ⟨rfl, hH, hG⟩⟩ rfl rfl hl.1 rfl (lv_room (Nat.le_of_ble_eq_true rfl)) dX15_does_3 ⟨Nat.le_of_ble_eq_true rfl, Nat.le_of_ble_eq_true rfl⟩) hS (fun q _ h => h) (fun q h => h) (fun u t H1 locs ht hvm hp hB hz hk hS => ?_)
  obtain ⟨hH, -⟩ := hB
  rw [ht] at hH
  clear ht hz hk
  generalize H1 = H at hH hS ⊢
  subst hp
  dsimp only at hH
  subst hQ
  exact W.vret hx hb hrt (fun t ht hW => ⟨⟨(ad, X, (if G 5 c < 8 then mvY Y G ((N 3)) c 8 4 else Y), N, I, (if G 5 c < 8 then mvG G ((N 3)) c 8 4 else G), J), rfl, (rfl), by rw [ht]; exact hH, GK.warm hW hG⟩, hS.F ht⟩) hS.2.2 dX15_does_6
