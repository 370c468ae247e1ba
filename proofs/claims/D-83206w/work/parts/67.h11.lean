set_option maxRecDepth 100000
abbrev r_X1_test : Room := { frames := 7, cells := 2, slots := 160, locals := 171 }
set_option maxHeartbeats 1000000 in
theorem c_X1_test (lh : Launch) (A : Nat → Prop) (D : va_G) (dA : Nat → ClassId) (K : Nat → Nat) (ad X : Nat → Nat → Nat) (Y : Nat → Nat → Nat → Int32) (N : Nat → Nat) (I : Nat → Int32) (G : Nat → Nat → Nat) (J : Nat → Nat → Int32) (sz : Nat) (c : Int32) (h : Int32) (v : Int32) (h1 : ∀ a b, G a b < 2 ^ 31) (h2 : N 3 ≤ 10) (h3 : N 14 ≤ 600) (h4 : N 19 ≤ 100) (h5 : HOk N G J X Y) (h6 : X2Ok X) (hA : ∀ q, sz ≤ q → A q) : Met lh yX1_test (ws_ yX1_test cX1_test 5 (some .int)) r_X1_test (PX (fun U H => H.size = sz ∧ RH A D dA K ad X Y N I G J H ∧ GK D dA U ∧ KL K A U H) [.ref (ad 0 0), .int c, .int h, .int v]) (va_Qi (fun (r : Int32) (u : HgT) => if testB N G c h v = true then ∃ ad1 X1 Y1, r = nI (N 19) ∧ u = (ad1, X1, Y1, up1 N 19 (N 19 + 1), I, testG G (N 19) (tn c) (tn h) (tn v), J) ∧ HOk (up1 N 19 (N 19 + 1)) (testG G (N 19) (tn c) (tn h) (tn v)) J X1 Y1 ∧ X2Ok X1 else r = -1 ∧ u = (ad, X, Y, N, I, G, J)) (BmH A D dA K) A) 2 160 A := by
  refine Met.ofW (cc := cX1_test) (maxL := 5) (ret := (some .int)) (by decide) rfl ?_
  intro p e s m args below meth cd s₁ B hml hv
  obtain ⟨hargs, hsz, hH, hG, hKL⟩ := hv
  have hx := B.exec
  have hb := B.bytes
  have hrt := B.returns
  have hts := atoms_spec (ws := (ws_ yX1_test cX1_test 5 (some .int))) B.pre
  have hts : ∀ w ∈ lw_all, w.before _ s = true := fun w h => hts w (List.mem_cons_of_mem _ h)
  have hown : s.vm.findClass RX1 = some m.cls := findClass_of_methodNamed B.named
  have hlocks := B.notSynchronized
  subst hsz
  have hS : va_S A s.heap s.heap [] := va_S.rf
  have hE : entryFrame m args 5 = F0 m 0 ((lg_sl ([.ref (ad 0 0), .int c, .int h, .int v]) ++ List.replicate (5 - (lg_sl ([.ref (ad 0 0), .int c, .int h, .int v])).length) Slot.unset).toArray) [] := by rw [hargs]; exact lg_entry_eq m _ 5
  have hl := lv_entry ([.ref (ad 0 0), .int c, .int h, .int v]) (n := 5) (Nat.le_of_ble_eq_true rfl)
  rw [hE]
  clear hE
  generalize (lg_sl ([.ref (ad 0 0), .int c, .int h, .int v]) ++ List.replicate (5 - (lg_sl ([.ref (ad 0 0), .int c, .int h, .int v])).length) Slot.unset).toArray = ls at hl ⊢
  have hl : lv_has ls 5 [(0, .ref (ad 0 0)), (1, .int c), (2, .int h), (3, .int v)] := hl
  generalize hQ : MQ _ _ _ _ _ _ _ = Q
  have hX := h5.1
  have hB := h1
  refine lv_aload_n hx hb dX1_test_0 rfl (lv_at hl 0 rfl) ?_
  refine lv_iload_n hx hb dX1_test_1 rfl (lv_at hl 1 rfl) ?_
  refine va_csq (va_Run.call (va_runV (As := [.int c]) (rest := []) ⟨hx, hb, hml, hown, hts⟩ (c_X1_there lh A D dA K ad X Y N I G J c (h1) (h2) (h5.1)) (w_X1_there hts q436 rfl rfl ⟨Nat.le_of_ble_eq_true rfl, Nat.le_of_ble_eq_true rfl⟩) ⟨PX.blind (Mv.and Mv.heap Mv.gk), (O_recv hG hH.o0 rfl), PX.pre (Mv.and Mv.heap Mv.gk) ⟨hH, hG⟩⟩ rfl rfl hl.1 rfl (lv_room (Nat.le_of_ble_eq_true rfl)) dX1_test_2 ⟨Nat.le_of_ble_eq_true rfl, Nat.le_of_ble_eq_true rfl⟩)) (fun rr hrr => ?_)
  subst hrr
  by_cases hq2 : lvI (N 3) G c = true
  · rw [if_pos hq2]
    show W p lh e r_X1_test s m args below meth cd _ _ _ _ Q (F0 m _ ls (.ref (ad 6 (tn c)) :: _))
    obtain ⟨j, hj, rfl, hlj⟩ := lvI_nat (by omega) hq2
    rw [tn_nI (show j < 2 ^ 31 by omega)]
    refine lv_astore (lv' := [(4, .ref (ad 6 j)), (0, .ref (ad 0 0)), (1, .int (nI j)), (2, .int h), (3, .int v)]) hx hb dX1_test_5 hl (by decide) rfl (fun ls hl => ?_)
    refine lv_aload hx hb dX1_test_7 (lv_at hl 0 rfl) ?_
    refine lv_ifnull hx hb dX1_test_9 ?_
    refine lv_iload_n hx hb dX1_test_12 rfl (lv_at hl 3 rfl) ?_
    refine lv_aload hx hb dX1_test_13 (lv_at hl 0 rfl) ?_
    refine ko_getN (C := RX4) (T := TX4) (N := 11) (ci := 2) (v := .int (nI (G 9 j))) hx hb hts in_X4 hown hG.1 (hH.cr (show j < N 3 from by omega)) rfl 6 (by decide) (hG.2.1 _ q329 rfl) (fun _ h => h) (rfl) dX1_test_15 ?_
    refine lv_aload_n hx hb dX1_test_18 rfl (lv_at hl 1 rfl) ?_
    refine ko_get (C := RX1) (T := TX1) (N := 28) (ci := 1) (v := .int (nI (N 14))) hx hb hts in_X1 hown hG.1 hH.o0 rfl 9 (by decide) q194 (fun _ h => h) (rfl) dX1_test_19 ?_
    refine vp_callSi (W.runS (As := [.int h, .int (nI (G 9 j)), .int (nI (N 14))]) (rest := []) ⟨hx, hb, hml, hown, hts⟩ (c_X1_in lh h (nI (G 9 j)) (nI (N 14))) (w_X1_in hts q277 rfl rfl ⟨Nat.le_of_ble_eq_true rfl, Nat.le_of_ble_eq_true rfl⟩) ⟨P0.blind, P0.pre⟩ rfl rfl hl.1 rfl (lv_room (Nat.le_of_ble_eq_true rfl)) dX1_test_22 ⟨Nat.le_of_ble_eq_true rfl, Nat.le_of_ble_eq_true rfl⟩) (fun rr hrr => ?_)
    subst hrr
    refine kb_eq (tgt := 51) hx hb dX1_test_25 (by decide) (fun c_25 => ?_) (fun c_25 => ?_)
    · refine lv_iconst (v := -1) hx hb dX1_test_51 (by decide) ?_
      subst hQ
      refine W.widen (k := 2) (n := 160) (by first | decide | omega) (by first | decide | omega) ?_
      exact W.iret (v := (-1)) hx hb hrt (fun t ht hW => ⟨⟨_, (ad, X, Y, N, I, G, J), rfl, (by dsimp only; rw [if_neg (by simp [testB, hq2, c_25, tn_nI (show j < 2 ^ 31 by omega)])]; exact ⟨rfl, rfl⟩), by rw [ht]; exact hH, GK.warm hW hG⟩, hS.F ht⟩) hS.2.2 dX1_test_52
    · obtain ⟨k, hk1, hk2, rfl⟩ := wi_nat (h1 _ _) (by omega) c_25
      refine lv_iload_n hx hb dX1_test_28 rfl (lv_at hl 4 rfl) ?_
      refine lv_iconst (v := nI 0) hx hb dX1_test_29 (by decide) ?_
      refine lv_sipush (v := nI 1000) hx hb dX1_test_30 (by decide) ?_
      refine vp_callSi (W.runS (As := [.int v, .int (nI 0), .int (nI 1000)]) (rest := []) ⟨hx, hb, hml, hown, hts⟩ (c_X1_in lh v (nI 0) (nI 1000)) (w_X1_in hts q277 rfl rfl ⟨Nat.le_of_ble_eq_true rfl, Nat.le_of_ble_eq_true rfl⟩) ⟨P0.blind, P0.pre⟩ rfl rfl hl.1 rfl (lv_room (Nat.le_of_ble_eq_true rfl)) dX1_test_33 ⟨Nat.le_of_ble_eq_true rfl, Nat.le_of_ble_eq_true rfl⟩) (fun rr hrr => ?_)
      subst hrr
      refine kb_eq (tgt := 51) hx hb dX1_test_36 (by decide) (fun c_36 => ?_) (fun c_36 => ?_)
      · refine lv_iconst (v := -1) hx hb dX1_test_51 (by decide) ?_
        subst hQ
        refine W.widen (k := 2) (n := 160) (by first | decide | omega) (by first | decide | omega) ?_
        exact W.iret (v := (-1)) hx hb hrt (fun t ht hW => ⟨⟨_, (ad, X, Y, N, I, G, J), rfl, (by dsimp only; rw [if_neg (by simp [testB, hq2, c_25, c_36, tn_nI (show j < 2 ^ 31 by omega), tn_nI (show k < 2 ^ 31 by omega)])]; exact ⟨rfl, rfl⟩), by rw [ht]; exact hH, GK.warm hW hG⟩, hS.F ht⟩) hS.2.2 dX1_test_52
      · obtain ⟨w, hw1, hw2, rfl⟩ := wi_nat (by decide) (by decide) c_36
        refine lv_aload_n hx hb dX1_test_39 rfl (lv_at hl 1 rfl) ?_
        refine ko_get (C := RX1) (T := TX1) (N := 28) (ci := 1) (v := .ref (ad 4 1)) hx hb hts in_X1 hown hG.1 hH.o0 rfl 4 (by decide) q189 (fun _ h => h) (rfl) dX1_test_40 ?_
        refine vp_callSi (va_Run.call (va_runV (As := []) (rest := []) ⟨hx, hb, hml, hown, hts⟩ (c_J2_size lh D dA (ad 4 1) (Y 3 1 0) (elH K ad X 1) (N 19)) (w_J2_size hts q284 rfl rfl ⟨Nat.le_of_ble_eq_true rfl, Nat.le_of_ble_eq_true rfl⟩) ⟨PX.blind (Mv.and Mv.heap Mv.gk), (O_recv hG (hH.li 1 (by decide)) rfl), PX.pre (Mv.and Mv.heap Mv.gk) ⟨(hH.li 1 (by decide)), hG⟩⟩ rfl rfl hl.1 rfl (lv_room (Nat.le_of_ble_eq_true rfl)) dX1_test_43 ⟨Nat.le_of_ble_eq_true rfl, Nat.le_of_ble_eq_true rfl⟩)) (fun rr hrr => ?_)
        subst hrr
        refine lv_bipush (v := nI 100) hx hb dX1_test_46 (by decide) ?_
        refine kn_cne (tgt := 53) hx hb dX1_test_48 (by decide) (by omega) (by decide) (fun c_48 => ?_) (fun c_48 => ?_)
        · refine lv_aload_n hx hb dX1_test_53 rfl (lv_at hl 1 rfl) ?_
          refine ko_get (C := RX1) (T := TX1) (N := 28) (ci := 1) (v := .ref (ad 4 1)) hx hb hts in_X1 hown hG.1 hH.o0 rfl 4 (by decide) q189 (fun _ h => h) (rfl) dX1_test_54 ?_
          have hz9 := hS.1
          refine ko_new (D := D) (ci := 4) (C := RX5) (T := TX5) (N := 3) hx hb hts in_X5 tyX5 tyX5_ok hown q499 q569 q78 hG.1 hS rfl (fs := [.null, .int (nI 0), .int (nI 0)]) (by decide) (Nat.le_of_ble_eq_true rfl) (Nat.le_of_ble_eq_true rfl) dX1_test_57 (fun H1 e57 z1 o1 hS => ?_)
          have fr_q57 : Fr ad N G X s.heap.size := Fr.of hH (Nat.le_refl _)
          have a_q57 : A s.heap.size := hA _ hz9
          have hH := hH.grow o1
          generalize s.heap.size = q57 at e57 z1 fr_q57 a_q57 ⊢
          clear hz9 o1 z1
          generalize H1 = H at e57 hH hS ⊢
          refine lv_dup hx hb dX1_test_60 rfl ?_
          refine lv_aload hx hb dX1_test_61 (lv_at hl 0 rfl) ?_
          refine lv_iload_n hx hb dX1_test_63 rfl (lv_at hl 3 rfl) ?_
          refine lv_iload_n hx hb dX1_test_64 rfl (lv_at hl 4 rfl) ?_
          have hz9 := hS.1
          refine va_callv (va_runI (As := [.ref (ad 6 j), .int (nI k), .int (nI w)]) (rest := [.ref q57, .ref (ad 4 1)]) ⟨hx, hb, hml, hown, hts⟩ (c_X5_init lh D dA H.size q57 (ad 6 j) k w) (cwI 3 hts (lw_meth q572) rfl rfl rfl (hts _ q78) (hts _ q570) (hts _ q571) rfl (by decide +kernel) ⟨Nat.le_of_ble_eq_true rfl, Nat.le_of_ble_eq_true rfl⟩) ⟨PX.blind (Mv.and Mv.heap (Mv.and Mv.heap (Mv.and Mv.heap Mv.gk))), PX.pre (Mv.and Mv.heap (Mv.and Mv.heap (Mv.and Mv.heap Mv.gk))) ⟨rfl, ka_one e57, va_D1, hG⟩⟩ rfl rfl hl.1 rfl (lv_room (Nat.le_of_ble_eq_true rfl)) dX1_test_65 ⟨Nat.le_of_ble_eq_true rfl, Nat.le_of_ble_eq_true rfl⟩) hS (fun q _ => (va_AA (L1 (P := A) a_q57) hA hS.1) q) (va_AA (L1 (P := A) a_q57) hA hS.1) (fun u t H1 locs ht hvm hp hB hz hk hS => ?_)
          obtain ⟨hP1, hD1, -⟩ := hB
          rw [ht] at hP1
          have e57 := hP1 0 _ rfl
          have hH := hH.keptP hk (L1 fr_q57)
          clear hz9 hz hk hP1 hD1 ht hvm hp
          generalize H1 = H at hH hS e57 ⊢
          have hx2 := h6 1 (by decide)
          have hx1 : N 19 ≤ X 0 1 := (hX.1 1 (by decide)).1
          obtain hcs | hcs | hcs : X 0 1 = 0 ∨ X 0 1 ≠ 0 ∧ N 19 < X 0 1 ∨ X 0 1 ≠ 0 ∧ N 19 = X 0 1 := by omega
          · have hn0 : N 19 = 0 := by omega
            have hli : va_at D CL (ad 4 1, .inr (15, [.int (Y 3 1 0), .ref (K 50), .int (nI 0)])) H := by have e := hH.li 1 (by decide); rw [show elH K ad X 1 = K 50 from if_pos hcs, show szH N 1 = 0 from hn0] at e; exact e
            have lb_q57 : q57 < H.size := va_at_lt e57
            have hz9 := hS.1
            refine va_calli (va_runV (As := [.ref q57]) (rest := []) ⟨hx, hb, hml, hown, hts⟩ (c_J2_add_F lh D dA H.size (ad 4 1) (Y 3 1 0) K q57 4 [.ref (ad 6 j), .int (nI k), .int (nI w)] (RX5, TX5, 3) rfl q1719) (w_J2_add hts q365 rfl rfl ⟨Nat.le_of_ble_eq_true rfl, Nat.le_of_ble_eq_true rfl⟩) ⟨PX.blind (Mv.and Mv.heap (Mv.and Mv.heap (Mv.and Mv.heap (Mv.and Mv.gk KL.mv)))), (O_recv hG hli rfl), PX.pre (Mv.and Mv.heap (Mv.and Mv.heap (Mv.and Mv.heap (Mv.and Mv.gk KL.mv)))) ⟨rfl, ((ka_one hli).app (ka_one e57)), (va_D2 (fr_q57.ne (show LH N G X 4 1 from (show 1 < 4 by decide)))), hG, (KL.at hKL hS (va_AA (L2 (P := A) (hH.2.2 4 1 (show LH N G X 4 1 from (show 1 < 4 by decide))) a_q57) hA hS.1))⟩⟩ rfl rfl hl.1 rfl (lv_room (Nat.le_of_ble_eq_true rfl)) dX1_test_68 ⟨Nat.le_of_ble_eq_true rfl, Nat.le_of_ble_eq_true rfl⟩) hS (fun q _ => (va_AA (L2 (P := A) (hH.2.2 4 1 (show LH N G X 4 1 from (show 1 < 4 by decide))) a_q57) hA hS.1) q) (va_AA (L2 (P := A) (hH.2.2 4 1 (show LH N G X 4 1 from (show 1 < 4 by decide))) a_q57) hA hS.1) (fun rr u t H1 locs ht hvm hp hB hz hk hS => ?_)
            obtain ⟨hP1, hD1, -⟩ := hB
            rw [ht] at hP1
            have hrr := hp
            try dsimp only at hrr
            subst hrr
            generalize u = u68 at hP1 hD1
            have eL := hP1 0 _ rfl
            have eE := hP1 1 _ rfl
            have e57 := hP1 2 _ rfl
            have nu0 := va_ne hD1 0 1 rfl rfl (by decide)
            have nu2 := va_ne hD1 2 1 rfl rfl (by decide)
            have gu : H.size ≤ u68 := va_ge hD1 1 rfl (L2 (P := fun x => x ≠ u68) nu0 nu2)
            have ho9 := hH.others hk (show 1 < 4 by decide) (L2 (P := fun x => x = ad 4 1 ∨ (X 0 1 ≠ 0 ∧ x = ad 5 1) ∨ Fr ad N G X x) (Or.inl rfl) (Or.inr (Or.inr fr_q57)))
            rw [ltH_up0 (ad := ad) (ad1 := (ad1L ad 9 (N 19) q57 1 (u68))) (k := 9) (n := N 19) (q := q57) hn0 (by unfold ad1L; rw [up2_o (by decide), up2_s])] at eE
            have eL : va_at D CL (ad 4 1, .inr (15, [.int (Y 3 1 0 + nI 1), .ref u68, .int (nI (N 19 + 1))])) H1 := by rw [hn0]; exact eL
            have hH := hH.newT (q := q57) (ea := u68) (cap := 10) (c := j) (hr := k) (v := w) fr_q57 ⟨a_q57, hA _ (Nat.le_trans hz9 gu)⟩ (Or.inr ⟨Fr.of hH gu, (by omega)⟩) (by omega) e57 eL eE ho9
            clear e57 eL eE
            clear hz9 hz hk hP1 hD1 ht hvm hp ho9
            generalize H1 = H at hH hS ⊢
            refine lv_pop hx hb dX1_test_71 rfl ?_
            refine lv_aload_n hx hb dX1_test_72 rfl (lv_at hl 1 rfl) ?_
            refine ko_get (C := RX1) (T := TX1) (N := 28) (ci := 1) (v := .ref ((ad1L ad 9 (N 19) q57 1 (u68)) 4 1)) hx hb hts in_X1 hown hG.1 hH.o0 rfl 4 (by decide) q189 (fun _ h => h) (rfl) dX1_test_73 ?_
            refine vp_callSi (va_Run.call (va_runV (As := []) (rest := []) ⟨hx, hb, hml, hown, hts⟩ (c_J2_size lh D dA ((ad1L ad 9 (N 19) q57 1 (u68)) 4 1) (Y 3 1 0 + nI 1) (elH K (ad1L ad 9 (N 19) q57 1 (u68)) (up2 X 0 1 10) 1) (N 19 + 1)) (w_J2_size hts q284 rfl rfl ⟨Nat.le_of_ble_eq_true rfl, Nat.le_of_ble_eq_true rfl⟩) ⟨PX.blind (Mv.and Mv.heap Mv.gk), (O_recv hG (hH.li 1 (by decide)) rfl), PX.pre (Mv.and Mv.heap Mv.gk) ⟨(hH.li 1 (by decide)), hG⟩⟩ rfl rfl hl.1 rfl (lv_room (Nat.le_of_ble_eq_true rfl)) dX1_test_76 ⟨Nat.le_of_ble_eq_true rfl, Nat.le_of_ble_eq_true rfl⟩)) (fun rr hrr => ?_)
            subst hrr
            refine lv_iconst (v := nI 1) hx hb dX1_test_79 (by decide) ?_
            refine kn_sub hx hb dX1_test_80 (by omega) ?_
            subst hQ
            refine W.widen (k := 2) (n := 160) (by first | decide | omega) (by first | decide | omega) ?_
            exact W.iret (v := nI (N 19 + 1 - 1)) hx hb hrt (fun t ht hW => ⟨⟨_, ((ad1L ad 9 (N 19) q57 1 (u68)), (up2 X 0 1 10), (up3 Y 3 1 0 (Y 3 1 0 + nI 1)), (up1 N 19 (N 19 + 1)), I, (testG G (N 19) j k w), J), rfl, (by dsimp only; rw [if_pos (by simp [testB, hq2, c_25, c_36, c_48, tn_nI (show j < 2 ^ 31 by omega), tn_nI (show k < 2 ^ 31 by omega), tn_nI (show w < 2 ^ 31 by omega)]), tn_nI (show j < 2 ^ 31 by omega), tn_nI (show k < 2 ^ 31 by omega), tn_nI (show w < 2 ^ 31 by omega)]; exact ⟨_, _, _, rfl, rfl, test_hok h5 (cap := 10) hj (by have := h6 1 (by decide); omega), h6.add (by have := h6 1 (by decide); omega)⟩), by rw [ht]; exact hH, GK.warm hW hG⟩, hS.F ht⟩) hS.2.2 dX1_test_81
          · have hcx := hcs.1
            have hli := hH.lo 1 (by decide) hcx
            have hla := hH.la 1 (by decide) hcx
            have hli : va_at D CL (ad 4 1, .inr (15, [.int (Y 3 1 0), .ref (ad 5 1), .int (nI (N 19))])) H := hli
            have hla : va_at D CL (ad 5 1, .inl (dA 4, X 0 1, rfA (ltH ad 9 (N 19) 0))) H := hla
            have n45 : ad 4 1 ≠ ad 5 1 := fun e => absurd (hH.2.1 4 1 5 1 (show LH N G X 4 1 from (show 1 < 4 by decide)) (show LH N G X 5 1 from ⟨by decide, hcx⟩) e).1 (by decide)
            have lb_q57 : q57 < H.size := va_at_lt e57
            have hz9 := hS.1
            refine va_calli (va_runV (As := [.ref q57]) (rest := []) ⟨hx, hb, hml, hown, hts⟩ (c_J2_add_R lh D dA H.size (ad 4 1) (Y 3 1 0) (ad 5 1) (N 19) (X 0 1) (ltH ad 9 (N 19) 0) q57 4 [.ref (ad 6 j), .int (nI k), .int (nI w)] (RX5, TX5, 3) hcs.2 (hX.1 1 (by decide)).2 rfl q1719) (w_J2_add hts q365 rfl rfl ⟨Nat.le_of_ble_eq_true rfl, Nat.le_of_ble_eq_true rfl⟩) ⟨PX.blind (Mv.and Mv.heap (Mv.and Mv.heap (Mv.and Mv.heap Mv.gk))), (O_recv hG hli rfl), PX.pre (Mv.and Mv.heap (Mv.and Mv.heap (Mv.and Mv.heap Mv.gk))) ⟨rfl, (((ka_one hli).app (ka_one hla)).app (ka_one e57)), (va_D3 n45 (fr_q57.ne (show LH N G X 4 1 from (show 1 < 4 by decide))) (fr_q57.ne (show LH N G X 5 1 from ⟨by decide, hcx⟩))), hG⟩⟩ rfl rfl hl.1 rfl (lv_room (Nat.le_of_ble_eq_true rfl)) dX1_test_68 ⟨Nat.le_of_ble_eq_true rfl, Nat.le_of_ble_eq_true rfl⟩) hS (fun q _ => (va_AA (L3 (P := A) (hH.2.2 4 1 (show LH N G X 4 1 from (show 1 < 4 by decide))) (hH.2.2 5 1 (show LH N G X 5 1 from ⟨by decide, hcx⟩)) a_q57) hA hS.1) q) (va_AA (L3 (P := A) (hH.2.2 4 1 (show LH N G X 4 1 from (show 1 < 4 by decide))) (hH.2.2 5 1 (show LH N G X 5 1 from ⟨by decide, hcx⟩)) a_q57) hA hS.1) (fun rr u t H1 locs ht hvm hp hB hz hk hS => ?_)
            obtain ⟨hP1, hD1, -⟩ := hB
            rw [ht] at hP1
            have hrr := hp
            try dsimp only at hrr
            subst hrr
            have eL := hP1 0 _ rfl
            have eE := hP1 1 _ rfl
            have e57 := hP1 2 _ rfl
            have ho9 := hH.others hk (show 1 < 4 by decide) (L3 (P := fun x => x = ad 4 1 ∨ (X 0 1 ≠ 0 ∧ x = ad 5 1) ∨ Fr ad N G X x) (Or.inl rfl) (Or.inr (Or.inl ⟨hcx, rfl⟩)) (Or.inr (Or.inr fr_q57)))
            rw [ltH_up (ad := ad) (ad1 := (ad1L ad 9 (N 19) q57 1 (ad 5 1))) (k := 9) (n := N 19) (q := q57) (by unfold ad1L; rw [up2_o (by decide), up2_s]) (fun i hi => by unfold ad1L; rw [up2_o (by decide), up2_n hi])] at eE
            have hH := hH.newT (q := q57) (ea := ad 5 1) (cap := X 0 1) (c := j) (hr := k) (v := w) fr_q57 ⟨a_q57, hH.2.2 5 1 (show LH N G X 5 1 from ⟨by decide, hcx⟩)⟩ (Or.inl ⟨rfl, hcx⟩) (by omega) e57 eL eE ho9
            clear e57 eL eE
            clear hz9 hz hk hP1 hD1 ht hvm hp ho9
            generalize H1 = H at hH hS ⊢
            refine lv_pop hx hb dX1_test_71 rfl ?_
            refine lv_aload_n hx hb dX1_test_72 rfl (lv_at hl 1 rfl) ?_
            refine ko_get (C := RX1) (T := TX1) (N := 28) (ci := 1) (v := .ref ((ad1L ad 9 (N 19) q57 1 (ad 5 1)) 4 1)) hx hb hts in_X1 hown hG.1 hH.o0 rfl 4 (by decide) q189 (fun _ h => h) (rfl) dX1_test_73 ?_
            refine vp_callSi (va_Run.call (va_runV (As := []) (rest := []) ⟨hx, hb, hml, hown, hts⟩ (c_J2_size lh D dA ((ad1L ad 9 (N 19) q57 1 (ad 5 1)) 4 1) (Y 3 1 0 + nI 1) (elH K (ad1L ad 9 (N 19) q57 1 (ad 5 1)) (up2 X 0 1 (X 0 1)) 1) (N 19 + 1)) (w_J2_size hts q284 rfl rfl ⟨Nat.le_of_ble_eq_true rfl, Nat.le_of_ble_eq_true rfl⟩) ⟨PX.blind (Mv.and Mv.heap Mv.gk), (O_recv hG (hH.li 1 (by decide)) rfl), PX.pre (Mv.and Mv.heap Mv.gk) ⟨(hH.li 1 (by decide)), hG⟩⟩ rfl rfl hl.1 rfl (lv_room (Nat.le_of_ble_eq_true rfl)) dX1_test_76 ⟨Nat.le_of_ble_eq_true rfl, Nat.le_of_ble_eq_true rfl⟩)) (fun rr hrr => ?_)
            subst hrr
            refine lv_iconst (v := nI 1) hx hb dX1_test_79 (by decide) ?_
            refine kn_sub hx hb dX1_test_80 (by omega) ?_
            subst hQ
            refine W.widen (k := 2) (n := 160) (by first | decide | omega) (by first | decide | omega) ?_
            exact W.iret (v := nI (N 19 + 1 - 1)) hx hb hrt (fun t ht hW => ⟨⟨_, ((ad1L ad 9 (N 19) q57 1 (ad 5 1)), (up2 X 0 1 (X 0 1)), (up3 Y 3 1 0 (Y 3 1 0 + nI 1)), (up1 N 19 (N 19 + 1)), I, (testG G (N 19) j k w), J), rfl, (by dsimp only; rw [if_pos (by simp [testB, hq2, c_25, c_36, c_48, tn_nI (show j < 2 ^ 31 by omega), tn_nI (show k < 2 ^ 31 by omega), tn_nI (show w < 2 ^ 31 by omega)]), tn_nI (show j < 2 ^ 31 by omega), tn_nI (show k < 2 ^ 31 by omega), tn_nI (show w < 2 ^ 31 by omega)]; exact ⟨_, _, _, rfl, rfl, test_hok h5 (cap := (X 0 1)) hj (by have := h6 1 (by decide); omega), h6.add (by have := h6 1 (by decide); omega)⟩), by rw [ht]; exact hH, GK.warm hW hG⟩, hS.F ht⟩) hS.2.2 dX1_test_81
          · have hcx := hcs.1
            have hli := hH.lo 1 (by decide) hcx
            have hla := hH.la 1 (by decide) hcx
            have hli : va_at D CL (ad 4 1, .inr (15, [.int (Y 3 1 0), .ref (ad 5 1), .int (nI (N 19))])) H := hli
            have hla : va_at D CL (ad 5 1, .inl (dA 4, X 0 1, rfA (ltH ad 9 (N 19) 0))) H := hla
            have n45 : ad 4 1 ≠ ad 5 1 := fun e => absurd (hH.2.1 4 1 5 1 (show LH N G X 4 1 from (show 1 < 4 by decide)) (show LH N G X 5 1 from ⟨by decide, hcx⟩) e).1 (by decide)
            have hGx := hcs.2
            rw [← hGx] at hla
            have lb_q57 : q57 < H.size := va_at_lt e57
            have hz9 := hS.1
            refine va_calli (va_runV (As := [.ref q57]) (rest := []) ⟨hx, hb, hml, hown, hts⟩ (c_J2_add_G lh D dA H.size (ad 4 1) (Y 3 1 0) (ad 5 1) (N 19) (ltH ad 9 (N 19) 0) K "PickleHouse$Test" q57 4 [.ref (ad 6 j), .int (nI k), .int (nI w)] (RX5, TX5, 3) (by omega) (by omega) q1719 rfl q1719) (w_J2_add hts q365 rfl rfl ⟨Nat.le_of_ble_eq_true rfl, Nat.le_of_ble_eq_true rfl⟩) ⟨PX.blind (Mv.and Mv.heap (Mv.and Mv.heap (Mv.and Mv.heap (Mv.and Mv.gk (Mv.and KL.mv EL.mv))))), (O_recv hG hli rfl), PX.pre (Mv.and Mv.heap (Mv.and Mv.heap (Mv.and Mv.heap (Mv.and Mv.gk (Mv.and KL.mv EL.mv))))) ⟨rfl, (((ka_one hli).app (ka_one hla)).app (ka_one e57)), (va_D3 n45 (fr_q57.ne (show LH N G X 4 1 from (show 1 < 4 by decide))) (fr_q57.ne (show LH N G X 5 1 from ⟨by decide, hcx⟩))), hG, (KL.at hKL hS (va_AA (L3 (P := A) (hH.2.2 4 1 (show LH N G X 4 1 from (show 1 < 4 by decide))) (hH.2.2 5 1 (show LH N G X 5 1 from ⟨by decide, hcx⟩)) a_q57) hA hS.1)), (EL_of (locs := locs) hG hH (kd := 9) (ci := 4) rfl (fun i hi => hi) (fun i hi => hH.te hi) (show LH N G X 4 1 from (show 1 < 4 by decide)) (show LH N G X 5 1 from ⟨by decide, hcx⟩) (by decide) (by decide) fr_q57)⟩⟩ rfl rfl hl.1 rfl (lv_room (Nat.le_of_ble_eq_true rfl)) dX1_test_68 ⟨Nat.le_of_ble_eq_true rfl, by show 3 + (N 19 + N 19 / 2) ≤ 160; omega⟩) hS (fun q _ => (va_AA (L3 (P := A) (hH.2.2 4 1 (show LH N G X 4 1 from (show 1 < 4 by decide))) (hH.2.2 5 1 (show LH N G X 5 1 from ⟨by decide, hcx⟩)) a_q57) hA hS.1) q) (va_AA (L3 (P := A) (hH.2.2 4 1 (show LH N G X 4 1 from (show 1 < 4 by decide))) (hH.2.2 5 1 (show LH N G X 5 1 from ⟨by decide, hcx⟩)) a_q57) hA hS.1) (fun rr u t H1 locs ht hvm hp hB hz hk hS => ?_)
            obtain ⟨hP1, hD1, -⟩ := hB
            rw [ht] at hP1
            have hrr := hp
            try dsimp only at hrr
            subst hrr
            generalize u = u68 at hP1 hD1
            have eL := hP1 0 _ rfl
            have eE := hP1 2 _ rfl
            have e57 := hP1 3 _ rfl
            have nu0 := va_ne hD1 0 2 rfl rfl (by decide)
            have nu1 := va_ne hD1 1 2 rfl rfl (by decide)
            have nu2 := va_ne hD1 3 2 rfl rfl (by decide)
            have gu : H.size ≤ u68 := va_ge hD1 2 rfl (L3 (P := fun x => x ≠ u68) nu0 nu1 nu2)
            have ho9 := hH.others hk (show 1 < 4 by decide) (L3 (P := fun x => x = ad 4 1 ∨ (X 0 1 ≠ 0 ∧ x = ad 5 1) ∨ Fr ad N G X x) (Or.inl rfl) (Or.inr (Or.inl ⟨hcx, rfl⟩)) (Or.inr (Or.inr fr_q57)))
            rw [ltH_cpy, ltH_up (ad := ad) (ad1 := (ad1L ad 9 (N 19) q57 1 (u68))) (k := 9) (n := N 19) (q := q57) (by unfold ad1L; rw [up2_o (by decide), up2_s]) (fun i hi => by unfold ad1L; rw [up2_o (by decide), up2_n hi])] at eE
            have hH := hH.newT (q := q57) (ea := u68) (cap := (N 19 + N 19 / 2)) (c := j) (hr := k) (v := w) fr_q57 ⟨a_q57, hA _ (Nat.le_trans hz9 gu)⟩ (Or.inr ⟨Fr.of hH gu, (by omega)⟩) (by omega) e57 eL eE ho9
            clear e57 eL eE
            clear hz9 hz hk hP1 hD1 ht hvm hp ho9
            generalize H1 = H at hH hS ⊢
            refine W.widen (k := 2) (n := 160) (by decide) (by omega) ?_
            refine lv_pop hx hb dX1_test_71 rfl ?_
            refine lv_aload_n hx hb dX1_test_72 rfl (lv_at hl 1 rfl) ?_
            refine ko_get (C := RX1) (T := TX1) (N := 28) (ci := 1) (v := .ref ((ad1L ad 9 (N 19) q57 1 (u68)) 4 1)) hx hb hts in_X1 hown hG.1 hH.o0 rfl 4 (by decide) q189 (fun _ h => h) (rfl) dX1_test_73 ?_
            refine vp_callSi (va_Run.call (va_runV (As := []) (rest := []) ⟨hx, hb, hml, hown, hts⟩ (c_J2_size lh D dA ((ad1L ad 9 (N 19) q57 1 (u68)) 4 1) (Y 3 1 0 + nI 1) (elH K (ad1L ad 9 (N 19) q57 1 (u68)) (up2 X 0 1 (N 19 + N 19 / 2)) 1) (N 19 + 1)) (w_J2_size hts q284 rfl rfl ⟨Nat.le_of_ble_eq_true rfl, Nat.le_of_ble_eq_true rfl⟩) ⟨PX.blind (Mv.and Mv.heap Mv.gk), (O_recv hG (hH.li 1 (by decide)) rfl), PX.pre (Mv.and Mv.heap Mv.gk) ⟨(hH.li 1 (by decide)), hG⟩⟩ rfl rfl hl.1 rfl (lv_room (Nat.le_of_ble_eq_true rfl)) dX1_test_76 ⟨Nat.le_of_ble_eq_true rfl, Nat.le_of_ble_eq_true rfl⟩)) (fun rr hrr => ?_)
            subst hrr
            refine lv_iconst (v := nI 1) hx hb dX1_test_79 (by decide) ?_
            refine kn_sub hx hb dX1_test_80 (by omega) ?_
            subst hQ
            exact W.iret (v := nI (N 19 + 1 - 1)) hx hb hrt (fun t ht hW => ⟨⟨_, ((ad1L ad 9 (N 19) q57 1 (u68)), (up2 X 0 1 (N 19 + N 19 / 2)), (up3 Y 3 1 0 (Y 3 1 0 + nI 1)), (up1 N 19 (N 19 + 1)), I, (testG G (N 19) j k w), J), rfl, (by dsimp only; rw [if_pos (by simp [testB, hq2, c_25, c_36, c_48, tn_nI (show j < 2 ^ 31 by omega), tn_nI (show k < 2 ^ 31 by omega), tn_nI (show w < 2 ^ 31 by omega)]), tn_nI (show j < 2 ^ 31 by omega), tn_nI (show k < 2 ^ 31 by omega), tn_nI (show w < 2 ^ 31 by omega)]; exact ⟨_, _, _, rfl, rfl, test_hok h5 (cap := (N 19 + N 19 / 2)) hj (by have := h6 1 (by decide); omega), h6.add (by have := h6 1 (by decide); omega)⟩), by rw [ht]; exact hH, GK.warm hW hG⟩, hS.F ht⟩) hS.2.2 dX1_test_81
        · refine lv_iconst (v := -1) hx hb dX1_test_51 (by decide) ?_
          subst hQ
          refine W.widen (k := 2) (n := 160) (by first | decide | omega) (by first | decide | omega) ?_
          exact W.iret (v := (-1)) hx hb hrt (fun t ht hW => ⟨⟨_, (ad, X, Y, N, I, G, J), rfl, (by dsimp only; rw [if_neg (by simp [testB, hq2, c_25, c_36, c_48, tn_nI (show j < 2 ^ 31 by omega), tn_nI (show k < 2 ^ 31 by omega), tn_nI (show w < 2 ^ 31 by omega)])]; exact ⟨rfl, rfl⟩), by rw [ht]; exact hH, GK.warm hW hG⟩, hS.F ht⟩) hS.2.2 dX1_test_52
  · rw [if_neg hq2]
    show W p lh e r_X1_test s m args below meth cd _ _ _ _ Q (F0 m _ ls (.null :: _))
    refine lv_astoreN (lv' := [(4, .null), (0, .ref (ad 0 0)), (1, .int c), (2, .int h), (3, .int v)]) hx hb dX1_test_5 hl (by decide) rfl (fun ls hl => ?_)
    refine lv_aloadN hx hb dX1_test_7 (lv_at hl 0 rfl) ?_
    refine lv_ifnullN (tgt := 51) hx hb dX1_test_9 (by decide) ?_
    refine lv_iconst (v := -1) hx hb dX1_test_51 (by decide) ?_
    subst hQ
    refine W.widen (k := 2) (n := 160) (by first | decide | omega) (by first | decide | omega) ?_
    exact W.iret (v := (-1)) hx hb hrt (fun t ht hW => ⟨⟨_, (ad, X, Y, N, I, G, J), rfl, (by dsimp only; rw [if_neg (by simp [testB, hq2])]; exact ⟨rfl, rfl⟩), by rw [ht]; exact hH, GK.warm hW hG⟩, hS.F ht⟩) hS.2.2 dX1_test_52
theorem w_X1_test {R : Room} {s : State} {args : Array Value} {own : String} {idx : Nat} (hts : ∀ w ∈ lw_all, w.before args s = true) (h1 : Cond.methodLink own idx yX1_test ∈ lw_all) {rm : Room} {mc ms : Nat} (hrc : rm.cells = mc) (hrs : rm.slots = ms) (hR : rm.frames + 1 ≤ R.frames ∧ 8 + (5 + 11) + rm.locals ≤ R.locals) : CallW R s args own RX1 idx yX1_test cX1_test 5 (some .int) (ws_ yX1_test cX1_test 5 (some .int)) rm mc ms 3 := cwV 3 hts (lw_V h1 q566 q567 q62 q568) rfl hrc hrs (by decide +kernel) hR
