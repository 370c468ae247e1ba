set_option maxRecDepth 100000
abbrev r_X1_jar : Room := { frames := 7, cells := 5, slots := 200, locals := 171 }
set_option maxHeartbeats 1000000 in
theorem c_X1_jar (lh : Launch) (A : Nat → Prop) (D : va_G) (dA : Nat → ClassId) (K : Nat → Nat) (ad X : Nat → Nat → Nat) (Y : Nat → Nat → Nat → Int32) (N : Nat → Nat) (I : Nat → Int32) (G : Nat → Nat → Nat) (J : Nat → Nat → Int32) (sz : Nat) (c : Int32) (g : Int32) (h1 : OkS N G J) (h2 : CsOk N G) (h3 : HOk N G J X Y) (h4 : X2Ok X) (hA : ∀ q, sz ≤ q → A q) : Met lh yX1_jar (ws_ yX1_jar cX1_jar 5 (some .int)) r_X1_jar (PX (fun U H => H.size = sz ∧ RH A D dA K ad X Y N I G J H ∧ GK D dA U ∧ KL K A U H) [.ref (ad 0 0), .int c, .int g]) (va_Qi (fun (r : Int32) (u : HgT) => if jarB N G c g = true then (if fitS G (tn c) (N 14) (N 19) (N 42) (N 43) = true then ∃ ad1 X1 Y1, r = nI (N 40) ∧ u = (ad1, X1, Y1, up1 N 40 (N 40 + 1), I, jarG N G (tn c) (tn g), J) ∧ HOk (up1 N 40 (N 40 + 1)) (jarG N G (tn c) (tn g)) J X1 Y1 ∧ X2Ok X1 else r = -2 ∧ u = (ad, X, Y, N, I, G, J)) else r = -1 ∧ u = (ad, X, Y, N, I, G, J)) (BmH A D dA K) A) 5 200 A := by
  refine Met.ofW (cc := cX1_jar) (maxL := 5) (ret := (some .int)) (by decide) rfl ?_
  intro p e s m args below meth cd s₁ B hml hv
  obtain ⟨hargs, hsz, hH, hG, hKL⟩ := hv
  have hx := B.exec
  have hb := B.bytes
  have hrt := B.returns
  have hts := atoms_spec (ws := (ws_ yX1_jar cX1_jar 5 (some .int))) B.pre
  have hts : ∀ w ∈ lw_all, w.before _ s = true := fun w h => hts w (List.mem_cons_of_mem _ h)
  have hown : s.vm.findClass RX1 = some m.cls := findClass_of_methodNamed B.named
  have hlocks := B.notSynchronized
  subst hsz
  have hS : va_S A s.heap s.heap [] := va_S.rf
  have hE : entryFrame m args 5 = F0 m 0 ((lg_sl ([.ref (ad 0 0), .int c, .int g]) ++ List.replicate (5 - (lg_sl ([.ref (ad 0 0), .int c, .int g])).length) Slot.unset).toArray) [] := by rw [hargs]; exact lg_entry_eq m _ 5
  have hl := lv_entry ([.ref (ad 0 0), .int c, .int g]) (n := 5) (Nat.le_of_ble_eq_true rfl)
  rw [hE]
  clear hE
  generalize (lg_sl ([.ref (ad 0 0), .int c, .int g]) ++ List.replicate (5 - (lg_sl ([.ref (ad 0 0), .int c, .int g])).length) Slot.unset).toArray = ls at hl ⊢
  have hl : lv_has ls 5 [(0, .ref (ad 0 0)), (1, .int c), (2, .int g)] := hl
  generalize hQ : MQ _ _ _ _ _ _ _ = Q
  have hokk := h1
  obtain ⟨hB, ⟨hn1, hn3, hn14, hn19, hn23, hn33, hn40, hn44⟩, hcr, hst, hwm, hrc⟩ := hokk
  have hX := h3.1
  refine lv_aload_n hx hb dX1_jar_0 rfl (lv_at hl 0 rfl) ?_
  refine lv_iload_n hx hb dX1_jar_1 rfl (lv_at hl 1 rfl) ?_
  refine va_csq (va_Run.call (va_runV (As := [.int c]) (rest := []) ⟨hx, hb, hml, hown, hts⟩ (c_X1_there lh A D dA K ad X Y N I G J c (hB) (hn3) (hX)) (w_X1_there hts q436 rfl rfl ⟨Nat.le_of_ble_eq_true rfl, Nat.le_of_ble_eq_true rfl⟩) ⟨PX.blind (Mv.and Mv.heap Mv.gk), (O_recv hG hH.o0 rfl), PX.pre (Mv.and Mv.heap Mv.gk) ⟨hH, hG⟩⟩ rfl rfl hl.1 rfl (lv_room (Nat.le_of_ble_eq_true rfl)) dX1_jar_2 ⟨Nat.le_of_ble_eq_true rfl, Nat.le_of_ble_eq_true rfl⟩)) (fun rr hrr => ?_)
  subst hrr
  by_cases hq2 : lvI (N 3) G c = true
  · rw [if_pos hq2]
    show W p lh e r_X1_jar s m args below meth cd _ _ _ _ Q (F0 m _ ls (.ref (ad 6 (tn c)) :: _))
    obtain ⟨j, hj, rfl, hlj⟩ := lvI_nat (by omega) hq2
    rw [tn_nI (show j < 2 ^ 31 by omega)]
    refine lv_astore_n (lv' := [(3, .ref (ad 6 j)), (0, .ref (ad 0 0)), (1, .int (nI j)), (2, .int g)]) hx hb dX1_jar_5 rfl hl (by decide) rfl (fun ls hl => ?_)
    refine lv_aload_n hx hb dX1_jar_6 rfl (lv_at hl 0 rfl) ?_
    refine lv_ifnull hx hb dX1_jar_7 ?_
    refine lv_iload_n hx hb dX1_jar_10 rfl (lv_at hl 3 rfl) ?_
    refine lv_iconst (v := nI 1) hx hb dX1_jar_11 (by decide) ?_
    refine lv_icmp_lt (tgt := 35) hx hb dX1_jar_12 (by decide) (fun c_12 => ?_) (fun c_12 => ?_)
    · refine lv_iconst (v := -1) hx hb dX1_jar_35 (by decide) ?_
      subst hQ
      refine W.widen (k := 5) (n := 200) (by first | decide | omega) (by first | decide | omega) ?_
      exact W.iret (v := (-1)) hx hb hrt (fun t ht hW => ⟨⟨_, (ad, X, Y, N, I, G, J), rfl, (by dsimp only; rw [if_neg (by simp [jarB, hq2, c_12, tn_nI (show j < 2 ^ 31 by omega)])]; exact ⟨rfl, rfl⟩), by rw [ht]; exact hH, GK.warm hW hG⟩, hS.F ht⟩) hS.2.2 dX1_jar_36
    · obtain ⟨g1, hg1, hg2, rfl⟩ := nI_ge1 c_12
      refine lv_iload_n hx hb dX1_jar_15 rfl (lv_at hl 3 rfl) ?_
      refine lv_aload_n hx hb dX1_jar_16 rfl (lv_at hl 0 rfl) ?_
      refine vp_callSi (va_Run.call (va_runU (As := []) (rest := [.int (nI g1)]) ⟨hx, hb, hml, hown, hts⟩ (c_X3_all_C lh A D dA K ad X Y N I G J j (by omega)) (va_cwU 0 hts (lw_U q440 q441 q443 q444 q72 q445) rfl rfl rfl rfl (by decide +kernel) ⟨Nat.le_of_ble_eq_true rfl, Nat.le_of_ble_eq_true rfl⟩) ⟨PX.blind (Mv.and Mv.heap Mv.gk), (O_recv hG (hH.cr (show j < N 3 from by omega)) rfl), PX.pre (Mv.and Mv.heap Mv.gk) ⟨hH, hG⟩⟩ rfl rfl hl.1 rfl (lv_room (Nat.le_of_ble_eq_true rfl)) dX1_jar_17 ⟨Nat.le_of_ble_eq_true rfl, Nat.le_of_ble_eq_true rfl⟩)) (fun rr hrr => ?_)
      subst hrr
      refine lv_icmp_gt (tgt := 35) hx hb dX1_jar_20 (by decide) (fun c_20 => ?_) (fun c_20 => ?_)
      · refine lv_iconst (v := -1) hx hb dX1_jar_35 (by decide) ?_
        subst hQ
        refine W.widen (k := 5) (n := 200) (by first | decide | omega) (by first | decide | omega) ?_
        exact W.iret (v := (-1)) hx hb hrt (fun t ht hW => ⟨⟨_, (ad, X, Y, N, I, G, J), rfl, (by dsimp only; rw [if_neg (by simp [jarB, hq2, c_12, c_20, tn_nI (show j < 2 ^ 31 by omega), tn_nI (show g1 < 2 ^ 31 by omega)])]; exact ⟨rfl, rfl⟩), by rw [ht]; exact hH, GK.warm hW hG⟩, hS.F ht⟩) hS.2.2 dX1_jar_36
      · have hw := h2.gr (show j < 10 by omega)
        have hle : g1 ≤ gr G j := Nat.not_lt.mp (fun q => c_20 ((nI_ltI (by omega) (by omega)).mpr q))
        refine lv_aload_n hx hb dX1_jar_23 rfl (lv_at hl 1 rfl) ?_
        refine ko_get (C := RX1) (T := TX1) (N := 28) (ci := 1) (v := .ref (ad 4 3)) hx hb hts in_X1 hown hG.1 hH.o0 rfl 6 (by decide) q191 (fun _ h => h) (rfl) dX1_jar_24 ?_
        refine vp_callSi (va_Run.call (va_runV (As := []) (rest := []) ⟨hx, hb, hml, hown, hts⟩ (c_J2_size lh D dA (ad 4 3) (Y 3 3 0) (elH K ad X 3) (N 40)) (w_J2_size hts q284 rfl rfl ⟨Nat.le_of_ble_eq_true rfl, Nat.le_of_ble_eq_true rfl⟩) ⟨PX.blind (Mv.and Mv.heap Mv.gk), (O_recv hG (hH.li 3 (by decide)) rfl), PX.pre (Mv.and Mv.heap Mv.gk) ⟨(hH.li 3 (by decide)), hG⟩⟩ rfl rfl hl.1 rfl (lv_room (Nat.le_of_ble_eq_true rfl)) dX1_jar_27 ⟨Nat.le_of_ble_eq_true rfl, Nat.le_of_ble_eq_true rfl⟩)) (fun rr hrr => ?_)
        subst hrr
        refine lv_bipush (v := nI 60) hx hb dX1_jar_30 (by decide) ?_
        refine kn_cne (tgt := 37) hx hb dX1_jar_32 (by decide) (by omega) (by decide) (fun c_32 => ?_) (fun c_32 => ?_)
        · refine lv_aload_n hx hb dX1_jar_37 rfl (lv_at hl 1 rfl) ?_
          refine lv_aload_n hx hb dX1_jar_38 rfl (lv_at hl 0 rfl) ?_
          refine vp_callSi (va_Run.call (va_runV (As := [.ref (ad 6 j)]) (rest := []) ⟨hx, hb, hml, hown, hts⟩ (c_X1_isFit lh A D dA K ad X Y N I G J j (hB) (by omega) (hn14) (hn19) (hX) (h3.2.2.2.2)) (w_X1_isFit hts q595 rfl rfl ⟨Nat.le_of_ble_eq_true rfl, Nat.le_of_ble_eq_true rfl⟩) ⟨PX.blind (Mv.and Mv.heap Mv.gk), (O_recv hG hH.o0 rfl), PX.pre (Mv.and Mv.heap Mv.gk) ⟨hH, hG⟩⟩ rfl rfl hl.1 rfl (lv_room (Nat.le_of_ble_eq_true rfl)) dX1_jar_39 ⟨Nat.le_of_ble_eq_true rfl, Nat.le_of_ble_eq_true rfl⟩)) (fun rr hrr => ?_)
          subst hrr
          refine kb_ne (tgt := 48) hx hb dX1_jar_42 (by decide) (fun c_42 => ?_) (fun c_42 => ?_)
          · have hz9 := hS.1
            refine ko_new (D := D) (ci := 3) (C := RX18) (T := TX18) (N := 1) hx hb hts in_X18 tyX18 tyX18_ok hown q1163 q1164 q98 hG.1 hS rfl (fs := [.null]) (by decide) (Nat.le_of_ble_eq_true rfl) (Nat.le_of_ble_eq_true rfl) dX1_jar_48 (fun H1 e48 z1 o1 hS => ?_)
            have fr_q48 : Fr ad N G X s.heap.size := Fr.of hH (Nat.le_refl _)
            have a_q48 : A s.heap.size := hA _ hz9
            have hH := hH.grow o1
            generalize s.heap.size = q48 at e48 z1 fr_q48 a_q48 ⊢
            clear hz9 o1 z1
            generalize H1 = H at e48 hH hS ⊢
            refine lv_dup hx hb dX1_jar_51 rfl ?_
            have hz9 := hS.1
            refine va_callv (va_runIN (As := []) (rest := [.ref q48]) ⟨hx, hb, hml, hown, hts⟩ (c_X18_init lh D dA H.size q48) ⟨(va_cnB 0 hts (lw_meth q1167) rfl rfl rfl (hG.2.1 _ q1165 rfl) (hts _ q98) (by decide +kernel) ⟨Nat.le_of_ble_eq_true rfl, Nat.le_of_ble_eq_true rfl⟩), rfl, hts _ q1166⟩ ⟨PX.blind (Mv.and Mv.heap (Mv.and Mv.heap (Mv.and Mv.heap Mv.gk))), PX.pre (Mv.and Mv.heap (Mv.and Mv.heap (Mv.and Mv.heap Mv.gk))) ⟨rfl, ka_one e48, va_D1, hG⟩⟩ rfl rfl hl.1 rfl (lv_room (Nat.le_of_ble_eq_true rfl)) dX1_jar_52 ⟨Nat.le_of_ble_eq_true rfl, Nat.le_of_ble_eq_true rfl⟩) hS (fun q _ => (va_AA (L1 (P := A) a_q48) hA hS.1) q) (va_AA (L1 (P := A) a_q48) hA hS.1) (fun u t H1 locs ht hvm hp hB hz hk hS => ?_)
            obtain ⟨hP1, hD1, -⟩ := hB
            rw [ht] at hP1
            generalize u = u52_0 at hP1 hD1
            have e48 := hP1 0 _ rfl
            have e52_1 := hP1 1 _ rfl
            have n0 := va_ne hD1 0 1 rfl rfl (by decide)
            have g_u52_0 : H.size ≤ u52_0 := va_ge hD1 1 rfl (L1 (P := fun x => x ≠ u52_0) n0)
            have fr_u52_0 : Fr ad N G X u52_0 := Fr.of hH g_u52_0
            have a_u52_0 : A u52_0 := hA _ (Nat.le_trans hz9 g_u52_0)
            have ne_q48_u52_0 : q48 ≠ u52_0 := n0
            have hH := hH.keptP hk (L1 fr_q48)
            clear hz9 hz hk hP1 hD1 ht hvm hp
            generalize H1 = H at hH hS e48 e52_1 ⊢
            refine lv_astore (lv' := [(4, .ref q48), (3, .ref (ad 6 j)), (0, .ref (ad 0 0)), (1, .int (nI j)), (2, .int (nI g1))]) hx hb dX1_jar_55 hl (by decide) rfl (fun ls hl => ?_)
            refine lv_aload_n hx hb dX1_jar_57 rfl (lv_at hl 1 rfl) ?_
            refine lv_iload_n hx hb dX1_jar_58 rfl (lv_at hl 4 rfl) ?_
            refine lv_aload hx hb dX1_jar_59 (lv_at hl 0 rfl) ?_
            have hcr9 := hH.cr hj
            have hgm9 := hH.gm hj
            have hz9 := hS.1
            refine va_callv (va_runU (As := [.int (nI g1), .ref q48]) (rest := []) ⟨hx, hb, hml, hown, hts⟩ (c_X3_gives_P lh D dA H.size (ad 6 j) (ad 7 j) (nI j) (ad 8 j) (Y 0 j 0) (nI (G 7 j)) (nI (G 8 j)) (nI (G 9 j)) (J 10 j) (J 11 j) (nI (G 6 j)) (J 13 j) (conS G j) q48 u52_0 g1 (fun l => hB _ _) (show 0 < gr G j by omega) (show gr G j < 2 ^ 31 by omega) hle) (va_cwU 2 hts (lw_U q1171 q1172 q1174 q1175 q72 q1176) rfl rfl rfl rfl (by decide +kernel) ⟨Nat.le_of_ble_eq_true rfl, Nat.le_of_ble_eq_true rfl⟩) ⟨PX.blind (Mv.and Mv.heap (Mv.and Mv.heap (Mv.and Mv.heap Mv.gk))), (O_recv hG hcr9 rfl), PX.pre (Mv.and Mv.heap (Mv.and Mv.heap (Mv.and Mv.heap Mv.gk))) ⟨rfl, ((((ka_one hcr9).app (ka_one hgm9)).app (ka_one e48)).app (ka_one e52_1)), (va_D4 (fun e => absurd (hH.2.1 _ _ _ _ (show LH N G X 6 j from hj) (show LH N G X 7 j from hj) e).1 (by decide)) (fr_q48.ne (show LH N G X 6 j from hj)) (fr_u52_0.ne (show LH N G X 6 j from hj)) (fr_q48.ne (show LH N G X 7 j from hj)) (fr_u52_0.ne (show LH N G X 7 j from hj)) ne_q48_u52_0), hG⟩⟩ rfl rfl hl.1 rfl (lv_room (Nat.le_of_ble_eq_true rfl)) dX1_jar_61 ⟨Nat.le_of_ble_eq_true rfl, Nat.le_of_ble_eq_true rfl⟩) hS (fun q _ => (va_AA (L4 (P := A) (hH.2.2 6 j (show LH N G X 6 j from hj)) (hH.2.2 7 j (show LH N G X 7 j from hj)) a_q48 a_u52_0) hA hS.1) q) (va_AA (L4 (P := A) (hH.2.2 6 j (show LH N G X 6 j from hj)) (hH.2.2 7 j (show LH N G X 7 j from hj)) a_q48 a_u52_0) hA hS.1) (fun u t H1 locs ht hvm hp hB9 hz hk hS => ?_)
            obtain ⟨hP1, hD1, -⟩ := hB9
            rw [ht] at hP1
            have e6 : va_at D CL (ad 6 j, .inr (2, fC ad Y G J j)) H1 := hP1 0 _ rfl
            have e7 := hP1 1 _ rfl
            have e48 := hP1 2 _ rfl
            have e52_1 := hP1 3 _ rfl
            have ho9 : ∀ k i, LH N G X k i → ¬ (k = 6 ∧ i = j) → ¬ (k = 7 ∧ i = j) → H1[ad k i]? = H[ad k i]? := fun k i h h6 h7 => hk _ (hH.lt h) (notA (hH.lt h) (L4 (P := fun x => x ≠ ad k i) (fun e => h6 (hH.2.1 _ _ _ _ h (show LH N G X 6 j from hj) e.symm)) (fun e => h7 (hH.2.1 _ _ _ _ h (show LH N G X 7 j from hj) e.symm)) (fun e => fr_q48 k i h e.symm) (fun e => fr_u52_0 k i h e.symm)))
            obtain ⟨G9, hG9⟩ : ∃ G9, G9 = sg G 4 (20 * j) 20 (fun l => G 4 (20 * j + l) - (shS (conS G j) g1 (gr G j)) l) := ⟨_, rfl⟩
            have hH := hH.rowG (G1 := G9) hj (z := fun l => conS G j l - (shS (conS G j) g1 (gr G j)) l) (fun k h => by rw [hG9, sg_o h]) (fun l hl => by rw [hG9, sg_in hl]; rfl) (fun i l hi hl => by rw [hG9, sg_out (by omega)]) e6 e7 ho9
            have fr_q48 : Fr ad N G9 X q48 := fr_q48.cg (by rw [hG9, sg_o (by decide)]) (by rw [hG9, sg_o (by decide)])
            have fr_u52_0 : Fr ad N G9 X u52_0 := fr_u52_0.cg (by rw [hG9, sg_o (by decide)]) (by rw [hG9, sg_o (by decide)])
            clear hz9 hz hk hP1 hD1 ht hvm hp e6 e7 ho9 hcr9 hgm9
            generalize H1 = H at hH hS e48 e52_1 ⊢
            refine lv_aload_n hx hb dX1_jar_64 rfl (lv_at hl 2 rfl) ?_
            refine ko_get (C := RX1) (T := TX1) (N := 28) (ci := 1) (v := .ref (ad 4 3)) hx hb hts in_X1 hown hG.1 hH.o0 rfl 6 (by decide) q191 (fun _ h => h) (rfl) dX1_jar_65 ?_
            refine lv_aload hx hb dX1_jar_68 (lv_at hl 0 rfl) ?_
            have hx2 := h4 3 (by decide)
            have hx1 : N 40 ≤ X 0 3 := (hX.1 3 (by decide)).1
            obtain hcs | hcs | hcs : X 0 3 = 0 ∨ X 0 3 ≠ 0 ∧ N 40 < X 0 3 ∨ X 0 3 ≠ 0 ∧ N 40 = X 0 3 := by omega
            · have hn0 : N 40 = 0 := by omega
              have hli : va_at D CL (ad 4 3, .inr (15, [.int (Y 3 3 0), .ref (K 50), .int (nI 0)])) H := by have e := hH.li 3 (by decide); rw [show elH K ad X 3 = K 50 from if_pos hcs, show szH N 3 = 0 from hn0] at e; exact e
              have lb_q48 : q48 < H.size := va_at_lt e48
              have lb_u52_0 : u52_0 < H.size := va_at_lt e52_1
              have hz9 := hS.1
              refine va_calli (va_runV (As := [.ref q48]) (rest := []) ⟨hx, hb, hml, hown, hts⟩ (c_J2_add_F lh D dA H.size (ad 4 3) (Y 3 3 0) K q48 3 [.ref u52_0] (RX18, TX18, 1) rfl q1734) (w_J2_add hts q365 rfl rfl ⟨Nat.le_of_ble_eq_true rfl, Nat.le_of_ble_eq_true rfl⟩) ⟨PX.blind (Mv.and Mv.heap (Mv.and Mv.heap (Mv.and Mv.heap (Mv.and Mv.gk KL.mv)))), (O_recv hG hli rfl), PX.pre (Mv.and Mv.heap (Mv.and Mv.heap (Mv.and Mv.heap (Mv.and Mv.gk KL.mv)))) ⟨rfl, ((ka_one hli).app (ka_one e48)), (va_D2 (fr_q48.ne (show LH N G9 X 4 3 from (show 3 < 4 by decide)))), hG, (KL.at hKL hS (va_AA (L2 (P := A) (hH.2.2 4 3 (show LH N G9 X 4 3 from (show 3 < 4 by decide))) a_q48) hA hS.1))⟩⟩ rfl rfl hl.1 rfl (lv_room (Nat.le_of_ble_eq_true rfl)) dX1_jar_70 ⟨Nat.le_of_ble_eq_true rfl, Nat.le_of_ble_eq_true rfl⟩) hS (fun q _ => (va_AA (L2 (P := A) (hH.2.2 4 3 (show LH N G9 X 4 3 from (show 3 < 4 by decide))) a_q48) hA hS.1) q) (va_AA (L2 (P := A) (hH.2.2 4 3 (show LH N G9 X 4 3 from (show 3 < 4 by decide))) a_q48) hA hS.1) (fun rr u t H1 locs ht hvm hp hB hz hk hS => ?_)
              obtain ⟨hP1, hD1, -⟩ := hB
              rw [ht] at hP1
              have hrr := hp
              try dsimp only at hrr
              subst hrr
              generalize u = u70 at hP1 hD1
              have eL := hP1 0 _ rfl
              have eE := hP1 1 _ rfl
              have e48 := hP1 2 _ rfl
              have e52_1 := e52_1.keptP hk (L2 (P := fun x => x ≠ u52_0) (fr_u52_0.ne (show LH N G9 X 4 3 from (show 3 < 4 by decide))) (ne_q48_u52_0))
              have nu0 := va_ne hD1 0 1 rfl rfl (by decide)
              have nu2 := va_ne hD1 2 1 rfl rfl (by decide)
              have gu : H.size ≤ u70 := va_ge hD1 1 rfl (L2 (P := fun x => x ≠ u70) nu0 nu2)
              have ho9 := hH.others hk (show 3 < 4 by decide) (L2 (P := fun x => x = ad 4 3 ∨ (X 0 3 ≠ 0 ∧ x = ad 5 3) ∨ Fr ad N G9 X x) (Or.inl rfl) (Or.inr (Or.inr fr_q48)))
              rw [ltH_up0 (ad := ad) (ad1 := (adJ ad (N 40) q48 u52_0 (u70))) (k := 11) (n := N 40) (q := q48) hn0 (by unfold adJ; rw [up2_o (by decide), up2_o (by decide), up2_s])] at eE
              have eL : va_at D CL (ad 4 3, .inr (15, [.int (Y 3 3 0 + nI 1), .ref u70, .int (nI (N 40 + 1))])) H1 := by rw [hn0]; exact eL
              have hjg : jarG N G j g1 = sg G9 41 (20 * N 40) 20 (shS (conS G j) g1 (gr G j)) := by rw [hG9, sg_comm (by decide)]; rfl
              have hH := hH.newJ (q := q48) (g := u52_0) (ea := u70) (cap := 10) (sh := (shS (conS G j) g1 (gr G j))) (G1 := jarG N G j g1) ⟨fr_q48, fr_u52_0⟩ ne_q48_u52_0 ⟨a_q48, a_u52_0, hA _ (Nat.le_trans hz9 gu)⟩ (Or.inr ⟨Fr.of hH gu, (by omega), (by omega)⟩) (by omega) (fun k h => by rw [hjg, sg_o h]) (fun l hl => by rw [hjg, sg_in hl]) (fun i hi => by rw [hjg, sg_out (by omega)]) e48 e52_1 eL eE ho9
              clear e48 e52_1 eL eE
              clear hz9 hz hk hP1 hD1 ht hvm hp ho9
              generalize H1 = H at hH hS ⊢
              refine lv_pop hx hb dX1_jar_73 rfl ?_
              refine lv_aload_n hx hb dX1_jar_74 rfl (lv_at hl 2 rfl) ?_
              refine ko_get (C := RX1) (T := TX1) (N := 28) (ci := 1) (v := .ref ((adJ ad (N 40) q48 u52_0 (u70)) 4 3)) hx hb hts in_X1 hown hG.1 hH.o0 rfl 6 (by decide) q191 (fun _ h => h) (rfl) dX1_jar_75 ?_
              refine vp_callSi (va_Run.call (va_runV (As := []) (rest := []) ⟨hx, hb, hml, hown, hts⟩ (c_J2_size lh D dA ((adJ ad (N 40) q48 u52_0 (u70)) 4 3) (Y 3 3 0 + nI 1) (elH K (adJ ad (N 40) q48 u52_0 (u70)) (up2 X 0 3 10) 3) (N 40 + 1)) (w_J2_size hts q284 rfl rfl ⟨Nat.le_of_ble_eq_true rfl, Nat.le_of_ble_eq_true rfl⟩) ⟨PX.blind (Mv.and Mv.heap Mv.gk), (O_recv hG (hH.li 3 (by decide)) rfl), PX.pre (Mv.and Mv.heap Mv.gk) ⟨(hH.li 3 (by decide)), hG⟩⟩ rfl rfl hl.1 rfl (lv_room (Nat.le_of_ble_eq_true rfl)) dX1_jar_78 ⟨Nat.le_of_ble_eq_true rfl, Nat.le_of_ble_eq_true rfl⟩)) (fun rr hrr => ?_)
              subst hrr
              refine lv_iconst (v := nI 1) hx hb dX1_jar_81 (by decide) ?_
              refine kn_sub hx hb dX1_jar_82 (by omega) ?_
              subst hQ
              refine W.widen (k := 5) (n := 200) (by first | decide | omega) (by first | decide | omega) ?_
              exact W.iret (v := nI (N 40 + 1 - 1)) hx hb hrt (fun t ht hW => ⟨⟨_, ((adJ ad (N 40) q48 u52_0 (u70)), (up2 X 0 3 10), (up3 Y 3 3 0 (Y 3 3 0 + nI 1)), (up1 N 40 (N 40 + 1)), I, (jarG N G j g1), J), rfl, (by dsimp only; rw [if_pos (by simp [jarB, hq2, c_12, c_20, c_32, tn_nI (show j < 2 ^ 31 by omega), tn_nI (show g1 < 2 ^ 31 by omega)]), tn_nI (show j < 2 ^ 31 by omega), tn_nI (show g1 < 2 ^ 31 by omega)]; rw [if_pos c_42]; exact ⟨_, _, _, rfl, rfl, jar_hok h3 (cap := 10) (fun a h4 h41 => by unfold jarG ptG; rw [sg_o h4, sg_o h41]) (by have := h4 3 (by decide); omega), h4.add (by have := h4 3 (by decide); omega)⟩), by rw [ht]; exact hH, GK.warm hW hG⟩, hS.F ht⟩) hS.2.2 dX1_jar_83
            · have hcx := hcs.1
              have hli := hH.lo 3 (by decide) hcx
              have hla := hH.la 3 (by decide) hcx
              have hli : va_at D CL (ad 4 3, .inr (15, [.int (Y 3 3 0), .ref (ad 5 3), .int (nI (N 40))])) H := hli
              have hla : va_at D CL (ad 5 3, .inl (dA 4, X 0 3, rfA (ltH ad 11 (N 40) 0))) H := hla
              have n45 : ad 4 3 ≠ ad 5 3 := fun e => absurd (hH.2.1 4 3 5 3 (show LH N G9 X 4 3 from (show 3 < 4 by decide)) (show LH N G9 X 5 3 from ⟨by decide, hcx⟩) e).1 (by decide)
              have lb_q48 : q48 < H.size := va_at_lt e48
              have lb_u52_0 : u52_0 < H.size := va_at_lt e52_1
              have hz9 := hS.1
              refine va_calli (va_runV (As := [.ref q48]) (rest := []) ⟨hx, hb, hml, hown, hts⟩ (c_J2_add_R lh D dA H.size (ad 4 3) (Y 3 3 0) (ad 5 3) (N 40) (X 0 3) (ltH ad 11 (N 40) 0) q48 3 [.ref u52_0] (RX18, TX18, 1) hcs.2 (hX.1 3 (by decide)).2 rfl q1734) (w_J2_add hts q365 rfl rfl ⟨Nat.le_of_ble_eq_true rfl, Nat.le_of_ble_eq_true rfl⟩) ⟨PX.blind (Mv.and Mv.heap (Mv.and Mv.heap (Mv.and Mv.heap Mv.gk))), (O_recv hG hli rfl), PX.pre (Mv.and Mv.heap (Mv.and Mv.heap (Mv.and Mv.heap Mv.gk))) ⟨rfl, (((ka_one hli).app (ka_one hla)).app (ka_one e48)), (va_D3 n45 (fr_q48.ne (show LH N G9 X 4 3 from (show 3 < 4 by decide))) (fr_q48.ne (show LH N G9 X 5 3 from ⟨by decide, hcx⟩))), hG⟩⟩ rfl rfl hl.1 rfl (lv_room (Nat.le_of_ble_eq_true rfl)) dX1_jar_70 ⟨Nat.le_of_ble_eq_true rfl, Nat.le_of_ble_eq_true rfl⟩) hS (fun q _ => (va_AA (L3 (P := A) (hH.2.2 4 3 (show LH N G9 X 4 3 from (show 3 < 4 by decide))) (hH.2.2 5 3 (show LH N G9 X 5 3 from ⟨by decide, hcx⟩)) a_q48) hA hS.1) q) (va_AA (L3 (P := A) (hH.2.2 4 3 (show LH N G9 X 4 3 from (show 3 < 4 by decide))) (hH.2.2 5 3 (show LH N G9 X 5 3 from ⟨by decide, hcx⟩)) a_q48) hA hS.1) (fun rr u t H1 locs ht hvm hp hB hz hk hS => ?_)
              obtain ⟨hP1, hD1, -⟩ := hB
              rw [ht] at hP1
              have hrr := hp
              try dsimp only at hrr
              subst hrr
              have eL := hP1 0 _ rfl
              have eE := hP1 1 _ rfl
              have e48 := hP1 2 _ rfl
              have e52_1 := e52_1.keptP hk (L3 (P := fun x => x ≠ u52_0) (fr_u52_0.ne (show LH N G9 X 4 3 from (show 3 < 4 by decide))) (fr_u52_0.ne (show LH N G9 X 5 3 from ⟨by decide, hcx⟩)) (ne_q48_u52_0))
              have ho9 := hH.others hk (show 3 < 4 by decide) (L3 (P := fun x => x = ad 4 3 ∨ (X 0 3 ≠ 0 ∧ x = ad 5 3) ∨ Fr ad N G9 X x) (Or.inl rfl) (Or.inr (Or.inl ⟨hcx, rfl⟩)) (Or.inr (Or.inr fr_q48)))
              rw [ltH_up (ad := ad) (ad1 := (adJ ad (N 40) q48 u52_0 (ad 5 3))) (k := 11) (n := N 40) (q := q48) (by unfold adJ; rw [up2_o (by decide), up2_o (by decide), up2_s]) (fun i hi => by unfold adJ; rw [up2_o (by decide), up2_o (by decide), up2_n hi])] at eE
              have hjg : jarG N G j g1 = sg G9 41 (20 * N 40) 20 (shS (conS G j) g1 (gr G j)) := by rw [hG9, sg_comm (by decide)]; rfl
              have hH := hH.newJ (q := q48) (g := u52_0) (ea := ad 5 3) (cap := X 0 3) (sh := (shS (conS G j) g1 (gr G j))) (G1 := jarG N G j g1) ⟨fr_q48, fr_u52_0⟩ ne_q48_u52_0 ⟨a_q48, a_u52_0, hH.2.2 5 3 (show LH N G9 X 5 3 from ⟨by decide, hcx⟩)⟩ (Or.inl ⟨rfl, hcx⟩) (by omega) (fun k h => by rw [hjg, sg_o h]) (fun l hl => by rw [hjg, sg_in hl]) (fun i hi => by rw [hjg, sg_out (by omega)]) e48 e52_1 eL eE ho9
              clear e48 e52_1 eL eE
              clear hz9 hz hk hP1 hD1 ht hvm hp ho9
              generalize H1 = H at hH hS ⊢
              refine lv_pop hx hb dX1_jar_73 rfl ?_
              refine lv_aload_n hx hb dX1_jar_74 rfl (lv_at hl 2 rfl) ?_
              refine ko_get (C := RX1) (T := TX1) (N := 28) (ci := 1) (v := .ref ((adJ ad (N 40) q48 u52_0 (ad 5 3)) 4 3)) hx hb hts in_X1 hown hG.1 hH.o0 rfl 6 (by decide) q191 (fun _ h => h) (rfl) dX1_jar_75 ?_
              refine vp_callSi (va_Run.call (va_runV (As := []) (rest := []) ⟨hx, hb, hml, hown, hts⟩ (c_J2_size lh D dA ((adJ ad (N 40) q48 u52_0 (ad 5 3)) 4 3) (Y 3 3 0 + nI 1) (elH K (adJ ad (N 40) q48 u52_0 (ad 5 3)) (up2 X 0 3 (X 0 3)) 3) (N 40 + 1)) (w_J2_size hts q284 rfl rfl ⟨Nat.le_of_ble_eq_true rfl, Nat.le_of_ble_eq_true rfl⟩) ⟨PX.blind (Mv.and Mv.heap Mv.gk), (O_recv hG (hH.li 3 (by decide)) rfl), PX.pre (Mv.and Mv.heap Mv.gk) ⟨(hH.li 3 (by decide)), hG⟩⟩ rfl rfl hl.1 rfl (lv_room (Nat.le_of_ble_eq_true rfl)) dX1_jar_78 ⟨Nat.le_of_ble_eq_true rfl, Nat.le_of_ble_eq_true rfl⟩)) (fun rr hrr => ?_)
              subst hrr
              refine lv_iconst (v := nI 1) hx hb dX1_jar_81 (by decide) ?_
              refine kn_sub hx hb dX1_jar_82 (by omega) ?_
              subst hQ
              refine W.widen (k := 5) (n := 200) (by first | decide | omega) (by first | decide | omega) ?_
              exact W.iret (v := nI (N 40 + 1 - 1)) hx hb hrt (fun t ht hW => ⟨⟨_, ((adJ ad (N 40) q48 u52_0 (ad 5 3)), (up2 X 0 3 (X 0 3)), (up3 Y 3 3 0 (Y 3 3 0 + nI 1)), (up1 N 40 (N 40 + 1)), I, (jarG N G j g1), J), rfl, (by dsimp only; rw [if_pos (by simp [jarB, hq2, c_12, c_20, c_32, tn_nI (show j < 2 ^ 31 by omega), tn_nI (show g1 < 2 ^ 31 by omega)]), tn_nI (show j < 2 ^ 31 by omega), tn_nI (show g1 < 2 ^ 31 by omega)]; rw [if_pos c_42]; exact ⟨_, _, _, rfl, rfl, jar_hok h3 (cap := (X 0 3)) (fun a h4 h41 => by unfold jarG ptG; rw [sg_o h4, sg_o h41]) (by have := h4 3 (by decide); omega), h4.add (by have := h4 3 (by decide); omega)⟩), by rw [ht]; exact hH, GK.warm hW hG⟩, hS.F ht⟩) hS.2.2 dX1_jar_83
            · have hcx := hcs.1
              have hli := hH.lo 3 (by decide) hcx
              have hla := hH.la 3 (by decide) hcx
              have hli : va_at D CL (ad 4 3, .inr (15, [.int (Y 3 3 0), .ref (ad 5 3), .int (nI (N 40))])) H := hli
              have hla : va_at D CL (ad 5 3, .inl (dA 4, X 0 3, rfA (ltH ad 11 (N 40) 0))) H := hla
              have n45 : ad 4 3 ≠ ad 5 3 := fun e => absurd (hH.2.1 4 3 5 3 (show LH N G9 X 4 3 from (show 3 < 4 by decide)) (show LH N G9 X 5 3 from ⟨by decide, hcx⟩) e).1 (by decide)
              have hGx := hcs.2
              rw [← hGx] at hla
              have lb_q48 : q48 < H.size := va_at_lt e48
              have lb_u52_0 : u52_0 < H.size := va_at_lt e52_1
              have hz9 := hS.1
              refine va_calli (va_runV (As := [.ref q48]) (rest := []) ⟨hx, hb, hml, hown, hts⟩ (c_J2_add_G lh D dA H.size (ad 4 3) (Y 3 3 0) (ad 5 3) (N 40) (ltH ad 11 (N 40) 0) K "PickleHouse$Jar" q48 3 [.ref u52_0] (RX18, TX18, 1) (by omega) (by omega) q1734 rfl q1734) (w_J2_add hts q365 rfl rfl ⟨Nat.le_of_ble_eq_true rfl, Nat.le_of_ble_eq_true rfl⟩) ⟨PX.blind (Mv.and Mv.heap (Mv.and Mv.heap (Mv.and Mv.heap (Mv.and Mv.gk (Mv.and KL.mv EL.mv))))), (O_recv hG hli rfl), PX.pre (Mv.and Mv.heap (Mv.and Mv.heap (Mv.and Mv.heap (Mv.and Mv.gk (Mv.and KL.mv EL.mv))))) ⟨rfl, (((ka_one hli).app (ka_one hla)).app (ka_one e48)), (va_D3 n45 (fr_q48.ne (show LH N G9 X 4 3 from (show 3 < 4 by decide))) (fr_q48.ne (show LH N G9 X 5 3 from ⟨by decide, hcx⟩))), hG, (KL.at hKL hS (va_AA (L3 (P := A) (hH.2.2 4 3 (show LH N G9 X 4 3 from (show 3 < 4 by decide))) (hH.2.2 5 3 (show LH N G9 X 5 3 from ⟨by decide, hcx⟩)) a_q48) hA hS.1)), (EL_of (locs := locs) hG hH (kd := 11) (ci := 3) rfl (fun i hi => hi) (fun i hi => hH.ja hi) (show LH N G9 X 4 3 from (show 3 < 4 by decide)) (show LH N G9 X 5 3 from ⟨by decide, hcx⟩) (by decide) (by decide) fr_q48)⟩⟩ rfl rfl hl.1 rfl (lv_room (Nat.le_of_ble_eq_true rfl)) dX1_jar_70 ⟨Nat.le_of_ble_eq_true rfl, by show 1 + 20 + 40 + (N 40 + N 40 / 2) ≤ 200; omega⟩) hS (fun q _ => (va_AA (L3 (P := A) (hH.2.2 4 3 (show LH N G9 X 4 3 from (show 3 < 4 by decide))) (hH.2.2 5 3 (show LH N G9 X 5 3 from ⟨by decide, hcx⟩)) a_q48) hA hS.1) q) (va_AA (L3 (P := A) (hH.2.2 4 3 (show LH N G9 X 4 3 from (show 3 < 4 by decide))) (hH.2.2 5 3 (show LH N G9 X 5 3 from ⟨by decide, hcx⟩)) a_q48) hA hS.1) (fun rr u t H1 locs ht hvm hp hB hz hk hS => ?_)
              obtain ⟨hP1, hD1, -⟩ := hB
              rw [ht] at hP1
              have hrr := hp
              try dsimp only at hrr
              subst hrr
              generalize u = u70 at hP1 hD1
              have eL := hP1 0 _ rfl
              have eE := hP1 2 _ rfl
              have e48 := hP1 3 _ rfl
              have e52_1 := e52_1.keptP hk (L3 (P := fun x => x ≠ u52_0) (fr_u52_0.ne (show LH N G9 X 4 3 from (show 3 < 4 by decide))) (fr_u52_0.ne (show LH N G9 X 5 3 from ⟨by decide, hcx⟩)) (ne_q48_u52_0))
              have nu0 := va_ne hD1 0 2 rfl rfl (by decide)
              have nu1 := va_ne hD1 1 2 rfl rfl (by decide)
              have nu2 := va_ne hD1 3 2 rfl rfl (by decide)
              have gu : H.size ≤ u70 := va_ge hD1 2 rfl (L3 (P := fun x => x ≠ u70) nu0 nu1 nu2)
              have ho9 := hH.others hk (show 3 < 4 by decide) (L3 (P := fun x => x = ad 4 3 ∨ (X 0 3 ≠ 0 ∧ x = ad 5 3) ∨ Fr ad N G9 X x) (Or.inl rfl) (Or.inr (Or.inl ⟨hcx, rfl⟩)) (Or.inr (Or.inr fr_q48)))
              rw [ltH_cpy, ltH_up (ad := ad) (ad1 := (adJ ad (N 40) q48 u52_0 (u70))) (k := 11) (n := N 40) (q := q48) (by unfold adJ; rw [up2_o (by decide), up2_o (by decide), up2_s]) (fun i hi => by unfold adJ; rw [up2_o (by decide), up2_o (by decide), up2_n hi])] at eE
              have hjg : jarG N G j g1 = sg G9 41 (20 * N 40) 20 (shS (conS G j) g1 (gr G j)) := by rw [hG9, sg_comm (by decide)]; rfl
              have hH := hH.newJ (q := q48) (g := u52_0) (ea := u70) (cap := (N 40 + N 40 / 2)) (sh := (shS (conS G j) g1 (gr G j))) (G1 := jarG N G j g1) ⟨fr_q48, fr_u52_0⟩ ne_q48_u52_0 ⟨a_q48, a_u52_0, hA _ (Nat.le_trans hz9 gu)⟩ (Or.inr ⟨Fr.of hH gu, (by omega), (by omega)⟩) (by omega) (fun k h => by rw [hjg, sg_o h]) (fun l hl => by rw [hjg, sg_in hl]) (fun i hi => by rw [hjg, sg_out (by omega)]) e48 e52_1 eL eE ho9
              clear e48 e52_1 eL eE
              clear hz9 hz hk hP1 hD1 ht hvm hp ho9
              generalize H1 = H at hH hS ⊢
              refine W.widen (k := 5) (n := 200) (by decide) (by omega) ?_
              refine lv_pop hx hb dX1_jar_73 rfl ?_
              refine lv_aload_n hx hb dX1_jar_74 rfl (lv_at hl 2 rfl) ?_
              refine ko_get (C := RX1) (T := TX1) (N := 28) (ci := 1) (v := .ref ((adJ ad (N 40) q48 u52_0 (u70)) 4 3)) hx hb hts in_X1 hown hG.1 hH.o0 rfl 6 (by decide) q191 (fun _ h => h) (rfl) dX1_jar_75 ?_
              refine vp_callSi (va_Run.call (va_runV (As := []) (rest := []) ⟨hx, hb, hml, hown, hts⟩ (c_J2_size lh D dA ((adJ ad (N 40) q48 u52_0 (u70)) 4 3) (Y 3 3 0 + nI 1) (elH K (adJ ad (N 40) q48 u52_0 (u70)) (up2 X 0 3 (N 40 + N 40 / 2)) 3) (N 40 + 1)) (w_J2_size hts q284 rfl rfl ⟨Nat.le_of_ble_eq_true rfl, Nat.le_of_ble_eq_true rfl⟩) ⟨PX.blind (Mv.and Mv.heap Mv.gk), (O_recv hG (hH.li 3 (by decide)) rfl), PX.pre (Mv.and Mv.heap Mv.gk) ⟨(hH.li 3 (by decide)), hG⟩⟩ rfl rfl hl.1 rfl (lv_room (Nat.le_of_ble_eq_true rfl)) dX1_jar_78 ⟨Nat.le_of_ble_eq_true rfl, Nat.le_of_ble_eq_true rfl⟩)) (fun rr hrr => ?_)
              subst hrr
              refine lv_iconst (v := nI 1) hx hb dX1_jar_81 (by decide) ?_
              refine kn_sub hx hb dX1_jar_82 (by omega) ?_
              subst hQ
              exact W.iret (v := nI (N 40 + 1 - 1)) hx hb hrt (fun t ht hW => ⟨⟨_, ((adJ ad (N 40) q48 u52_0 (u70)), (up2 X 0 3 (N 40 + N 40 / 2)), (up3 Y 3 3 0 (Y 3 3 0 + nI 1)), (up1 N 40 (N 40 + 1)), I, (jarG N G j g1), J), rfl, (by dsimp only; rw [if_pos (by simp [jarB, hq2, c_12, c_20, c_32, tn_nI (show j < 2 ^ 31 by omega), tn_nI (show g1 < 2 ^ 31 by omega)]), tn_nI (show j < 2 ^ 31 by omega), tn_nI (show g1 < 2 ^ 31 by omega)]; rw [if_pos c_42]; exact ⟨_, _, _, rfl, rfl, jar_hok h3 (cap := (N 40 + N 40 / 2)) (fun a h4 h41 => by unfold jarG ptG; rw [sg_o h4, sg_o h41]) (by have := h4 3 (by decide); omega), h4.add (by have := h4 3 (by decide); omega)⟩), by rw [ht]; exact hH, GK.warm hW hG⟩, hS.F ht⟩) hS.2.2 dX1_jar_83
          · refine lv_bipush (v := -2) hx hb dX1_jar_45 (by decide) ?_
            subst hQ
            refine W.widen (k := 5) (n := 200) (by first | decide | omega) (by first | decide | omega) ?_
            exact W.iret (v := (-2)) hx hb hrt (fun t ht hW => ⟨⟨_, (ad, X, Y, N, I, G, J), rfl, (by dsimp only; rw [if_pos (by simp [jarB, hq2, c_12, c_20, c_32, tn_nI (show j < 2 ^ 31 by omega), tn_nI (show g1 < 2 ^ 31 by omega)]), tn_nI (show j < 2 ^ 31 by omega), tn_nI (show g1 < 2 ^ 31 by omega)]; rw [if_neg (by rw [c_42]; decide)]; exact ⟨rfl, rfl⟩), by rw [ht]; exact hH, GK.warm hW hG⟩, hS.F ht⟩) hS.2.2 dX1_jar_47
        · refine lv_iconst (v := -1) hx hb dX1_jar_35 (by decide) ?_
          subst hQ
          refine W.widen (k := 5) (n := 200) (by first | decide | omega) (by first | decide | omega) ?_
          exact W.iret (v := (-1)) hx hb hrt (fun t ht hW => ⟨⟨_, (ad, X, Y, N, I, G, J), rfl, (by dsimp only; rw [if_neg (by simp [jarB, hq2, c_12, c_20, c_32, tn_nI (show j < 2 ^ 31 by omega), tn_nI (show g1 < 2 ^ 31 by omega)])]; exact ⟨rfl, rfl⟩), by rw [ht]; exact hH, GK.warm hW hG⟩, hS.F ht⟩) hS.2.2 dX1_jar_36
  · rw [if_neg hq2]
    show W p lh e r_X1_jar s m args below meth cd _ _ _ _ Q (F0 m _ ls (.null :: _))
    refine lv_astore_nN (lv' := [(3, .null), (0, .ref (ad 0 0)), (1, .int c), (2, .int g)]) hx hb dX1_jar_5 rfl hl (by decide) rfl (fun ls hl => ?_)
    refine lv_aload_nN hx hb dX1_jar_6 rfl (lv_at hl 0 rfl) ?_
    refine lv_ifnullN (tgt := 35) hx hb dX1_jar_7 (by decide) ?_
    refine lv_iconst (v := -1) hx hb dX1_jar_35 (by decide) ?_
    subst hQ
    refine W.widen (k := 5) (n := 200) (by first | decide | omega) (by first | decide | omega) ?_
    exact W.iret (v := (-1)) hx hb hrt (fun t ht hW => ⟨⟨_, (ad, X, Y, N, I, G, J), rfl, (by dsimp only; rw [if_neg (by simp [jarB, hq2])]; exact ⟨rfl, rfl⟩), by rw [ht]; exact hH, GK.warm hW hG⟩, hS.F ht⟩) hS.2.2 dX1_jar_36
theorem w_X1_jar {R : Room} {s : State} {args : Array Value} {own : String} {idx : Nat} (hts : ∀ w ∈ lw_all, w.before args s = true) (h1 : Cond.methodLink own idx yX1_jar ∈ lw_all) {rm : Room} {mc ms : Nat} (hrc : rm.cells = mc) (hrs : rm.slots = ms) (hR : rm.frames + 1 ≤ R.frames ∧ 8 + (5 + 11) + rm.locals ≤ R.locals) : CallW R s args own RX1 idx yX1_jar cX1_jar 5 (some .int) (ws_ yX1_jar cX1_jar 5 (some .int)) rm mc ms 2 := cwV 2 hts (lw_V h1 q1160 q1161 q62 q1162) rfl hrc hrs (by decide +kernel) hR
