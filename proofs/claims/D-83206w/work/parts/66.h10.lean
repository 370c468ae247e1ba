set_option maxRecDepth 100000
abbrev r_X1_crock : Room := { frames := 5, cells := 4, slots := 641, locals := 108 }
set_option maxHeartbeats 1000000 in
theorem c_X1_crock (lh : Launch) (A : Nat → Prop) (D : va_G) (dA : Nat → ClassId) (K : Nat → Nat) (ad X : Nat → Nat → Nat) (Y : Nat → Nat → Nat → Int32) (N : Nat → Nat) (I : Nat → Int32) (G : Nat → Nat → Nat) (J : Nat → Nat → Int32) (sz : Nat) (q : Int32) (sa : Int32) (h1 : ∀ a b, G a b < 2 ^ 31) (h2 : N 3 ≤ 10) (h3 : TsOk N G) (h4 : HOk N G J X Y) (h5 : FrOk N G J) (h6 : X2Ok X) (hA : ∀ q, sz ≤ q → A q) : Met lh yX1_crock (ws_ yX1_crock cX1_crock 3 (some .int)) r_X1_crock (PX (fun U H => H.size = sz ∧ RH A D dA K ad X Y N I G J H ∧ GK D dA U ∧ KL K A U H) [.ref (ad 0 0), .int q, .int sa]) (va_Qi (fun (r : Int32) (u : HgT) => if crockB N G q sa = true then ∃ ad1 X1 Y1, r = nI (N 3) ∧ u = (ad1, X1, Y1, up1 N 3 (N 3 + 1), I, crockG G (N 3) (tn q) (tn sa) (N 14), up2 J 13 (N 3) (-1)) ∧ HOk (up1 N 3 (N 3 + 1)) (crockG G (N 3) (tn q) (tn sa) (N 14)) (up2 J 13 (N 3) (-1)) X1 Y1 ∧ X2Ok X1 else r = -1 ∧ u = (ad, X, Y, N, I, G, J)) (BmH A D dA K) A) 4 641 A := by
  refine Met.ofW (cc := cX1_crock) (maxL := 3) (ret := (some .int)) (by decide) rfl ?_
  intro p e s m args below meth cd s₁ B hml hv
  obtain ⟨hargs, hsz, hH, hG, hKL⟩ := hv
  have hx := B.exec
  have hb := B.bytes
  have hrt := B.returns
  have hts := atoms_spec (ws := (ws_ yX1_crock cX1_crock 3 (some .int))) B.pre
  have hts : ∀ w ∈ lw_all, w.before _ s = true := fun w h => hts w (List.mem_cons_of_mem _ h)
  have hown : s.vm.findClass RX1 = some m.cls := findClass_of_methodNamed B.named
  have hlocks := B.notSynchronized
  subst hsz
  have hS : va_S A s.heap s.heap [] := va_S.rf
  have hE : entryFrame m args 3 = F0 m 0 ((lg_sl ([.ref (ad 0 0), .int q, .int sa]) ++ List.replicate (3 - (lg_sl ([.ref (ad 0 0), .int q, .int sa])).length) Slot.unset).toArray) [] := by rw [hargs]; exact lg_entry_eq m _ 3
  have hl := lv_entry ([.ref (ad 0 0), .int q, .int sa]) (n := 3) (Nat.le_of_ble_eq_true rfl)
  rw [hE]
  clear hE
  generalize (lg_sl ([.ref (ad 0 0), .int q, .int sa]) ++ List.replicate (3 - (lg_sl ([.ref (ad 0 0), .int q, .int sa])).length) Slot.unset).toArray = ls at hl ⊢
  have hl : lv_has ls 3 [(0, .ref (ad 0 0)), (1, .int q), (2, .int sa)] := hl
  generalize hQ : MQ _ _ _ _ _ _ _ = Q
  have hX := h4.1
  refine lv_aload_n hx hb dX1_crock_0 rfl (lv_at hl 0 rfl) ?_
  refine ko_get (C := RX1) (T := TX1) (N := 28) (ci := 1) (v := .ref (ad 4 0)) hx hb hts in_X1 hown hG.1 hH.o0 rfl 3 (by decide) q188 (fun _ h => h) (rfl) dX1_crock_1 ?_
  refine vp_callSi (va_Run.call (va_runV (As := []) (rest := []) ⟨hx, hb, hml, hown, hts⟩ (c_J2_size lh D dA (ad 4 0) (Y 3 0 0) (elH K ad X 0) (N 3)) (w_J2_size hts q284 rfl rfl ⟨Nat.le_of_ble_eq_true rfl, Nat.le_of_ble_eq_true rfl⟩) ⟨PX.blind (Mv.and Mv.heap Mv.gk), (O_recv hG (hH.li 0 (by decide)) rfl), PX.pre (Mv.and Mv.heap Mv.gk) ⟨(hH.li 0 (by decide)), hG⟩⟩ rfl rfl hl.1 rfl (lv_room (Nat.le_of_ble_eq_true rfl)) dX1_crock_4 ⟨Nat.le_of_ble_eq_true rfl, Nat.le_of_ble_eq_true rfl⟩)) (fun rr hrr => ?_)
  subst hrr
  refine lv_bipush (v := nI 10) hx hb dX1_crock_7 (by decide) ?_
  refine kn_ceq (tgt := 40) hx hb dX1_crock_9 (by decide) (by omega) (by decide) (fun c_9 => ?_) (fun c_9 => ?_)
  · refine lv_iconst (v := -1) hx hb dX1_crock_40 (by decide) ?_
    subst hQ
    refine W.widen (k := 4) (n := 641) (by decide) (by decide) ?_
    exact W.iret (v := (-1)) hx hb hrt (fun t ht hW => ⟨⟨_, (ad, X, Y, N, I, G, J), rfl, (by dsimp only; rw [if_neg (by simp [crockB, c_9])]; exact ⟨rfl, rfl⟩), by rw [ht]; exact hH, GK.warm hW hG⟩, hS.F ht⟩) hS.2.2 dX1_crock_41
  · refine lv_iload_n hx hb dX1_crock_12 rfl (lv_at hl 1 rfl) ?_
    refine lv_iconst (v := nI 0) hx hb dX1_crock_13 (by decide) ?_
    refine lv_bipush (v := nI 11) hx hb dX1_crock_14 (by decide) ?_
    refine vp_callSi (W.runS (As := [.int q, .int (nI 0), .int (nI 11)]) (rest := []) ⟨hx, hb, hml, hown, hts⟩ (c_X1_in lh q (nI 0) (nI 11)) (w_X1_in hts q277 rfl rfl ⟨Nat.le_of_ble_eq_true rfl, Nat.le_of_ble_eq_true rfl⟩) ⟨P0.blind, P0.pre⟩ rfl rfl hl.1 rfl (lv_room (Nat.le_of_ble_eq_true rfl)) dX1_crock_16 ⟨Nat.le_of_ble_eq_true rfl, Nat.le_of_ble_eq_true rfl⟩) (fun rr hrr => ?_)
    subst hrr
    refine kb_eq (tgt := 40) hx hb dX1_crock_19 (by decide) (fun c_19 => ?_) (fun c_19 => ?_)
    · refine lv_iconst (v := -1) hx hb dX1_crock_40 (by decide) ?_
      subst hQ
      refine W.widen (k := 4) (n := 641) (by decide) (by decide) ?_
      exact W.iret (v := (-1)) hx hb hrt (fun t ht hW => ⟨⟨_, (ad, X, Y, N, I, G, J), rfl, (by dsimp only; rw [if_neg (by simp [crockB, c_9, c_19])]; exact ⟨rfl, rfl⟩), by rw [ht]; exact hH, GK.warm hW hG⟩, hS.F ht⟩) hS.2.2 dX1_crock_41
    · obtain ⟨j, hj1, hj2, rfl⟩ := wi_nat (by decide) (by decide) c_19
      refine lv_iload_n hx hb dX1_crock_22 rfl (lv_at hl 2 rfl) ?_
      refine lv_iconst (v := nI 0) hx hb dX1_crock_23 (by decide) ?_
      refine lv_bipush (v := nI 60) hx hb dX1_crock_24 (by decide) ?_
      refine vp_callSi (W.runS (As := [.int sa, .int (nI 0), .int (nI 60)]) (rest := []) ⟨hx, hb, hml, hown, hts⟩ (c_X1_in lh sa (nI 0) (nI 60)) (w_X1_in hts q277 rfl rfl ⟨Nat.le_of_ble_eq_true rfl, Nat.le_of_ble_eq_true rfl⟩) ⟨P0.blind, P0.pre⟩ rfl rfl hl.1 rfl (lv_room (Nat.le_of_ble_eq_true rfl)) dX1_crock_26 ⟨Nat.le_of_ble_eq_true rfl, Nat.le_of_ble_eq_true rfl⟩) (fun rr hrr => ?_)
      subst hrr
      refine kb_eq (tgt := 40) hx hb dX1_crock_29 (by decide) (fun c_29 => ?_) (fun c_29 => ?_)
      · refine lv_iconst (v := -1) hx hb dX1_crock_40 (by decide) ?_
        subst hQ
        refine W.widen (k := 4) (n := 641) (by decide) (by decide) ?_
        exact W.iret (v := (-1)) hx hb hrt (fun t ht hW => ⟨⟨_, (ad, X, Y, N, I, G, J), rfl, (by dsimp only; rw [if_neg (by simp [crockB, c_9, c_19, c_29, tn_nI (show j < 2 ^ 31 by omega)])]; exact ⟨rfl, rfl⟩), by rw [ht]; exact hH, GK.warm hW hG⟩, hS.F ht⟩) hS.2.2 dX1_crock_41
      · obtain ⟨k, hk1, hk2, rfl⟩ := wi_nat (by decide) (by decide) c_29
        refine lv_aload_n hx hb dX1_crock_32 rfl (lv_at hl 0 rfl) ?_
        refine lv_iload_n hx hb dX1_crock_33 rfl (lv_at hl 1 rfl) ?_
        refine vp_callSi (va_Run.call (va_runV (As := [.int (nI j)]) (rest := []) ⟨hx, hb, hml, hown, hts⟩ (c_X1_isFree lh A D dA K ad X Y N I G J j (h1) (by omega) (by omega) (h4.1) (h4.2.1)) (w_X1_isFree hts q288 rfl rfl ⟨Nat.le_of_ble_eq_true rfl, Nat.le_of_ble_eq_true rfl⟩) ⟨PX.blind (Mv.and Mv.heap Mv.gk), (O_recv hG hH.o0 rfl), PX.pre (Mv.and Mv.heap Mv.gk) ⟨hH, hG⟩⟩ rfl rfl hl.1 rfl (lv_room (Nat.le_of_ble_eq_true rfl)) dX1_crock_34 ⟨Nat.le_of_ble_eq_true rfl, Nat.le_of_ble_eq_true rfl⟩)) (fun rr hrr => ?_)
        subst hrr
        refine kb_ne (tgt := 42) hx hb dX1_crock_37 (by decide) (fun c_37 => ?_) (fun c_37 => ?_)
        · refine lv_aload_n hx hb dX1_crock_42 rfl (lv_at hl 0 rfl) ?_
          refine ko_get (C := RX1) (T := TX1) (N := 28) (ci := 1) (v := .ref (ad 4 0)) hx hb hts in_X1 hown hG.1 hH.o0 rfl 3 (by decide) q188 (fun _ h => h) (rfl) dX1_crock_43 ?_
          have hz9 := hS.1
          refine ko_new (D := D) (ci := 2) (C := RX4) (T := TX4) (N := 11) hx hb hts in_X4 tyX4 tyX4_ok hown q304 q309 q73 hG.1 hS rfl (fs := [.null, .int (nI 0), .null, .int (nI 0), .int (nI 0), .int (nI 0), .int (nI 0), .int (nI 0), .int (nI 0), .int (nI 0), .int (nI 0)]) (by decide) (Nat.le_of_ble_eq_true rfl) (Nat.le_of_ble_eq_true rfl) dX1_crock_46 (fun H1 e46 z1 o1 hS => ?_)
          have fr_q46 : Fr ad N G X s.heap.size := Fr.of hH (Nat.le_refl _)
          have a_q46 : A s.heap.size := hA _ hz9
          have hH := hH.grow o1
          generalize s.heap.size = q46 at e46 z1 fr_q46 a_q46 ⊢
          clear hz9 o1 z1
          generalize H1 = H at e46 hH hS ⊢
          refine lv_dup hx hb dX1_crock_49 rfl ?_
          refine lv_aload_n hx hb dX1_crock_50 rfl (lv_at hl 0 rfl) ?_
          refine ko_get (C := RX1) (T := TX1) (N := 28) (ci := 1) (v := .ref (ad 4 0)) hx hb hts in_X1 hown hG.1 hH.o0 rfl 3 (by decide) q188 (fun _ h => h) (rfl) dX1_crock_51 ?_
          refine vp_callSi (va_Run.call (va_runV (As := []) (rest := [.ref q46, .ref q46, .ref (ad 4 0)]) ⟨hx, hb, hml, hown, hts⟩ (c_J2_size lh D dA (ad 4 0) (Y 3 0 0) (elH K ad X 0) (N 3)) (w_J2_size hts q284 rfl rfl ⟨Nat.le_of_ble_eq_true rfl, Nat.le_of_ble_eq_true rfl⟩) ⟨PX.blind (Mv.and Mv.heap Mv.gk), (O_recv hG (hH.li 0 (by decide)) rfl), PX.pre (Mv.and Mv.heap Mv.gk) ⟨(hH.li 0 (by decide)), hG⟩⟩ rfl rfl hl.1 rfl (lv_room (Nat.le_of_ble_eq_true rfl)) dX1_crock_54 ⟨Nat.le_of_ble_eq_true rfl, Nat.le_of_ble_eq_true rfl⟩)) (fun rr hrr => ?_)
          subst hrr
          refine lv_iload_n hx hb dX1_crock_57 rfl (lv_at hl 1 rfl) ?_
          refine lv_iload_n hx hb dX1_crock_58 rfl (lv_at hl 2 rfl) ?_
          refine lv_aload_n hx hb dX1_crock_59 rfl (lv_at hl 0 rfl) ?_
          refine ko_get (C := RX1) (T := TX1) (N := 28) (ci := 1) (v := .int (nI (N 14))) hx hb hts in_X1 hown hG.1 hH.o0 rfl 9 (by decide) q194 (fun _ h => h) (rfl) dX1_crock_60 ?_
          have hz9 := hS.1
          refine va_callv (va_runI (As := [.int (nI (N 3)), .int (nI j), .int (nI k), .int (nI (N 14))]) (rest := [.ref q46, .ref (ad 4 0)]) ⟨hx, hb, hml, hown, hts⟩ (c_X4_init lh D dA H.size q46 (N 3) j k (N 14)) (cwI 4 hts (lw_meth q312) rfl rfl rfl (hts _ q73) (hts _ q310) (hts _ q311) rfl (by decide +kernel) ⟨Nat.le_of_ble_eq_true rfl, Nat.le_of_ble_eq_true rfl⟩) ⟨PX.blind (Mv.and Mv.heap (Mv.and Mv.heap (Mv.and Mv.heap Mv.gk))), PX.pre (Mv.and Mv.heap (Mv.and Mv.heap (Mv.and Mv.heap Mv.gk))) ⟨rfl, ka_one e46, va_D1, hG⟩⟩ rfl rfl hl.1 rfl (lv_room (Nat.le_of_ble_eq_true rfl)) dX1_crock_63 ⟨Nat.le_of_ble_eq_true rfl, Nat.le_of_ble_eq_true rfl⟩) hS (fun q _ => (va_AA (L1 (P := A) a_q46) hA hS.1) q) (va_AA (L1 (P := A) a_q46) hA hS.1) (fun u t H1 locs ht hvm hp hB hz hk hS => ?_)
          obtain ⟨hP1, hD1, -⟩ := hB
          rw [ht] at hP1
          obtain ⟨u63_0, u63_1⟩ := u
          dsimp only at hP1 hD1
          have e46 := hP1 0 _ rfl
          have e63_1 := hP1 1 _ rfl
          have n0 := va_ne hD1 0 1 rfl rfl (by decide)
          have g_u63_0 : H.size ≤ u63_0 := va_ge hD1 1 rfl (L1 (P := fun x => x ≠ u63_0) n0)
          have fr_u63_0 : Fr ad N G X u63_0 := Fr.of hH g_u63_0
          have a_u63_0 : A u63_0 := hA _ (Nat.le_trans hz9 g_u63_0)
          have ne_q46_u63_0 : q46 ≠ u63_0 := n0
          have e63_2 := hP1 2 _ rfl
          have n0 := va_ne hD1 0 2 rfl rfl (by decide)
          have g_u63_1 : H.size ≤ u63_1 := va_ge hD1 2 rfl (L1 (P := fun x => x ≠ u63_1) n0)
          have fr_u63_1 : Fr ad N G X u63_1 := Fr.of hH g_u63_1
          have a_u63_1 : A u63_1 := hA _ (Nat.le_trans hz9 g_u63_1)
          have ne_q46_u63_1 : q46 ≠ u63_1 := n0
          have ne_u63_0_u63_1 : u63_0 ≠ u63_1 := va_ne hD1 1 2 rfl rfl (by decide)
          have hH := hH.keptP hk (L1 fr_q46)
          clear hz9 hz hk hP1 hD1 ht hvm hp
          generalize H1 = H at hH hS e46 e63_1 e63_2 ⊢
          have hx2 := h6 0 (by decide)
          have hx1 : N 3 ≤ X 0 0 := (hX.1 0 (by decide)).1
          obtain hcs | hcs : X 0 0 = 0 ∨ X 0 0 ≠ 0 ∧ N 3 < X 0 0 := by omega
          · have hn0 : N 3 = 0 := by omega
            have hli : va_at D CL (ad 4 0, .inr (15, [.int (Y 3 0 0), .ref (K 50), .int (nI 0)])) H := by have e := hH.li 0 (by decide); rw [show elH K ad X 0 = K 50 from if_pos hcs, show szH N 0 = 0 from hn0] at e; exact e
            have lb_q46 : q46 < H.size := va_at_lt e46
            have lb_u63_0 : u63_0 < H.size := va_at_lt e63_1
            have lb_u63_1 : u63_1 < H.size := va_at_lt e63_2
            have hz9 := hS.1
            refine va_calli (va_runV (As := [.ref q46]) (rest := []) ⟨hx, hb, hml, hown, hts⟩ (c_J2_add_F lh D dA H.size (ad 4 0) (Y 3 0 0) K q46 2 [.ref u63_0, .int (nI (N 3)), .ref u63_1, .int (nI j), .int (nI k), .int (nI 0), .int (nI (N 14)), .int (nI 0), .int (nI 0), .int (nI 0), .int (-1)] (RX4, TX4, 11) rfl q1718) (w_J2_add hts q365 rfl rfl ⟨Nat.le_of_ble_eq_true rfl, Nat.le_of_ble_eq_true rfl⟩) ⟨PX.blind (Mv.and Mv.heap (Mv.and Mv.heap (Mv.and Mv.heap (Mv.and Mv.gk KL.mv)))), (O_recv hG hli rfl), PX.pre (Mv.and Mv.heap (Mv.and Mv.heap (Mv.and Mv.heap (Mv.and Mv.gk KL.mv)))) ⟨rfl, ((ka_one hli).app (ka_one e46)), (va_D2 (fr_q46.ne (show LH N G X 4 0 from (show 0 < 4 by decide)))), hG, (KL.at hKL hS (va_AA (L2 (P := A) (hH.2.2 4 0 (show LH N G X 4 0 from (show 0 < 4 by decide))) a_q46) hA hS.1))⟩⟩ rfl rfl hl.1 rfl (lv_room (Nat.le_of_ble_eq_true rfl)) dX1_crock_66 ⟨Nat.le_of_ble_eq_true rfl, Nat.le_of_ble_eq_true rfl⟩) hS (fun q _ => (va_AA (L2 (P := A) (hH.2.2 4 0 (show LH N G X 4 0 from (show 0 < 4 by decide))) a_q46) hA hS.1) q) (va_AA (L2 (P := A) (hH.2.2 4 0 (show LH N G X 4 0 from (show 0 < 4 by decide))) a_q46) hA hS.1) (fun rr u t H1 locs ht hvm hp hB hz hk hS => ?_)
            obtain ⟨hP1, hD1, -⟩ := hB
            rw [ht] at hP1
            have hrr := hp
            try dsimp only at hrr
            subst hrr
            generalize u = u66 at hP1 hD1
            have eL := hP1 0 _ rfl
            have eE := hP1 1 _ rfl
            have e46 := hP1 2 _ rfl
            have e63_1 := e63_1.keptP hk (L2 (P := fun x => x ≠ u63_0) (fr_u63_0.ne (show LH N G X 4 0 from (show 0 < 4 by decide))) (ne_q46_u63_0))
            have e63_2 := e63_2.keptP hk (L2 (P := fun x => x ≠ u63_1) (fr_u63_1.ne (show LH N G X 4 0 from (show 0 < 4 by decide))) (ne_q46_u63_1))
            have nu0 := va_ne hD1 0 1 rfl rfl (by decide)
            have nu2 := va_ne hD1 2 1 rfl rfl (by decide)
            have gu : H.size ≤ u66 := va_ge hD1 1 rfl (L2 (P := fun x => x ≠ u66) nu0 nu2)
            have ho9 := hH.others hk (show 0 < 4 by decide) (L2 (P := fun x => x = ad 4 0 ∨ (X 0 0 ≠ 0 ∧ x = ad 5 0) ∨ Fr ad N G X x) (Or.inl rfl) (Or.inr (Or.inr fr_q46)))
            rw [ltH_up0 (ad := ad) (ad1 := (adC ad (N 3) q46 u63_0 u63_1 (u66))) (k := 6) (n := N 3) (q := q46) hn0 (by unfold adC; rw [up2_o (by decide), up2_o (by decide), up2_o (by decide), up2_s])] at eE
            have eL : va_at D CL (ad 4 0, .inr (15, [.int (Y 3 0 0 + nI 1), .ref u66, .int (nI (N 3 + 1))])) H1 := by rw [hn0]; exact eL
            have hH := hH.newC (q := q46) (g := u63_0) (r := u63_1) (ea := u66) (cap := 10) (p0 := j) (sa := k) ⟨fr_q46, fr_u63_0, fr_u63_1⟩ ne_q46_u63_0 ne_q46_u63_1 ne_u63_0_u63_1 ⟨a_q46, a_u63_0, a_u63_1, hA _ (Nat.le_trans hz9 gu)⟩ (Or.inr ⟨Fr.of hH gu, (by omega), (by omega), (by omega)⟩) (by omega) h3 (h5 (N 3) (Nat.le_refl _)) e46 e63_1 e63_2 eL eE ho9
            clear e46 e63_1 e63_2 eL eE
            clear hz9 hz hk hP1 hD1 ht hvm hp ho9
            generalize H1 = H at hH hS ⊢
            refine lv_pop hx hb dX1_crock_69 rfl ?_
            refine lv_aload_n hx hb dX1_crock_70 rfl (lv_at hl 0 rfl) ?_
            refine ko_get (C := RX1) (T := TX1) (N := 28) (ci := 1) (v := .ref ((adC ad (N 3) q46 u63_0 u63_1 (u66)) 4 0)) hx hb hts in_X1 hown hG.1 hH.o0 rfl 3 (by decide) q188 (fun _ h => h) (rfl) dX1_crock_71 ?_
            refine vp_callSi (va_Run.call (va_runV (As := []) (rest := []) ⟨hx, hb, hml, hown, hts⟩ (c_J2_size lh D dA ((adC ad (N 3) q46 u63_0 u63_1 (u66)) 4 0) ((yC Y (N 3) j) 3 0 0) (elH K (adC ad (N 3) q46 u63_0 u63_1 (u66)) (up2 X 0 0 10) 0) (N 3 + 1)) (w_J2_size hts q284 rfl rfl ⟨Nat.le_of_ble_eq_true rfl, Nat.le_of_ble_eq_true rfl⟩) ⟨PX.blind (Mv.and Mv.heap Mv.gk), (O_recv hG (hH.li 0 (by decide)) rfl), PX.pre (Mv.and Mv.heap Mv.gk) ⟨(hH.li 0 (by decide)), hG⟩⟩ rfl rfl hl.1 rfl (lv_room (Nat.le_of_ble_eq_true rfl)) dX1_crock_74 ⟨Nat.le_of_ble_eq_true rfl, Nat.le_of_ble_eq_true rfl⟩)) (fun rr hrr => ?_)
            subst hrr
            refine lv_iconst (v := nI 1) hx hb dX1_crock_77 (by decide) ?_
            refine kn_sub hx hb dX1_crock_78 (by omega) ?_
            subst hQ
            refine W.widen (k := 4) (n := 641) (by decide) (by decide) ?_
            exact W.iret (v := nI (N 3 + 1 - 1)) hx hb hrt (fun t ht hW => ⟨⟨_, ((adC ad (N 3) q46 u63_0 u63_1 (u66)), (up2 X 0 0 10), (yC Y (N 3) j), (up1 N 3 (N 3 + 1)), I, (crockG G (N 3) j k (N 14)), (up2 J 13 (N 3) (-1))), rfl, (by dsimp only; rw [if_pos (by simp [crockB, c_9, c_19, c_29, c_37, tn_nI (show j < 2 ^ 31 by omega), tn_nI (show k < 2 ^ 31 by omega)]), tn_nI (show j < 2 ^ 31 by omega), tn_nI (show k < 2 ^ 31 by omega)]; exact ⟨_, _, _, rfl, rfl, crock_hok h4 (cap := 10) (by have := h6 0 (by decide); omega), h6.add (by have := h6 0 (by decide); omega)⟩), by rw [ht]; exact hH, GK.warm hW hG⟩, hS.F ht⟩) hS.2.2 dX1_crock_79
          · have hcx := hcs.1
            have hli := hH.lo 0 (by decide) hcx
            have hla := hH.la 0 (by decide) hcx
            have hli : va_at D CL (ad 4 0, .inr (15, [.int (Y 3 0 0), .ref (ad 5 0), .int (nI (N 3))])) H := hli
            have hla : va_at D CL (ad 5 0, .inl (dA 4, X 0 0, rfA (ltH ad 6 (N 3) 0))) H := hla
            have n45 : ad 4 0 ≠ ad 5 0 := fun e => absurd (hH.2.1 4 0 5 0 (show LH N G X 4 0 from (show 0 < 4 by decide)) (show LH N G X 5 0 from ⟨by decide, hcx⟩) e).1 (by decide)
            have lb_q46 : q46 < H.size := va_at_lt e46
            have lb_u63_0 : u63_0 < H.size := va_at_lt e63_1
            have lb_u63_1 : u63_1 < H.size := va_at_lt e63_2
            have hz9 := hS.1
            refine va_calli (va_runV (As := [.ref q46]) (rest := []) ⟨hx, hb, hml, hown, hts⟩ (c_J2_add_R lh D dA H.size (ad 4 0) (Y 3 0 0) (ad 5 0) (N 3) (X 0 0) (ltH ad 6 (N 3) 0) q46 2 [.ref u63_0, .int (nI (N 3)), .ref u63_1, .int (nI j), .int (nI k), .int (nI 0), .int (nI (N 14)), .int (nI 0), .int (nI 0), .int (nI 0), .int (-1)] (RX4, TX4, 11) hcs.2 (hX.1 0 (by decide)).2 rfl q1718) (w_J2_add hts q365 rfl rfl ⟨Nat.le_of_ble_eq_true rfl, Nat.le_of_ble_eq_true rfl⟩) ⟨PX.blind (Mv.and Mv.heap (Mv.and Mv.heap (Mv.and Mv.heap Mv.gk))), (O_recv hG hli rfl), PX.pre (Mv.and Mv.heap (Mv.and Mv.heap (Mv.and Mv.heap Mv.gk))) ⟨rfl, (((ka_one hli).app (ka_one hla)).app (ka_one e46)), (va_D3 n45 (fr_q46.ne (show LH N G X 4 0 from (show 0 < 4 by decide))) (fr_q46.ne (show LH N G X 5 0 from ⟨by decide, hcx⟩))), hG⟩⟩ rfl rfl hl.1 rfl (lv_room (Nat.le_of_ble_eq_true rfl)) dX1_crock_66 ⟨Nat.le_of_ble_eq_true rfl, Nat.le_of_ble_eq_true rfl⟩) hS (fun q _ => (va_AA (L3 (P := A) (hH.2.2 4 0 (show LH N G X 4 0 from (show 0 < 4 by decide))) (hH.2.2 5 0 (show LH N G X 5 0 from ⟨by decide, hcx⟩)) a_q46) hA hS.1) q) (va_AA (L3 (P := A) (hH.2.2 4 0 (show LH N G X 4 0 from (show 0 < 4 by decide))) (hH.2.2 5 0 (show LH N G X 5 0 from ⟨by decide, hcx⟩)) a_q46) hA hS.1) (fun rr u t H1 locs ht hvm hp hB hz hk hS => ?_)
            obtain ⟨hP1, hD1, -⟩ := hB
            rw [ht] at hP1
            have hrr := hp
            try dsimp only at hrr
            subst hrr
            have eL := hP1 0 _ rfl
            have eE := hP1 1 _ rfl
            have e46 := hP1 2 _ rfl
            have e63_1 := e63_1.keptP hk (L3 (P := fun x => x ≠ u63_0) (fr_u63_0.ne (show LH N G X 4 0 from (show 0 < 4 by decide))) (fr_u63_0.ne (show LH N G X 5 0 from ⟨by decide, hcx⟩)) (ne_q46_u63_0))
            have e63_2 := e63_2.keptP hk (L3 (P := fun x => x ≠ u63_1) (fr_u63_1.ne (show LH N G X 4 0 from (show 0 < 4 by decide))) (fr_u63_1.ne (show LH N G X 5 0 from ⟨by decide, hcx⟩)) (ne_q46_u63_1))
            have ho9 := hH.others hk (show 0 < 4 by decide) (L3 (P := fun x => x = ad 4 0 ∨ (X 0 0 ≠ 0 ∧ x = ad 5 0) ∨ Fr ad N G X x) (Or.inl rfl) (Or.inr (Or.inl ⟨hcx, rfl⟩)) (Or.inr (Or.inr fr_q46)))
            rw [ltH_up (ad := ad) (ad1 := (adC ad (N 3) q46 u63_0 u63_1 (ad 5 0))) (k := 6) (n := N 3) (q := q46) (by unfold adC; rw [up2_o (by decide), up2_o (by decide), up2_o (by decide), up2_s]) (fun i hi => by unfold adC; rw [up2_o (by decide), up2_o (by decide), up2_o (by decide), up2_n hi])] at eE
            have hH := hH.newC (q := q46) (g := u63_0) (r := u63_1) (ea := ad 5 0) (cap := X 0 0) (p0 := j) (sa := k) ⟨fr_q46, fr_u63_0, fr_u63_1⟩ ne_q46_u63_0 ne_q46_u63_1 ne_u63_0_u63_1 ⟨a_q46, a_u63_0, a_u63_1, hH.2.2 5 0 (show LH N G X 5 0 from ⟨by decide, hcx⟩)⟩ (Or.inl ⟨rfl, hcx⟩) (by omega) h3 (h5 (N 3) (Nat.le_refl _)) e46 e63_1 e63_2 eL eE ho9
            clear e46 e63_1 e63_2 eL eE
            clear hz9 hz hk hP1 hD1 ht hvm hp ho9
            generalize H1 = H at hH hS ⊢
            refine lv_pop hx hb dX1_crock_69 rfl ?_
            refine lv_aload_n hx hb dX1_crock_70 rfl (lv_at hl 0 rfl) ?_
            refine ko_get (C := RX1) (T := TX1) (N := 28) (ci := 1) (v := .ref ((adC ad (N 3) q46 u63_0 u63_1 (ad 5 0)) 4 0)) hx hb hts in_X1 hown hG.1 hH.o0 rfl 3 (by decide) q188 (fun _ h => h) (rfl) dX1_crock_71 ?_
            refine vp_callSi (va_Run.call (va_runV (As := []) (rest := []) ⟨hx, hb, hml, hown, hts⟩ (c_J2_size lh D dA ((adC ad (N 3) q46 u63_0 u63_1 (ad 5 0)) 4 0) ((yC Y (N 3) j) 3 0 0) (elH K (adC ad (N 3) q46 u63_0 u63_1 (ad 5 0)) (up2 X 0 0 (X 0 0)) 0) (N 3 + 1)) (w_J2_size hts q284 rfl rfl ⟨Nat.le_of_ble_eq_true rfl, Nat.le_of_ble_eq_true rfl⟩) ⟨PX.blind (Mv.and Mv.heap Mv.gk), (O_recv hG (hH.li 0 (by decide)) rfl), PX.pre (Mv.and Mv.heap Mv.gk) ⟨(hH.li 0 (by decide)), hG⟩⟩ rfl rfl hl.1 rfl (lv_room (Nat.le_of_ble_eq_true rfl)) dX1_crock_74 ⟨Nat.le_of_ble_eq_true rfl, Nat.le_of_ble_eq_true rfl⟩)) (fun rr hrr => ?_)
            subst hrr
            refine lv_iconst (v := nI 1) hx hb dX1_crock_77 (by decide) ?_
            refine kn_sub hx hb dX1_crock_78 (by omega) ?_
            subst hQ
            refine W.widen (k := 4) (n := 641) (by decide) (by decide) ?_
            exact W.iret (v := nI (N 3 + 1 - 1)) hx hb hrt (fun t ht hW => ⟨⟨_, ((adC ad (N 3) q46 u63_0 u63_1 (ad 5 0)), (up2 X 0 0 (X 0 0)), (yC Y (N 3) j), (up1 N 3 (N 3 + 1)), I, (crockG G (N 3) j k (N 14)), (up2 J 13 (N 3) (-1))), rfl, (by dsimp only; rw [if_pos (by simp [crockB, c_9, c_19, c_29, c_37, tn_nI (show j < 2 ^ 31 by omega), tn_nI (show k < 2 ^ 31 by omega)]), tn_nI (show j < 2 ^ 31 by omega), tn_nI (show k < 2 ^ 31 by omega)]; exact ⟨_, _, _, rfl, rfl, crock_hok h4 (cap := (X 0 0)) (by have := h6 0 (by decide); omega), h6.add (by have := h6 0 (by decide); omega)⟩), by rw [ht]; exact hH, GK.warm hW hG⟩, hS.F ht⟩) hS.2.2 dX1_crock_79
        · refine lv_iconst (v := -1) hx hb dX1_crock_40 (by decide) ?_
          subst hQ
          refine W.widen (k := 4) (n := 641) (by decide) (by decide) ?_
          exact W.iret (v := (-1)) hx hb hrt (fun t ht hW => ⟨⟨_, (ad, X, Y, N, I, G, J), rfl, (by dsimp only; rw [if_neg (by simp [crockB, c_9, c_19, c_29, c_37, tn_nI (show j < 2 ^ 31 by omega), tn_nI (show k < 2 ^ 31 by omega)])]; exact ⟨rfl, rfl⟩), by rw [ht]; exact hH, GK.warm hW hG⟩, hS.F ht⟩) hS.2.2 dX1_crock_41
theorem w_X1_crock {R : Room} {s : State} {args : Array Value} {own : String} {idx : Nat} (hts : ∀ w ∈ lw_all, w.before args s = true) (h1 : Cond.methodLink own idx yX1_crock ∈ lw_all) {rm : Room} {mc ms : Nat} (hrc : rm.cells = mc) (hrs : rm.slots = ms) (hR : rm.frames + 1 ≤ R.frames ∧ 8 + (3 + 11) + rm.locals ≤ R.locals) : CallW R s args own RX1 idx yX1_crock cX1_crock 3 (some .int) (ws_ yX1_crock cX1_crock 3 (some .int)) rm mc ms 2 := cwV 2 hts (lw_V h1 q281 q282 q62 q283) rfl hrc hrs (by decide +kernel) hR
