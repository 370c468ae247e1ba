set_option maxRecDepth 100000
abbrev r_X1_pour : Room := { frames := 5, cells := 0, slots := 0, locals := 117 }
set_option maxHeartbeats 1000000 in
theorem c_X1_pour (lh : Launch) (A : Nat → Prop) (D : va_G) (dA : Nat → ClassId) (K : Nat → Nat) (ad X : Nat → Nat → Nat) (Y : Nat → Nat → Nat → Int32) (N : Nat → Nat) (I : Nat → Int32) (G : Nat → Nat → Nat) (J : Nat → Nat → Int32) (sz : Nat) (a : Int32) (b : Int32) (h1 : OkS N G J) (h2 : CsOk N G) (h3 : XOk N G X) (h4 : TsOk N G) (h5 : RtOk N G Y) (hA : ∀ q, sz ≤ q → A q) : Met lh yX1_pour (ws_ yX1_pour cX1_pour 10 (some .int)) r_X1_pour (PX (fun U H => H.size = sz ∧ RH A D dA K ad X Y N I G J H ∧ GK D dA U) [.ref (ad 0 0), .int a, .int b]) (va_Qi (fun (r : Int32) (u : HgT) => if pourB N G a b = true then r = nI (gr (pourG N G (tn a) (tn b)) (tn b)) ∧ u = (ad, X, up3 Y 0 (tn a) 0 (-1), N, I, pourG N G (tn a) (tn b), pourJ N G J (tn a) (tn b)) else r = -1 ∧ u = (ad, X, Y, N, I, G, J)) (BmH A D dA K) A) 0 0 A := by
  refine Met.ofW (cc := cX1_pour) (maxL := 10) (ret := (some .int)) (by decide) rfl ?_
  intro p e s m args below meth cd s₁ B hml hv
  obtain ⟨hargs, hsz, hH, hG⟩ := hv
  have hx := B.exec
  have hb := B.bytes
  have hrt := B.returns
  have hts := atoms_spec (ws := (ws_ yX1_pour cX1_pour 10 (some .int))) B.pre
  have hts : ∀ w ∈ lw_all, w.before _ s = true := fun w h => hts w (List.mem_cons_of_mem _ h)
  have hown : s.vm.findClass RX1 = some m.cls := findClass_of_methodNamed B.named
  have hlocks := B.notSynchronized
  subst hsz
  have hS : va_S A s.heap s.heap [] := va_S.rf
  have hE : entryFrame m args 10 = F0 m 0 ((lg_sl ([.ref (ad 0 0), .int a, .int b]) ++ List.replicate (10 - (lg_sl ([.ref (ad 0 0), .int a, .int b])).length) Slot.unset).toArray) [] := by rw [hargs]; exact lg_entry_eq m _ 10
  have hl := lv_entry ([.ref (ad 0 0), .int a, .int b]) (n := 10) (Nat.le_of_ble_eq_true rfl)
  rw [hE]
  clear hE
  generalize (lg_sl ([.ref (ad 0 0), .int a, .int b]) ++ List.replicate (10 - (lg_sl ([.ref (ad 0 0), .int a, .int b])).length) Slot.unset).toArray = ls at hl ⊢
  have hl : lv_has ls 10 [(0, .ref (ad 0 0)), (1, .int a), (2, .int b)] := hl
  generalize hQ : MQ _ _ _ _ _ _ _ = Q
  have hokk := h1
  obtain ⟨hB, ⟨hn1, hn3, hn14, hn19, hn23, hn33, hn40, hn44⟩, hcr, hst, hwm, hrc⟩ := hokk
  have hX := h3
  refine lv_aload_n hx hb dX1_pour_0 rfl (lv_at hl 0 rfl) ?_
  refine lv_iload_n hx hb dX1_pour_1 rfl (lv_at hl 1 rfl) ?_
  refine va_csq (va_Run.call (va_runV (As := [.int a]) (rest := []) ⟨hx, hb, hml, hown, hts⟩ (c_X1_there lh A D dA K ad X Y N I G J a (hB) (hn3) (h3)) (w_X1_there hts q436 rfl rfl ⟨Nat.le_of_ble_eq_true rfl, Nat.le_of_ble_eq_true rfl⟩) ⟨PX.blind (Mv.and Mv.heap Mv.gk), (O_recv hG hH.o0 rfl), PX.pre (Mv.and Mv.heap Mv.gk) ⟨hH, hG⟩⟩ rfl rfl hl.1 rfl (lv_room (Nat.le_of_ble_eq_true rfl)) dX1_pour_2 ⟨Nat.le_of_ble_eq_true rfl, Nat.le_of_ble_eq_true rfl⟩)) (fun rr hrr => ?_)
  subst hrr
  by_cases hq2 : lvI (N 3) G a = true
  · rw [if_pos hq2]
    show W p lh e r_X1_pour s m args below meth cd _ _ _ _ Q (F0 m _ ls (.ref (ad 6 (tn a)) :: _))
    obtain ⟨j, hj, rfl, hlj⟩ := lvI_nat (by omega) hq2
    rw [tn_nI (show j < 2 ^ 31 by omega)]
    refine lv_astore_n (lv' := [(3, .ref (ad 6 j)), (0, .ref (ad 0 0)), (1, .int (nI j)), (2, .int b)]) hx hb dX1_pour_5 rfl hl (by decide) rfl (fun ls hl => ?_)
    refine lv_aload_n hx hb dX1_pour_6 rfl (lv_at hl 1 rfl) ?_
    refine lv_iload_n hx hb dX1_pour_7 rfl (lv_at hl 3 rfl) ?_
    refine va_csq (va_Run.call (va_runV (As := [.int b]) (rest := []) ⟨hx, hb, hml, hown, hts⟩ (c_X1_there lh A D dA K ad X Y N I G J b (hB) (hn3) (h3)) (w_X1_there hts q436 rfl rfl ⟨Nat.le_of_ble_eq_true rfl, Nat.le_of_ble_eq_true rfl⟩) ⟨PX.blind (Mv.and Mv.heap Mv.gk), (O_recv hG hH.o0 rfl), PX.pre (Mv.and Mv.heap Mv.gk) ⟨hH, hG⟩⟩ rfl rfl hl.1 rfl (lv_room (Nat.le_of_ble_eq_true rfl)) dX1_pour_8 ⟨Nat.le_of_ble_eq_true rfl, Nat.le_of_ble_eq_true rfl⟩)) (fun rr hrr => ?_)
    subst hrr
    by_cases hq8 : lvI (N 3) G b = true
    · rw [if_pos hq8]
      show W p lh e r_X1_pour s m args below meth cd _ _ _ _ Q (F0 m _ ls (.ref (ad 6 (tn b)) :: _))
      obtain ⟨k, hk, rfl, hlk⟩ := lvI_nat (by omega) hq8
      rw [tn_nI (show k < 2 ^ 31 by omega)]
      refine lv_astore (lv' := [(4, .ref (ad 6 k)), (3, .ref (ad 6 j)), (0, .ref (ad 0 0)), (1, .int (nI j)), (2, .int (nI k))]) hx hb dX1_pour_11 hl (by decide) rfl (fun ls hl => ?_)
      refine lv_aload_n hx hb dX1_pour_13 rfl (lv_at hl 1 rfl) ?_
      refine lv_ifnull hx hb dX1_pour_14 ?_
      refine lv_aload hx hb dX1_pour_17 (lv_at hl 0 rfl) ?_
      refine lv_ifnull hx hb dX1_pour_19 ?_
      refine lv_aload_n hx hb dX1_pour_22 rfl (lv_at hl 1 rfl) ?_
      refine lv_aload hx hb dX1_pour_23 (lv_at hl 0 rfl) ?_
      refine lv_acmp_eq (rx := (some (ad 6 j))) (ry := (some (ad 6 k))) (tgt := 43) hx hb dX1_pour_25 (by decide) (fun c_25 => ?_) (fun c_25 => ?_)
      · have c_25 : nI j = nI k := by rw [hH.inj 6 (show LH N G X 6 j from hj) (show LH N G X 6 k from hk) (Option.some.inj c_25)]
        refine lv_iconst (v := -1) hx hb dX1_pour_43 (by decide) ?_
        subst hQ
        exact W.iret (v := (-1)) hx hb hrt (fun t ht hW => ⟨⟨_, (ad, X, Y, N, I, G, J), rfl, (by dsimp only; rw [if_neg (by simp [pourB, hq2, hq8, c_25, tn_nI (show j < 2 ^ 31 by omega), tn_nI (show k < 2 ^ 31 by omega)])]; exact ⟨rfl, rfl⟩), by rw [ht]; exact hH, GK.warm hW hG⟩, hS.F ht⟩) hS.2.2 dX1_pour_44
      · have hjk : j ≠ k := fun q => c_25 (by rw [q])
        have c_25 : ¬ nI j = nI k := fun q => hjk ((nI_eq (by omega) (by omega)).mp q)
        refine lv_aload_n hx hb dX1_pour_28 rfl (lv_at hl 1 rfl) ?_
        refine vp_callSi (va_Run.call (va_runU (As := []) (rest := []) ⟨hx, hb, hml, hown, hts⟩ (c_X3_all_C lh A D dA K ad X Y N I G J j (show j < (N 3) from by first | omega | assumption)) (va_cwU 0 hts (lw_U q440 q441 q443 q444 q72 q445) rfl rfl rfl rfl (by decide +kernel) ⟨Nat.le_of_ble_eq_true rfl, Nat.le_of_ble_eq_true rfl⟩) ⟨PX.blind (Mv.and Mv.heap Mv.gk), (O_recv hG (hH.cr (show j < N 3 from by omega)) rfl), PX.pre (Mv.and Mv.heap Mv.gk) ⟨hH, hG⟩⟩ rfl rfl hl.1 rfl (lv_room (Nat.le_of_ble_eq_true rfl)) dX1_pour_29 ⟨Nat.le_of_ble_eq_true rfl, Nat.le_of_ble_eq_true rfl⟩)) (fun rr hrr => ?_)
        subst hrr
        refine lv_if_eq (tgt := 43) hx hb dX1_pour_32 (by decide) (fun c_32 => ?_) (fun c_32 => ?_)
        · refine lv_iconst (v := -1) hx hb dX1_pour_43 (by decide) ?_
          subst hQ
          exact W.iret (v := (-1)) hx hb hrt (fun t ht hW => ⟨⟨_, (ad, X, Y, N, I, G, J), rfl, (by dsimp only; rw [if_neg (by simp [pourB, hq2, hq8, c_25, c_32, tn_nI (show j < 2 ^ 31 by omega), tn_nI (show k < 2 ^ 31 by omega)])]; exact ⟨rfl, rfl⟩), by rw [ht]; exact hH, GK.warm hW hG⟩, hS.F ht⟩) hS.2.2 dX1_pour_44
        · refine lv_aload hx hb dX1_pour_35 (lv_at hl 0 rfl) ?_
          refine vp_callSi (va_Run.call (va_runU (As := []) (rest := []) ⟨hx, hb, hml, hown, hts⟩ (c_X3_all_C lh A D dA K ad X Y N I G J k (show k < (N 3) from by first | omega | assumption)) (va_cwU 0 hts (lw_U q440 q441 q443 q444 q72 q445) rfl rfl rfl rfl (by decide +kernel) ⟨Nat.le_of_ble_eq_true rfl, Nat.le_of_ble_eq_true rfl⟩) ⟨PX.blind (Mv.and Mv.heap Mv.gk), (O_recv hG (hH.cr (show k < N 3 from by omega)) rfl), PX.pre (Mv.and Mv.heap Mv.gk) ⟨hH, hG⟩⟩ rfl rfl hl.1 rfl (lv_room (Nat.le_of_ble_eq_true rfl)) dX1_pour_37 ⟨Nat.le_of_ble_eq_true rfl, Nat.le_of_ble_eq_true rfl⟩)) (fun rr hrr => ?_)
          subst hrr
          refine lv_if_ne (tgt := 45) hx hb dX1_pour_40 (by decide) (fun c_40 => ?_) (fun c_40 => ?_)
          · have hw := h2.gr (show j < 10 by omega)
            have hv := h2.gr (show k < 10 by omega)
            have hw0 := nI_n0 c_32
            refine lv_aload_n hx hb dX1_pour_45 rfl (lv_at hl 1 rfl) ?_
            refine vp_callSi (va_Run.call (va_runU (As := []) (rest := []) ⟨hx, hb, hml, hown, hts⟩ (c_X3_all_C lh A D dA K ad X Y N I G J j (show j < (N 3) from by first | omega | assumption)) (va_cwU 0 hts (lw_U q440 q441 q443 q444 q72 q445) rfl rfl rfl rfl (by decide +kernel) ⟨Nat.le_of_ble_eq_true rfl, Nat.le_of_ble_eq_true rfl⟩) ⟨PX.blind (Mv.and Mv.heap Mv.gk), (O_recv hG (hH.cr (show j < N 3 from by omega)) rfl), PX.pre (Mv.and Mv.heap Mv.gk) ⟨hH, hG⟩⟩ rfl rfl hl.1 rfl (lv_room (Nat.le_of_ble_eq_true rfl)) dX1_pour_46 ⟨Nat.le_of_ble_eq_true rfl, Nat.le_of_ble_eq_true rfl⟩)) (fun rr hrr => ?_)
            subst hrr
            refine lv_istore (lv' := [(5, .int (nI (gr G j))), (4, .ref (ad 6 k)), (3, .ref (ad 6 j)), (0, .ref (ad 0 0)), (1, .int (nI j)), (2, .int (nI k))]) hx hb dX1_pour_49 hl (by decide) rfl (fun ls hl => ?_)
            refine lv_aload hx hb dX1_pour_51 (lv_at hl 1 rfl) ?_
            refine vp_callSi (va_Run.call (va_runU (As := []) (rest := []) ⟨hx, hb, hml, hown, hts⟩ (c_X3_all_C lh A D dA K ad X Y N I G J k (show k < (N 3) from by first | omega | assumption)) (va_cwU 0 hts (lw_U q440 q441 q443 q444 q72 q445) rfl rfl rfl rfl (by decide +kernel) ⟨Nat.le_of_ble_eq_true rfl, Nat.le_of_ble_eq_true rfl⟩) ⟨PX.blind (Mv.and Mv.heap Mv.gk), (O_recv hG (hH.cr (show k < N 3 from by omega)) rfl), PX.pre (Mv.and Mv.heap Mv.gk) ⟨hH, hG⟩⟩ rfl rfl hl.1 rfl (lv_room (Nat.le_of_ble_eq_true rfl)) dX1_pour_53 ⟨Nat.le_of_ble_eq_true rfl, Nat.le_of_ble_eq_true rfl⟩)) (fun rr hrr => ?_)
            subst hrr
            refine lv_istore (lv' := [(6, .int (nI (gr G k))), (5, .int (nI (gr G j))), (4, .ref (ad 6 k)), (3, .ref (ad 6 j)), (0, .ref (ad 0 0)), (1, .int (nI j)), (2, .int (nI k))]) hx hb dX1_pour_56 hl (by decide) rfl (fun ls hl => ?_)
            refine lv_aload_n hx hb dX1_pour_58 rfl (lv_at hl 4 rfl) ?_
            refine ko_get (C := RX1) (T := TX1) (N := 28) (ci := 1) (v := .ref (ad 4 1)) hx hb hts in_X1 hown hG.1 hH.o0 rfl 4 (by decide) q189 (fun _ h => h) (rfl) dX1_pour_59 ?_
            refine vp_callSi (va_Run.call (va_runV (As := []) (rest := []) ⟨hx, hb, hml, hown, hts⟩ (c_J2_size lh D dA (ad 4 1) (Y 3 1 0) (elH K ad X 1) (N 19)) (w_J2_size hts q284 rfl rfl ⟨Nat.le_of_ble_eq_true rfl, Nat.le_of_ble_eq_true rfl⟩) ⟨PX.blind (Mv.and Mv.heap Mv.gk), (O_recv hG (hH.li 1 (by decide)) rfl), PX.pre (Mv.and Mv.heap Mv.gk) ⟨(hH.li 1 (by decide)), hG⟩⟩ rfl rfl hl.1 rfl (lv_room (Nat.le_of_ble_eq_true rfl)) dX1_pour_62 ⟨Nat.le_of_ble_eq_true rfl, Nat.le_of_ble_eq_true rfl⟩)) (fun rr hrr => ?_)
            subst hrr
            refine lv_istore (lv' := [(7, .int (nI (N 19))), (6, .int (nI (gr G k))), (5, .int (nI (gr G j))), (4, .ref (ad 6 k)), (3, .ref (ad 6 j)), (0, .ref (ad 0 0)), (1, .int (nI j)), (2, .int (nI k))]) hx hb dX1_pour_65 hl (by decide) rfl (fun ls hl => ?_)
            refine lv_aload_n hx hb dX1_pour_67 rfl (lv_at hl 5 rfl) ?_
            refine lv_aload_n hx hb dX1_pour_68 rfl (lv_at hl 4 rfl) ?_
            refine lv_aload_n hx hb dX1_pour_69 rfl (lv_at hl 5 rfl) ?_
            refine ko_get (C := RX1) (T := TX1) (N := 28) (ci := 1) (v := .int (nI (N 14))) hx hb hts in_X1 hown hG.1 hH.o0 rfl 9 (by decide) q194 (fun _ h => h) (rfl) dX1_pour_70 ?_
            refine lv_iload hx hb dX1_pour_73 (lv_at hl 0 rfl) ?_
            refine lv_iconst (v := nI 0) hx hb dX1_pour_75 (by decide) ?_
            refine vp_callSi (va_Run.call (va_runV (As := [.ref (ad 6 j), .int (nI (N 14)), .int (nI (N 19)), .int (nI 0)]) (rest := []) ⟨hx, hb, hml, hown, hts⟩ (c_X1_sour lh A D dA K ad X Y N I G J j (N 14) (N 19) false (hB) (by omega) (by omega) (by omega) (by omega) (hn19) (h3) (h4) (lv_t hlj) (h5)) (w_X1_sour hts q491 rfl rfl ⟨Nat.le_of_ble_eq_true rfl, Nat.le_of_ble_eq_true rfl⟩) ⟨PX.blind (Mv.and Mv.heap Mv.gk), (O_recv hG hH.o0 rfl), PX.pre (Mv.and Mv.heap Mv.gk) ⟨hH, hG⟩⟩ rfl rfl hl.1 rfl (lv_room (Nat.le_of_ble_eq_true rfl)) dX1_pour_76 ⟨Nat.le_of_ble_eq_true rfl, Nat.le_of_ble_eq_true rfl⟩)) (fun rr hrr => ?_)
            subst hrr
            refine lv_i2l (v := (spanS G J j (N 14) (N 19) false).toInt64) hx hb dX1_pour_79 rfl ?_
            refine lv_iload hx hb dX1_pour_80 (lv_at hl 2 rfl) ?_
            refine lv_aload_n hx hb dX1_pour_82 rfl (lv_at hl 5 rfl) ?_
            refine lv_aload hx hb dX1_pour_83 (lv_at hl 3 rfl) ?_
            refine lv_aload_n hx hb dX1_pour_85 rfl (lv_at hl 5 rfl) ?_
            refine ko_get (C := RX1) (T := TX1) (N := 28) (ci := 1) (v := .int (nI (N 14))) hx hb hts in_X1 hown hG.1 hH.o0 rfl 9 (by decide) q194 (fun _ h => h) (rfl) dX1_pour_86 ?_
            refine lv_iload hx hb dX1_pour_89 (lv_at hl 0 rfl) ?_
            refine lv_iconst (v := nI 0) hx hb dX1_pour_91 (by decide) ?_
            refine vp_callSi (va_Run.call (va_runV (As := [.ref (ad 6 k), .int (nI (N 14)), .int (nI (N 19)), .int (nI 0)]) (rest := [.int (nI (gr G j)), .long ((spanS G J j (N 14) (N 19) false).toInt64)]) ⟨hx, hb, hml, hown, hts⟩ (c_X1_sour lh A D dA K ad X Y N I G J k (N 14) (N 19) false (hB) (by omega) (by omega) (by omega) (by omega) (hn19) (h3) (h4) (lv_t hlk) (h5)) (w_X1_sour hts q491 rfl rfl ⟨Nat.le_of_ble_eq_true rfl, Nat.le_of_ble_eq_true rfl⟩) ⟨PX.blind (Mv.and Mv.heap Mv.gk), (O_recv hG hH.o0 rfl), PX.pre (Mv.and Mv.heap Mv.gk) ⟨hH, hG⟩⟩ rfl rfl hl.1 rfl (lv_room (Nat.le_of_ble_eq_true rfl)) dX1_pour_92 ⟨Nat.le_of_ble_eq_true rfl, Nat.le_of_ble_eq_true rfl⟩)) (fun rr hrr => ?_)
            subst hrr
            refine lv_i2l (v := (spanS G J k (N 14) (N 19) false).toInt64) hx hb dX1_pour_95 rfl ?_
            refine lv_iload hx hb dX1_pour_96 (lv_at hl 1 rfl) ?_
            refine lv_iconst (v := nI 0) hx hb dX1_pour_98 (by decide) ?_
            refine vp_callSi (W.runS (As := [.long ((spanS G J j (N 14) (N 19) false).toInt64), .int (nI (gr G j)), .long ((spanS G J k (N 14) (N 19) false).toInt64), .int (nI (gr G k)), .int (nI 0)]) (rest := []) ⟨hx, hb, hml, hown, hts⟩ (c_X1_mixed lh ((spanS G J j (N 14) (N 19) false).toInt64) (gr G j) ((spanS G J k (N 14) (N 19) false).toInt64) (gr G k) false (show (gr G j) < 2 ^ 31 from by first | omega | assumption | exact hB_up (by assumption) (by omega)) (show (gr G k) < 2 ^ 31 from by first | omega | assumption | exact hB_up (by assumption) (by omega)) (show 0 < (gr G j) + (gr G k) from by first | omega | assumption | exact hB_up (by assumption) (by omega))) (w_X1_mixed hts q1144 rfl rfl ⟨Nat.le_of_ble_eq_true rfl, Nat.le_of_ble_eq_true rfl⟩) ⟨P0.blind, P0.pre⟩ rfl rfl hl.1 rfl (lv_room (Nat.le_of_ble_eq_true rfl)) dX1_pour_99 ⟨Nat.le_of_ble_eq_true rfl, Nat.le_of_ble_eq_true rfl⟩) (fun rr hrr => ?_)
            subst hrr
            refine kx_int (y := mixD (nI (gr G j)).toInt64 (nI (gr G k)).toInt64 (spanS G J j (N 14) (N 19) false).toInt64 (spanS G J k (N 14) (N 19) false).toInt64) rfl ?_
            refine lv_istore (lv' := [(8, .int (mixD (nI (gr G j)).toInt64 (nI (gr G k)).toInt64 (spanS G J j (N 14) (N 19) false).toInt64 (spanS G J k (N 14) (N 19) false).toInt64)), (7, .int (nI (N 19))), (6, .int (nI (gr G k))), (5, .int (nI (gr G j))), (4, .ref (ad 6 k)), (3, .ref (ad 6 j)), (0, .ref (ad 0 0)), (1, .int (nI j)), (2, .int (nI k))]) hx hb dX1_pour_102 hl (by decide) rfl (fun ls hl => ?_)
            refine lv_aload_n hx hb dX1_pour_104 rfl (lv_at hl 6 rfl) ?_
            refine lv_aload_n hx hb dX1_pour_105 rfl (lv_at hl 5 rfl) ?_
            refine lv_aload_n hx hb dX1_pour_106 rfl (lv_at hl 6 rfl) ?_
            refine ko_get (C := RX1) (T := TX1) (N := 28) (ci := 1) (v := .int (nI (N 14))) hx hb hts in_X1 hown hG.1 hH.o0 rfl 9 (by decide) q194 (fun _ h => h) (rfl) dX1_pour_107 ?_
            refine lv_iload hx hb dX1_pour_110 (lv_at hl 1 rfl) ?_
            refine lv_iconst (v := nI 1) hx hb dX1_pour_112 (by decide) ?_
            refine vp_callSi (va_Run.call (va_runV (As := [.ref (ad 6 j), .int (nI (N 14)), .int (nI (N 19)), .int (nI 1)]) (rest := []) ⟨hx, hb, hml, hown, hts⟩ (c_X1_sour lh A D dA K ad X Y N I G J j (N 14) (N 19) true (hB) (by omega) (by omega) (by omega) (by omega) (hn19) (h3) (h4) (lv_t hlj) (h5)) (w_X1_sour hts q491 rfl rfl ⟨Nat.le_of_ble_eq_true rfl, Nat.le_of_ble_eq_true rfl⟩) ⟨PX.blind (Mv.and Mv.heap Mv.gk), (O_recv hG hH.o0 rfl), PX.pre (Mv.and Mv.heap Mv.gk) ⟨hH, hG⟩⟩ rfl rfl hl.1 rfl (lv_room (Nat.le_of_ble_eq_true rfl)) dX1_pour_113 ⟨Nat.le_of_ble_eq_true rfl, Nat.le_of_ble_eq_true rfl⟩)) (fun rr hrr => ?_)
            subst hrr
            refine lv_i2l (v := (spanS G J j (N 14) (N 19) true).toInt64) hx hb dX1_pour_116 rfl ?_
            refine lv_iload hx hb dX1_pour_117 (lv_at hl 3 rfl) ?_
            refine lv_aload_n hx hb dX1_pour_119 rfl (lv_at hl 6 rfl) ?_
            refine lv_aload hx hb dX1_pour_120 (lv_at hl 4 rfl) ?_
            refine lv_aload_n hx hb dX1_pour_122 rfl (lv_at hl 6 rfl) ?_
            refine ko_get (C := RX1) (T := TX1) (N := 28) (ci := 1) (v := .int (nI (N 14))) hx hb hts in_X1 hown hG.1 hH.o0 rfl 9 (by decide) q194 (fun _ h => h) (rfl) dX1_pour_123 ?_
            refine lv_iload hx hb dX1_pour_126 (lv_at hl 1 rfl) ?_
            refine lv_iconst (v := nI 1) hx hb dX1_pour_128 (by decide) ?_
            refine vp_callSi (va_Run.call (va_runV (As := [.ref (ad 6 k), .int (nI (N 14)), .int (nI (N 19)), .int (nI 1)]) (rest := [.int (nI (gr G j)), .long ((spanS G J j (N 14) (N 19) true).toInt64)]) ⟨hx, hb, hml, hown, hts⟩ (c_X1_sour lh A D dA K ad X Y N I G J k (N 14) (N 19) true (hB) (by omega) (by omega) (by omega) (by omega) (hn19) (h3) (h4) (lv_t hlk) (h5)) (w_X1_sour hts q491 rfl rfl ⟨Nat.le_of_ble_eq_true rfl, Nat.le_of_ble_eq_true rfl⟩) ⟨PX.blind (Mv.and Mv.heap Mv.gk), (O_recv hG hH.o0 rfl), PX.pre (Mv.and Mv.heap Mv.gk) ⟨hH, hG⟩⟩ rfl rfl hl.1 rfl (lv_room (Nat.le_of_ble_eq_true rfl)) dX1_pour_129 ⟨Nat.le_of_ble_eq_true rfl, Nat.le_of_ble_eq_true rfl⟩)) (fun rr hrr => ?_)
            subst hrr
            refine lv_i2l (v := (spanS G J k (N 14) (N 19) true).toInt64) hx hb dX1_pour_132 rfl ?_
            refine lv_iload hx hb dX1_pour_133 (lv_at hl 2 rfl) ?_
            refine lv_iconst (v := nI 1) hx hb dX1_pour_135 (by decide) ?_
            refine vp_callSi (W.runS (As := [.long ((spanS G J j (N 14) (N 19) true).toInt64), .int (nI (gr G j)), .long ((spanS G J k (N 14) (N 19) true).toInt64), .int (nI (gr G k)), .int (nI 1)]) (rest := []) ⟨hx, hb, hml, hown, hts⟩ (c_X1_mixed lh ((spanS G J j (N 14) (N 19) true).toInt64) (gr G j) ((spanS G J k (N 14) (N 19) true).toInt64) (gr G k) true (show (gr G j) < 2 ^ 31 from by first | omega | assumption | exact hB_up (by assumption) (by omega)) (show (gr G k) < 2 ^ 31 from by first | omega | assumption | exact hB_up (by assumption) (by omega)) (show 0 < (gr G j) + (gr G k) from by first | omega | assumption | exact hB_up (by assumption) (by omega))) (w_X1_mixed hts q1144 rfl rfl ⟨Nat.le_of_ble_eq_true rfl, Nat.le_of_ble_eq_true rfl⟩) ⟨P0.blind, P0.pre⟩ rfl rfl hl.1 rfl (lv_room (Nat.le_of_ble_eq_true rfl)) dX1_pour_136 ⟨Nat.le_of_ble_eq_true rfl, Nat.le_of_ble_eq_true rfl⟩) (fun rr hrr => ?_)
            subst hrr
            refine kx_int (y := mixU (nI (gr G j)).toInt64 (nI (gr G k)).toInt64 (spanS G J j (N 14) (N 19) true).toInt64 (spanS G J k (N 14) (N 19) true).toInt64) rfl ?_
            refine lv_istore (lv' := [(9, .int (mixU (nI (gr G j)).toInt64 (nI (gr G k)).toInt64 (spanS G J j (N 14) (N 19) true).toInt64 (spanS G J k (N 14) (N 19) true).toInt64)), (8, .int (mixD (nI (gr G j)).toInt64 (nI (gr G k)).toInt64 (spanS G J j (N 14) (N 19) false).toInt64 (spanS G J k (N 14) (N 19) false).toInt64)), (7, .int (nI (N 19))), (6, .int (nI (gr G k))), (5, .int (nI (gr G j))), (4, .ref (ad 6 k)), (3, .ref (ad 6 j)), (0, .ref (ad 0 0)), (1, .int (nI j)), (2, .int (nI k))]) hx hb dX1_pour_139 hl (by decide) rfl (fun ls hl => ?_)
            refine lv_aload hx hb dX1_pour_141 (lv_at hl 5 rfl) ?_
            refine lv_aload_n hx hb dX1_pour_143 rfl (lv_at hl 6 rfl) ?_
            refine ko_getN (C := RX4) (T := TX4) (N := 11) (ci := 2) (v := .int (nI (G 7 j))) hx hb hts in_X4 hown hG.1 (hH.cr (show j < N 3 from by omega)) rfl 4 (by decide) (hG.2.1 _ q325 rfl) (fun _ h => h) (rfl) dX1_pour_144 ?_
            refine lv_i2l (v := (nI (G 7 j)).toInt64) hx hb dX1_pour_147 rfl ?_
            refine lv_iload hx hb dX1_pour_148 (lv_at hl 4 rfl) ?_
            refine lv_aload hx hb dX1_pour_150 (lv_at hl 5 rfl) ?_
            refine ko_getN (C := RX4) (T := TX4) (N := 11) (ci := 2) (v := .int (nI (G 7 k))) hx hb hts in_X4 hown hG.1 (hH.cr (show k < N 3 from by omega)) rfl 4 (by decide) (hG.2.1 _ q325 rfl) (fun _ h => h) (rfl) dX1_pour_152 ?_
            refine lv_i2l (v := (nI (G 7 k)).toInt64) hx hb dX1_pour_155 rfl ?_
            refine lv_iload hx hb dX1_pour_156 (lv_at hl 3 rfl) ?_
            refine lv_iconst (v := nI 0) hx hb dX1_pour_158 (by decide) ?_
            refine vp_callSi (W.runS (As := [.long ((nI (G 7 j)).toInt64), .int (nI (gr G j)), .long ((nI (G 7 k)).toInt64), .int (nI (gr G k)), .int (nI 0)]) (rest := [.ref (ad 6 k)]) ⟨hx, hb, hml, hown, hts⟩ (c_X1_mixed lh ((nI (G 7 j)).toInt64) (gr G j) ((nI (G 7 k)).toInt64) (gr G k) false (show (gr G j) < 2 ^ 31 from by first | omega | assumption | exact hB_up (by assumption) (by omega)) (show (gr G k) < 2 ^ 31 from by first | omega | assumption | exact hB_up (by assumption) (by omega)) (show 0 < (gr G j) + (gr G k) from by first | omega | assumption | exact hB_up (by assumption) (by omega))) (w_X1_mixed hts q1144 rfl rfl ⟨Nat.le_of_ble_eq_true rfl, Nat.le_of_ble_eq_true rfl⟩) ⟨P0.blind, P0.pre⟩ rfl rfl hl.1 rfl (lv_room (Nat.le_of_ble_eq_true rfl)) dX1_pour_159 ⟨Nat.le_of_ble_eq_true rfl, Nat.le_of_ble_eq_true rfl⟩) (fun rr hrr => ?_)
            subst hrr
            refine kx_int (y := nI ((gr G j * G 7 j + gr G k * G 7 k) / (gr G j + gr G k))) (mixN (w := gr G j) (v := gr G k) (x := G 7 j) (y := G 7 k) (by omega) (by omega) (hB _ _) (hB _ _) (by omega)) ?_
            refine ko_putN (C := RX4) (T := TX4) (N := 11) (ci := 2) hx hb hts in_X4 tyX4 tyX4_ok nmX4 hown hG.1 hS (hH.2.2 6 k (show k < N 3 from by omega)) (hH.cr (show k < N 3 from by omega)) rfl 4 (by decide) (hG.2.1 _ q325 rfl) (fun _ h => h) rfl rfl rfl (Nat.le_of_ble_eq_true rfl) dX1_pour_162 (fun H locs e1 z1 o1 hS => ?_)
            have hH := hH.c4 (v := (gr G j * G 7 j + gr G k * G 7 k) / (gr G j + gr G k)) (show k < N 3 from by omega) e1 o1
            clear e1 z1 o1
            refine lv_aload hx hb dX1_pour_165 (lv_at hl 5 rfl) ?_
            refine lv_iload hx hb dX1_pour_167 (lv_at hl 1 rfl) ?_
            refine ko_putN (C := RX4) (T := TX4) (N := 11) (ci := 2) hx hb hts in_X4 tyX4 tyX4_ok nmX4 hown hG.1 hS (hH.2.2 6 k (show k < N 3 from by omega)) (hH.cr (show k < N 3 from by omega)) rfl 7 (by decide) (hG.2.1 _ q330 rfl) (fun _ h => h) rfl rfl rfl (Nat.le_of_ble_eq_true rfl) dX1_pour_169 (fun H locs e1 z1 o1 hS => ?_)
            have hH := hH.c7 (v := mixD (nI (gr G j)).toInt64 (nI (gr G k)).toInt64 (spanS G J j (N 14) (N 19) false).toInt64 (spanS G J k (N 14) (N 19) false).toInt64) (show k < N 3 from by omega) e1 o1
            clear e1 z1 o1
            refine lv_aload hx hb dX1_pour_172 (lv_at hl 5 rfl) ?_
            refine lv_iload hx hb dX1_pour_174 (lv_at hl 0 rfl) ?_
            refine ko_putN (C := RX4) (T := TX4) (N := 11) (ci := 2) hx hb hts in_X4 tyX4 tyX4_ok nmX4 hown hG.1 hS (hH.2.2 6 k (show k < N 3 from by omega)) (hH.cr (show k < N 3 from by omega)) rfl 8 (by decide) (hG.2.1 _ q331 rfl) (fun _ h => h) rfl rfl rfl (Nat.le_of_ble_eq_true rfl) dX1_pour_176 (fun H locs e1 z1 o1 hS => ?_)
            have hH := hH.c8 (v := mixU (nI (gr G j)).toInt64 (nI (gr G k)).toInt64 (spanS G J j (N 14) (N 19) true).toInt64 (spanS G J k (N 14) (N 19) true).toInt64) (show k < N 3 from by omega) e1 o1
            clear e1 z1 o1
            refine lv_aload hx hb dX1_pour_179 (lv_at hl 5 rfl) ?_
            refine lv_aload_n hx hb dX1_pour_181 rfl (lv_at hl 7 rfl) ?_
            refine ko_get (C := RX1) (T := TX1) (N := 28) (ci := 1) (v := .int (nI (N 14))) hx hb hts in_X1 hown hG.1 hH.o0 rfl 9 (by decide) q194 (fun _ h => h) (rfl) dX1_pour_182 ?_
            refine ko_putN (C := RX4) (T := TX4) (N := 11) (ci := 2) hx hb hts in_X4 tyX4 tyX4_ok nmX4 hown hG.1 hS (hH.2.2 6 k (show k < N 3 from by omega)) (hH.cr (show k < N 3 from by omega)) rfl 6 (by decide) (hG.2.1 _ q329 rfl) (fun _ h => h) rfl rfl rfl (Nat.le_of_ble_eq_true rfl) dX1_pour_185 (fun H locs e1 z1 o1 hS => ?_)
            have hH := hH.c6 (v := N 14) (show k < N 3 from by omega) e1 o1
            clear e1 z1 o1
            refine lv_aload hx hb dX1_pour_188 (lv_at hl 5 rfl) ?_
            refine lv_aload_n hx hb dX1_pour_190 rfl (lv_at hl 6 rfl) ?_
            refine ko_getN (C := RX4) (T := TX4) (N := 11) (ci := 2) (v := .int (nI (G 8 j))) hx hb hts in_X4 hown hG.1 (hH.cr (show j < N 3 from by omega)) rfl 5 (by decide) (hG.2.1 _ q327 rfl) (fun _ h => h) (rfl) dX1_pour_191 ?_
            refine lv_aload hx hb dX1_pour_194 (lv_at hl 5 rfl) ?_
            refine ko_getN (C := RX4) (T := TX4) (N := 11) (ci := 2) (v := .int (nI (G 8 k))) hx hb hts in_X4 hown hG.1 (hH.cr (show k < N 3 from by omega)) rfl 5 (by decide) (hG.2.1 _ q327 rfl) (fun _ h => h) (rfl) dX1_pour_196 ?_
            refine va_mmax hx hb (hml.trans hl.1.symm) hown (hts _ q1147) (hts _ q385) (hts _ q75) (hts _ q386) (Nat.le_of_ble_eq_true rfl) (Nat.le_of_ble_eq_true rfl) (Nat.le_of_ble_eq_true rfl) (Nat.le_of_ble_eq_true rfl) dX1_pour_199 ?_
            refine kx_int (y := nI (if G 8 k < G 8 j then G 8 j else G 8 k)) (max_n (hB _ _) (hB _ _)) ?_
            refine ko_putN (C := RX4) (T := TX4) (N := 11) (ci := 2) hx hb hts in_X4 tyX4 tyX4_ok nmX4 hown hG.1 hS (hH.2.2 6 k (show k < N 3 from by omega)) (hH.cr (show k < N 3 from by omega)) rfl 5 (by decide) (hG.2.1 _ q327 rfl) (fun _ h => h) rfl rfl rfl (Nat.le_of_ble_eq_true rfl) dX1_pour_202 (fun H locs e1 z1 o1 hS => ?_)
            have hH := hH.c5 (v := (if G 8 k < G 8 j then G 8 j else G 8 k)) (show k < N 3 from by omega) e1 o1
            clear e1 z1 o1
            refine lv_aload hx hb dX1_pour_205 (lv_at hl 5 rfl) ?_
            refine lv_aload_n hx hb dX1_pour_207 rfl (lv_at hl 6 rfl) ?_
            refine va_callv (va_runV (As := [.ref (ad 6 j)]) (rest := []) ⟨hx, hb, hml, hown, hts⟩ (c_X4_takesAll lh A D dA K ad X Y N I (up2 (up2 (up2 G 7 k ((gr G j * G 7 j + gr G k * G 7 k) / (gr G j + gr G k))) 9 k (N 14)) 8 k (if G 8 k < G 8 j then G 8 j else G 8 k)) (up2 (up2 J 10 k (mixD (nI (gr G j)).toInt64 (nI (gr G k)).toInt64 (spanS G J j (N 14) (N 19) false).toInt64 (spanS G J k (N 14) (N 19) false).toInt64)) 11 k (mixU (nI (gr G j)).toInt64 (nI (gr G k)).toInt64 (spanS G J j (N 14) (N 19) true).toInt64 (spanS G J k (N 14) (N 19) true).toInt64)) H.size k j (by omega) (by omega) (hjk) (fun q h => hA q (Nat.le_trans hS.1 h))) (w_X4_takesAll hts q1148 rfl rfl ⟨Nat.le_of_ble_eq_true rfl, Nat.le_of_ble_eq_true rfl⟩) ⟨PX.blind (Mv.and Mv.heap (Mv.and Mv.heap Mv.gk)), (O_recv hG (hH.cr (show k < N 3 from by omega)) rfl), PX.pre (Mv.and Mv.heap (Mv.and Mv.heap Mv.gk)) ⟨rfl, hH, hG⟩⟩ rfl rfl hl.1 rfl (lv_room (Nat.le_of_ble_eq_true rfl)) dX1_pour_208 ⟨Nat.le_of_ble_eq_true rfl, Nat.le_of_ble_eq_true rfl⟩) hS (fun q _ h => h) (fun q h => h) (fun u t H1 locs ht hvm hp hB hz hk hS => ?_)
            obtain ⟨hH, -⟩ := hB
            rw [ht] at hH
            clear ht hz hk
            generalize H1 = H at hH hS ⊢
            subst hp
            dsimp only at hH
            refine lv_aload_n hx hb dX1_pour_211 rfl (lv_at hl 6 rfl) ?_
            refine lv_iconst (v := nI 4) hx hb dX1_pour_212 (by decide) ?_
            refine va_callv (va_runV (As := [.int (nI 4)]) (rest := []) ⟨hx, hb, hml, hown, hts⟩ (c_X4_goes lh A D dA K ad X Y N I (up2 (pourT (up2 (up2 (up2 G 7 k ((gr G j * G 7 j + gr G k * G 7 k) / (gr G j + gr G k))) 9 k (N 14)) 8 k (if G 8 k < G 8 j then G 8 j else G 8 k)) j k 20) 6 k 0) (up2 (up2 J 10 k (mixD (nI (gr G j)).toInt64 (nI (gr G k)).toInt64 (spanS G J j (N 14) (N 19) false).toInt64 (spanS G J k (N 14) (N 19) false).toInt64)) 11 k (mixU (nI (gr G j)).toInt64 (nI (gr G k)).toInt64 (spanS G J j (N 14) (N 19) true).toInt64 (spanS G J k (N 14) (N 19) true).toInt64)) H.size j 4 (by omega) (fun q h => hA q (Nat.le_trans hS.1 h))) (w_X4_goes hts q551 rfl rfl ⟨Nat.le_of_ble_eq_true rfl, Nat.le_of_ble_eq_true rfl⟩) ⟨PX.blind (Mv.and Mv.heap (Mv.and Mv.heap Mv.gk)), (O_recv hG (hH.cr (show j < N 3 from by omega)) rfl), PX.pre (Mv.and Mv.heap (Mv.and Mv.heap Mv.gk)) ⟨rfl, hH, hG⟩⟩ rfl rfl hl.1 rfl (lv_room (Nat.le_of_ble_eq_true rfl)) dX1_pour_213 ⟨Nat.le_of_ble_eq_true rfl, Nat.le_of_ble_eq_true rfl⟩) hS (fun q _ h => h) (fun q h => h) (fun u t H1 locs ht hvm hp hB hz hk hS => ?_)
            obtain ⟨hH, -⟩ := hB
            rw [ht] at hH
            clear ht hz hk
            generalize H1 = H at hH hS ⊢
            subst hp
            dsimp only at hH
            refine lv_aload hx hb dX1_pour_216 (lv_at hl 5 rfl) ?_
            refine vp_callSi (va_Run.call (va_runU (As := []) (rest := []) ⟨hx, hb, hml, hown, hts⟩ (c_X3_all_C lh A D dA K ad X (up3 Y 0 j 0 (-1)) N I (up2 (up2 (pourT (up2 (up2 (up2 G 7 k ((gr G j * G 7 j + gr G k * G 7 k) / (gr G j + gr G k))) 9 k (N 14)) 8 k (if G 8 k < G 8 j then G 8 j else G 8 k)) j k 20) 6 k 0) 6 j 4) (up2 (up2 J 10 k (mixD (nI (gr G j)).toInt64 (nI (gr G k)).toInt64 (spanS G J j (N 14) (N 19) false).toInt64 (spanS G J k (N 14) (N 19) false).toInt64)) 11 k (mixU (nI (gr G j)).toInt64 (nI (gr G k)).toInt64 (spanS G J j (N 14) (N 19) true).toInt64 (spanS G J k (N 14) (N 19) true).toInt64)) k (show k < (N 3) from by first | omega | assumption)) (va_cwU 0 hts (lw_U q440 q441 q443 q444 q72 q445) rfl rfl rfl rfl (by decide +kernel) ⟨Nat.le_of_ble_eq_true rfl, Nat.le_of_ble_eq_true rfl⟩) ⟨PX.blind (Mv.and Mv.heap Mv.gk), (O_recv hG (hH.cr (show k < N 3 from by omega)) rfl), PX.pre (Mv.and Mv.heap Mv.gk) ⟨hH, hG⟩⟩ rfl rfl hl.1 rfl (lv_room (Nat.le_of_ble_eq_true rfl)) dX1_pour_218 ⟨Nat.le_of_ble_eq_true rfl, Nat.le_of_ble_eq_true rfl⟩)) (fun rr hrr => ?_)
            subst hrr
            refine kx_int (y := nI (gr (up2 (up2 (pourT (up2 (up2 (up2 G 7 k ((gr G j * G 7 j + gr G k * G 7 k) / (gr G j + gr G k))) 9 k (N 14)) 8 k (if G 8 k < G 8 j then G 8 j else G 8 k)) j k 20) 6 k 0) 6 j 4) k)) rfl ?_
            subst hQ
            exact W.iret (v := nI (gr (up2 (up2 (pourT (up2 (up2 (up2 G 7 k ((gr G j * G 7 j + gr G k * G 7 k) / (gr G j + gr G k))) 9 k (N 14)) 8 k (if G 8 k < G 8 j then G 8 j else G 8 k)) j k 20) 6 k 0) 6 j 4) k)) hx hb hrt (fun t ht hW => ⟨⟨_, (ad, X, (up3 Y 0 j 0 (-1)), N, I, (up2 (up2 (pourT (up2 (up2 (up2 G 7 k ((gr G j * G 7 j + gr G k * G 7 k) / (gr G j + gr G k))) 9 k (N 14)) 8 k (if G 8 k < G 8 j then G 8 j else G 8 k)) j k 20) 6 k 0) 6 j 4), (up2 (up2 J 10 k (mixD (nI (gr G j)).toInt64 (nI (gr G k)).toInt64 (spanS G J j (N 14) (N 19) false).toInt64 (spanS G J k (N 14) (N 19) false).toInt64)) 11 k (mixU (nI (gr G j)).toInt64 (nI (gr G k)).toInt64 (spanS G J j (N 14) (N 19) true).toInt64 (spanS G J k (N 14) (N 19) true).toInt64))), rfl, (by dsimp only; rw [if_pos (by simp [pourB, hq2, hq8, c_25, c_32, c_40, tn_nI (show j < 2 ^ 31 by omega), tn_nI (show k < 2 ^ 31 by omega)]), tn_nI (show j < 2 ^ 31 by omega), tn_nI (show k < 2 ^ 31 by omega), ← pourG_eq]; exact ⟨rfl, rfl⟩), by rw [ht]; exact hH, GK.warm hW hG⟩, hS.F ht⟩) hS.2.2 dX1_pour_221
          · refine lv_iconst (v := -1) hx hb dX1_pour_43 (by decide) ?_
            subst hQ
            exact W.iret (v := (-1)) hx hb hrt (fun t ht hW => ⟨⟨_, (ad, X, Y, N, I, G, J), rfl, (by dsimp only; rw [if_neg (by simp [pourB, hq2, hq8, c_25, c_32, c_40, tn_nI (show j < 2 ^ 31 by omega), tn_nI (show k < 2 ^ 31 by omega)])]; exact ⟨rfl, rfl⟩), by rw [ht]; exact hH, GK.warm hW hG⟩, hS.F ht⟩) hS.2.2 dX1_pour_44
    · rw [if_neg hq8]
      show W p lh e r_X1_pour s m args below meth cd _ _ _ _ Q (F0 m _ ls (.null :: _))
      refine lv_astoreN (lv' := [(4, .null), (3, .ref (ad 6 j)), (0, .ref (ad 0 0)), (1, .int (nI j)), (2, .int b)]) hx hb dX1_pour_11 hl (by decide) rfl (fun ls hl => ?_)
      refine lv_aload_n hx hb dX1_pour_13 rfl (lv_at hl 1 rfl) ?_
      refine lv_ifnull hx hb dX1_pour_14 ?_
      refine lv_aloadN hx hb dX1_pour_17 (lv_at hl 0 rfl) ?_
      refine lv_ifnullN (tgt := 43) hx hb dX1_pour_19 (by decide) ?_
      refine lv_iconst (v := -1) hx hb dX1_pour_43 (by decide) ?_
      subst hQ
      exact W.iret (v := (-1)) hx hb hrt (fun t ht hW => ⟨⟨_, (ad, X, Y, N, I, G, J), rfl, (by dsimp only; rw [if_neg (by simp [pourB, hq2, hq8, tn_nI (show j < 2 ^ 31 by omega)])]; exact ⟨rfl, rfl⟩), by rw [ht]; exact hH, GK.warm hW hG⟩, hS.F ht⟩) hS.2.2 dX1_pour_44
  · rw [if_neg hq2]
    show W p lh e r_X1_pour s m args below meth cd _ _ _ _ Q (F0 m _ ls (.null :: _))
    refine lv_astore_nN (lv' := [(3, .null), (0, .ref (ad 0 0)), (1, .int a), (2, .int b)]) hx hb dX1_pour_5 rfl hl (by decide) rfl (fun ls hl => ?_)
    refine lv_aload_n hx hb dX1_pour_6 rfl (lv_at hl 1 rfl) ?_
    refine lv_iload_n hx hb dX1_pour_7 rfl (lv_at hl 3 rfl) ?_
    refine va_csq (va_Run.call (va_runV (As := [.int b]) (rest := []) ⟨hx, hb, hml, hown, hts⟩ (c_X1_there lh A D dA K ad X Y N I G J b (hB) (hn3) (h3)) (w_X1_there hts q436 rfl rfl ⟨Nat.le_of_ble_eq_true rfl, Nat.le_of_ble_eq_true rfl⟩) ⟨PX.blind (Mv.and Mv.heap Mv.gk), (O_recv hG hH.o0 rfl), PX.pre (Mv.and Mv.heap Mv.gk) ⟨hH, hG⟩⟩ rfl rfl hl.1 rfl (lv_room (Nat.le_of_ble_eq_true rfl)) dX1_pour_8 ⟨Nat.le_of_ble_eq_true rfl, Nat.le_of_ble_eq_true rfl⟩)) (fun rr hrr => ?_)
    subst hrr
    by_cases hq8 : lvI (N 3) G b = true
    · rw [if_pos hq8]
      show W p lh e r_X1_pour s m args below meth cd _ _ _ _ Q (F0 m _ ls (.ref (ad 6 (tn b)) :: _))
      obtain ⟨k, hk, rfl, hlk⟩ := lvI_nat (by omega) hq8
      rw [tn_nI (show k < 2 ^ 31 by omega)]
      refine lv_astore (lv' := [(4, .ref (ad 6 k)), (3, .null), (0, .ref (ad 0 0)), (1, .int a), (2, .int (nI k))]) hx hb dX1_pour_11 hl (by decide) rfl (fun ls hl => ?_)
      refine lv_aload_nN hx hb dX1_pour_13 rfl (lv_at hl 1 rfl) ?_
      refine lv_ifnullN (tgt := 43) hx hb dX1_pour_14 (by decide) ?_
      refine lv_iconst (v := -1) hx hb dX1_pour_43 (by decide) ?_
      subst hQ
      exact W.iret (v := (-1)) hx hb hrt (fun t ht hW => ⟨⟨_, (ad, X, Y, N, I, G, J), rfl, (by dsimp only; rw [if_neg (by simp [pourB, hq2, hq8, tn_nI (show k < 2 ^ 31 by omega)])]; exact ⟨rfl, rfl⟩), by rw [ht]; exact hH, GK.warm hW hG⟩, hS.F ht⟩) hS.2.2 dX1_pour_44
    · rw [if_neg hq8]
      show W p lh e r_X1_pour s m args below meth cd _ _ _ _ Q (F0 m _ ls (.null :: _))
      refine lv_astoreN (lv' := [(4, .null), (3, .null), (0, .ref (ad 0 0)), (1, .int a), (2, .int b)]) hx hb dX1_pour_11 hl (by decide) rfl (fun ls hl => ?_)
      refine lv_aload_nN hx hb dX1_pour_13 rfl (lv_at hl 1 rfl) ?_
      refine lv_ifnullN (tgt := 43) hx hb dX1_pour_14 (by decide) ?_
      refine lv_iconst (v := -1) hx hb dX1_pour_43 (by decide) ?_
      subst hQ
      exact W.iret (v := (-1)) hx hb hrt (fun t ht hW => ⟨⟨_, (ad, X, Y, N, I, G, J), rfl, (by dsimp only; rw [if_neg (by simp [pourB, hq2, hq8])]; exact ⟨rfl, rfl⟩), by rw [ht]; exact hH, GK.warm hW hG⟩, hS.F ht⟩) hS.2.2 dX1_pour_44
theorem w_X1_pour {R : Room} {s : State} {args : Array Value} {own : String} {idx : Nat} (hts : ∀ w ∈ lw_all, w.before args s = true) (h1 : Cond.methodLink own idx yX1_pour ∈ lw_all) {rm : Room} {mc ms : Nat} (hrc : rm.cells = mc) (hrs : rm.slots = ms) (hR : rm.frames + 1 ≤ R.frames ∧ 8 + (10 + 11) + rm.locals ≤ R.locals) : CallW R s args own RX1 idx yX1_pour cX1_pour 10 (some .int) (ws_ yX1_pour cX1_pour 10 (some .int)) rm mc ms 2 := cwV 2 hts (lw_V h1 q1141 q1142 q62 q1143) rfl hrc hrs (by decide +kernel) hR
