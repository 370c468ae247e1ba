set_option maxRecDepth 100000
abbrev r_X1_testsOf : Room := { frames := 3, cells := 0, slots := 0, locals := 64 }
set_option maxHeartbeats 1000000 in
theorem c_X1_testsOf (lh : Launch) (A : Nat → Prop) (D : va_G) (dA : Nat → ClassId) (K : Nat → Nat) (ad X : Nat → Nat → Nat) (Y : Nat → Nat → Nat → Int32) (N : Nat → Nat) (I : Nat → Int32) (G : Nat → Nat → Nat) (J : Nat → Nat → Int32) (c : Nat) (h1 : ∀ a b, G a b < 2 ^ 31) (h2 : c < N 3) (h3 : N 19 ≤ 100) (h4 : XOk N G X) (h5 : TsOk N G) : Met lh yX1_testsOf (ws_ yX1_testsOf cX1_testsOf 4 (some .int)) r_X1_testsOf (PX (fun U H => RH A D dA K ad X Y N I G J H ∧ GK D dA U) [.ref (ad 0 0), .ref (ad 6 c)]) (vp_Si (fun rv => rv = nI (toS G c (N 19)))) 0 0 (fun _ => False) := by
  refine Met.ofW (cc := cX1_testsOf) (maxL := 4) (ret := (some .int)) (by decide) rfl ?_
  intro p e s m args below meth cd s₁ B hml hv
  obtain ⟨hargs, hH, hG⟩ := hv
  have hx := B.exec
  have hb := B.bytes
  have hrt := B.returns
  have hts := atoms_spec (ws := (ws_ yX1_testsOf cX1_testsOf 4 (some .int))) B.pre
  have hts : ∀ w ∈ lw_all, w.before _ s = true := fun w h => hts w (List.mem_cons_of_mem _ h)
  have hown : s.vm.findClass RX1 = some m.cls := findClass_of_methodNamed B.named
  have hlocks := B.notSynchronized
  have hE : entryFrame m args 4 = F0 m 0 ((lg_sl ([.ref (ad 0 0), .ref (ad 6 c)]) ++ List.replicate (4 - (lg_sl ([.ref (ad 0 0), .ref (ad 6 c)])).length) Slot.unset).toArray) [] := by rw [hargs]; exact lg_entry_eq m _ 4
  have hl := lv_entry ([.ref (ad 0 0), .ref (ad 6 c)]) (n := 4) (Nat.le_of_ble_eq_true rfl)
  rw [hE]
  clear hE
  generalize (lg_sl ([.ref (ad 0 0), .ref (ad 6 c)]) ++ List.replicate (4 - (lg_sl ([.ref (ad 0 0), .ref (ad 6 c)])).length) Slot.unset).toArray = ls at hl ⊢
  have hl : lv_has ls 4 [(0, .ref (ad 0 0)), (1, .ref (ad 6 c))] := hl
  generalize hQ : MQ _ _ _ _ _ _ _ = Q
  have hX := h4
  refine lv_iconst (v := nI 0) hx hb dX1_testsOf_0 (by decide) ?_
  refine lv_istore_n (lv' := [(2, .int (nI 0)), (0, .ref (ad 0 0)), (1, .ref (ad 6 c))]) hx hb dX1_testsOf_1 rfl hl (by decide) rfl (fun ls hl => ?_)
  refine lv_iconst (v := nI 0) hx hb dX1_testsOf_2 (by decide) ?_
  refine lv_istore_n (lv' := [(3, .int (nI 0)), (2, .int (nI 0)), (0, .ref (ad 0 0)), (1, .ref (ad 6 c))]) hx hb dX1_testsOf_3 rfl hl (by decide) rfl (fun ls hl => ?_)
  have L4 : ∀ (nn4 : Nat) (k : Nat), (k ≤ N 19) → N 19 - k < nn4 → ∀ (ls : Array Slot), lv_has ls 4 [(0, .ref (ad 0 0)), (1, .ref (ad 6 c)), (2, .int (nI (toS G c k))), (3, .int (nI k))] → W p lh e r_X1_testsOf s m args below meth cd s.heap [] 0 0 Q (F0 m 4 ls []) := by
    intro nn4
    induction nn4 with
    | zero => intro k i4_0 hm4; exact absurd hm4 (Nat.not_lt_zero _)
    | succ nn4 ih4 =>
      intro k i4_0 hm4 ls hl
      refine lv_iload_n hx hb dX1_testsOf_4 rfl (lv_at hl 3 rfl) ?_
      refine lv_aload_n hx hb dX1_testsOf_5 rfl (lv_at hl 0 rfl) ?_
      refine ko_get (C := RX1) (T := TX1) (N := 28) (ci := 1) (v := .ref (ad 4 1)) hx hb hts in_X1 hown hG.1 hH.o0 rfl 4 (by decide) q189 (fun _ h => h) (rfl) dX1_testsOf_6 ?_
      refine vp_callSi (va_Run.call (va_runV (As := []) (rest := [.int (nI k)]) ⟨hx, hb, hml, hown, hts⟩ (c_J2_size lh D dA (ad 4 1) (Y 3 1 0) (elH K ad X 1) (N 19)) (w_J2_size hts q284 rfl rfl ⟨Nat.le_of_ble_eq_true rfl, Nat.le_of_ble_eq_true rfl⟩) ⟨PX.blind (Mv.and Mv.heap Mv.gk), (O_recv hG (hH.li 1 (by decide)) rfl), PX.pre (Mv.and Mv.heap Mv.gk) ⟨(hH.li 1 (by decide)), hG⟩⟩ rfl rfl hl.1 rfl (lv_room (Nat.le_of_ble_eq_true rfl)) dX1_testsOf_9 ⟨Nat.le_of_ble_eq_true rfl, Nat.le_of_ble_eq_true rfl⟩)) (fun rr hrr => ?_)
      subst hrr
      refine kn_cge (tgt := 68) hx hb dX1_testsOf_12 (by decide) (by omega) (by omega) (fun c_12 => ?_) (fun c_12 => ?_)
      · refine lv_iload_n hx hb dX1_testsOf_68 rfl (lv_at hl 2 rfl) ?_
        subst hQ
        exact W.iret (v := nI (toS G c k)) hx hb hrt (fun t ht _ => ⟨_, rfl, (show nI (toS G c k) = nI (toS G c (N 19)) from by rw [show k = N 19 by omega]), ht⟩) t_nil dX1_testsOf_69
      · refine lv_iload_n hx hb dX1_testsOf_15 rfl (lv_at hl 2 rfl) ?_
        refine lv_aload_n hx hb dX1_testsOf_16 rfl (lv_at hl 0 rfl) ?_
        refine ko_get (C := RX1) (T := TX1) (N := 28) (ci := 1) (v := .ref (ad 4 1)) hx hb hts in_X1 hown hG.1 hH.o0 rfl 4 (by decide) q189 (fun _ h => h) (rfl) dX1_testsOf_17 ?_
        refine lv_iload_n hx hb dX1_testsOf_20 rfl (lv_at hl 3 rfl) ?_
        refine va_csq (va_Run.call (va_runV (As := [.int (nI k)]) (rest := [.int (nI (toS G c k))]) ⟨hx, hb, hml, hown, hts⟩ (c_J2_get lh D dA (ad 4 1) (Y 3 1 0) (ad 5 1) (N 19) (X 0 1) (ltH ad 9 (N 19) 0) (k) (ad 9 k) (show k < N 19 from by omega) ((hX.1 1 (by decide)).1) ((hX.1 1 (by decide)).2) (ltH_0 (show k < N 19 from by omega))) (w_J2_get hts q292 rfl rfl ⟨Nat.le_of_ble_eq_true rfl, Nat.le_of_ble_eq_true rfl⟩) ⟨PX.blind (Mv.and Mv.heap (Mv.and Mv.heap Mv.gk)), (O_recv hG (hH.lo 1 (by decide) (by have hx0 : N 19 ≤ X 0 1 := (hX.1 1 (by decide)).1; omega)) rfl), PX.pre (Mv.and Mv.heap (Mv.and Mv.heap Mv.gk)) ⟨(hH.lo 1 (by decide) (by have hx0 : N 19 ≤ X 0 1 := (hX.1 1 (by decide)).1; omega)), (hH.la 1 (by decide) (by have hx0 : N 19 ≤ X 0 1 := (hX.1 1 (by decide)).1; omega)), hG⟩⟩ rfl rfl hl.1 rfl (lv_room (Nat.le_of_ble_eq_true rfl)) dX1_testsOf_21 ⟨Nat.le_of_ble_eq_true rfl, Nat.le_of_ble_eq_true rfl⟩)) (fun rr hrr => ?_)
        subst hrr
        show W p lh e r_X1_testsOf s m args below meth cd _ _ _ _ Q (F0 m _ ls (.ref (ad 9 k) :: _))
        refine va_castE hx hb hown (hts _ q499) (O_recv hG (hH.te (show k < N 19 from by omega)) rfl) dX1_testsOf_24 ?_
        refine ko_getN (C := RX5) (T := TX5) (N := 3) (ci := 4) (v := .ref (ad 6 (G 20 k))) hx hb hts in_X5 hown hG.1 (hH.te (show k < N 19 from by omega)) rfl 0 (by decide) (hG.2.1 _ q575 rfl) (fun _ h => h) (rfl) dX1_testsOf_27 ?_
        refine lv_aload_n hx hb dX1_testsOf_30 rfl (lv_at hl 1 rfl) ?_
        refine lv_acmp_ne (rx := (some (ad 6 (G 20 k)))) (ry := (some (ad 6 c))) (tgt := 59) hx hb dX1_testsOf_31 (by decide) (fun c_31 => ?_) (fun c_31 => ?_)
        · have c_31 : ¬ G 20 k = c := fun q => c_31 (by rw [q])
          refine lv_iconst (v := nI 0) hx hb dX1_testsOf_59 (by decide) ?_
          refine kn_add hx hb dX1_testsOf_60 ?_
          refine lv_istore_n (lv' := [(2, .int (nI (toS G c k + 0))), (0, .ref (ad 0 0)), (1, .ref (ad 6 c)), (3, .int (nI k))]) hx hb dX1_testsOf_61 rfl hl (by decide) rfl (fun ls hl => ?_)
          refine lv_iinc (v := nI (k + 1)) (lv' := [(3, .int (nI (k + 1))), (2, .int (nI (toS G c k + 0))), (0, .ref (ad 0 0)), (1, .ref (ad 6 c))]) hx hb dX1_testsOf_62 hl (k := 3) rfl (show nI k + Int32.ofInt 1 = nI (k + 1) from nI_add _ 1) (by decide) rfl (fun ls hl => ?_)
          refine lv_goto (tgt := 4) hx hb dX1_testsOf_65 (by decide) ?_
          exact ih4 (k + 1) (by omega) (by omega) _ (lv_conv (show lv_has ls 4 [(0, .ref (ad 0 0)), (1, .ref (ad 6 c)), (2, .int (nI (toS G c k + 0))), (3, .int (nI (k + 1)))] from (lv_sub hl [2, 3, 1, 0] rfl)) (by simp [toS, c_31]))
        · have c_31 : G 20 k = c := hH.inj 6 (h5 k (by omega)) h2 (Option.some.inj c_31)
          refine lv_aload_n hx hb dX1_testsOf_34 rfl (lv_at hl 0 rfl) ?_
          refine ko_get (C := RX1) (T := TX1) (N := 28) (ci := 1) (v := .ref (ad 4 1)) hx hb hts in_X1 hown hG.1 hH.o0 rfl 4 (by decide) q189 (fun _ h => h) (rfl) dX1_testsOf_35 ?_
          refine lv_iload_n hx hb dX1_testsOf_38 rfl (lv_at hl 3 rfl) ?_
          refine va_csq (va_Run.call (va_runV (As := [.int (nI k)]) (rest := [.int (nI (toS G c k))]) ⟨hx, hb, hml, hown, hts⟩ (c_J2_get lh D dA (ad 4 1) (Y 3 1 0) (ad 5 1) (N 19) (X 0 1) (ltH ad 9 (N 19) 0) (k) (ad 9 k) (show k < N 19 from by omega) ((hX.1 1 (by decide)).1) ((hX.1 1 (by decide)).2) (ltH_0 (show k < N 19 from by omega))) (w_J2_get hts q292 rfl rfl ⟨Nat.le_of_ble_eq_true rfl, Nat.le_of_ble_eq_true rfl⟩) ⟨PX.blind (Mv.and Mv.heap (Mv.and Mv.heap Mv.gk)), (O_recv hG (hH.lo 1 (by decide) (by have hx0 : N 19 ≤ X 0 1 := (hX.1 1 (by decide)).1; omega)) rfl), PX.pre (Mv.and Mv.heap (Mv.and Mv.heap Mv.gk)) ⟨(hH.lo 1 (by decide) (by have hx0 : N 19 ≤ X 0 1 := (hX.1 1 (by decide)).1; omega)), (hH.la 1 (by decide) (by have hx0 : N 19 ≤ X 0 1 := (hX.1 1 (by decide)).1; omega)), hG⟩⟩ rfl rfl hl.1 rfl (lv_room (Nat.le_of_ble_eq_true rfl)) dX1_testsOf_39 ⟨Nat.le_of_ble_eq_true rfl, Nat.le_of_ble_eq_true rfl⟩)) (fun rr hrr => ?_)
          subst hrr
          show W p lh e r_X1_testsOf s m args below meth cd _ _ _ _ Q (F0 m _ ls (.ref (ad 9 k) :: _))
          refine va_castE hx hb hown (hts _ q499) (O_recv hG (hH.te (show k < N 19 from by omega)) rfl) dX1_testsOf_42 ?_
          refine ko_getN (C := RX5) (T := TX5) (N := 3) (ci := 4) (v := .int (nI (G 21 k))) hx hb hts in_X5 hown hG.1 (hH.te (show k < N 19 from by omega)) rfl 1 (by decide) (hG.2.1 _ q577 rfl) (fun _ h => h) (rfl) dX1_testsOf_45 ?_
          refine lv_aload_n hx hb dX1_testsOf_48 rfl (lv_at hl 1 rfl) ?_
          refine ko_getN (C := RX4) (T := TX4) (N := 11) (ci := 2) (v := .int (nI (G 9 c))) hx hb hts in_X4 hown hG.1 (hH.cr (show c < N 3 from by omega)) rfl 6 (by decide) (hG.2.1 _ q329 rfl) (fun _ h => h) (rfl) dX1_testsOf_49 ?_
          refine kn_clt (tgt := 59) hx hb dX1_testsOf_52 (by decide) (h1 _ _) (h1 _ _) (fun c_52 => ?_) (fun c_52 => ?_)
          · refine lv_iconst (v := nI 0) hx hb dX1_testsOf_59 (by decide) ?_
            refine kn_add hx hb dX1_testsOf_60 ?_
            refine lv_istore_n (lv' := [(2, .int (nI (toS G c k + 0))), (0, .ref (ad 0 0)), (1, .ref (ad 6 c)), (3, .int (nI k))]) hx hb dX1_testsOf_61 rfl hl (by decide) rfl (fun ls hl => ?_)
            refine lv_iinc (v := nI (k + 1)) (lv' := [(3, .int (nI (k + 1))), (2, .int (nI (toS G c k + 0))), (0, .ref (ad 0 0)), (1, .ref (ad 6 c))]) hx hb dX1_testsOf_62 hl (k := 3) rfl (show nI k + Int32.ofInt 1 = nI (k + 1) from nI_add _ 1) (by decide) rfl (fun ls hl => ?_)
            refine lv_goto (tgt := 4) hx hb dX1_testsOf_65 (by decide) ?_
            exact ih4 (k + 1) (by omega) (by omega) _ (lv_conv (show lv_has ls 4 [(0, .ref (ad 0 0)), (1, .ref (ad 6 c)), (2, .int (nI (toS G c k + 0))), (3, .int (nI (k + 1)))] from (lv_sub hl [2, 3, 1, 0] rfl)) (by simp [toS, c_31, Nat.not_le.mpr c_52]))
          · refine lv_iconst (v := nI 1) hx hb dX1_testsOf_55 (by decide) ?_
            refine lv_goto (tgt := 60) hx hb dX1_testsOf_56 (by decide) ?_
            refine kn_add hx hb dX1_testsOf_60 ?_
            refine lv_istore_n (lv' := [(2, .int (nI (toS G c k + 1))), (0, .ref (ad 0 0)), (1, .ref (ad 6 c)), (3, .int (nI k))]) hx hb dX1_testsOf_61 rfl hl (by decide) rfl (fun ls hl => ?_)
            refine lv_iinc (v := nI (k + 1)) (lv' := [(3, .int (nI (k + 1))), (2, .int (nI (toS G c k + 1))), (0, .ref (ad 0 0)), (1, .ref (ad 6 c))]) hx hb dX1_testsOf_62 hl (k := 3) rfl (show nI k + Int32.ofInt 1 = nI (k + 1) from nI_add _ 1) (by decide) rfl (fun ls hl => ?_)
            refine lv_goto (tgt := 4) hx hb dX1_testsOf_65 (by decide) ?_
            exact ih4 (k + 1) (by omega) (by omega) _ (lv_conv (show lv_has ls 4 [(0, .ref (ad 0 0)), (1, .ref (ad 6 c)), (2, .int (nI (toS G c k + 1))), (3, .int (nI (k + 1)))] from (lv_sub hl [2, 3, 1, 0] rfl)) (by simp [toS, c_31, c_52]))
  exact L4 _ 0 (by omega) (Nat.lt_succ_self _) _ (lv_sub hl [2, 3, 1, 0] rfl)
theorem w_X1_testsOf {R : Room} {s : State} {args : Array Value} {own : String} {idx : Nat} (hts : ∀ w ∈ lw_all, w.before args s = true) (h1 : Cond.methodLink own idx yX1_testsOf ∈ lw_all) {rm : Room} {mc ms : Nat} (hrc : rm.cells = mc) (hrs : rm.slots = ms) (hR : rm.frames + 1 ≤ R.frames ∧ 8 + (4 + 11) + rm.locals ≤ R.locals) : CallW R s args own RX1 idx yX1_testsOf cX1_testsOf 4 (some .int) (ws_ yX1_testsOf cX1_testsOf 4 (some .int)) rm mc ms 1 := cwV 1 hts (lw_V h1 q503 qs10 q62 q504) rfl hrc hrs (by decide +kernel) hR

abbrev r_X1_field : Room := { frames := 5, cells := 0, slots := 0, locals := 117 }
set_option maxHeartbeats 1000000 in
theorem c_X1_field (lh : Launch) (A : Nat → Prop) (D : va_G) (dA : Nat → ClassId) (K : Nat → Nat) (ad X : Nat → Nat → Nat) (Y : Nat → Nat → Nat → Int32) (N : Nat → Nat) (I : Nat → Int32) (G : Nat → Nat → Nat) (J : Nat → Nat → Int32) (c : Nat) (f : Nat) (h1 : ∀ a b, G a b < 2 ^ 31) (h2 : c < N 3) (h3 : N 14 ≤ 600) (h4 : N 19 ≤ 100) (h5 : XOk N G X) (h6 : TsOk N G) (h7 : lv G c = true) (h8 : RtOk N G Y) (h9 : PlOk N G Y) (h10 : f ≤ 7) : Met lh yX1_field (ws_ yX1_field cX1_field 3 (some .int)) r_X1_field (PX (fun U H => RH A D dA K ad X Y N I G J H ∧ GK D dA U) [.ref (ad 0 0), .ref (ad 6 c), .int (nI f)]) (vp_Si (fun rv => rv = fldS G J c (N 14) (N 19) f)) 0 0 (fun _ => False) := by
  refine Met.ofW (cc := cX1_field) (maxL := 3) (ret := (some .int)) (by decide) rfl ?_
  intro p e s m args below meth cd s₁ B hml hv
  obtain ⟨hargs, hH, hG⟩ := hv
  have hx := B.exec
  have hb := B.bytes
  have hrt := B.returns
  have hts := atoms_spec (ws := (ws_ yX1_field cX1_field 3 (some .int))) B.pre
  have hts : ∀ w ∈ lw_all, w.before _ s = true := fun w h => hts w (List.mem_cons_of_mem _ h)
  have hown : s.vm.findClass RX1 = some m.cls := findClass_of_methodNamed B.named
  have hlocks := B.notSynchronized
  have hE : entryFrame m args 3 = F0 m 0 ((lg_sl ([.ref (ad 0 0), .ref (ad 6 c), .int (nI f)]) ++ List.replicate (3 - (lg_sl ([.ref (ad 0 0), .ref (ad 6 c), .int (nI f)])).length) Slot.unset).toArray) [] := by rw [hargs]; exact lg_entry_eq m _ 3
  have hl := lv_entry ([.ref (ad 0 0), .ref (ad 6 c), .int (nI f)]) (n := 3) (Nat.le_of_ble_eq_true rfl)
  rw [hE]
  clear hE
  generalize (lg_sl ([.ref (ad 0 0), .ref (ad 6 c), .int (nI f)]) ++ List.replicate (3 - (lg_sl ([.ref (ad 0 0), .ref (ad 6 c), .int (nI f)])).length) Slot.unset).toArray = ls at hl ⊢
  have hl : lv_has ls 3 [(0, .ref (ad 0 0)), (1, .ref (ad 6 c)), (2, .int (nI f))] := hl
  generalize hQ : MQ _ _ _ _ _ _ _ = Q
  have hX := h5
  refine lv_iload_n hx hb dX1_field_0 rfl (lv_at hl 2 rfl) ?_
  by_cases w1_0 : f = 0
  · refine kx_int (y := nI 0) (by rw [w1_0]) ?_
    refine lv_tableIn (tgt := 44) (off := 43) hx hb dX1_field_1 (by decide) (by decide) (by decide) (by decide) ?_
    refine lv_aload_n hx hb dX1_field_44 rfl (lv_at hl 0 rfl) ?_
    refine lv_aload_n hx hb dX1_field_45 rfl (lv_at hl 1 rfl) ?_
    refine lv_aload_n hx hb dX1_field_46 rfl (lv_at hl 0 rfl) ?_
    refine ko_get (C := RX1) (T := TX1) (N := 28) (ci := 1) (v := .int (nI (N 14))) hx hb hts in_X1 hown hG.1 hH.o0 rfl 9 (by decide) q194 (fun _ h => h) (rfl) dX1_field_47 ?_
    refine lv_aload_n hx hb dX1_field_50 rfl (lv_at hl 0 rfl) ?_
    refine ko_get (C := RX1) (T := TX1) (N := 28) (ci := 1) (v := .ref (ad 4 1)) hx hb hts in_X1 hown hG.1 hH.o0 rfl 4 (by decide) q189 (fun _ h => h) (rfl) dX1_field_51 ?_
    refine vp_callSi (va_Run.call (va_runV (As := []) (rest := [.int (nI (N 14)), .ref (ad 6 c), .ref (ad 0 0)]) ⟨hx, hb, hml, hown, hts⟩ (c_J2_size lh D dA (ad 4 1) (Y 3 1 0) (elH K ad X 1) (N 19)) (w_J2_size hts q284 rfl rfl ⟨Nat.le_of_ble_eq_true rfl, Nat.le_of_ble_eq_true rfl⟩) ⟨PX.blind (Mv.and Mv.heap Mv.gk), (O_recv hG (hH.li 1 (by decide)) rfl), PX.pre (Mv.and Mv.heap Mv.gk) ⟨(hH.li 1 (by decide)), hG⟩⟩ rfl rfl hl.1 rfl (lv_room (Nat.le_of_ble_eq_true rfl)) dX1_field_54 ⟨Nat.le_of_ble_eq_true rfl, Nat.le_of_ble_eq_true rfl⟩)) (fun rr hrr => ?_)
    subst hrr
    refine lv_iconst (v := nI 0) hx hb dX1_field_57 (by decide) ?_
    refine vp_callSi (va_Run.call (va_runV (As := [.ref (ad 6 c), .int (nI (N 14)), .int (nI (N 19)), .int (nI 0)]) (rest := []) ⟨hx, hb, hml, hown, hts⟩ (c_X1_sour lh A D dA K ad X Y N I G J c (N 14) (N 19) false (h1) (h2) (by omega) (by omega) (by omega) (h4) (h5) (h6) (h7) (h8)) (w_X1_sour hts q491 rfl rfl ⟨Nat.le_of_ble_eq_true rfl, Nat.le_of_ble_eq_true rfl⟩) ⟨PX.blind (Mv.and Mv.heap Mv.gk), (O_recv hG hH.o0 rfl), PX.pre (Mv.and Mv.heap Mv.gk) ⟨hH, hG⟩⟩ rfl rfl hl.1 rfl (lv_room (Nat.le_of_ble_eq_true rfl)) dX1_field_58 ⟨Nat.le_of_ble_eq_true rfl, Nat.le_of_ble_eq_true rfl⟩)) (fun rr hrr => ?_)
    subst hrr
    subst hQ
    exact W.iret (v := spanS G J c (N 14) (N 19) false) hx hb hrt (fun t ht _ => ⟨_, rfl, (show spanS G J c (N 14) (N 19) false = fldS G J c (N 14) (N 19) f from by simp [fldS, w1_0]), ht⟩) t_nil dX1_field_61
  by_cases w1_1 : f = 1
  · refine kx_int (y := nI 1) (by rw [w1_1]) ?_
    refine lv_tableIn (tgt := 62) (off := 61) hx hb dX1_field_1 (by decide) (by decide) (by decide) (by decide) ?_
    refine lv_aload_n hx hb dX1_field_62 rfl (lv_at hl 0 rfl) ?_
    refine lv_aload_n hx hb dX1_field_63 rfl (lv_at hl 1 rfl) ?_
    refine lv_aload_n hx hb dX1_field_64 rfl (lv_at hl 0 rfl) ?_
    refine ko_get (C := RX1) (T := TX1) (N := 28) (ci := 1) (v := .int (nI (N 14))) hx hb hts in_X1 hown hG.1 hH.o0 rfl 9 (by decide) q194 (fun _ h => h) (rfl) dX1_field_65 ?_
    refine lv_aload_n hx hb dX1_field_68 rfl (lv_at hl 0 rfl) ?_
    refine ko_get (C := RX1) (T := TX1) (N := 28) (ci := 1) (v := .ref (ad 4 1)) hx hb hts in_X1 hown hG.1 hH.o0 rfl 4 (by decide) q189 (fun _ h => h) (rfl) dX1_field_69 ?_
    refine vp_callSi (va_Run.call (va_runV (As := []) (rest := [.int (nI (N 14)), .ref (ad 6 c), .ref (ad 0 0)]) ⟨hx, hb, hml, hown, hts⟩ (c_J2_size lh D dA (ad 4 1) (Y 3 1 0) (elH K ad X 1) (N 19)) (w_J2_size hts q284 rfl rfl ⟨Nat.le_of_ble_eq_true rfl, Nat.le_of_ble_eq_true rfl⟩) ⟨PX.blind (Mv.and Mv.heap Mv.gk), (O_recv hG (hH.li 1 (by decide)) rfl), PX.pre (Mv.and Mv.heap Mv.gk) ⟨(hH.li 1 (by decide)), hG⟩⟩ rfl rfl hl.1 rfl (lv_room (Nat.le_of_ble_eq_true rfl)) dX1_field_72 ⟨Nat.le_of_ble_eq_true rfl, Nat.le_of_ble_eq_true rfl⟩)) (fun rr hrr => ?_)
    subst hrr
    refine lv_iconst (v := nI 1) hx hb dX1_field_75 (by decide) ?_
    refine vp_callSi (va_Run.call (va_runV (As := [.ref (ad 6 c), .int (nI (N 14)), .int (nI (N 19)), .int (nI 1)]) (rest := []) ⟨hx, hb, hml, hown, hts⟩ (c_X1_sour lh A D dA K ad X Y N I G J c (N 14) (N 19) true (h1) (h2) (by omega) (by omega) (by omega) (h4) (h5) (h6) (h7) (h8)) (w_X1_sour hts q491 rfl rfl ⟨Nat.le_of_ble_eq_true rfl, Nat.le_of_ble_eq_true rfl⟩) ⟨PX.blind (Mv.and Mv.heap Mv.gk), (O_recv hG hH.o0 rfl), PX.pre (Mv.and Mv.heap Mv.gk) ⟨hH, hG⟩⟩ rfl rfl hl.1 rfl (lv_room (Nat.le_of_ble_eq_true rfl)) dX1_field_76 ⟨Nat.le_of_ble_eq_true rfl, Nat.le_of_ble_eq_true rfl⟩)) (fun rr hrr => ?_)
    subst hrr
    subst hQ
    exact W.iret (v := spanS G J c (N 14) (N 19) true) hx hb hrt (fun t ht _ => ⟨_, rfl, (show spanS G J c (N 14) (N 19) true = fldS G J c (N 14) (N 19) f from by simp [fldS, w1_0, w1_1]), ht⟩) t_nil dX1_field_79
  by_cases w1_2 : f = 2
  · refine kx_int (y := nI 2) (by rw [w1_2]) ?_
    refine lv_tableIn (tgt := 80) (off := 79) hx hb dX1_field_1 (by decide) (by decide) (by decide) (by decide) ?_
    refine lv_aload_n hx hb dX1_field_80 rfl (lv_at hl 1 rfl) ?_
    refine ko_getN (C := RX4) (T := TX4) (N := 11) (ci := 2) (v := .int (nI (G 8 c))) hx hb hts in_X4 hown hG.1 (hH.cr (show c < N 3 from by omega)) rfl 5 (by decide) (hG.2.1 _ q327 rfl) (fun _ h => h) (rfl) dX1_field_81 ?_
    subst hQ
    exact W.iret (v := nI (G 8 c)) hx hb hrt (fun t ht _ => ⟨_, rfl, (show nI (G 8 c) = fldS G J c (N 14) (N 19) f from by simp [fldS, w1_0, w1_1, w1_2]), ht⟩) t_nil dX1_field_84
  by_cases w1_3 : f = 3
  · refine kx_int (y := nI 3) (by rw [w1_3]) ?_
    refine lv_tableIn (tgt := 85) (off := 84) hx hb dX1_field_1 (by decide) (by decide) (by decide) (by decide) ?_
    refine lv_aload_n hx hb dX1_field_85 rfl (lv_at hl 1 rfl) ?_
    refine ko_getN (C := RX4) (T := TX4) (N := 11) (ci := 2) (v := .int (nI (G 7 c))) hx hb hts in_X4 hown hG.1 (hH.cr (show c < N 3 from by omega)) rfl 4 (by decide) (hG.2.1 _ q325 rfl) (fun _ h => h) (rfl) dX1_field_86 ?_
    subst hQ
    exact W.iret (v := nI (G 7 c)) hx hb hrt (fun t ht _ => ⟨_, rfl, (show nI (G 7 c) = fldS G J c (N 14) (N 19) f from by simp [fldS, w1_0, w1_1, w1_2, w1_3]), ht⟩) t_nil dX1_field_89
  by_cases w1_4 : f = 4
  · refine kx_int (y := nI 4) (by rw [w1_4]) ?_
    refine lv_tableIn (tgt := 90) (off := 89) hx hb dX1_field_1 (by decide) (by decide) (by decide) (by decide) ?_
    refine lv_aload_n hx hb dX1_field_90 rfl (lv_at hl 0 rfl) ?_
    refine ko_get (C := RX1) (T := TX1) (N := 28) (ci := 1) (v := .int (nI (N 14))) hx hb hts in_X1 hown hG.1 hH.o0 rfl 9 (by decide) q194 (fun _ h => h) (rfl) dX1_field_91 ?_
    refine lv_aload_n hx hb dX1_field_94 rfl (lv_at hl 1 rfl) ?_
    refine ko_getN (C := RX4) (T := TX4) (N := 11) (ci := 2) (v := .int (nI (G 9 c))) hx hb hts in_X4 hown hG.1 (hH.cr (show c < N 3 from by omega)) rfl 6 (by decide) (hG.2.1 _ q329 rfl) (fun _ h => h) (rfl) dX1_field_95 ?_
    refine lv_isub hx hb dX1_field_98 ?_
    subst hQ
    exact W.iret (v := nI (N 14) - (nI (G 9 c))) hx hb hrt (fun t ht _ => ⟨_, rfl, (show nI (N 14) - (nI (G 9 c)) = fldS G J c (N 14) (N 19) f from by simp [fldS, w1_0, w1_1, w1_2, w1_3, w1_4]), ht⟩) t_nil dX1_field_99
  by_cases w1_5 : f = 5
  · refine kx_int (y := nI 5) (by rw [w1_5]) ?_
    refine lv_tableIn (tgt := 100) (off := 99) hx hb dX1_field_1 (by decide) (by decide) (by decide) (by decide) ?_
    refine lv_aload_n hx hb dX1_field_100 rfl (lv_at hl 0 rfl) ?_
    refine lv_aload_n hx hb dX1_field_101 rfl (lv_at hl 1 rfl) ?_
    refine vp_callSi (va_Run.call (va_runV (As := [.ref (ad 6 c)]) (rest := []) ⟨hx, hb, hml, hown, hts⟩ (c_X1_testsOf lh A D dA K ad X Y N I G J c (show ∀ a b, G a b < 2 ^ 31 from by first | omega | assumption) (show c < (N 3) from by first | omega | assumption) (show (N 19) ≤ 100 from by first | omega | assumption) (show XOk N G X from by first | omega | assumption) (show TsOk N G from by first | omega | assumption)) (w_X1_testsOf hts q501 rfl rfl ⟨Nat.le_of_ble_eq_true rfl, Nat.le_of_ble_eq_true rfl⟩) ⟨PX.blind (Mv.and Mv.heap Mv.gk), (O_recv hG hH.o0 rfl), PX.pre (Mv.and Mv.heap Mv.gk) ⟨hH, hG⟩⟩ rfl rfl hl.1 rfl (lv_room (Nat.le_of_ble_eq_true rfl)) dX1_field_102 ⟨Nat.le_of_ble_eq_true rfl, Nat.le_of_ble_eq_true rfl⟩)) (fun rr hrr => ?_)
    subst hrr
    subst hQ
    exact W.iret (v := nI (toS G c ((N 19)))) hx hb hrt (fun t ht _ => ⟨_, rfl, (show nI (toS G c ((N 19))) = fldS G J c (N 14) (N 19) f from by simp [fldS, w1_0, w1_1, w1_2, w1_3, w1_4, w1_5]), ht⟩) t_nil dX1_field_105
  by_cases w1_6 : f = 6
  · refine kx_int (y := nI 6) (by rw [w1_6]) ?_
    refine lv_tableIn (tgt := 106) (off := 105) hx hb dX1_field_1 (by decide) (by decide) (by decide) (by decide) ?_
    refine lv_aload_n hx hb dX1_field_106 rfl (lv_at hl 1 rfl) ?_
    refine vp_callSi (va_Run.call (va_runV (As := []) (rest := []) ⟨hx, hb, hml, hown, hts⟩ (c_X4_isCold lh A D dA K ad X Y N I G J c (show c < (N 3) from by first | omega | assumption) (show ∀ a b, G a b < 2 ^ 31 from by first | omega | assumption) (show PlOk N G Y from by first | omega | assumption)) (w_X4_isCold hts q505 rfl rfl ⟨Nat.le_of_ble_eq_true rfl, Nat.le_of_ble_eq_true rfl⟩) ⟨PX.blind (Mv.and Mv.heap Mv.gk), (O_recv hG (hH.cr (show c < N 3 from by omega)) rfl), PX.pre (Mv.and Mv.heap Mv.gk) ⟨hH, hG⟩⟩ rfl rfl hl.1 rfl (lv_room (Nat.le_of_ble_eq_true rfl)) dX1_field_107 ⟨Nat.le_of_ble_eq_true rfl, Nat.le_of_ble_eq_true rfl⟩)) (fun rr hrr => ?_)
    subst hrr
    refine kb_eq (tgt := 117) hx hb dX1_field_110 (by decide) (fun c_110 => ?_) (fun c_110 => ?_)
    · refine lv_iconst (v := nI 0) hx hb dX1_field_117 (by decide) ?_
      subst hQ
      exact W.iret (v := nI 0) hx hb hrt (fun t ht _ => ⟨_, rfl, (show nI 0 = fldS G J c (N 14) (N 19) f from by have hcd := c_110; rw [h7, Bool.true_and] at hcd; have hn : ¬ 7 < G 5 c := (by have := of_decide_eq_false hcd; omega); simp [fldS, w1_0, w1_1, w1_2, w1_3, w1_4, w1_5, w1_6, hn]), ht⟩) t_nil dX1_field_118
    · refine lv_iconst (v := nI 1) hx hb dX1_field_113 (by decide) ?_
      refine lv_goto (tgt := 118) hx hb dX1_field_114 (by decide) ?_
      subst hQ
      exact W.iret (v := nI 1) hx hb hrt (fun t ht _ => ⟨_, rfl, (show nI 1 = fldS G J c (N 14) (N 19) f from by have hcd := c_110; rw [h7, Bool.true_and] at hcd; have hn : 7 < G 5 c := (by have := of_decide_eq_true hcd; omega); simp [fldS, w1_0, w1_1, w1_2, w1_3, w1_4, w1_5, w1_6, hn]), ht⟩) t_nil dX1_field_118
  refine lv_tableOut (tgt := 119) hx hb dX1_field_1 (swN_out (n := 6) (by omega) (by omega)) (by decide) ?_
  refine lv_aload_n hx hb dX1_field_119 rfl (lv_at hl 0 rfl) ?_
  refine ko_get (C := RX1) (T := TX1) (N := 28) (ci := 1) (v := .int (nI (N 14))) hx hb hts in_X1 hown hG.1 hH.o0 rfl 9 (by decide) q194 (fun _ h => h) (rfl) dX1_field_120 ?_
  refine lv_bipush (v := nI 24) hx hb dX1_field_123 (by decide) ?_
  refine kn_div hx hb dX1_field_125 (by omega) (by omega) (by omega) ?_
  subst hQ
  exact W.iret (v := nI ((N 14) / 24)) hx hb hrt (fun t ht _ => ⟨_, rfl, (show nI ((N 14) / 24) = fldS G J c (N 14) (N 19) f from by simp [fldS, w1_0, w1_1, w1_2, w1_3, w1_4, w1_5, w1_6]), ht⟩) t_nil dX1_field_126
theorem w_X1_field {R : Room} {s : State} {args : Array Value} {own : String} {idx : Nat} (hts : ∀ w ∈ lw_all, w.before args s = true) (h1 : Cond.methodLink own idx yX1_field ∈ lw_all) {rm : Room} {mc ms : Nat} (hrc : rm.cells = mc) (hrs : rm.slots = ms) (hR : rm.frames + 1 ≤ R.frames ∧ 8 + (3 + 11) + rm.locals ≤ R.locals) : CallW R s args own RX1 idx yX1_field cX1_field 3 (some .int) (ws_ yX1_field cX1_field 3 (some .int)) rm mc ms 2 := cwV 2 hts (lw_V h1 q489 qs7 q62 q490) rfl hrc hrs (by decide +kernel) hR

abbrev r_X1_isFit : Room := { frames := 4, cells := 0, slots := 0, locals := 90 }
set_option maxHeartbeats 1000000 in
theorem c_X1_isFit (lh : Launch) (A : Nat → Prop) (D : va_G) (dA : Nat → ClassId) (K : Nat → Nat) (ad X : Nat → Nat → Nat) (Y : Nat → Nat → Nat → Int32) (N : Nat → Nat) (I : Nat → Int32) (G : Nat → Nat → Nat) (J : Nat → Nat → Int32) (c : Nat) (h1 : ∀ a b, G a b < 2 ^ 31) (h2 : c < N 3) (h3 : N 14 ≤ 600) (h4 : N 19 ≤ 100) (h5 : XOk N G X) (h6 : TsOk N G) : Met lh yX1_isFit (ws_ yX1_isFit cX1_isFit 3 (some .boolean)) r_X1_isFit (PX (fun U H => RH A D dA K ad X Y N I G J H ∧ GK D dA U) [.ref (ad 0 0), .ref (ad 6 c)]) (vp_Si (fun rv => rv = bI (fitS G c (N 14) (N 19) (N 42) (N 43)))) 0 0 (fun _ => False) := by
  refine Met.ofW (cc := cX1_isFit) (maxL := 3) (ret := (some .boolean)) (by decide) rfl ?_
  intro p e s m args below meth cd s₁ B hml hv
  obtain ⟨hargs, hH, hG⟩ := hv
  have hx := B.exec
  have hb := B.bytes
  have hrt := B.returns
  have hts := atoms_spec (ws := (ws_ yX1_isFit cX1_isFit 3 (some .boolean))) B.pre
  have hts : ∀ w ∈ lw_all, w.before _ s = true := fun w h => hts w (List.mem_cons_of_mem _ h)
  have hown : s.vm.findClass RX1 = some m.cls := findClass_of_methodNamed B.named
  have hlocks := B.notSynchronized
  have hE : entryFrame m args 3 = F0 m 0 ((lg_sl ([.ref (ad 0 0), .ref (ad 6 c)]) ++ List.replicate (3 - (lg_sl ([.ref (ad 0 0), .ref (ad 6 c)])).length) Slot.unset).toArray) [] := by rw [hargs]; exact lg_entry_eq m _ 3
  have hl := lv_entry ([.ref (ad 0 0), .ref (ad 6 c)]) (n := 3) (Nat.le_of_ble_eq_true rfl)
  rw [hE]
  clear hE
  generalize (lg_sl ([.ref (ad 0 0), .ref (ad 6 c)]) ++ List.replicate (3 - (lg_sl ([.ref (ad 0 0), .ref (ad 6 c)])).length) Slot.unset).toArray = ls at hl ⊢
  have hl : lv_has ls 3 [(0, .ref (ad 0 0)), (1, .ref (ad 6 c))] := hl
  generalize hQ : MQ _ _ _ _ _ _ _ = Q
  have hX := h5
  refine lv_aload_n hx hb dX1_isFit_0 rfl (lv_at hl 1 rfl) ?_
  refine ko_getN (C := RX4) (T := TX4) (N := 11) (ci := 2) (v := .int (nI (G 6 c))) hx hb hts in_X4 hown hG.1 (hH.cr (show c < N 3 from by omega)) rfl 9 (by decide) (hG.2.1 _ q334 rfl) (fun _ h => h) (rfl) dX1_isFit_1 ?_
  refine lv_iconst (v := nI 1) hx hb dX1_isFit_4 (by decide) ?_
  refine kn_cne (tgt := 27) hx hb dX1_isFit_5 (by decide) (h1 _ _) (by omega) (fun c_5 => ?_) (fun c_5 => ?_)
  · refine lv_null hx hb dX1_isFit_27 ?_
    refine lv_astore_nN (lv' := [(2, .null), (0, .ref (ad 0 0)), (1, .ref (ad 6 c))]) hx hb dX1_isFit_28 rfl hl (by decide) rfl (fun ls hl => ?_)
    refine lv_aload_nN hx hb dX1_isFit_29 rfl (lv_at hl 0 rfl) ?_
    refine lv_ifnullN (tgt := 55) hx hb dX1_isFit_30 (by decide) ?_
    refine lv_iconst (v := nI 0) hx hb dX1_isFit_55 (by decide) ?_
    subst hQ
    exact W.zret (v := nI 0) hx hb hrt rfl (fun t ht _ => ⟨_, rfl, (show nI 0 = bI (fitS G c (N 14) (N 19) (N 42) (N 43)) from retB0 (by simp [fitS, c_5])), ht⟩) t_nil dX1_isFit_56
  · refine lv_aload_n hx hb dX1_isFit_8 rfl (lv_at hl 0 rfl) ?_
    refine lv_aload_n hx hb dX1_isFit_9 rfl (lv_at hl 1 rfl) ?_
    refine lv_aload_n hx hb dX1_isFit_10 rfl (lv_at hl 0 rfl) ?_
    refine ko_get (C := RX1) (T := TX1) (N := 28) (ci := 1) (v := .int (nI (N 14))) hx hb hts in_X1 hown hG.1 hH.o0 rfl 9 (by decide) q194 (fun _ h => h) (rfl) dX1_isFit_11 ?_
    refine lv_aload_n hx hb dX1_isFit_14 rfl (lv_at hl 0 rfl) ?_
    refine ko_get (C := RX1) (T := TX1) (N := 28) (ci := 1) (v := .ref (ad 4 1)) hx hb hts in_X1 hown hG.1 hH.o0 rfl 4 (by decide) q189 (fun _ h => h) (rfl) dX1_isFit_15 ?_
    refine vp_callSi (va_Run.call (va_runV (As := []) (rest := [.int (nI (N 14)), .ref (ad 6 c), .ref (ad 0 0)]) ⟨hx, hb, hml, hown, hts⟩ (c_J2_size lh D dA (ad 4 1) (Y 3 1 0) (elH K ad X 1) (N 19)) (w_J2_size hts q284 rfl rfl ⟨Nat.le_of_ble_eq_true rfl, Nat.le_of_ble_eq_true rfl⟩) ⟨PX.blind (Mv.and Mv.heap Mv.gk), (O_recv hG (hH.li 1 (by decide)) rfl), PX.pre (Mv.and Mv.heap Mv.gk) ⟨(hH.li 1 (by decide)), hG⟩⟩ rfl rfl hl.1 rfl (lv_room (Nat.le_of_ble_eq_true rfl)) dX1_isFit_18 ⟨Nat.le_of_ble_eq_true rfl, Nat.le_of_ble_eq_true rfl⟩)) (fun rr hrr => ?_)
    subst hrr
    refine va_csq (va_Run.call (va_runV (As := [.ref (ad 6 c), .int (nI (N 14)), .int (nI (N 19))]) (rest := []) ⟨hx, hb, hml, hown, hts⟩ (c_X1_latest lh A D dA K ad X Y N I G J c (N 14) (N 19) (h1) (h2) (by omega) (by omega) (h4) (h5) (h6)) (w_X1_latest hts q495 rfl rfl ⟨Nat.le_of_ble_eq_true rfl, Nat.le_of_ble_eq_true rfl⟩) ⟨PX.blind (Mv.and Mv.heap Mv.gk), (O_recv hG hH.o0 rfl), PX.pre (Mv.and Mv.heap Mv.gk) ⟨hH, hG⟩⟩ rfl rfl hl.1 rfl (lv_room (Nat.le_of_ble_eq_true rfl)) dX1_isFit_21 ⟨Nat.le_of_ble_eq_true rfl, Nat.le_of_ble_eq_true rfl⟩)) (fun rr hrr => ?_)
    subst hrr
    rcases hq21 : latS G c (N 14) (N 19) with _ | k21
    · show W p lh e r_X1_isFit s m args below meth cd _ _ _ _ Q (F0 m _ ls (.null :: _))
      refine lv_goto (tgt := 28) hx hb dX1_isFit_24 (by decide) ?_
      refine lv_astore_nN (lv' := [(2, .null), (0, .ref (ad 0 0)), (1, .ref (ad 6 c))]) hx hb dX1_isFit_28 rfl hl (by decide) rfl (fun ls hl => ?_)
      refine lv_aload_nN hx hb dX1_isFit_29 rfl (lv_at hl 0 rfl) ?_
      refine lv_ifnullN (tgt := 55) hx hb dX1_isFit_30 (by decide) ?_
      refine lv_iconst (v := nI 0) hx hb dX1_isFit_55 (by decide) ?_
      subst hQ
      exact W.zret (v := nI 0) hx hb hrt rfl (fun t ht _ => ⟨_, rfl, (show nI 0 = bI (fitS G c (N 14) (N 19) (N 42) (N 43)) from retB0 (by simp [fitS, c_5, hq21])), ht⟩) t_nil dX1_isFit_56
    · show W p lh e r_X1_isFit s m args below meth cd _ _ _ _ Q (F0 m _ ls (.ref (ad 9 k21) :: _))
      have hlt := latS_lt hq21
      refine lv_goto (tgt := 28) hx hb dX1_isFit_24 (by decide) ?_
      refine lv_astore_n (lv' := [(2, .ref (ad 9 k21)), (0, .ref (ad 0 0)), (1, .ref (ad 6 c))]) hx hb dX1_isFit_28 rfl hl (by decide) rfl (fun ls hl => ?_)
      refine lv_aload_n hx hb dX1_isFit_29 rfl (lv_at hl 0 rfl) ?_
      refine lv_ifnull hx hb dX1_isFit_30 ?_
      refine lv_aload_n hx hb dX1_isFit_33 rfl (lv_at hl 0 rfl) ?_
      refine ko_getN (C := RX5) (T := TX5) (N := 3) (ci := 4) (v := .int (nI (G 22 k21))) hx hb hts in_X5 hown hG.1 (hH.te (show k21 < N 19 from by omega)) rfl 2 (by decide) (hG.2.1 _ q579 rfl) (fun _ h => h) (rfl) dX1_isFit_34 ?_
      refine lv_aload_n hx hb dX1_isFit_37 rfl (lv_at hl 1 rfl) ?_
      refine ko_get (C := RX1) (T := TX1) (N := 28) (ci := 1) (v := .int (nI (N 42))) hx hb hts in_X1 hown hG.1 hH.o0 rfl 13 (by decide) q198 (fun _ h => h) (rfl) dX1_isFit_38 ?_
      refine lv_aload_n hx hb dX1_isFit_41 rfl (lv_at hl 1 rfl) ?_
      refine ko_get (C := RX1) (T := TX1) (N := 28) (ci := 1) (v := .int (nI (N 43))) hx hb hts in_X1 hown hG.1 hH.o0 rfl 14 (by decide) q199 (fun _ h => h) (rfl) dX1_isFit_42 ?_
      refine vp_callSi (W.runS (As := [.int (nI (G 22 k21)), .int (nI (N 42)), .int (nI (N 43))]) (rest := []) ⟨hx, hb, hml, hown, hts⟩ (c_X1_in lh (nI (G 22 k21)) (nI (N 42)) (nI (N 43))) (w_X1_in hts q277 rfl rfl ⟨Nat.le_of_ble_eq_true rfl, Nat.le_of_ble_eq_true rfl⟩) ⟨P0.blind, P0.pre⟩ rfl rfl hl.1 rfl (lv_room (Nat.le_of_ble_eq_true rfl)) dX1_isFit_45 ⟨Nat.le_of_ble_eq_true rfl, Nat.le_of_ble_eq_true rfl⟩) (fun rr hrr => ?_)
      subst hrr
      refine kb_eq (tgt := 55) hx hb dX1_isFit_48 (by decide) (fun c_48 => ?_) (fun c_48 => ?_)
      · refine lv_iconst (v := nI 0) hx hb dX1_isFit_55 (by decide) ?_
        subst hQ
        exact W.zret (v := nI 0) hx hb hrt rfl (fun t ht _ => ⟨_, rfl, (show nI 0 = bI (fitS G c (N 14) (N 19) (N 42) (N 43)) from retB0 (by simp [fitS, c_5, hq21, c_48])), ht⟩) t_nil dX1_isFit_56
      · refine lv_iconst (v := nI 1) hx hb dX1_isFit_51 (by decide) ?_
        refine lv_goto (tgt := 56) hx hb dX1_isFit_52 (by decide) ?_
        subst hQ
        exact W.zret (v := nI 1) hx hb hrt rfl (fun t ht _ => ⟨_, rfl, (show nI 1 = bI (fitS G c (N 14) (N 19) (N 42) (N 43)) from retB1 (by simp [fitS, c_5, hq21, c_48])), ht⟩) t_nil dX1_isFit_56
theorem w_X1_isFit {R : Room} {s : State} {args : Array Value} {own : String} {idx : Nat} (hts : ∀ w ∈ lw_all, w.before args s = true) (h1 : Cond.methodLink own idx yX1_isFit ∈ lw_all) {rm : Room} {mc ms : Nat} (hrc : rm.cells = mc) (hrs : rm.slots = ms) (hR : rm.frames + 1 ≤ R.frames ∧ 8 + (3 + 11) + rm.locals ≤ R.locals) : CallW R s args own RX1 idx yX1_isFit cX1_isFit 3 (some .boolean) (ws_ yX1_isFit cX1_isFit 3 (some .boolean)) rm mc ms 1 := cwV 1 hts (lw_V h1 q597 qs15 q62 q598) rfl hrc hrs (by decide +kernel) hR

abbrev r_X1_doesMeet : Room := { frames := 5, cells := 0, slots := 0, locals := 117 }
set_option maxHeartbeats 1000000 in
theorem c_X1_doesMeet (lh : Launch) (A : Nat → Prop) (D : va_G) (dA : Nat → ClassId) (K : Nat → Nat) (ad X : Nat → Nat → Nat) (Y : Nat → Nat → Nat → Int32) (N : Nat → Nat) (I : Nat → Int32) (G : Nat → Nat → Nat) (J : Nat → Nat → Int32) (c : Nat) (o : Nat) (h1 : ∀ a b, G a b < 2 ^ 31) (h2 : c < N 3) (h3 : o < 6) (h4 : N 14 ≤ 600) (h5 : N 19 ≤ 100) (h6 : XOk N G X) (h7 : TsOk N G) (h8 : RtOk N G Y) : Met lh yX1_doesMeet (ws_ yX1_doesMeet cX1_doesMeet 3 (some .boolean)) r_X1_doesMeet (PX (fun U H => RH A D dA K ad X Y N I G J H ∧ GK D dA U) [.ref (ad 0 0), .ref (ad 6 c), .int (nI o)]) (vp_Si (fun rv => rv = bI (dmS G J c o (N 14) (N 19) (N 42) (N 43)))) 0 0 (fun _ => False) := by
  refine Met.ofW (cc := cX1_doesMeet) (maxL := 3) (ret := (some .boolean)) (by decide) rfl ?_
  intro p e s m args below meth cd s₁ B hml hv
  obtain ⟨hargs, hH, hG⟩ := hv
  have hx := B.exec
  have hb := B.bytes
  have hrt := B.returns
  have hts := atoms_spec (ws := (ws_ yX1_doesMeet cX1_doesMeet 3 (some .boolean))) B.pre
  have hts : ∀ w ∈ lw_all, w.before _ s = true := fun w h => hts w (List.mem_cons_of_mem _ h)
  have hown : s.vm.findClass RX1 = some m.cls := findClass_of_methodNamed B.named
  have hlocks := B.notSynchronized
  have hE : entryFrame m args 3 = F0 m 0 ((lg_sl ([.ref (ad 0 0), .ref (ad 6 c), .int (nI o)]) ++ List.replicate (3 - (lg_sl ([.ref (ad 0 0), .ref (ad 6 c), .int (nI o)])).length) Slot.unset).toArray) [] := by rw [hargs]; exact lg_entry_eq m _ 3
  have hl := lv_entry ([.ref (ad 0 0), .ref (ad 6 c), .int (nI o)]) (n := 3) (Nat.le_of_ble_eq_true rfl)
  rw [hE]
  clear hE
  generalize (lg_sl ([.ref (ad 0 0), .ref (ad 6 c), .int (nI o)]) ++ List.replicate (3 - (lg_sl ([.ref (ad 0 0), .ref (ad 6 c), .int (nI o)])).length) Slot.unset).toArray = ls at hl ⊢
  have hl : lv_has ls 3 [(0, .ref (ad 0 0)), (1, .ref (ad 6 c)), (2, .int (nI o))] := hl
  generalize hQ : MQ _ _ _ _ _ _ _ = Q
  have hX := h6
  refine lv_aload_n hx hb dX1_doesMeet_0 rfl (lv_at hl 1 rfl) ?_
  refine vp_callSi (va_Run.call (va_runV (As := []) (rest := []) ⟨hx, hb, hml, hown, hts⟩ (c_X4_isThere lh A D dA K ad X Y N I G J c (show c < (N 3) from by first | omega | assumption) (show ∀ a b, G a b < 2 ^ 31 from by first | omega | assumption)) (w_X4_isThere hts q305 rfl rfl ⟨Nat.le_of_ble_eq_true rfl, Nat.le_of_ble_eq_true rfl⟩) ⟨PX.blind (Mv.and Mv.heap Mv.gk), (O_recv hG (hH.cr (show c < N 3 from by omega)) rfl), PX.pre (Mv.and Mv.heap Mv.gk) ⟨hH, hG⟩⟩ rfl rfl hl.1 rfl (lv_room (Nat.le_of_ble_eq_true rfl)) dX1_doesMeet_1 ⟨Nat.le_of_ble_eq_true rfl, Nat.le_of_ble_eq_true rfl⟩)) (fun rr hrr => ?_)
  subst hrr
  refine kb_eq (tgt := 28) hx hb dX1_doesMeet_4 (by decide) (fun c_4 => ?_) (fun c_4 => ?_)
  · refine lv_iconst (v := nI 0) hx hb dX1_doesMeet_28 (by decide) ?_
    subst hQ
    exact W.zret (v := nI 0) hx hb hrt rfl (fun t ht _ => ⟨_, rfl, (show nI 0 = bI (dmS G J c o (N 14) (N 19) (N 42) (N 43)) from retB0 (by unfold dmS fitS; rw [show decide (G 6 c = 1) = false from decide_eq_false (fun q => by have := of_decide_eq_false c_4; omega)]; rfl)), ht⟩) t_nil dX1_doesMeet_29
  · refine lv_aload_n hx hb dX1_doesMeet_7 rfl (lv_at hl 0 rfl) ?_
    refine lv_aload_n hx hb dX1_doesMeet_8 rfl (lv_at hl 1 rfl) ?_
    refine vp_callSi (va_Run.call (va_runV (As := [.ref (ad 6 c)]) (rest := []) ⟨hx, hb, hml, hown, hts⟩ (c_X1_isFit lh A D dA K ad X Y N I G J c (h1) (h2) (h4) (h5) (h6) (h7)) (w_X1_isFit hts q595 rfl rfl ⟨Nat.le_of_ble_eq_true rfl, Nat.le_of_ble_eq_true rfl⟩) ⟨PX.blind (Mv.and Mv.heap Mv.gk), (O_recv hG hH.o0 rfl), PX.pre (Mv.and Mv.heap Mv.gk) ⟨hH, hG⟩⟩ rfl rfl hl.1 rfl (lv_room (Nat.le_of_ble_eq_true rfl)) dX1_doesMeet_9 ⟨Nat.le_of_ble_eq_true rfl, Nat.le_of_ble_eq_true rfl⟩)) (fun rr hrr => ?_)
    subst hrr
    refine kb_eq (tgt := 28) hx hb dX1_doesMeet_12 (by decide) (fun c_12 => ?_) (fun c_12 => ?_)
    · refine lv_iconst (v := nI 0) hx hb dX1_doesMeet_28 (by decide) ?_
      subst hQ
      exact W.zret (v := nI 0) hx hb hrt rfl (fun t ht _ => ⟨_, rfl, (show nI 0 = bI (dmS G J c o (N 14) (N 19) (N 42) (N 43)) from retB0 (by simp only [dmS, Bool.and_eq_true, Bool.and_eq_false_iff, Bool.not_eq_true', Bool.not_eq_false', decide_eq_true_eq, decide_eq_false_iff_not]; exact Or.inl c_12)), ht⟩) t_nil dX1_doesMeet_29
    · refine lv_aload_n hx hb dX1_doesMeet_15 rfl (lv_at hl 1 rfl) ?_
      refine vp_callSi (va_Run.call (va_runU (As := []) (rest := []) ⟨hx, hb, hml, hown, hts⟩ (c_X3_all_C lh A D dA K ad X Y N I G J c (show c < (N 3) from by first | omega | assumption)) (va_cwU 0 hts (lw_U q440 q441 q443 q444 q72 q445) rfl rfl rfl rfl (by decide +kernel) ⟨Nat.le_of_ble_eq_true rfl, Nat.le_of_ble_eq_true rfl⟩) ⟨PX.blind (Mv.and Mv.heap Mv.gk), (O_recv hG (hH.cr (show c < N 3 from by omega)) rfl), PX.pre (Mv.and Mv.heap Mv.gk) ⟨hH, hG⟩⟩ rfl rfl hl.1 rfl (lv_room (Nat.le_of_ble_eq_true rfl)) dX1_doesMeet_16 ⟨Nat.le_of_ble_eq_true rfl, Nat.le_of_ble_eq_true rfl⟩)) (fun rr hrr => ?_)
      subst hrr
      refine lv_aload_n hx hb dX1_doesMeet_19 rfl (lv_at hl 0 rfl) ?_
      refine ko_get (C := RX1) (T := TX1) (N := 28) (ci := 1) (v := .ref (ad 1 16)) hx hb hts in_X1 hown hG.1 hH.o0 rfl 16 (by decide) q201 (fun _ h => h) (rfl) dX1_doesMeet_20 ?_
      refine lv_iload_n hx hb dX1_doesMeet_23 rfl (lv_at hl 2 rfl) ?_
      refine ka_iald (v := nI (G 45 o)) hx hb hG.1 (hH.arr 16 rfl) 0 rfl (show o < 6 from by omega) (by decide) (rfl) dX1_doesMeet_24 ?_
      refine lv_icmp_ge (tgt := 30) hx hb dX1_doesMeet_25 (by decide) (fun c_25 => ?_) (fun c_25 => ?_)
      · refine lv_aload_n hx hb dX1_doesMeet_30 rfl (lv_at hl 0 rfl) ?_
        refine lv_aload_n hx hb dX1_doesMeet_31 rfl (lv_at hl 1 rfl) ?_
        refine lv_aload_n hx hb dX1_doesMeet_32 rfl (lv_at hl 0 rfl) ?_
        refine ko_get (C := RX1) (T := TX1) (N := 28) (ci := 1) (v := .int (nI (N 14))) hx hb hts in_X1 hown hG.1 hH.o0 rfl 9 (by decide) q194 (fun _ h => h) (rfl) dX1_doesMeet_33 ?_
        refine lv_aload_n hx hb dX1_doesMeet_36 rfl (lv_at hl 0 rfl) ?_
        refine ko_get (C := RX1) (T := TX1) (N := 28) (ci := 1) (v := .ref (ad 4 1)) hx hb hts in_X1 hown hG.1 hH.o0 rfl 4 (by decide) q189 (fun _ h => h) (rfl) dX1_doesMeet_37 ?_
        refine vp_callSi (va_Run.call (va_runV (As := []) (rest := [.int (nI (N 14)), .ref (ad 6 c), .ref (ad 0 0)]) ⟨hx, hb, hml, hown, hts⟩ (c_J2_size lh D dA (ad 4 1) (Y 3 1 0) (elH K ad X 1) (N 19)) (w_J2_size hts q284 rfl rfl ⟨Nat.le_of_ble_eq_true rfl, Nat.le_of_ble_eq_true rfl⟩) ⟨PX.blind (Mv.and Mv.heap Mv.gk), (O_recv hG (hH.li 1 (by decide)) rfl), PX.pre (Mv.and Mv.heap Mv.gk) ⟨(hH.li 1 (by decide)), hG⟩⟩ rfl rfl hl.1 rfl (lv_room (Nat.le_of_ble_eq_true rfl)) dX1_doesMeet_40 ⟨Nat.le_of_ble_eq_true rfl, Nat.le_of_ble_eq_true rfl⟩)) (fun rr hrr => ?_)
        subst hrr
        refine lv_iconst (v := nI 0) hx hb dX1_doesMeet_43 (by decide) ?_
        refine vp_callSi (va_Run.call (va_runV (As := [.ref (ad 6 c), .int (nI (N 14)), .int (nI (N 19)), .int (nI 0)]) (rest := []) ⟨hx, hb, hml, hown, hts⟩ (c_X1_sour lh A D dA K ad X Y N I G J c (N 14) (N 19) false (h1) (h2) (by omega) (by omega) (by omega) (h5) (h6) (h7) (c_4) (h8)) (w_X1_sour hts q491 rfl rfl ⟨Nat.le_of_ble_eq_true rfl, Nat.le_of_ble_eq_true rfl⟩) ⟨PX.blind (Mv.and Mv.heap Mv.gk), (O_recv hG hH.o0 rfl), PX.pre (Mv.and Mv.heap Mv.gk) ⟨hH, hG⟩⟩ rfl rfl hl.1 rfl (lv_room (Nat.le_of_ble_eq_true rfl)) dX1_doesMeet_44 ⟨Nat.le_of_ble_eq_true rfl, Nat.le_of_ble_eq_true rfl⟩)) (fun rr hrr => ?_)
        subst hrr
        refine lv_aload_n hx hb dX1_doesMeet_47 rfl (lv_at hl 0 rfl) ?_
        refine ko_get (C := RX1) (T := TX1) (N := 28) (ci := 1) (v := .ref (ad 1 17)) hx hb hts in_X1 hown hG.1 hH.o0 rfl 17 (by decide) q202 (fun _ h => h) (rfl) dX1_doesMeet_48 ?_
        refine lv_iload_n hx hb dX1_doesMeet_51 rfl (lv_at hl 2 rfl) ?_
        refine ka_iald (v := nI (G 46 o)) hx hb hG.1 (hH.arr 17 rfl) 0 rfl (show o < 6 from by omega) (by decide) (rfl) dX1_doesMeet_52 ?_
        refine lv_icmp_lt (tgt := 86) hx hb dX1_doesMeet_53 (by decide) (fun c_53 => ?_) (fun c_53 => ?_)
        · refine lv_iconst (v := nI 0) hx hb dX1_doesMeet_86 (by decide) ?_
          subst hQ
          exact W.zret (v := nI 0) hx hb hrt rfl (fun t ht _ => ⟨_, rfl, (show nI 0 = bI (dmS G J c o (N 14) (N 19) (N 42) (N 43)) from retB0 (by simp only [dmS, Bool.and_eq_true, Bool.and_eq_false_iff, Bool.not_eq_true', Bool.not_eq_false', decide_eq_true_eq, decide_eq_false_iff_not]; exact Or.inr (Or.inr (Or.inl c_53)))), ht⟩) t_nil dX1_doesMeet_87
        · refine lv_aload_n hx hb dX1_doesMeet_56 rfl (lv_at hl 0 rfl) ?_
          refine lv_aload_n hx hb dX1_doesMeet_57 rfl (lv_at hl 1 rfl) ?_
          refine lv_aload_n hx hb dX1_doesMeet_58 rfl (lv_at hl 0 rfl) ?_
          refine ko_get (C := RX1) (T := TX1) (N := 28) (ci := 1) (v := .int (nI (N 14))) hx hb hts in_X1 hown hG.1 hH.o0 rfl 9 (by decide) q194 (fun _ h => h) (rfl) dX1_doesMeet_59 ?_
          refine lv_aload_n hx hb dX1_doesMeet_62 rfl (lv_at hl 0 rfl) ?_
          refine ko_get (C := RX1) (T := TX1) (N := 28) (ci := 1) (v := .ref (ad 4 1)) hx hb hts in_X1 hown hG.1 hH.o0 rfl 4 (by decide) q189 (fun _ h => h) (rfl) dX1_doesMeet_63 ?_
          refine vp_callSi (va_Run.call (va_runV (As := []) (rest := [.int (nI (N 14)), .ref (ad 6 c), .ref (ad 0 0)]) ⟨hx, hb, hml, hown, hts⟩ (c_J2_size lh D dA (ad 4 1) (Y 3 1 0) (elH K ad X 1) (N 19)) (w_J2_size hts q284 rfl rfl ⟨Nat.le_of_ble_eq_true rfl, Nat.le_of_ble_eq_true rfl⟩) ⟨PX.blind (Mv.and Mv.heap Mv.gk), (O_recv hG (hH.li 1 (by decide)) rfl), PX.pre (Mv.and Mv.heap Mv.gk) ⟨(hH.li 1 (by decide)), hG⟩⟩ rfl rfl hl.1 rfl (lv_room (Nat.le_of_ble_eq_true rfl)) dX1_doesMeet_66 ⟨Nat.le_of_ble_eq_true rfl, Nat.le_of_ble_eq_true rfl⟩)) (fun rr hrr => ?_)
          subst hrr
          refine lv_iconst (v := nI 1) hx hb dX1_doesMeet_69 (by decide) ?_
          refine vp_callSi (va_Run.call (va_runV (As := [.ref (ad 6 c), .int (nI (N 14)), .int (nI (N 19)), .int (nI 1)]) (rest := []) ⟨hx, hb, hml, hown, hts⟩ (c_X1_sour lh A D dA K ad X Y N I G J c (N 14) (N 19) true (h1) (h2) (by omega) (by omega) (by omega) (h5) (h6) (h7) (c_4) (h8)) (w_X1_sour hts q491 rfl rfl ⟨Nat.le_of_ble_eq_true rfl, Nat.le_of_ble_eq_true rfl⟩) ⟨PX.blind (Mv.and Mv.heap Mv.gk), (O_recv hG hH.o0 rfl), PX.pre (Mv.and Mv.heap Mv.gk) ⟨hH, hG⟩⟩ rfl rfl hl.1 rfl (lv_room (Nat.le_of_ble_eq_true rfl)) dX1_doesMeet_70 ⟨Nat.le_of_ble_eq_true rfl, Nat.le_of_ble_eq_true rfl⟩)) (fun rr hrr => ?_)
          subst hrr
          refine lv_aload_n hx hb dX1_doesMeet_73 rfl (lv_at hl 0 rfl) ?_
          refine ko_get (C := RX1) (T := TX1) (N := 28) (ci := 1) (v := .ref (ad 1 18)) hx hb hts in_X1 hown hG.1 hH.o0 rfl 18 (by decide) q203 (fun _ h => h) (rfl) dX1_doesMeet_74 ?_
          refine lv_iload_n hx hb dX1_doesMeet_77 rfl (lv_at hl 2 rfl) ?_
          refine ka_iald (v := nI (G 47 o)) hx hb hG.1 (hH.arr 18 rfl) 0 rfl (show o < 6 from by omega) (by decide) (rfl) dX1_doesMeet_78 ?_
          refine lv_icmp_gt (tgt := 86) hx hb dX1_doesMeet_79 (by decide) (fun c_79 => ?_) (fun c_79 => ?_)
          · refine lv_iconst (v := nI 0) hx hb dX1_doesMeet_86 (by decide) ?_
            subst hQ
            exact W.zret (v := nI 0) hx hb hrt rfl (fun t ht _ => ⟨_, rfl, (show nI 0 = bI (dmS G J c o (N 14) (N 19) (N 42) (N 43)) from retB0 (by simp only [dmS, Bool.and_eq_true, Bool.and_eq_false_iff, Bool.not_eq_true', Bool.not_eq_false', decide_eq_true_eq, decide_eq_false_iff_not]; exact Or.inr (Or.inr (Or.inr c_79)))), ht⟩) t_nil dX1_doesMeet_87
          · refine lv_iconst (v := nI 1) hx hb dX1_doesMeet_82 (by decide) ?_
            refine lv_goto (tgt := 87) hx hb dX1_doesMeet_83 (by decide) ?_
            subst hQ
            exact W.zret (v := nI 1) hx hb hrt rfl (fun t ht _ => ⟨_, rfl, (show nI 1 = bI (dmS G J c o (N 14) (N 19) (N 42) (N 43)) from retB1 (by simp only [dmS, Bool.and_eq_true, Bool.and_eq_false_iff, Bool.not_eq_true', Bool.not_eq_false', decide_eq_true_eq, decide_eq_false_iff_not]; exact ⟨c_12, Int32.not_lt.mpr c_25, c_53, c_79⟩)), ht⟩) t_nil dX1_doesMeet_87
      · refine lv_iconst (v := nI 0) hx hb dX1_doesMeet_28 (by decide) ?_
        subst hQ
        exact W.zret (v := nI 0) hx hb hrt rfl (fun t ht _ => ⟨_, rfl, (show nI 0 = bI (dmS G J c o (N 14) (N 19) (N 42) (N 43)) from retB0 (by simp only [dmS, Bool.and_eq_true, Bool.and_eq_false_iff, Bool.not_eq_true', Bool.not_eq_false', decide_eq_true_eq, decide_eq_false_iff_not]; exact Or.inr (Or.inl (Int32.not_le.mp c_25)))), ht⟩) t_nil dX1_doesMeet_29
theorem w_X1_doesMeet {R : Room} {s : State} {args : Array Value} {own : String} {idx : Nat} (hts : ∀ w ∈ lw_all, w.before args s = true) (h1 : Cond.methodLink own idx yX1_doesMeet ∈ lw_all) {rm : Room} {mc ms : Nat} (hrc : rm.cells = mc) (hrs : rm.slots = ms) (hR : rm.frames + 1 ≤ R.frames ∧ 8 + (3 + 11) + rm.locals ≤ R.locals) : CallW R s args own RX1 idx yX1_doesMeet cX1_doesMeet 3 (some .boolean) (ws_ yX1_doesMeet cX1_doesMeet 3 (some .boolean)) rm mc ms 2 := cwV 2 hts (lw_V h1 q1200 qs27 q62 q1201) rfl hrc hrs (by decide +kernel) hR

abbrev r_X1_meets : Room := { frames := 6, cells := 0, slots := 0, locals := 139 }
set_option maxHeartbeats 1000000 in
theorem c_X1_meets (lh : Launch) (A : Nat → Prop) (D : va_G) (dA : Nat → ClassId) (K : Nat → Nat) (ad X : Nat → Nat → Nat) (Y : Nat → Nat → Nat → Int32) (N : Nat → Nat) (I : Nat → Int32) (G : Nat → Nat → Nat) (J : Nat → Nat → Int32) (c : Int32) (o : Int32) (h1 : ∀ a b, G a b < 2 ^ 31) (h2 : N 3 ≤ 10) (h3 : N 44 ≤ 6) (h4 : N 14 ≤ 600) (h5 : N 19 ≤ 100) (h6 : XOk N G X) (h7 : TsOk N G) (h8 : RtOk N G Y) : Met lh yX1_meets (ws_ yX1_meets cX1_meets 3 (some .int)) r_X1_meets (PX (fun U H => RH A D dA K ad X Y N I G J H ∧ GK D dA U) [.ref (ad 0 0), .int c, .int o]) (vp_Si (fun rv => rv = (if meetsB N c o = true then bI (dmS G J (tn c) (tn o) (N 14) (N 19) (N 42) (N 43)) else -1))) 0 0 (fun _ => False) := by
  refine Met.ofW (cc := cX1_meets) (maxL := 3) (ret := (some .int)) (by decide) rfl ?_
  intro p e s m args below meth cd s₁ B hml hv
  obtain ⟨hargs, hH, hG⟩ := hv
  have hx := B.exec
  have hb := B.bytes
  have hrt := B.returns
  have hts := atoms_spec (ws := (ws_ yX1_meets cX1_meets 3 (some .int))) B.pre
  have hts : ∀ w ∈ lw_all, w.before _ s = true := fun w h => hts w (List.mem_cons_of_mem _ h)
  have hown : s.vm.findClass RX1 = some m.cls := findClass_of_methodNamed B.named
  have hlocks := B.notSynchronized
  have hE : entryFrame m args 3 = F0 m 0 ((lg_sl ([.ref (ad 0 0), .int c, .int o]) ++ List.replicate (3 - (lg_sl ([.ref (ad 0 0), .int c, .int o])).length) Slot.unset).toArray) [] := by rw [hargs]; exact lg_entry_eq m _ 3
  have hl := lv_entry ([.ref (ad 0 0), .int c, .int o]) (n := 3) (Nat.le_of_ble_eq_true rfl)
  rw [hE]
  clear hE
  generalize (lg_sl ([.ref (ad 0 0), .int c, .int o]) ++ List.replicate (3 - (lg_sl ([.ref (ad 0 0), .int c, .int o])).length) Slot.unset).toArray = ls at hl ⊢
  have hl : lv_has ls 3 [(0, .ref (ad 0 0)), (1, .int c), (2, .int o)] := hl
  generalize hQ : MQ _ _ _ _ _ _ _ = Q
  have hX := h6
  refine lv_iload_n hx hb dX1_meets_0 rfl (lv_at hl 1 rfl) ?_
  refine lv_iconst (v := nI 0) hx hb dX1_meets_1 (by decide) ?_
  refine lv_aload_n hx hb dX1_meets_2 rfl (lv_at hl 0 rfl) ?_
  refine ko_get (C := RX1) (T := TX1) (N := 28) (ci := 1) (v := .ref (ad 4 0)) hx hb hts in_X1 hown hG.1 hH.o0 rfl 3 (by decide) q188 (fun _ h => h) (rfl) dX1_meets_3 ?_
  refine vp_callSi (va_Run.call (va_runV (As := []) (rest := [.int (nI 0), .int c]) ⟨hx, hb, hml, hown, hts⟩ (c_J2_size lh D dA (ad 4 0) (Y 3 0 0) (elH K ad X 0) (N 3)) (w_J2_size hts q284 rfl rfl ⟨Nat.le_of_ble_eq_true rfl, Nat.le_of_ble_eq_true rfl⟩) ⟨PX.blind (Mv.and Mv.heap Mv.gk), (O_recv hG (hH.li 0 (by decide)) rfl), PX.pre (Mv.and Mv.heap Mv.gk) ⟨(hH.li 0 (by decide)), hG⟩⟩ rfl rfl hl.1 rfl (lv_room (Nat.le_of_ble_eq_true rfl)) dX1_meets_6 ⟨Nat.le_of_ble_eq_true rfl, Nat.le_of_ble_eq_true rfl⟩)) (fun rr hrr => ?_)
  subst hrr
  refine lv_iconst (v := nI 1) hx hb dX1_meets_9 (by decide) ?_
  refine lv_isub hx hb dX1_meets_10 ?_
  refine vp_callSi (W.runS (As := [.int c, .int (nI 0), .int (nI (N 3) - (nI 1))]) (rest := []) ⟨hx, hb, hml, hown, hts⟩ (c_X1_in lh c (nI 0) (nI (N 3) - (nI 1))) (w_X1_in hts q277 rfl rfl ⟨Nat.le_of_ble_eq_true rfl, Nat.le_of_ble_eq_true rfl⟩) ⟨P0.blind, P0.pre⟩ rfl rfl hl.1 rfl (lv_room (Nat.le_of_ble_eq_true rfl)) dX1_meets_11 ⟨Nat.le_of_ble_eq_true rfl, Nat.le_of_ble_eq_true rfl⟩) (fun rr hrr => ?_)
  subst hrr
  refine kb_eq (tgt := 31) hx hb dX1_meets_14 (by decide) (fun c_14 => ?_) (fun c_14 => ?_)
  · refine lv_iconst (v := -1) hx hb dX1_meets_31 (by decide) ?_
    subst hQ
    exact W.iret (v := (-1)) hx hb hrt (fun t ht _ => ⟨_, rfl, (show (-1) = (if meetsB N c o = true then bI (dmS G J (tn c) (tn o) (N 14) (N 19) (N 42) (N 43)) else -1) from by rw [if_neg (by simp [meetsB, c_14])]), ht⟩) t_nil dX1_meets_32
  · obtain ⟨j, hj, rfl⟩ := wi_cnt (by omega) c_14
    refine lv_iload_n hx hb dX1_meets_17 rfl (lv_at hl 2 rfl) ?_
    refine lv_iconst (v := nI 0) hx hb dX1_meets_18 (by decide) ?_
    refine lv_aload_n hx hb dX1_meets_19 rfl (lv_at hl 0 rfl) ?_
    refine ko_get (C := RX1) (T := TX1) (N := 28) (ci := 1) (v := .int (nI (N 44))) hx hb hts in_X1 hown hG.1 hH.o0 rfl 25 (by decide) q210 (fun _ h => h) (rfl) dX1_meets_20 ?_
    refine lv_iconst (v := nI 1) hx hb dX1_meets_23 (by decide) ?_
    refine lv_isub hx hb dX1_meets_24 ?_
    refine vp_callSi (W.runS (As := [.int o, .int (nI 0), .int (nI (N 44) - (nI 1))]) (rest := []) ⟨hx, hb, hml, hown, hts⟩ (c_X1_in lh o (nI 0) (nI (N 44) - (nI 1))) (w_X1_in hts q277 rfl rfl ⟨Nat.le_of_ble_eq_true rfl, Nat.le_of_ble_eq_true rfl⟩) ⟨P0.blind, P0.pre⟩ rfl rfl hl.1 rfl (lv_room (Nat.le_of_ble_eq_true rfl)) dX1_meets_25 ⟨Nat.le_of_ble_eq_true rfl, Nat.le_of_ble_eq_true rfl⟩) (fun rr hrr => ?_)
    subst hrr
    refine kb_ne (tgt := 33) hx hb dX1_meets_28 (by decide) (fun c_28 => ?_) (fun c_28 => ?_)
    · obtain ⟨k, hk, rfl⟩ := wi_cnt (by omega) c_28
      refine lv_aload_n hx hb dX1_meets_33 rfl (lv_at hl 0 rfl) ?_
      refine lv_aload_n hx hb dX1_meets_34 rfl (lv_at hl 0 rfl) ?_
      refine ko_get (C := RX1) (T := TX1) (N := 28) (ci := 1) (v := .ref (ad 4 0)) hx hb hts in_X1 hown hG.1 hH.o0 rfl 3 (by decide) q188 (fun _ h => h) (rfl) dX1_meets_35 ?_
      refine lv_iload_n hx hb dX1_meets_38 rfl (lv_at hl 1 rfl) ?_
      refine va_csq (va_Run.call (va_runV (As := [.int (nI j)]) (rest := [.ref (ad 0 0)]) ⟨hx, hb, hml, hown, hts⟩ (c_J2_get lh D dA (ad 4 0) (Y 3 0 0) (ad 5 0) (N 3) (X 0 0) (ltH ad 6 (N 3) 0) (j) (ad 6 j) (show j < N 3 from by omega) ((hX.1 0 (by decide)).1) ((hX.1 0 (by decide)).2) (ltH_0 (show j < N 3 from by omega))) (w_J2_get hts q292 rfl rfl ⟨Nat.le_of_ble_eq_true rfl, Nat.le_of_ble_eq_true rfl⟩) ⟨PX.blind (Mv.and Mv.heap (Mv.and Mv.heap Mv.gk)), (O_recv hG (hH.lo 0 (by decide) (by have hx0 : N 3 ≤ X 0 0 := (hX.1 0 (by decide)).1; omega)) rfl), PX.pre (Mv.and Mv.heap (Mv.and Mv.heap Mv.gk)) ⟨(hH.lo 0 (by decide) (by have hx0 : N 3 ≤ X 0 0 := (hX.1 0 (by decide)).1; omega)), (hH.la 0 (by decide) (by have hx0 : N 3 ≤ X 0 0 := (hX.1 0 (by decide)).1; omega)), hG⟩⟩ rfl rfl hl.1 rfl (lv_room (Nat.le_of_ble_eq_true rfl)) dX1_meets_39 ⟨Nat.le_of_ble_eq_true rfl, Nat.le_of_ble_eq_true rfl⟩)) (fun rr hrr => ?_)
      subst hrr
      show W p lh e r_X1_meets s m args below meth cd _ _ _ _ Q (F0 m _ ls (.ref (ad 6 j) :: _))
      refine va_castE hx hb hown (hts _ q304) (O_recv hG (hH.cr (show j < N 3 from by omega)) rfl) dX1_meets_42 ?_
      refine lv_iload_n hx hb dX1_meets_45 rfl (lv_at hl 2 rfl) ?_
      refine vp_callSi (va_Run.call (va_runV (As := [.ref (ad 6 j), .int (nI k)]) (rest := []) ⟨hx, hb, hml, hown, hts⟩ (c_X1_doesMeet lh A D dA K ad X Y N I G J j k (show ∀ a b, G a b < 2 ^ 31 from by first | omega | assumption) (show j < (N 3) from by first | omega | assumption) (show k < 6 from by first | omega | assumption) (show (N 14) ≤ 600 from by first | omega | assumption) (show (N 19) ≤ 100 from by first | omega | assumption) (show XOk N G X from by first | omega | assumption) (show TsOk N G from by first | omega | assumption) (show RtOk N G Y from by first | omega | assumption)) (w_X1_doesMeet hts q1198 rfl rfl ⟨Nat.le_of_ble_eq_true rfl, Nat.le_of_ble_eq_true rfl⟩) ⟨PX.blind (Mv.and Mv.heap Mv.gk), (O_recv hG hH.o0 rfl), PX.pre (Mv.and Mv.heap Mv.gk) ⟨hH, hG⟩⟩ rfl rfl hl.1 rfl (lv_room (Nat.le_of_ble_eq_true rfl)) dX1_meets_46 ⟨Nat.le_of_ble_eq_true rfl, Nat.le_of_ble_eq_true rfl⟩)) (fun rr hrr => ?_)
      subst hrr
      refine kb_eq (tgt := 56) hx hb dX1_meets_49 (by decide) (fun c_49 => ?_) (fun c_49 => ?_)
      · refine lv_iconst (v := nI 0) hx hb dX1_meets_56 (by decide) ?_
        subst hQ
        exact W.iret (v := nI 0) hx hb hrt (fun t ht _ => ⟨_, rfl, (show nI 0 = (if meetsB N (nI j) (nI k) = true then bI (dmS G J (tn (nI j)) (tn (nI k)) (N 14) (N 19) (N 42) (N 43)) else -1) from by rw [if_pos (by simp [meetsB, c_14, c_28, tn_nI (show j < 2 ^ 31 by omega), tn_nI (show k < 2 ^ 31 by omega)]), tn_nI (show j < 2 ^ 31 by omega), tn_nI (show k < 2 ^ 31 by omega)]; exact retB0 c_49), ht⟩) t_nil dX1_meets_57
      · refine lv_iconst (v := nI 1) hx hb dX1_meets_52 (by decide) ?_
        refine lv_goto (tgt := 57) hx hb dX1_meets_53 (by decide) ?_
        subst hQ
        exact W.iret (v := nI 1) hx hb hrt (fun t ht _ => ⟨_, rfl, (show nI 1 = (if meetsB N (nI j) (nI k) = true then bI (dmS G J (tn (nI j)) (tn (nI k)) (N 14) (N 19) (N 42) (N 43)) else -1) from by rw [if_pos (by simp [meetsB, c_14, c_28, tn_nI (show j < 2 ^ 31 by omega), tn_nI (show k < 2 ^ 31 by omega)]), tn_nI (show j < 2 ^ 31 by omega), tn_nI (show k < 2 ^ 31 by omega)]; exact retB1 c_49), ht⟩) t_nil dX1_meets_57
    · refine lv_iconst (v := -1) hx hb dX1_meets_31 (by decide) ?_
      subst hQ
      exact W.iret (v := (-1)) hx hb hrt (fun t ht _ => ⟨_, rfl, (show (-1) = (if meetsB N (nI j) o = true then bI (dmS G J (tn (nI j)) (tn o) (N 14) (N 19) (N 42) (N 43)) else -1) from by rw [if_neg (by simp [meetsB, c_14, c_28, tn_nI (show j < 2 ^ 31 by omega)])]), ht⟩) t_nil dX1_meets_32
theorem w_X1_meets {R : Room} {s : State} {args : Array Value} {own : String} {idx : Nat} (hts : ∀ w ∈ lw_all, w.before args s = true) (h1 : Cond.methodLink own idx yX1_meets ∈ lw_all) {rm : Room} {mc ms : Nat} (hrc : rm.cells = mc) (hrs : rm.slots = ms) (hR : rm.frames + 1 ≤ R.frames ∧ 8 + (3 + 11) + rm.locals ≤ R.locals) : CallW R s args own RX1 idx yX1_meets cX1_meets 3 (some .int) (ws_ yX1_meets cX1_meets 3 (some .int)) rm mc ms 2 := cwV 2 hts (lw_V h1 q1195 q1196 q62 q1197) rfl hrc hrs (by decide +kernel) hR

abbrev r_X1_inJar : Room := { frames := 3, cells := 0, slots := 0, locals := 64 }
set_option maxHeartbeats 1000000 in
theorem c_X1_inJar (lh : Launch) (A : Nat → Prop) (D : va_G) (dA : Nat → ClassId) (K : Nat → Nat) (ad X : Nat → Nat → Nat) (Y : Nat → Nat → Nat → Int32) (N : Nat → Nat) (I : Nat → Int32) (G : Nat → Nat → Nat) (J : Nat → Nat → Int32) (j : Int32) (l : Int32) (h1 : N 40 ≤ 60) (h2 : N 1 ≤ 20) (h3 : XOk N G X) : Met lh yX1_inJar (ws_ yX1_inJar cX1_inJar 3 (some .int)) r_X1_inJar (PX (fun U H => RH A D dA K ad X Y N I G J H ∧ GK D dA U) [.ref (ad 0 0), .int j, .int l]) (vp_Si (fun rv => rv = (if inJarB N j l = true then nI (G 41 (20 * tn j + tn l)) else -1))) 0 0 (fun _ => False) := by
  refine Met.ofW (cc := cX1_inJar) (maxL := 3) (ret := (some .int)) (by decide) rfl ?_
  intro p e s m args below meth cd s₁ B hml hv
  obtain ⟨hargs, hH, hG⟩ := hv
  have hx := B.exec
  have hb := B.bytes
  have hrt := B.returns
  have hts := atoms_spec (ws := (ws_ yX1_inJar cX1_inJar 3 (some .int))) B.pre
  have hts : ∀ w ∈ lw_all, w.before _ s = true := fun w h => hts w (List.mem_cons_of_mem _ h)
  have hown : s.vm.findClass RX1 = some m.cls := findClass_of_methodNamed B.named
  have hlocks := B.notSynchronized
  have hE : entryFrame m args 3 = F0 m 0 ((lg_sl ([.ref (ad 0 0), .int j, .int l]) ++ List.replicate (3 - (lg_sl ([.ref (ad 0 0), .int j, .int l])).length) Slot.unset).toArray) [] := by rw [hargs]; exact lg_entry_eq m _ 3
  have hl := lv_entry ([.ref (ad 0 0), .int j, .int l]) (n := 3) (Nat.le_of_ble_eq_true rfl)
  rw [hE]
  clear hE
  generalize (lg_sl ([.ref (ad 0 0), .int j, .int l]) ++ List.replicate (3 - (lg_sl ([.ref (ad 0 0), .int j, .int l])).length) Slot.unset).toArray = ls at hl ⊢
  have hl : lv_has ls 3 [(0, .ref (ad 0 0)), (1, .int j), (2, .int l)] := hl
  generalize hQ : MQ _ _ _ _ _ _ _ = Q
  have hX := h3
  refine lv_iload_n hx hb dX1_inJar_0 rfl (lv_at hl 1 rfl) ?_
  refine lv_iconst (v := nI 0) hx hb dX1_inJar_1 (by decide) ?_
  refine lv_aload_n hx hb dX1_inJar_2 rfl (lv_at hl 0 rfl) ?_
  refine ko_get (C := RX1) (T := TX1) (N := 28) (ci := 1) (v := .ref (ad 4 3)) hx hb hts in_X1 hown hG.1 hH.o0 rfl 6 (by decide) q191 (fun _ h => h) (rfl) dX1_inJar_3 ?_
  refine vp_callSi (va_Run.call (va_runV (As := []) (rest := [.int (nI 0), .int j]) ⟨hx, hb, hml, hown, hts⟩ (c_J2_size lh D dA (ad 4 3) (Y 3 3 0) (elH K ad X 3) (N 40)) (w_J2_size hts q284 rfl rfl ⟨Nat.le_of_ble_eq_true rfl, Nat.le_of_ble_eq_true rfl⟩) ⟨PX.blind (Mv.and Mv.heap Mv.gk), (O_recv hG (hH.li 3 (by decide)) rfl), PX.pre (Mv.and Mv.heap Mv.gk) ⟨(hH.li 3 (by decide)), hG⟩⟩ rfl rfl hl.1 rfl (lv_room (Nat.le_of_ble_eq_true rfl)) dX1_inJar_6 ⟨Nat.le_of_ble_eq_true rfl, Nat.le_of_ble_eq_true rfl⟩)) (fun rr hrr => ?_)
  subst hrr
  refine lv_iconst (v := nI 1) hx hb dX1_inJar_9 (by decide) ?_
  refine lv_isub hx hb dX1_inJar_10 ?_
  refine vp_callSi (W.runS (As := [.int j, .int (nI 0), .int (nI (N 40) - (nI 1))]) (rest := []) ⟨hx, hb, hml, hown, hts⟩ (c_X1_in lh j (nI 0) (nI (N 40) - (nI 1))) (w_X1_in hts q277 rfl rfl ⟨Nat.le_of_ble_eq_true rfl, Nat.le_of_ble_eq_true rfl⟩) ⟨P0.blind, P0.pre⟩ rfl rfl hl.1 rfl (lv_room (Nat.le_of_ble_eq_true rfl)) dX1_inJar_11 ⟨Nat.le_of_ble_eq_true rfl, Nat.le_of_ble_eq_true rfl⟩) (fun rr hrr => ?_)
  subst hrr
  refine kb_eq (tgt := 50) hx hb dX1_inJar_14 (by decide) (fun c_14 => ?_) (fun c_14 => ?_)
  · refine lv_iconst (v := -1) hx hb dX1_inJar_50 (by decide) ?_
    subst hQ
    exact W.iret (v := (-1)) hx hb hrt (fun t ht _ => ⟨_, rfl, (show (-1) = (if inJarB N j l = true then nI (G 41 (20 * tn j + tn l)) else -1) from by rw [if_neg (by simp [inJarB, c_14])]), ht⟩) t_nil dX1_inJar_51
  · obtain ⟨k, hk, rfl⟩ := wi_cnt (by omega) c_14
    refine lv_iload_n hx hb dX1_inJar_17 rfl (lv_at hl 2 rfl) ?_
    refine lv_iconst (v := nI 0) hx hb dX1_inJar_18 (by decide) ?_
    refine lv_aload_n hx hb dX1_inJar_19 rfl (lv_at hl 0 rfl) ?_
    refine ko_get (C := RX1) (T := TX1) (N := 28) (ci := 1) (v := .int (nI (N 1))) hx hb hts in_X1 hown hG.1 hH.o0 rfl 8 (by decide) q193 (fun _ h => h) (rfl) dX1_inJar_20 ?_
    refine lv_iconst (v := nI 1) hx hb dX1_inJar_23 (by decide) ?_
    refine lv_isub hx hb dX1_inJar_24 ?_
    refine vp_callSi (W.runS (As := [.int l, .int (nI 0), .int (nI (N 1) - (nI 1))]) (rest := []) ⟨hx, hb, hml, hown, hts⟩ (c_X1_in lh l (nI 0) (nI (N 1) - (nI 1))) (w_X1_in hts q277 rfl rfl ⟨Nat.le_of_ble_eq_true rfl, Nat.le_of_ble_eq_true rfl⟩) ⟨P0.blind, P0.pre⟩ rfl rfl hl.1 rfl (lv_room (Nat.le_of_ble_eq_true rfl)) dX1_inJar_25 ⟨Nat.le_of_ble_eq_true rfl, Nat.le_of_ble_eq_true rfl⟩) (fun rr hrr => ?_)
    subst hrr
    refine kb_eq (tgt := 50) hx hb dX1_inJar_28 (by decide) (fun c_28 => ?_) (fun c_28 => ?_)
    · refine lv_iconst (v := -1) hx hb dX1_inJar_50 (by decide) ?_
      subst hQ
      exact W.iret (v := (-1)) hx hb hrt (fun t ht _ => ⟨_, rfl, (show (-1) = (if inJarB N (nI k) l = true then nI (G 41 (20 * tn (nI k) + tn l)) else -1) from by rw [if_neg (by simp [inJarB, c_14, c_28, tn_nI (show k < 2 ^ 31 by omega)])]), ht⟩) t_nil dX1_inJar_51
    · obtain ⟨x, hxx, rfl⟩ := wi_cnt (by omega) c_28
      refine lv_aload_n hx hb dX1_inJar_31 rfl (lv_at hl 0 rfl) ?_
      refine ko_get (C := RX1) (T := TX1) (N := 28) (ci := 1) (v := .ref (ad 4 3)) hx hb hts in_X1 hown hG.1 hH.o0 rfl 6 (by decide) q191 (fun _ h => h) (rfl) dX1_inJar_32 ?_
      refine lv_iload_n hx hb dX1_inJar_35 rfl (lv_at hl 1 rfl) ?_
      refine va_csq (va_Run.call (va_runV (As := [.int (nI k)]) (rest := []) ⟨hx, hb, hml, hown, hts⟩ (c_J2_get lh D dA (ad 4 3) (Y 3 3 0) (ad 5 3) (N 40) (X 0 3) (ltH ad 11 (N 40) 0) (k) (ad 11 k) (show k < N 40 from by omega) ((hX.1 3 (by decide)).1) ((hX.1 3 (by decide)).2) (ltH_0 (show k < N 40 from by omega))) (w_J2_get hts q292 rfl rfl ⟨Nat.le_of_ble_eq_true rfl, Nat.le_of_ble_eq_true rfl⟩) ⟨PX.blind (Mv.and Mv.heap (Mv.and Mv.heap Mv.gk)), (O_recv hG (hH.lo 3 (by decide) (by have hx0 : N 40 ≤ X 0 3 := (hX.1 3 (by decide)).1; omega)) rfl), PX.pre (Mv.and Mv.heap (Mv.and Mv.heap Mv.gk)) ⟨(hH.lo 3 (by decide) (by have hx0 : N 40 ≤ X 0 3 := (hX.1 3 (by decide)).1; omega)), (hH.la 3 (by decide) (by have hx0 : N 40 ≤ X 0 3 := (hX.1 3 (by decide)).1; omega)), hG⟩⟩ rfl rfl hl.1 rfl (lv_room (Nat.le_of_ble_eq_true rfl)) dX1_inJar_36 ⟨Nat.le_of_ble_eq_true rfl, Nat.le_of_ble_eq_true rfl⟩)) (fun rr hrr => ?_)
      subst hrr
      show W p lh e r_X1_inJar s m args below meth cd _ _ _ _ Q (F0 m _ ls (.ref (ad 11 k) :: _))
      refine va_castE hx hb hown (hts _ q1163) (O_recv hG (hH.ja (show k < N 40 from by omega)) rfl) dX1_inJar_39 ?_
      refine ko_get (C := RX18) (T := TX18) (N := 1) (ci := 3) (v := .ref (ad 12 k)) hx hb hts in_X18 hown hG.1 (hH.ja (show k < N 40 from by omega)) rfl 0 (by decide) q340 (u_same (hts _ q341)) (rfl) dX1_inJar_42 ?_
      refine lv_iload_n hx hb dX1_inJar_45 rfl (lv_at hl 2 rfl) ?_
      refine ka_iald (v := nI (G 41 (20 * k + x))) hx hb hG.1 (hH.jg (show k < N 40 from by omega)) 0 rfl (show x < 20 from by omega) (by decide) (tr20_in (by omega)) dX1_inJar_46 ?_
      refine lv_goto (tgt := 51) hx hb dX1_inJar_47 (by decide) ?_
      subst hQ
      exact W.iret (v := nI (G 41 (20 * k + x))) hx hb hrt (fun t ht _ => ⟨_, rfl, (show nI (G 41 (20 * k + x)) = (if inJarB N (nI k) (nI x) = true then nI (G 41 (20 * tn (nI k) + tn (nI x))) else -1) from by rw [if_pos (by simp [inJarB, c_14, c_28, tn_nI (show k < 2 ^ 31 by omega), tn_nI (show x < 2 ^ 31 by omega)]), tn_nI (show k < 2 ^ 31 by omega), tn_nI (show x < 2 ^ 31 by omega)]), ht⟩) t_nil dX1_inJar_51
theorem w_X1_inJar {R : Room} {s : State} {args : Array Value} {own : String} {idx : Nat} (hts : ∀ w ∈ lw_all, w.before args s = true) (h1 : Cond.methodLink own idx yX1_inJar ∈ lw_all) {rm : Room} {mc ms : Nat} (hrc : rm.cells = mc) (hrs : rm.slots = ms) (hR : rm.frames + 1 ≤ R.frames ∧ 8 + (3 + 11) + rm.locals ≤ R.locals) : CallW R s args own RX1 idx yX1_inJar cX1_inJar 3 (some .int) (ws_ yX1_inJar cX1_inJar 3 (some .int)) rm mc ms 2 := cwV 2 hts (lw_V h1 q1179 q1180 q62 q1181) rfl hrc hrs (by decide +kernel) hR

abbrev r_X1_called : Room := { frames := 3, cells := 0, slots := 0, locals := 64 }
set_option maxHeartbeats 1000000 in
theorem c_X1_called (lh : Launch) (A : Nat → Prop) (D : va_G) (dA : Nat → ClassId) (K : Nat → Nat) (ad X : Nat → Nat → Nat) (Y : Nat → Nat → Nat → Int32) (N : Nat → Nat) (I : Nat → Int32) (G : Nat → Nat → Nat) (J : Nat → Nat → Int32) (l : Int32) (h1 : ∀ a b, G a b < 2 ^ 31) (h2 : N 40 ≤ 60) (h3 : N 1 ≤ 20) (h4 : XOk N G X) : Met lh yX1_called (ws_ yX1_called cX1_called 4 (some .int)) r_X1_called (PX (fun U H => RH A D dA K ad X Y N I G J H ∧ GK D dA U) [.ref (ad 0 0), .int l]) (vp_Si (fun rv => rv = (if wi l (nI 0) (nI (N 1) - nI 1) = true then nI (calledS G (tn l) (N 40)) else nI 0))) 0 0 (fun _ => False) := by
  refine Met.ofW (cc := cX1_called) (maxL := 4) (ret := (some .int)) (by decide) rfl ?_
  intro p e s m args below meth cd s₁ B hml hv
  obtain ⟨hargs, hH, hG⟩ := hv
  have hx := B.exec
  have hb := B.bytes
  have hrt := B.returns
  have hts := atoms_spec (ws := (ws_ yX1_called cX1_called 4 (some .int))) B.pre
  have hts : ∀ w ∈ lw_all, w.before _ s = true := fun w h => hts w (List.mem_cons_of_mem _ h)
  have hown : s.vm.findClass RX1 = some m.cls := findClass_of_methodNamed B.named
  have hlocks := B.notSynchronized
  have hE : entryFrame m args 4 = F0 m 0 ((lg_sl ([.ref (ad 0 0), .int l]) ++ List.replicate (4 - (lg_sl ([.ref (ad 0 0), .int l])).length) Slot.unset).toArray) [] := by rw [hargs]; exact lg_entry_eq m _ 4
  have hl := lv_entry ([.ref (ad 0 0), .int l]) (n := 4) (Nat.le_of_ble_eq_true rfl)
  rw [hE]
  clear hE
  generalize (lg_sl ([.ref (ad 0 0), .int l]) ++ List.replicate (4 - (lg_sl ([.ref (ad 0 0), .int l])).length) Slot.unset).toArray = ls at hl ⊢
  have hl : lv_has ls 4 [(0, .ref (ad 0 0)), (1, .int l)] := hl
  generalize hQ : MQ _ _ _ _ _ _ _ = Q
  have hX := h4
  refine lv_iconst (v := nI 0) hx hb dX1_called_0 (by decide) ?_
  refine lv_istore_n (lv' := [(2, .int (nI 0)), (0, .ref (ad 0 0)), (1, .int l)]) hx hb dX1_called_1 rfl hl (by decide) rfl (fun ls hl => ?_)
  by_cases hw : wi l (nI 0) (nI (N 1) - nI 1) = true
  · obtain ⟨k, hk, rfl⟩ := wi_cnt (by omega) hw
    refine lv_iconst (v := nI 0) hx hb dX1_called_2 (by decide) ?_
    refine lv_istore_n (lv' := [(3, .int (nI 0)), (2, .int (nI 0)), (0, .ref (ad 0 0)), (1, .int (nI k))]) hx hb dX1_called_3 rfl hl (by decide) rfl (fun ls hl => ?_)
    have L4 : ∀ (nn4 : Nat) (q : Nat), (q ≤ N 40) → N 40 - q < nn4 → ∀ (ls : Array Slot), lv_has ls 4 [(0, .ref (ad 0 0)), (1, .int (nI k)), (2, .int (nI (calledS G k q))), (3, .int (nI q))] → W p lh e r_X1_called s m args below meth cd s.heap [] 0 0 Q (F0 m 4 ls []) := by
      intro nn4
      induction nn4 with
      | zero => intro q i4_0 hm4; exact absurd hm4 (Nat.not_lt_zero _)
      | succ nn4 ih4 =>
        intro q i4_0 hm4 ls hl
        refine lv_iload_n hx hb dX1_called_4 rfl (lv_at hl 3 rfl) ?_
        refine lv_aload_n hx hb dX1_called_5 rfl (lv_at hl 0 rfl) ?_
        refine ko_get (C := RX1) (T := TX1) (N := 28) (ci := 1) (v := .ref (ad 4 3)) hx hb hts in_X1 hown hG.1 hH.o0 rfl 6 (by decide) q191 (fun _ h => h) (rfl) dX1_called_6 ?_
        refine vp_callSi (va_Run.call (va_runV (As := []) (rest := [.int (nI q)]) ⟨hx, hb, hml, hown, hts⟩ (c_J2_size lh D dA (ad 4 3) (Y 3 3 0) (elH K ad X 3) (N 40)) (w_J2_size hts q284 rfl rfl ⟨Nat.le_of_ble_eq_true rfl, Nat.le_of_ble_eq_true rfl⟩) ⟨PX.blind (Mv.and Mv.heap Mv.gk), (O_recv hG (hH.li 3 (by decide)) rfl), PX.pre (Mv.and Mv.heap Mv.gk) ⟨(hH.li 3 (by decide)), hG⟩⟩ rfl rfl hl.1 rfl (lv_room (Nat.le_of_ble_eq_true rfl)) dX1_called_9 ⟨Nat.le_of_ble_eq_true rfl, Nat.le_of_ble_eq_true rfl⟩)) (fun rr hrr => ?_)
        subst hrr
        refine kn_cge (tgt := 62) hx hb dX1_called_12 (by decide) (by omega) (by omega) (fun c_12 => ?_) (fun c_12 => ?_)
        · refine lv_iload_n hx hb dX1_called_62 rfl (lv_at hl 2 rfl) ?_
          subst hQ
          exact W.iret (v := nI (calledS G k q)) hx hb hrt (fun t ht _ => ⟨_, rfl, (show nI (calledS G k q) = (if wi (nI k) (nI 0) (nI (N 1) - nI 1) = true then nI (calledS G (tn (nI k)) (N 40)) else nI 0) from by rw [if_pos hw, tn_nI (show k < 2 ^ 31 by omega), show N 40 = q by omega]), ht⟩) t_nil dX1_called_63
        · refine lv_iload_n hx hb dX1_called_15 rfl (lv_at hl 1 rfl) ?_
          refine lv_iconst (v := nI 0) hx hb dX1_called_16 (by decide) ?_
          refine lv_aload_n hx hb dX1_called_17 rfl (lv_at hl 0 rfl) ?_
          refine ko_get (C := RX1) (T := TX1) (N := 28) (ci := 1) (v := .int (nI (N 1))) hx hb hts in_X1 hown hG.1 hH.o0 rfl 8 (by decide) q193 (fun _ h => h) (rfl) dX1_called_18 ?_
          refine lv_iconst (v := nI 1) hx hb dX1_called_21 (by decide) ?_
          refine lv_isub hx hb dX1_called_22 ?_
          refine vp_callSi (W.runS (As := [.int (nI k), .int (nI 0), .int (nI (N 1) - (nI 1))]) (rest := []) ⟨hx, hb, hml, hown, hts⟩ (c_X1_in lh (nI k) (nI 0) (nI (N 1) - (nI 1))) (w_X1_in hts q277 rfl rfl ⟨Nat.le_of_ble_eq_true rfl, Nat.le_of_ble_eq_true rfl⟩) ⟨P0.blind, P0.pre⟩ rfl rfl hl.1 rfl (lv_room (Nat.le_of_ble_eq_true rfl)) dX1_called_23 ⟨Nat.le_of_ble_eq_true rfl, Nat.le_of_ble_eq_true rfl⟩) (fun rr hrr => ?_)
          subst hrr
          refine kb_eq (tgt := 62) hx hb dX1_called_26 (by decide) (fun c_26 => ?_) (fun c_26 => ?_)
          · exact absurd hw (by rw [c_26]; decide)
          · refine lv_iload_n hx hb dX1_called_29 rfl (lv_at hl 2 rfl) ?_
            refine lv_aload_n hx hb dX1_called_30 rfl (lv_at hl 0 rfl) ?_
            refine ko_get (C := RX1) (T := TX1) (N := 28) (ci := 1) (v := .ref (ad 4 3)) hx hb hts in_X1 hown hG.1 hH.o0 rfl 6 (by decide) q191 (fun _ h => h) (rfl) dX1_called_31 ?_
            refine lv_iload_n hx hb dX1_called_34 rfl (lv_at hl 3 rfl) ?_
            refine va_csq (va_Run.call (va_runV (As := [.int (nI q)]) (rest := [.int (nI (calledS G k q))]) ⟨hx, hb, hml, hown, hts⟩ (c_J2_get lh D dA (ad 4 3) (Y 3 3 0) (ad 5 3) (N 40) (X 0 3) (ltH ad 11 (N 40) 0) (q) (ad 11 q) (show q < N 40 from by omega) ((hX.1 3 (by decide)).1) ((hX.1 3 (by decide)).2) (ltH_0 (show q < N 40 from by omega))) (w_J2_get hts q292 rfl rfl ⟨Nat.le_of_ble_eq_true rfl, Nat.le_of_ble_eq_true rfl⟩) ⟨PX.blind (Mv.and Mv.heap (Mv.and Mv.heap Mv.gk)), (O_recv hG (hH.lo 3 (by decide) (by have hx0 : N 40 ≤ X 0 3 := (hX.1 3 (by decide)).1; omega)) rfl), PX.pre (Mv.and Mv.heap (Mv.and Mv.heap Mv.gk)) ⟨(hH.lo 3 (by decide) (by have hx0 : N 40 ≤ X 0 3 := (hX.1 3 (by decide)).1; omega)), (hH.la 3 (by decide) (by have hx0 : N 40 ≤ X 0 3 := (hX.1 3 (by decide)).1; omega)), hG⟩⟩ rfl rfl hl.1 rfl (lv_room (Nat.le_of_ble_eq_true rfl)) dX1_called_35 ⟨Nat.le_of_ble_eq_true rfl, Nat.le_of_ble_eq_true rfl⟩)) (fun rr hrr => ?_)
            subst hrr
            show W p lh e r_X1_called s m args below meth cd _ _ _ _ Q (F0 m _ ls (.ref (ad 11 q) :: _))
            refine va_castE hx hb hown (hts _ q1163) (O_recv hG (hH.ja (show q < N 40 from by omega)) rfl) dX1_called_38 ?_
            refine ko_get (C := RX18) (T := TX18) (N := 1) (ci := 3) (v := .ref (ad 12 q)) hx hb hts in_X18 hown hG.1 (hH.ja (show q < N 40 from by omega)) rfl 0 (by decide) q340 (u_same (hts _ q341)) (rfl) dX1_called_41 ?_
            refine lv_iload_n hx hb dX1_called_44 rfl (lv_at hl 1 rfl) ?_
            refine ka_iald (v := nI (G 41 (20 * q + k))) hx hb hG.1 (hH.jg (show q < N 40 from by omega)) 0 rfl (show k < 20 from by omega) (by decide) (tr20_in (by omega)) dX1_called_45 ?_
            refine kn_zle (tgt := 53) hx hb dX1_called_46 (by decide) (h1 _ _) (fun c_46 => ?_) (fun c_46 => ?_)
            · refine lv_iconst (v := nI 0) hx hb dX1_called_53 (by decide) ?_
              refine kn_add hx hb dX1_called_54 ?_
              refine lv_istore_n (lv' := [(2, .int (nI (calledS G k q + 0))), (0, .ref (ad 0 0)), (1, .int (nI k)), (3, .int (nI q))]) hx hb dX1_called_55 rfl hl (by decide) rfl (fun ls hl => ?_)
              refine lv_iinc (v := nI (q + 1)) (lv' := [(3, .int (nI (q + 1))), (2, .int (nI (calledS G k q + 0))), (0, .ref (ad 0 0)), (1, .int (nI k))]) hx hb dX1_called_56 hl (k := 3) rfl (show nI q + Int32.ofInt 1 = nI (q + 1) from nI_add _ 1) (by decide) rfl (fun ls hl => ?_)
              refine lv_goto (tgt := 4) hx hb dX1_called_59 (by decide) ?_
              exact ih4 (q + 1) (by omega) (by omega) _ (lv_conv (show lv_has ls 4 [(0, .ref (ad 0 0)), (1, .int (nI k)), (2, .int (nI (calledS G k q + 0))), (3, .int (nI (q + 1)))] from (lv_sub hl [2, 3, 1, 0] rfl)) (by simp [calledS, c_46]))
            · refine lv_iconst (v := nI 1) hx hb dX1_called_49 (by decide) ?_
              refine lv_goto (tgt := 54) hx hb dX1_called_50 (by decide) ?_
              refine kn_add hx hb dX1_called_54 ?_
              refine lv_istore_n (lv' := [(2, .int (nI (calledS G k q + 1))), (0, .ref (ad 0 0)), (1, .int (nI k)), (3, .int (nI q))]) hx hb dX1_called_55 rfl hl (by decide) rfl (fun ls hl => ?_)
              refine lv_iinc (v := nI (q + 1)) (lv' := [(3, .int (nI (q + 1))), (2, .int (nI (calledS G k q + 1))), (0, .ref (ad 0 0)), (1, .int (nI k))]) hx hb dX1_called_56 hl (k := 3) rfl (show nI q + Int32.ofInt 1 = nI (q + 1) from nI_add _ 1) (by decide) rfl (fun ls hl => ?_)
              refine lv_goto (tgt := 4) hx hb dX1_called_59 (by decide) ?_
              exact ih4 (q + 1) (by omega) (by omega) _ (lv_conv (show lv_has ls 4 [(0, .ref (ad 0 0)), (1, .int (nI k)), (2, .int (nI (calledS G k q + 1))), (3, .int (nI (q + 1)))] from (lv_sub hl [2, 3, 1, 0] rfl)) (by simp [calledS, Nat.ne_of_gt c_46]))
    exact L4 _ 0 (by omega) (Nat.lt_succ_self _) _ (lv_sub hl [2, 3, 1, 0] rfl)
  · refine lv_iconst (v := nI 0) hx hb dX1_called_2 (by decide) ?_
    refine lv_istore_n (lv' := [(3, .int (nI 0)), (2, .int (nI 0)), (0, .ref (ad 0 0)), (1, .int l)]) hx hb dX1_called_3 rfl hl (by decide) rfl (fun ls hl => ?_)
    have L4 : ∀ (nn4 : Nat) (q : Nat), (q ≤ N 40) → (¬ wi l (nI 0) (nI (N 1) - nI 1) = true → q = 0) → N 40 - q < nn4 → ∀ (ls : Array Slot), lv_has ls 4 [(0, .ref (ad 0 0)), (1, .int l), (2, .int (nI q)), (3, .int (nI q))] → W p lh e r_X1_called s m args below meth cd s.heap [] 0 0 Q (F0 m 4 ls []) := by
      intro nn4
      induction nn4 with
      | zero => intro q i4_0 i4_1 hm4; exact absurd hm4 (Nat.not_lt_zero _)
      | succ nn4 ih4 =>
        intro q i4_0 i4_1 hm4 ls hl
        refine lv_iload_n hx hb dX1_called_4 rfl (lv_at hl 3 rfl) ?_
        refine lv_aload_n hx hb dX1_called_5 rfl (lv_at hl 0 rfl) ?_
        refine ko_get (C := RX1) (T := TX1) (N := 28) (ci := 1) (v := .ref (ad 4 3)) hx hb hts in_X1 hown hG.1 hH.o0 rfl 6 (by decide) q191 (fun _ h => h) (rfl) dX1_called_6 ?_
        refine vp_callSi (va_Run.call (va_runV (As := []) (rest := [.int (nI q)]) ⟨hx, hb, hml, hown, hts⟩ (c_J2_size lh D dA (ad 4 3) (Y 3 3 0) (elH K ad X 3) (N 40)) (w_J2_size hts q284 rfl rfl ⟨Nat.le_of_ble_eq_true rfl, Nat.le_of_ble_eq_true rfl⟩) ⟨PX.blind (Mv.and Mv.heap Mv.gk), (O_recv hG (hH.li 3 (by decide)) rfl), PX.pre (Mv.and Mv.heap Mv.gk) ⟨(hH.li 3 (by decide)), hG⟩⟩ rfl rfl hl.1 rfl (lv_room (Nat.le_of_ble_eq_true rfl)) dX1_called_9 ⟨Nat.le_of_ble_eq_true rfl, Nat.le_of_ble_eq_true rfl⟩)) (fun rr hrr => ?_)
        subst hrr
        refine kn_cge (tgt := 62) hx hb dX1_called_12 (by decide) (by omega) (by omega) (fun c_12 => ?_) (fun c_12 => ?_)
        · refine lv_iload_n hx hb dX1_called_62 rfl (lv_at hl 2 rfl) ?_
          subst hQ
          exact W.iret (v := nI q) hx hb hrt (fun t ht _ => ⟨_, rfl, (show nI q = (if wi l (nI 0) (nI (N 1) - nI 1) = true then nI (calledS G (tn l) (N 40)) else nI 0) from by rw [if_neg hw]; have hq := i4_1 hw; subst hq; rfl), ht⟩) t_nil dX1_called_63
        · refine lv_iload_n hx hb dX1_called_15 rfl (lv_at hl 1 rfl) ?_
          refine lv_iconst (v := nI 0) hx hb dX1_called_16 (by decide) ?_
          refine lv_aload_n hx hb dX1_called_17 rfl (lv_at hl 0 rfl) ?_
          refine ko_get (C := RX1) (T := TX1) (N := 28) (ci := 1) (v := .int (nI (N 1))) hx hb hts in_X1 hown hG.1 hH.o0 rfl 8 (by decide) q193 (fun _ h => h) (rfl) dX1_called_18 ?_
          refine lv_iconst (v := nI 1) hx hb dX1_called_21 (by decide) ?_
          refine lv_isub hx hb dX1_called_22 ?_
          refine vp_callSi (W.runS (As := [.int l, .int (nI 0), .int (nI (N 1) - (nI 1))]) (rest := []) ⟨hx, hb, hml, hown, hts⟩ (c_X1_in lh l (nI 0) (nI (N 1) - (nI 1))) (w_X1_in hts q277 rfl rfl ⟨Nat.le_of_ble_eq_true rfl, Nat.le_of_ble_eq_true rfl⟩) ⟨P0.blind, P0.pre⟩ rfl rfl hl.1 rfl (lv_room (Nat.le_of_ble_eq_true rfl)) dX1_called_23 ⟨Nat.le_of_ble_eq_true rfl, Nat.le_of_ble_eq_true rfl⟩) (fun rr hrr => ?_)
          subst hrr
          refine kb_eq (tgt := 62) hx hb dX1_called_26 (by decide) (fun c_26 => ?_) (fun c_26 => ?_)
          · refine lv_iload_n hx hb dX1_called_62 rfl (lv_at hl 2 rfl) ?_
            subst hQ
            exact W.iret (v := nI q) hx hb hrt (fun t ht _ => ⟨_, rfl, (show nI q = (if wi l (nI 0) (nI (N 1) - nI 1) = true then nI (calledS G (tn l) (N 40)) else nI 0) from by rw [if_neg hw]; have hq := i4_1 hw; subst hq; rfl), ht⟩) t_nil dX1_called_63
          · exact absurd c_26 hw
    exact L4 _ 0 (by omega) (fun _ => rfl) (Nat.lt_succ_self _) _ (lv_sub hl [2, 3, 1, 0] rfl)
theorem w_X1_called {R : Room} {s : State} {args : Array Value} {own : String} {idx : Nat} (hts : ∀ w ∈ lw_all, w.before args s = true) (h1 : Cond.methodLink own idx yX1_called ∈ lw_all) {rm : Room} {mc ms : Nat} (hrc : rm.cells = mc) (hrs : rm.slots = ms) (hR : rm.frames + 1 ≤ R.frames ∧ 8 + (4 + 11) + rm.locals ≤ R.locals) : CallW R s args own RX1 idx yX1_called cX1_called 4 (some .int) (ws_ yX1_called cX1_called 4 (some .int)) rm mc ms 1 := cwV 1 hts (lw_V h1 q1183 q1184 q62 q1185) rfl hrc hrs (by decide +kernel) hR

abbrev r_X1_inForce : Room := { frames := 3, cells := 0, slots := 0, locals := 64 }
set_option maxHeartbeats 1000000 in
theorem c_X1_inForce (lh : Launch) (A : Nat → Prop) (D : va_G) (dA : Nat → ClassId) (K : Nat → Nat) (ad X : Nat → Nat → Nat) (Y : Nat → Nat → Nat → Int32) (N : Nat → Nat) (I : Nat → Int32) (G : Nat → Nat → Nat) (J : Nat → Nat → Int32) (h1 : ∀ a b, G a b < 2 ^ 31) (h2 : N 14 ≤ 600) (h3 : N 23 ≤ 10) (h4 : XOk N G X) : Met lh yX1_inForce (ws_ yX1_inForce cX1_inForce 4 (some (.object "PickleHouse$Recipe"))) r_X1_inForce (PX (fun U H => RH A D dA K ad X Y N I G J H ∧ GK D dA U) [.ref (ad 0 0)]) (va_Sq (fun rv => rv = (ifS G (N 14 / 24) (N 23)).map (ad 10))) 0 0 (fun _ => False) := by
  refine Met.ofW (cc := cX1_inForce) (maxL := 4) (ret := (some (.object "PickleHouse$Recipe"))) (by decide) rfl ?_
  intro p e s m args below meth cd s₁ B hml hv
  obtain ⟨hargs, hH, hG⟩ := hv
  have hx := B.exec
  have hb := B.bytes
  have hrt := B.returns
  have hts := atoms_spec (ws := (ws_ yX1_inForce cX1_inForce 4 (some (.object "PickleHouse$Recipe")))) B.pre
  have hts : ∀ w ∈ lw_all, w.before _ s = true := fun w h => hts w (List.mem_cons_of_mem _ h)
  have hown : s.vm.findClass RX1 = some m.cls := findClass_of_methodNamed B.named
  have hlocks := B.notSynchronized
  have hE : entryFrame m args 4 = F0 m 0 ((lg_sl ([.ref (ad 0 0)]) ++ List.replicate (4 - (lg_sl ([.ref (ad 0 0)])).length) Slot.unset).toArray) [] := by rw [hargs]; exact lg_entry_eq m _ 4
  have hl := lv_entry ([.ref (ad 0 0)]) (n := 4) (Nat.le_of_ble_eq_true rfl)
  rw [hE]
  clear hE
  generalize (lg_sl ([.ref (ad 0 0)]) ++ List.replicate (4 - (lg_sl ([.ref (ad 0 0)])).length) Slot.unset).toArray = ls at hl ⊢
  have hl : lv_has ls 4 [(0, .ref (ad 0 0))] := hl
  generalize hQ : MQ _ _ _ _ _ _ _ = Q
  have hX := h4
  refine lv_null hx hb dX1_inForce_0 ?_
  refine lv_astore_nN (lv' := [(1, .null), (0, .ref (ad 0 0))]) hx hb dX1_inForce_1 rfl hl (by decide) rfl (fun ls hl => ?_)
  refine lv_iconst (v := nI 0) hx hb dX1_inForce_2 (by decide) ?_
  refine lv_istore_n (lv' := [(2, .int (nI 0)), (1, .null), (0, .ref (ad 0 0))]) hx hb dX1_inForce_3 rfl hl (by decide) rfl (fun ls hl => ?_)
  have L4 : ∀ (nn4 : Nat) (k : Nat), (k ≤ N 23) → N 23 - k < nn4 → ∀ (ls : Array Slot), lv_has ls 4 [(0, .ref (ad 0 0)), (1, va_rf ((ifS G (N 14 / 24) k).map (ad 10))), (2, .int (nI k))] → W p lh e r_X1_inForce s m args below meth cd s.heap [] 0 0 Q (F0 m 4 ls []) := by
    intro nn4
    induction nn4 with
    | zero => intro k i4_0 hm4; exact absurd hm4 (Nat.not_lt_zero _)
    | succ nn4 ih4 =>
      intro k i4_0 hm4 ls hl
      rcases ho : ifS G (N 14 / 24) k with _ | b
      · rw [ho] at hl
        have hl : lv_has ls 4 [(0, .ref (ad 0 0)), (1, .null), (2, .int (nI k))] := hl
        refine lv_iload_n hx hb dX1_inForce_4 rfl (lv_at hl 2 rfl) ?_
        refine lv_aload_n hx hb dX1_inForce_5 rfl (lv_at hl 0 rfl) ?_
        refine ko_get (C := RX1) (T := TX1) (N := 28) (ci := 1) (v := .ref (ad 4 2)) hx hb hts in_X1 hown hG.1 hH.o0 rfl 5 (by decide) q190 (fun _ h => h) (rfl) dX1_inForce_6 ?_
        refine vp_callSi (va_Run.call (va_runV (As := []) (rest := [.int (nI k)]) ⟨hx, hb, hml, hown, hts⟩ (c_J2_size lh D dA (ad 4 2) (Y 3 2 0) (elH K ad X 2) (N 23)) (w_J2_size hts q284 rfl rfl ⟨Nat.le_of_ble_eq_true rfl, Nat.le_of_ble_eq_true rfl⟩) ⟨PX.blind (Mv.and Mv.heap Mv.gk), (O_recv hG (hH.li 2 (by decide)) rfl), PX.pre (Mv.and Mv.heap Mv.gk) ⟨(hH.li 2 (by decide)), hG⟩⟩ rfl rfl hl.1 rfl (lv_room (Nat.le_of_ble_eq_true rfl)) dX1_inForce_9 ⟨Nat.le_of_ble_eq_true rfl, Nat.le_of_ble_eq_true rfl⟩)) (fun rr hrr => ?_)
        subst hrr
        refine kn_cge (tgt := 64) hx hb dX1_inForce_12 (by decide) (by omega) (by omega) (fun c_12 => ?_) (fun c_12 => ?_)
        · refine lv_aload_nN hx hb dX1_inForce_64 rfl (lv_at hl 1 rfl) ?_
          subst hQ
          exact W.aret (v := va_rf none) hx hb hrt (Or.inl ⟨_, rfl⟩) (va_rf_or _) (fun t ht _ => ⟨none, rfl, (show none = (ifS G (N 14 / 24) (N 23)).map (ad 10) from by rw [show N 23 = k by omega, ho]; rfl), ht⟩) t_nil dX1_inForce_65
        · refine lv_aload_n hx hb dX1_inForce_15 rfl (lv_at hl 0 rfl) ?_
          refine ko_get (C := RX1) (T := TX1) (N := 28) (ci := 1) (v := .ref (ad 4 2)) hx hb hts in_X1 hown hG.1 hH.o0 rfl 5 (by decide) q190 (fun _ h => h) (rfl) dX1_inForce_16 ?_
          refine lv_iload_n hx hb dX1_inForce_19 rfl (lv_at hl 2 rfl) ?_
          refine va_csq (va_Run.call (va_runV (As := [.int (nI k)]) (rest := []) ⟨hx, hb, hml, hown, hts⟩ (c_J2_get lh D dA (ad 4 2) (Y 3 2 0) (ad 5 2) (N 23) (X 0 2) (ltH ad 10 (N 23) 0) (k) (ad 10 k) (show k < N 23 from by omega) ((hX.1 2 (by decide)).1) ((hX.1 2 (by decide)).2) (ltH_0 (show k < N 23 from by omega))) (w_J2_get hts q292 rfl rfl ⟨Nat.le_of_ble_eq_true rfl, Nat.le_of_ble_eq_true rfl⟩) ⟨PX.blind (Mv.and Mv.heap (Mv.and Mv.heap Mv.gk)), (O_recv hG (hH.lo 2 (by decide) (by have hx0 : N 23 ≤ X 0 2 := (hX.1 2 (by decide)).1; omega)) rfl), PX.pre (Mv.and Mv.heap (Mv.and Mv.heap Mv.gk)) ⟨(hH.lo 2 (by decide) (by have hx0 : N 23 ≤ X 0 2 := (hX.1 2 (by decide)).1; omega)), (hH.la 2 (by decide) (by have hx0 : N 23 ≤ X 0 2 := (hX.1 2 (by decide)).1; omega)), hG⟩⟩ rfl rfl hl.1 rfl (lv_room (Nat.le_of_ble_eq_true rfl)) dX1_inForce_20 ⟨Nat.le_of_ble_eq_true rfl, Nat.le_of_ble_eq_true rfl⟩)) (fun rr hrr => ?_)
          subst hrr
          show W p lh e r_X1_inForce s m args below meth cd _ _ _ _ Q (F0 m _ ls (.ref (ad 10 k) :: _))
          refine va_castE hx hb hown (hts _ q462) (O_recv hG (hH.re (show k < N 23 from by omega)) rfl) dX1_inForce_23 ?_
          refine lv_astore_n (lv' := [(3, .ref (ad 10 k)), (0, .ref (ad 0 0)), (1, .null), (2, .int (nI k))]) hx hb dX1_inForce_26 rfl hl (by decide) rfl (fun ls hl => ?_)
          refine lv_aload_n hx hb dX1_inForce_27 rfl (lv_at hl 0 rfl) ?_
          refine ko_getN (C := RX6) (T := TX6) (N := 2) (ci := 5) (v := .int (nI (G 24 k))) hx hb hts in_X6 hown hG.1 (hH.re (show k < N 23 from by omega)) rfl 0 (by decide) (hG.2.1 _ q1128 rfl) (fun _ h => h) (rfl) dX1_inForce_28 ?_
          refine lv_aload_n hx hb dX1_inForce_31 rfl (lv_at hl 1 rfl) ?_
          refine ko_get (C := RX1) (T := TX1) (N := 28) (ci := 1) (v := .int (nI (N 14))) hx hb hts in_X1 hown hG.1 hH.o0 rfl 9 (by decide) q194 (fun _ h => h) (rfl) dX1_inForce_32 ?_
          refine lv_bipush (v := nI 24) hx hb dX1_inForce_35 (by decide) ?_
          refine kn_div hx hb dX1_inForce_37 (by omega) (by omega) (by omega) ?_
          refine kn_cgt (tgt := 58) hx hb dX1_inForce_38 (by decide) (h1 _ _) (by omega) (fun c_38 => ?_) (fun c_38 => ?_)
          · refine lv_iinc (v := nI (k + 1)) (lv' := [(2, .int (nI (k + 1))), (3, .ref (ad 10 k)), (0, .ref (ad 0 0)), (1, .null)]) hx hb dX1_inForce_58 hl (k := 3) rfl (show nI k + Int32.ofInt 1 = nI (k + 1) from nI_add _ 1) (by decide) rfl (fun ls hl => ?_)
            refine lv_goto (tgt := 4) hx hb dX1_inForce_61 (by decide) ?_
            exact ih4 (k + 1) (by omega) (by omega) _ (lv_conv (show lv_has ls 4 [(0, .ref (ad 0 0)), (1, .null), (2, .int (nI (k + 1)))] from (lv_sub hl [2, 3, 0] rfl)) (by rw [ifS_n (fun q => by omega), ho]; rfl))
          · refine lv_aload_nN hx hb dX1_inForce_41 rfl (lv_at hl 2 rfl) ?_
            refine lv_ifnullN (tgt := 56) hx hb dX1_inForce_42 (by decide) ?_
            refine lv_aload_n hx hb dX1_inForce_56 rfl (lv_at hl 0 rfl) ?_
            refine lv_astore_n (lv' := [(1, .ref (ad 10 k)), (3, .ref (ad 10 k)), (0, .ref (ad 0 0)), (2, .int (nI k))]) hx hb dX1_inForce_57 rfl hl (by decide) rfl (fun ls hl => ?_)
            refine lv_iinc (v := nI (k + 1)) (lv' := [(2, .int (nI (k + 1))), (1, .ref (ad 10 k)), (3, .ref (ad 10 k)), (0, .ref (ad 0 0))]) hx hb dX1_inForce_58 hl (k := 3) rfl (show nI k + Int32.ofInt 1 = nI (k + 1) from nI_add _ 1) (by decide) rfl (fun ls hl => ?_)
            refine lv_goto (tgt := 4) hx hb dX1_inForce_61 (by decide) ?_
            exact ih4 (k + 1) (by omega) (by omega) _ (lv_conv (show lv_has ls 4 [(0, .ref (ad 0 0)), (1, .ref (ad 10 k)), (2, .int (nI (k + 1)))] from (lv_sub hl [3, 1, 0] rfl)) (by rw [ifS_y c_38 (fun j q => by rw [ho] at q; cases q)]; rfl))
      · rw [ho] at hl
        have hl : lv_has ls 4 [(0, .ref (ad 0 0)), (1, .ref (ad 10 b)), (2, .int (nI k))] := hl
        have hbl := ifS_lt ho
        refine lv_iload_n hx hb dX1_inForce_4 rfl (lv_at hl 2 rfl) ?_
        refine lv_aload_n hx hb dX1_inForce_5 rfl (lv_at hl 0 rfl) ?_
        refine ko_get (C := RX1) (T := TX1) (N := 28) (ci := 1) (v := .ref (ad 4 2)) hx hb hts in_X1 hown hG.1 hH.o0 rfl 5 (by decide) q190 (fun _ h => h) (rfl) dX1_inForce_6 ?_
        refine vp_callSi (va_Run.call (va_runV (As := []) (rest := [.int (nI k)]) ⟨hx, hb, hml, hown, hts⟩ (c_J2_size lh D dA (ad 4 2) (Y 3 2 0) (elH K ad X 2) (N 23)) (w_J2_size hts q284 rfl rfl ⟨Nat.le_of_ble_eq_true rfl, Nat.le_of_ble_eq_true rfl⟩) ⟨PX.blind (Mv.and Mv.heap Mv.gk), (O_recv hG (hH.li 2 (by decide)) rfl), PX.pre (Mv.and Mv.heap Mv.gk) ⟨(hH.li 2 (by decide)), hG⟩⟩ rfl rfl hl.1 rfl (lv_room (Nat.le_of_ble_eq_true rfl)) dX1_inForce_9 ⟨Nat.le_of_ble_eq_true rfl, Nat.le_of_ble_eq_true rfl⟩)) (fun rr hrr => ?_)
        subst hrr
        refine kn_cge (tgt := 64) hx hb dX1_inForce_12 (by decide) (by omega) (by omega) (fun c_12 => ?_) (fun c_12 => ?_)
        · refine lv_aload_n hx hb dX1_inForce_64 rfl (lv_at hl 1 rfl) ?_
          subst hQ
          exact W.aret (v := va_rf (some (ad 10 b))) hx hb hrt (Or.inl ⟨_, rfl⟩) (va_rf_or _) (fun t ht _ => ⟨(some (ad 10 b)), rfl, (show (some (ad 10 b)) = (ifS G (N 14 / 24) (N 23)).map (ad 10) from by rw [show N 23 = k by omega, ho]; rfl), ht⟩) t_nil dX1_inForce_65
        · refine lv_aload_n hx hb dX1_inForce_15 rfl (lv_at hl 0 rfl) ?_
          refine ko_get (C := RX1) (T := TX1) (N := 28) (ci := 1) (v := .ref (ad 4 2)) hx hb hts in_X1 hown hG.1 hH.o0 rfl 5 (by decide) q190 (fun _ h => h) (rfl) dX1_inForce_16 ?_
          refine lv_iload_n hx hb dX1_inForce_19 rfl (lv_at hl 2 rfl) ?_
          refine va_csq (va_Run.call (va_runV (As := [.int (nI k)]) (rest := []) ⟨hx, hb, hml, hown, hts⟩ (c_J2_get lh D dA (ad 4 2) (Y 3 2 0) (ad 5 2) (N 23) (X 0 2) (ltH ad 10 (N 23) 0) (k) (ad 10 k) (show k < N 23 from by omega) ((hX.1 2 (by decide)).1) ((hX.1 2 (by decide)).2) (ltH_0 (show k < N 23 from by omega))) (w_J2_get hts q292 rfl rfl ⟨Nat.le_of_ble_eq_true rfl, Nat.le_of_ble_eq_true rfl⟩) ⟨PX.blind (Mv.and Mv.heap (Mv.and Mv.heap Mv.gk)), (O_recv hG (hH.lo 2 (by decide) (by have hx0 : N 23 ≤ X 0 2 := (hX.1 2 (by decide)).1; omega)) rfl), PX.pre (Mv.and Mv.heap (Mv.and Mv.heap Mv.gk)) ⟨(hH.lo 2 (by decide) (by have hx0 : N 23 ≤ X 0 2 := (hX.1 2 (by decide)).1; omega)), (hH.la 2 (by decide) (by have hx0 : N 23 ≤ X 0 2 := (hX.1 2 (by decide)).1; omega)), hG⟩⟩ rfl rfl hl.1 rfl (lv_room (Nat.le_of_ble_eq_true rfl)) dX1_inForce_20 ⟨Nat.le_of_ble_eq_true rfl, Nat.le_of_ble_eq_true rfl⟩)) (fun rr hrr => ?_)
          subst hrr
          show W p lh e r_X1_inForce s m args below meth cd _ _ _ _ Q (F0 m _ ls (.ref (ad 10 k) :: _))
          refine va_castE hx hb hown (hts _ q462) (O_recv hG (hH.re (show k < N 23 from by omega)) rfl) dX1_inForce_23 ?_
          refine lv_astore_n (lv' := [(3, .ref (ad 10 k)), (0, .ref (ad 0 0)), (1, .ref (ad 10 b)), (2, .int (nI k))]) hx hb dX1_inForce_26 rfl hl (by decide) rfl (fun ls hl => ?_)
          refine lv_aload_n hx hb dX1_inForce_27 rfl (lv_at hl 0 rfl) ?_
          refine ko_getN (C := RX6) (T := TX6) (N := 2) (ci := 5) (v := .int (nI (G 24 k))) hx hb hts in_X6 hown hG.1 (hH.re (show k < N 23 from by omega)) rfl 0 (by decide) (hG.2.1 _ q1128 rfl) (fun _ h => h) (rfl) dX1_inForce_28 ?_
          refine lv_aload_n hx hb dX1_inForce_31 rfl (lv_at hl 1 rfl) ?_
          refine ko_get (C := RX1) (T := TX1) (N := 28) (ci := 1) (v := .int (nI (N 14))) hx hb hts in_X1 hown hG.1 hH.o0 rfl 9 (by decide) q194 (fun _ h => h) (rfl) dX1_inForce_32 ?_
          refine lv_bipush (v := nI 24) hx hb dX1_inForce_35 (by decide) ?_
          refine kn_div hx hb dX1_inForce_37 (by omega) (by omega) (by omega) ?_
          refine kn_cgt (tgt := 58) hx hb dX1_inForce_38 (by decide) (h1 _ _) (by omega) (fun c_38 => ?_) (fun c_38 => ?_)
          · refine lv_iinc (v := nI (k + 1)) (lv' := [(2, .int (nI (k + 1))), (3, .ref (ad 10 k)), (0, .ref (ad 0 0)), (1, .ref (ad 10 b))]) hx hb dX1_inForce_58 hl (k := 3) rfl (show nI k + Int32.ofInt 1 = nI (k + 1) from nI_add _ 1) (by decide) rfl (fun ls hl => ?_)
            refine lv_goto (tgt := 4) hx hb dX1_inForce_61 (by decide) ?_
            exact ih4 (k + 1) (by omega) (by omega) _ (lv_conv (show lv_has ls 4 [(0, .ref (ad 0 0)), (1, .ref (ad 10 b)), (2, .int (nI (k + 1)))] from (lv_sub hl [2, 3, 0] rfl)) (by rw [ifS_n (fun q => by omega), ho]; rfl))
          · refine lv_aload_n hx hb dX1_inForce_41 rfl (lv_at hl 2 rfl) ?_
            refine lv_ifnull hx hb dX1_inForce_42 ?_
            refine lv_aload_n hx hb dX1_inForce_45 rfl (lv_at hl 0 rfl) ?_
            refine ko_getN (C := RX6) (T := TX6) (N := 2) (ci := 5) (v := .int (nI (G 24 k))) hx hb hts in_X6 hown hG.1 (hH.re (show k < N 23 from by omega)) rfl 0 (by decide) (hG.2.1 _ q1128 rfl) (fun _ h => h) (rfl) dX1_inForce_46 ?_
            refine lv_aload_n hx hb dX1_inForce_49 rfl (lv_at hl 2 rfl) ?_
            refine ko_getN (C := RX6) (T := TX6) (N := 2) (ci := 5) (v := .int (nI (G 24 b))) hx hb hts in_X6 hown hG.1 (hH.re (show b < N 23 from by omega)) rfl 0 (by decide) (hG.2.1 _ q1128 rfl) (fun _ h => h) (rfl) dX1_inForce_50 ?_
            refine kn_clt (tgt := 58) hx hb dX1_inForce_53 (by decide) (h1 _ _) (h1 _ _) (fun c_53 => ?_) (fun c_53 => ?_)
            · refine lv_iinc (v := nI (k + 1)) (lv' := [(2, .int (nI (k + 1))), (3, .ref (ad 10 k)), (0, .ref (ad 0 0)), (1, .ref (ad 10 b))]) hx hb dX1_inForce_58 hl (k := 3) rfl (show nI k + Int32.ofInt 1 = nI (k + 1) from nI_add _ 1) (by decide) rfl (fun ls hl => ?_)
              refine lv_goto (tgt := 4) hx hb dX1_inForce_61 (by decide) ?_
              exact ih4 (k + 1) (by omega) (by omega) _ (lv_conv (show lv_has ls 4 [(0, .ref (ad 0 0)), (1, .ref (ad 10 b)), (2, .int (nI (k + 1)))] from (lv_sub hl [2, 3, 0] rfl)) (by rw [ifS_n (fun q => by have := q.2 _ ho; omega), ho]; rfl))
            · refine lv_aload_n hx hb dX1_inForce_56 rfl (lv_at hl 0 rfl) ?_
              refine lv_astore_n (lv' := [(1, .ref (ad 10 k)), (3, .ref (ad 10 k)), (0, .ref (ad 0 0)), (2, .int (nI k))]) hx hb dX1_inForce_57 rfl hl (by decide) rfl (fun ls hl => ?_)
              refine lv_iinc (v := nI (k + 1)) (lv' := [(2, .int (nI (k + 1))), (1, .ref (ad 10 k)), (3, .ref (ad 10 k)), (0, .ref (ad 0 0))]) hx hb dX1_inForce_58 hl (k := 3) rfl (show nI k + Int32.ofInt 1 = nI (k + 1) from nI_add _ 1) (by decide) rfl (fun ls hl => ?_)
              refine lv_goto (tgt := 4) hx hb dX1_inForce_61 (by decide) ?_
              exact ih4 (k + 1) (by omega) (by omega) _ (lv_conv (show lv_has ls 4 [(0, .ref (ad 0 0)), (1, .ref (ad 10 k)), (2, .int (nI (k + 1)))] from (lv_sub hl [3, 1, 0] rfl)) (by rw [ifS_y c_38 (fun j q => by rw [ho] at q; cases q; exact c_53)]; rfl))
  exact L4 _ 0 (by omega) (Nat.lt_succ_self _) _ (lv_conv (show lv_has ls 4 [(0, .ref (ad 0 0)), (1, .null), (2, .int (nI 0))] from (lv_sub hl [2, 1, 0] rfl)) (rfl))
theorem w_X1_inForce {R : Room} {s : State} {args : Array Value} {own : String} {idx : Nat} (hts : ∀ w ∈ lw_all, w.before args s = true) (h1 : Cond.methodLink own idx yX1_inForce ∈ lw_all) {rm : Room} {mc ms : Nat} (hrc : rm.cells = mc) (hrs : rm.slots = ms) (hR : rm.frames + 1 ≤ R.frames ∧ 8 + (4 + 11) + rm.locals ≤ R.locals) : CallW R s args own RX1 idx yX1_inForce cX1_inForce 4 (some (.object "PickleHouse$Recipe")) (ws_ yX1_inForce cX1_inForce 4 (some (.object "PickleHouse$Recipe"))) rm mc ms 0 := cwV 0 hts (lw_V h1 q460 qs6 q62 q461) rfl hrc hrs (by decide +kernel) hR

abbrev r_X1_mixed : Room := { frames := 0, cells := 0, slots := 0, locals := 0 }
set_option maxHeartbeats 400000 in
theorem c_X1_mixed (lh : Launch) (a : Int64) (w : Nat) (b : Int64) (v : Nat) (up : Bool) (h1 : w < 2 ^ 31) (h2 : v < 2 ^ 31) (h3 : 0 < w + v) : Met lh yX1_mixed (ws_ yX1_mixed cX1_mixed 11 (some .int)) r_X1_mixed (P0 [.long a, .int (nI w), .long b, .int (nI v), .int (bI up)]) (vp_Si (fun rv => rv = if up = true then mixU (nI w).toInt64 (nI v).toInt64 a b else mixD (nI w).toInt64 (nI v).toInt64 a b)) 0 0 (fun _ => False) := by
  refine Met.ofW (cc := cX1_mixed) (maxL := 11) (ret := (some .int)) (by decide) rfl ?_
  intro p e s m args below meth cd s₁ B hml hv
  obtain ⟨hargs, -⟩ := hv
  have hx := B.exec
  have hb := B.bytes
  have hrt := B.returns
  have hts := atoms_spec (ws := (ws_ yX1_mixed cX1_mixed 11 (some .int))) B.pre
  have hts : ∀ w ∈ lw_all, w.before _ s = true := fun w h => hts w (List.mem_cons_of_mem _ h)
  have hown : s.vm.findClass RX1 = some m.cls := findClass_of_methodNamed B.named
  have hlocks := B.notSynchronized
  have hE : entryFrame m args 11 = F0 m 0 ((lg_sl ([.long a, .int (nI w), .long b, .int (nI v), .int (bI up)]) ++ List.replicate (11 - (lg_sl ([.long a, .int (nI w), .long b, .int (nI v), .int (bI up)])).length) Slot.unset).toArray) [] := by rw [hargs]; exact lg_entry_eq m _ 11
  have hl := lv_entry ([.long a, .int (nI w), .long b, .int (nI v), .int (bI up)]) (n := 11) (Nat.le_of_ble_eq_true rfl)
  rw [hE]
  clear hE
  generalize (lg_sl ([.long a, .int (nI w), .long b, .int (nI v), .int (bI up)]) ++ List.replicate (11 - (lg_sl ([.long a, .int (nI w), .long b, .int (nI v), .int (bI up)])).length) Slot.unset).toArray = ls at hl ⊢
  have hl : lv_has ls 11 [(0, .long a), (2, .int (nI w)), (3, .long b), (5, .int (nI v)), (6, .int (bI up))] := hl
  generalize hQ : MQ _ _ _ _ _ _ _ = Q
  refine lv_lload_n hx hb dX1_mixed_0 rfl (lv_at hl 0 rfl) ?_
  refine lv_iload_n hx hb dX1_mixed_1 rfl (lv_at hl 1 rfl) ?_
  refine lv_i2l (v := (nI w).toInt64) hx hb dX1_mixed_2 rfl ?_
  refine lv_lmul hx hb dX1_mixed_3 ?_
  refine lv_lload_n hx hb dX1_mixed_4 rfl (lv_at hl 2 rfl) ?_
  refine lv_iload hx hb dX1_mixed_5 (lv_at hl 3 rfl) ?_
  refine lv_i2l (v := (nI v).toInt64) hx hb dX1_mixed_7 rfl ?_
  refine lv_lmul hx hb dX1_mixed_8 ?_
  refine lv_ladd hx hb dX1_mixed_9 ?_
  refine lv_lstore (lv' := [(7, .long ((a * ((nI w).toInt64)) + (b * ((nI v).toInt64)))), (0, .long a), (2, .int (nI w)), (3, .long b), (5, .int (nI v)), (6, .int (bI up))]) hx hb dX1_mixed_10 hl (by decide) rfl (fun ls hl => ?_)
  refine lv_iload_n hx hb dX1_mixed_12 rfl (lv_at hl 2 rfl) ?_
  refine lv_i2l (v := (nI w).toInt64) hx hb dX1_mixed_13 rfl ?_
  refine lv_iload hx hb dX1_mixed_14 (lv_at hl 4 rfl) ?_
  refine lv_i2l (v := (nI v).toInt64) hx hb dX1_mixed_16 rfl ?_
  refine lv_ladd hx hb dX1_mixed_17 ?_
  refine lv_lstore (lv' := [(9, .long (((nI w).toInt64) + ((nI v).toInt64))), (7, .long ((a * ((nI w).toInt64)) + (b * ((nI v).toInt64)))), (0, .long a), (2, .int (nI w)), (3, .long b), (5, .int (nI v)), (6, .int (bI up))]) hx hb dX1_mixed_18 hl (by decide) rfl (fun ls hl => ?_)
  refine lv_lload hx hb dX1_mixed_20 (lv_at hl 1 rfl) ?_
  refine lv_iload hx hb dX1_mixed_22 (lv_at hl 6 rfl) ?_
  refine kb_eq (tgt := 34) hx hb dX1_mixed_24 (by decide) (fun c_24 => ?_) (fun c_24 => ?_)
  · refine lv_lconst (v := 0) hx hb dX1_mixed_34 (by decide) ?_
    refine lv_ladd hx hb dX1_mixed_35 ?_
    refine lv_lload hx hb dX1_mixed_36 (lv_at hl 0 rfl) ?_
    refine lv_ldiv hx hb dX1_mixed_38 (mix_ne h1 h2 h3) ?_
    refine lv_l2i (v := ((((a * ((nI w).toInt64)) + (b * ((nI v).toInt64))) + 0) / (((nI w).toInt64) + ((nI v).toInt64))).toInt32) hx hb dX1_mixed_39 rfl ?_
    subst hQ
    exact W.iret (v := ((((a * ((nI w).toInt64)) + (b * ((nI v).toInt64))) + 0) / (((nI w).toInt64) + ((nI v).toInt64))).toInt32) hx hb hrt (fun t ht _ => ⟨_, rfl, (show ((((a * ((nI w).toInt64)) + (b * ((nI v).toInt64))) + 0) / (((nI w).toInt64) + ((nI v).toInt64))).toInt32 = if up = true then mixU (nI w).toInt64 (nI v).toInt64 a b else mixD (nI w).toInt64 (nI v).toInt64 a b from by rw [if_neg (by rw [c_24]; decide)]; unfold mixD; rw [mix_d]), ht⟩) t_nil dX1_mixed_40
  · refine lv_lload hx hb dX1_mixed_27 (lv_at hl 0 rfl) ?_
    refine lv_lconst (v := 1) hx hb dX1_mixed_29 (by decide) ?_
    refine lv_lsub hx hb dX1_mixed_30 ?_
    refine lv_goto (tgt := 35) hx hb dX1_mixed_31 (by decide) ?_
    refine lv_ladd hx hb dX1_mixed_35 ?_
    refine lv_lload hx hb dX1_mixed_36 (lv_at hl 0 rfl) ?_
    refine lv_ldiv hx hb dX1_mixed_38 (mix_ne h1 h2 h3) ?_
    refine lv_l2i (v := ((((a * ((nI w).toInt64)) + (b * ((nI v).toInt64))) + ((((nI w).toInt64) + ((nI v).toInt64)) - 1)) / (((nI w).toInt64) + ((nI v).toInt64))).toInt32) hx hb dX1_mixed_39 rfl ?_
    subst hQ
    exact W.iret (v := ((((a * ((nI w).toInt64)) + (b * ((nI v).toInt64))) + ((((nI w).toInt64) + ((nI v).toInt64)) - 1)) / (((nI w).toInt64) + ((nI v).toInt64))).toInt32) hx hb hrt (fun t ht _ => ⟨_, rfl, (show ((((a * ((nI w).toInt64)) + (b * ((nI v).toInt64))) + ((((nI w).toInt64) + ((nI v).toInt64)) - 1)) / (((nI w).toInt64) + ((nI v).toInt64))).toInt32 = if up = true then mixU (nI w).toInt64 (nI v).toInt64 a b else mixD (nI w).toInt64 (nI v).toInt64 a b from by rw [if_pos c_24]; unfold mixU; rw [mix_u]), ht⟩) t_nil dX1_mixed_40
theorem w_X1_mixed {R : Room} {s : State} {args : Array Value} {own : String} {idx : Nat} (hts : ∀ w ∈ lw_all, w.before args s = true) (h1 : Cond.methodLink own idx yX1_mixed ∈ lw_all) {rm : Room} {mc ms : Nat} (hrc : rm.cells = mc) (hrs : rm.slots = ms) (hR : rm.frames + 1 ≤ R.frames ∧ 8 + (11 + 11) + rm.locals ≤ R.locals) : CallB R s args own idx yX1_mixed cX1_mixed 11 (some .int) (ws_ yX1_mixed cX1_mixed 11 (some .int)) rm mc ms 5 ∧ (Cond.static yX1_mixed).before args s = true := va_cwS 5 hts (lw_S h1 q1145 q62 q1146) rfl hrc hrs (by decide +kernel) hR

abbrev r_X1_crockOf : Room := { frames := 5, cells := 0, slots := 0, locals := 112 }
set_option maxHeartbeats 1000000 in
theorem c_X1_crockOf (lh : Launch) (A : Nat → Prop) (D : va_G) (dA : Nat → ClassId) (K : Nat → Nat) (ad X : Nat → Nat → Nat) (Y : Nat → Nat → Nat → Int32) (N : Nat → Nat) (I : Nat → Int32) (G : Nat → Nat → Nat) (J : Nat → Nat → Int32) (c : Int32) (w : Int32) (h1 : ∀ a b, G a b < 2 ^ 31) (h2 : N 3 ≤ 10) (h3 : N 14 ≤ 600) (h4 : N 19 ≤ 100) (h5 : XOk N G X) (h6 : TsOk N G) (h7 : PlOk N G Y) : Met lh yX1_crockOf (ws_ yX1_crockOf cX1_crockOf 4 (some .int)) r_X1_crockOf (PX (fun U H => RH A D dA K ad X Y N I G J H ∧ GK D dA U) [.ref (ad 0 0), .int c, .int w]) (vp_Si (fun rv => rv = (if wi c (nI 0) (nI (N 3) - nI 1) = true then coS N G J (tn c) w else -1))) 0 0 (fun _ => False) := by
  refine Met.ofW (cc := cX1_crockOf) (maxL := 4) (ret := (some .int)) (by decide) rfl ?_
  intro p e s m args below meth cd s₁ B hml hv
  obtain ⟨hargs, hH, hG⟩ := hv
  have hx := B.exec
  have hb := B.bytes
  have hrt := B.returns
  have hts := atoms_spec (ws := (ws_ yX1_crockOf cX1_crockOf 4 (some .int))) B.pre
  have hts : ∀ w ∈ lw_all, w.before _ s = true := fun w h => hts w (List.mem_cons_of_mem _ h)
  have hown : s.vm.findClass RX1 = some m.cls := findClass_of_methodNamed B.named
  have hlocks := B.notSynchronized
  have hE : entryFrame m args 4 = F0 m 0 ((lg_sl ([.ref (ad 0 0), .int c, .int w]) ++ List.replicate (4 - (lg_sl ([.ref (ad 0 0), .int c, .int w])).length) Slot.unset).toArray) [] := by rw [hargs]; exact lg_entry_eq m _ 4
  have hl := lv_entry ([.ref (ad 0 0), .int c, .int w]) (n := 4) (Nat.le_of_ble_eq_true rfl)
  rw [hE]
  clear hE
  generalize (lg_sl ([.ref (ad 0 0), .int c, .int w]) ++ List.replicate (4 - (lg_sl ([.ref (ad 0 0), .int c, .int w])).length) Slot.unset).toArray = ls at hl ⊢
  have hl : lv_has ls 4 [(0, .ref (ad 0 0)), (1, .int c), (2, .int w)] := hl
  generalize hQ : MQ _ _ _ _ _ _ _ = Q
  have hX := h5
  refine lv_iload_n hx hb dX1_crockOf_0 rfl (lv_at hl 1 rfl) ?_
  refine lv_iconst (v := nI 0) hx hb dX1_crockOf_1 (by decide) ?_
  refine lv_aload_n hx hb dX1_crockOf_2 rfl (lv_at hl 0 rfl) ?_
  refine ko_get (C := RX1) (T := TX1) (N := 28) (ci := 1) (v := .ref (ad 4 0)) hx hb hts in_X1 hown hG.1 hH.o0 rfl 3 (by decide) q188 (fun _ h => h) (rfl) dX1_crockOf_3 ?_
  refine vp_callSi (va_Run.call (va_runV (As := []) (rest := [.int (nI 0), .int c]) ⟨hx, hb, hml, hown, hts⟩ (c_J2_size lh D dA (ad 4 0) (Y 3 0 0) (elH K ad X 0) (N 3)) (w_J2_size hts q284 rfl rfl ⟨Nat.le_of_ble_eq_true rfl, Nat.le_of_ble_eq_true rfl⟩) ⟨PX.blind (Mv.and Mv.heap Mv.gk), (O_recv hG (hH.li 0 (by decide)) rfl), PX.pre (Mv.and Mv.heap Mv.gk) ⟨(hH.li 0 (by decide)), hG⟩⟩ rfl rfl hl.1 rfl (lv_room (Nat.le_of_ble_eq_true rfl)) dX1_crockOf_6 ⟨Nat.le_of_ble_eq_true rfl, Nat.le_of_ble_eq_true rfl⟩)) (fun rr hrr => ?_)
  subst hrr
  refine lv_iconst (v := nI 1) hx hb dX1_crockOf_9 (by decide) ?_
  refine lv_isub hx hb dX1_crockOf_10 ?_
  refine vp_callSi (W.runS (As := [.int c, .int (nI 0), .int (nI (N 3) - (nI 1))]) (rest := []) ⟨hx, hb, hml, hown, hts⟩ (c_X1_in lh c (nI 0) (nI (N 3) - (nI 1))) (w_X1_in hts q277 rfl rfl ⟨Nat.le_of_ble_eq_true rfl, Nat.le_of_ble_eq_true rfl⟩) ⟨P0.blind, P0.pre⟩ rfl rfl hl.1 rfl (lv_room (Nat.le_of_ble_eq_true rfl)) dX1_crockOf_11 ⟨Nat.le_of_ble_eq_true rfl, Nat.le_of_ble_eq_true rfl⟩) (fun rr hrr => ?_)
  subst hrr
  refine kb_ne (tgt := 19) hx hb dX1_crockOf_14 (by decide) (fun c_14 => ?_) (fun c_14 => ?_)
  · obtain ⟨j, hj, rfl⟩ := wi_cnt (by omega) c_14
    refine lv_aload_n hx hb dX1_crockOf_19 rfl (lv_at hl 0 rfl) ?_
    refine ko_get (C := RX1) (T := TX1) (N := 28) (ci := 1) (v := .ref (ad 4 0)) hx hb hts in_X1 hown hG.1 hH.o0 rfl 3 (by decide) q188 (fun _ h => h) (rfl) dX1_crockOf_20 ?_
    refine lv_iload_n hx hb dX1_crockOf_23 rfl (lv_at hl 1 rfl) ?_
    refine va_csq (va_Run.call (va_runV (As := [.int (nI j)]) (rest := []) ⟨hx, hb, hml, hown, hts⟩ (c_J2_get lh D dA (ad 4 0) (Y 3 0 0) (ad 5 0) (N 3) (X 0 0) (ltH ad 6 (N 3) 0) (j) (ad 6 j) (show j < N 3 from by omega) ((hX.1 0 (by decide)).1) ((hX.1 0 (by decide)).2) (ltH_0 (show j < N 3 from by omega))) (w_J2_get hts q292 rfl rfl ⟨Nat.le_of_ble_eq_true rfl, Nat.le_of_ble_eq_true rfl⟩) ⟨PX.blind (Mv.and Mv.heap (Mv.and Mv.heap Mv.gk)), (O_recv hG (hH.lo 0 (by decide) (by have hx0 : N 3 ≤ X 0 0 := (hX.1 0 (by decide)).1; omega)) rfl), PX.pre (Mv.and Mv.heap (Mv.and Mv.heap Mv.gk)) ⟨(hH.lo 0 (by decide) (by have hx0 : N 3 ≤ X 0 0 := (hX.1 0 (by decide)).1; omega)), (hH.la 0 (by decide) (by have hx0 : N 3 ≤ X 0 0 := (hX.1 0 (by decide)).1; omega)), hG⟩⟩ rfl rfl hl.1 rfl (lv_room (Nat.le_of_ble_eq_true rfl)) dX1_crockOf_24 ⟨Nat.le_of_ble_eq_true rfl, Nat.le_of_ble_eq_true rfl⟩)) (fun rr hrr => ?_)
    subst hrr
    show W p lh e r_X1_crockOf s m args below meth cd _ _ _ _ Q (F0 m _ ls (.ref (ad 6 j) :: _))
    refine va_castE hx hb hown (hts _ q304) (O_recv hG (hH.cr (show j < N 3 from by omega)) rfl) dX1_crockOf_27 ?_
    refine lv_astore_n (lv' := [(3, .ref (ad 6 j)), (0, .ref (ad 0 0)), (1, .int (nI j)), (2, .int w)]) hx hb dX1_crockOf_30 rfl hl (by decide) rfl (fun ls hl => ?_)
    refine lv_iload_n hx hb dX1_crockOf_31 rfl (lv_at hl 3 rfl) ?_
    by_cases w32_0 : w = nI 0
    · refine kx_int (y := nI 0) (w32_0) ?_
      refine lv_tableIn (tgt := 80) (off := 48) hx hb dX1_crockOf_32 (by decide) (by decide) (by decide) (by decide) ?_
      refine lv_aload_n hx hb dX1_crockOf_80 rfl (lv_at hl 0 rfl) ?_
      refine vp_callSi (va_Run.call (va_runV (As := []) (rest := []) ⟨hx, hb, hml, hown, hts⟩ (c_X4_isThere lh A D dA K ad X Y N I G J j (show j < (N 3) from by first | omega | assumption) (show ∀ a b, G a b < 2 ^ 31 from by first | omega | assumption)) (w_X4_isThere hts q305 rfl rfl ⟨Nat.le_of_ble_eq_true rfl, Nat.le_of_ble_eq_true rfl⟩) ⟨PX.blind (Mv.and Mv.heap Mv.gk), (O_recv hG (hH.cr (show j < N 3 from by omega)) rfl), PX.pre (Mv.and Mv.heap Mv.gk) ⟨hH, hG⟩⟩ rfl rfl hl.1 rfl (lv_room (Nat.le_of_ble_eq_true rfl)) dX1_crockOf_81 ⟨Nat.le_of_ble_eq_true rfl, Nat.le_of_ble_eq_true rfl⟩)) (fun rr hrr => ?_)
      subst hrr
      refine kb_eq (tgt := 94) hx hb dX1_crockOf_84 (by decide) (fun c_84 => ?_) (fun c_84 => ?_)
      · refine lv_iconst (v := -1) hx hb dX1_crockOf_94 (by decide) ?_
        subst hQ
        exact W.iret (v := (-1)) hx hb hrt (fun t ht _ => ⟨_, rfl, (show (-1) = (if wi (nI j) (nI 0) (nI (N 3) - nI 1) = true then coS N G J (tn (nI j)) w else -1) from by rw [if_pos c_14, tn_nI (show j < 2 ^ 31 by omega)]; have hww := w32_0; unfold coS; rw [if_pos w32_0]; simp [show lv G j = false from c_84]; try rfl), ht⟩) t_nil dX1_crockOf_95
      · refine lv_aload_n hx hb dX1_crockOf_87 rfl (lv_at hl 0 rfl) ?_
        refine ko_getN (C := RX4) (T := TX4) (N := 11) (ci := 2) (v := .int (Y 0 j 0)) hx hb hts in_X4 hown hG.1 (hH.cr (show j < N 3 from by omega)) rfl 3 (by decide) (hG.2.1 _ q322 rfl) (fun _ h => h) (rfl) dX1_crockOf_88 ?_
        refine kx_int (y := nI (G 5 j)) (h7 j (by omega) c_84) ?_
        refine lv_goto (tgt := 95) hx hb dX1_crockOf_91 (by decide) ?_
        subst hQ
        exact W.iret (v := nI (G 5 j)) hx hb hrt (fun t ht _ => ⟨_, rfl, (show nI (G 5 j) = (if wi (nI j) (nI 0) (nI (N 3) - nI 1) = true then coS N G J (tn (nI j)) w else -1) from by rw [if_pos c_14, tn_nI (show j < 2 ^ 31 by omega)]; have hww := w32_0; unfold coS; rw [if_pos w32_0]; simp [show lv G j = true from c_84]; try rfl), ht⟩) t_nil dX1_crockOf_95
    by_cases w32_1 : w = nI 1
    · refine kx_int (y := nI 1) (w32_1) ?_
      refine lv_tableIn (tgt := 96) (off := 64) hx hb dX1_crockOf_32 (by decide) (by decide) (by decide) (by decide) ?_
      refine lv_aload_n hx hb dX1_crockOf_96 rfl (lv_at hl 0 rfl) ?_
      refine ko_getN (C := RX4) (T := TX4) (N := 11) (ci := 2) (v := .int (nI (G 6 j))) hx hb hts in_X4 hown hG.1 (hH.cr (show j < N 3 from by omega)) rfl 9 (by decide) (hG.2.1 _ q334 rfl) (fun _ h => h) (rfl) dX1_crockOf_97 ?_
      subst hQ
      exact W.iret (v := nI (G 6 j)) hx hb hrt (fun t ht _ => ⟨_, rfl, (show nI (G 6 j) = (if wi (nI j) (nI 0) (nI (N 3) - nI 1) = true then coS N G J (tn (nI j)) w else -1) from by rw [if_pos c_14, tn_nI (show j < 2 ^ 31 by omega)]; have hww := w32_1; unfold coS; rw [if_neg w32_0]; rw [if_pos w32_1]; try rfl), ht⟩) t_nil dX1_crockOf_100
    by_cases w32_2 : w = nI 2
    · refine kx_int (y := nI 2) (w32_2) ?_
      refine lv_tableIn (tgt := 101) (off := 69) hx hb dX1_crockOf_32 (by decide) (by decide) (by decide) (by decide) ?_
      refine lv_aload_n hx hb dX1_crockOf_101 rfl (lv_at hl 0 rfl) ?_
      refine ko_getN (C := RX4) (T := TX4) (N := 11) (ci := 2) (v := .int (nI (G 7 j))) hx hb hts in_X4 hown hG.1 (hH.cr (show j < N 3 from by omega)) rfl 4 (by decide) (hG.2.1 _ q325 rfl) (fun _ h => h) (rfl) dX1_crockOf_102 ?_
      subst hQ
      exact W.iret (v := nI (G 7 j)) hx hb hrt (fun t ht _ => ⟨_, rfl, (show nI (G 7 j) = (if wi (nI j) (nI 0) (nI (N 3) - nI 1) = true then coS N G J (tn (nI j)) w else -1) from by rw [if_pos c_14, tn_nI (show j < 2 ^ 31 by omega)]; have hww := w32_2; unfold coS; rw [if_neg w32_0]; rw [if_neg w32_1]; rw [if_pos w32_2]; try rfl), ht⟩) t_nil dX1_crockOf_105
    by_cases w32_3 : w = nI 3
    · refine kx_int (y := nI 3) (w32_3) ?_
      refine lv_tableIn (tgt := 106) (off := 74) hx hb dX1_crockOf_32 (by decide) (by decide) (by decide) (by decide) ?_
      refine lv_aload_n hx hb dX1_crockOf_106 rfl (lv_at hl 0 rfl) ?_
      refine ko_getN (C := RX4) (T := TX4) (N := 11) (ci := 2) (v := .int (nI (G 8 j))) hx hb hts in_X4 hown hG.1 (hH.cr (show j < N 3 from by omega)) rfl 5 (by decide) (hG.2.1 _ q327 rfl) (fun _ h => h) (rfl) dX1_crockOf_107 ?_
      subst hQ
      exact W.iret (v := nI (G 8 j)) hx hb hrt (fun t ht _ => ⟨_, rfl, (show nI (G 8 j) = (if wi (nI j) (nI 0) (nI (N 3) - nI 1) = true then coS N G J (tn (nI j)) w else -1) from by rw [if_pos c_14, tn_nI (show j < 2 ^ 31 by omega)]; have hww := w32_3; unfold coS; rw [if_neg w32_0]; rw [if_neg w32_1]; rw [if_neg w32_2]; rw [if_pos w32_3]; try rfl), ht⟩) t_nil dX1_crockOf_110
    by_cases w32_4 : w = nI 4
    · refine kx_int (y := nI 4) (w32_4) ?_
      refine lv_tableIn (tgt := 111) (off := 79) hx hb dX1_crockOf_32 (by decide) (by decide) (by decide) (by decide) ?_
      refine lv_aload_n hx hb dX1_crockOf_111 rfl (lv_at hl 0 rfl) ?_
      refine ko_getN (C := RX4) (T := TX4) (N := 11) (ci := 2) (v := .int (nI (G 9 j))) hx hb hts in_X4 hown hG.1 (hH.cr (show j < N 3 from by omega)) rfl 6 (by decide) (hG.2.1 _ q329 rfl) (fun _ h => h) (rfl) dX1_crockOf_112 ?_
      subst hQ
      exact W.iret (v := nI (G 9 j)) hx hb hrt (fun t ht _ => ⟨_, rfl, (show nI (G 9 j) = (if wi (nI j) (nI 0) (nI (N 3) - nI 1) = true then coS N G J (tn (nI j)) w else -1) from by rw [if_pos c_14, tn_nI (show j < 2 ^ 31 by omega)]; have hww := w32_4; unfold coS; rw [if_neg w32_0]; rw [if_neg w32_1]; rw [if_neg w32_2]; rw [if_neg w32_3]; rw [if_pos w32_4]; try rfl), ht⟩) t_nil dX1_crockOf_115
    by_cases w32_5 : w = nI 5
    · refine kx_int (y := nI 5) (w32_5) ?_
      refine lv_tableIn (tgt := 116) (off := 84) hx hb dX1_crockOf_32 (by decide) (by decide) (by decide) (by decide) ?_
      refine lv_aload_n hx hb dX1_crockOf_116 rfl (lv_at hl 0 rfl) ?_
      refine vp_callSi (va_Run.call (va_runU (As := []) (rest := []) ⟨hx, hb, hml, hown, hts⟩ (c_X3_all_C lh A D dA K ad X Y N I G J j (show j < (N 3) from by first | omega | assumption)) (va_cwU 0 hts (lw_U q440 q441 q443 q444 q72 q445) rfl rfl rfl rfl (by decide +kernel) ⟨Nat.le_of_ble_eq_true rfl, Nat.le_of_ble_eq_true rfl⟩) ⟨PX.blind (Mv.and Mv.heap Mv.gk), (O_recv hG (hH.cr (show j < N 3 from by omega)) rfl), PX.pre (Mv.and Mv.heap Mv.gk) ⟨hH, hG⟩⟩ rfl rfl hl.1 rfl (lv_room (Nat.le_of_ble_eq_true rfl)) dX1_crockOf_117 ⟨Nat.le_of_ble_eq_true rfl, Nat.le_of_ble_eq_true rfl⟩)) (fun rr hrr => ?_)
      subst hrr
      subst hQ
      exact W.iret (v := nI (gr G j)) hx hb hrt (fun t ht _ => ⟨_, rfl, (show nI (gr G j) = (if wi (nI j) (nI 0) (nI (N 3) - nI 1) = true then coS N G J (tn (nI j)) w else -1) from by rw [if_pos c_14, tn_nI (show j < 2 ^ 31 by omega)]; have hww := w32_5; unfold coS; rw [if_neg w32_0]; rw [if_neg w32_1]; rw [if_neg w32_2]; rw [if_neg w32_3]; rw [if_neg w32_4]; rw [if_pos w32_5]; try rfl), ht⟩) t_nil dX1_crockOf_120
    by_cases w32_6 : w = nI 6
    · refine kx_int (y := nI 6) (w32_6) ?_
      refine lv_tableIn (tgt := 121) (off := 89) hx hb dX1_crockOf_32 (by decide) (by decide) (by decide) (by decide) ?_
      refine lv_aload_n hx hb dX1_crockOf_121 rfl (lv_at hl 1 rfl) ?_
      refine lv_aload_n hx hb dX1_crockOf_122 rfl (lv_at hl 0 rfl) ?_
      refine vp_callSi (va_Run.call (va_runV (As := [.ref (ad 6 j)]) (rest := []) ⟨hx, hb, hml, hown, hts⟩ (c_X1_isFit lh A D dA K ad X Y N I G J j (h1) (by omega) (h3) (h4) (h5) (h6)) (w_X1_isFit hts q595 rfl rfl ⟨Nat.le_of_ble_eq_true rfl, Nat.le_of_ble_eq_true rfl⟩) ⟨PX.blind (Mv.and Mv.heap Mv.gk), (O_recv hG hH.o0 rfl), PX.pre (Mv.and Mv.heap Mv.gk) ⟨hH, hG⟩⟩ rfl rfl hl.1 rfl (lv_room (Nat.le_of_ble_eq_true rfl)) dX1_crockOf_123 ⟨Nat.le_of_ble_eq_true rfl, Nat.le_of_ble_eq_true rfl⟩)) (fun rr hrr => ?_)
      subst hrr
      refine kb_eq (tgt := 133) hx hb dX1_crockOf_126 (by decide) (fun c_126 => ?_) (fun c_126 => ?_)
      · refine lv_iconst (v := nI 0) hx hb dX1_crockOf_133 (by decide) ?_
        subst hQ
        exact W.iret (v := nI 0) hx hb hrt (fun t ht _ => ⟨_, rfl, (show nI 0 = (if wi (nI j) (nI 0) (nI (N 3) - nI 1) = true then coS N G J (tn (nI j)) w else -1) from by rw [if_pos c_14, tn_nI (show j < 2 ^ 31 by omega)]; have hww := w32_6; unfold coS; rw [if_neg w32_0]; rw [if_neg w32_1]; rw [if_neg w32_2]; rw [if_neg w32_3]; rw [if_neg w32_4]; rw [if_neg w32_5]; rw [if_pos w32_6]; simp [show fitS G j (N 14) (N 19) (N 42) (N 43) = false from c_126, bI]; try rfl), ht⟩) t_nil dX1_crockOf_134
      · refine lv_iconst (v := nI 1) hx hb dX1_crockOf_129 (by decide) ?_
        refine lv_goto (tgt := 134) hx hb dX1_crockOf_130 (by decide) ?_
        subst hQ
        exact W.iret (v := nI 1) hx hb hrt (fun t ht _ => ⟨_, rfl, (show nI 1 = (if wi (nI j) (nI 0) (nI (N 3) - nI 1) = true then coS N G J (tn (nI j)) w else -1) from by rw [if_pos c_14, tn_nI (show j < 2 ^ 31 by omega)]; have hww := w32_6; unfold coS; rw [if_neg w32_0]; rw [if_neg w32_1]; rw [if_neg w32_2]; rw [if_neg w32_3]; rw [if_neg w32_4]; rw [if_neg w32_5]; rw [if_pos w32_6]; simp [show fitS G j (N 14) (N 19) (N 42) (N 43) = true from c_126, bI]; try rfl), ht⟩) t_nil dX1_crockOf_134
    by_cases w32_7 : w = nI 7
    · refine kx_int (y := nI 7) (w32_7) ?_
      refine lv_tableIn (tgt := 135) (off := 103) hx hb dX1_crockOf_32 (by decide) (by decide) (by decide) (by decide) ?_
      refine lv_aload_n hx hb dX1_crockOf_135 rfl (lv_at hl 0 rfl) ?_
      refine ko_getN (C := RX4) (T := TX4) (N := 11) (ci := 2) (v := .int (J 13 j)) hx hb hts in_X4 hown hG.1 (hH.cr (show j < N 3 from by omega)) rfl 10 (by decide) (hG.2.1 _ q336 rfl) (fun _ h => h) (rfl) dX1_crockOf_136 ?_
      subst hQ
      exact W.iret (v := J 13 j) hx hb hrt (fun t ht _ => ⟨_, rfl, (show J 13 j = (if wi (nI j) (nI 0) (nI (N 3) - nI 1) = true then coS N G J (tn (nI j)) w else -1) from by rw [if_pos c_14, tn_nI (show j < 2 ^ 31 by omega)]; have hww := w32_7; unfold coS; rw [if_neg w32_0]; rw [if_neg w32_1]; rw [if_neg w32_2]; rw [if_neg w32_3]; rw [if_neg w32_4]; rw [if_neg w32_5]; rw [if_neg w32_6]; rw [if_pos w32_7]; try rfl), ht⟩) t_nil dX1_crockOf_139
    refine lv_tableOut (tgt := 140) hx hb dX1_crockOf_32 (sw_out 7 (lt_s (lt_s (lt_s (lt_s (lt_s (lt_s (lt_s (lt_s lt_0 w32_0) w32_1) w32_2) w32_3) w32_4) w32_5) w32_6) w32_7)) (by decide) ?_
    refine lv_iconst (v := -1) hx hb dX1_crockOf_140 (by decide) ?_
    subst hQ
    exact W.iret (v := (-1)) hx hb hrt (fun t ht _ => ⟨_, rfl, (show (-1) = (if wi (nI j) (nI 0) (nI (N 3) - nI 1) = true then coS N G J (tn (nI j)) w else -1) from by rw [if_pos c_14, tn_nI (show j < 2 ^ 31 by omega)]; unfold coS; rw [if_neg w32_0]; rw [if_neg w32_1]; rw [if_neg w32_2]; rw [if_neg w32_3]; rw [if_neg w32_4]; rw [if_neg w32_5]; rw [if_neg w32_6]; rw [if_neg w32_7]; try rfl), ht⟩) t_nil dX1_crockOf_141
  · refine lv_iconst (v := -1) hx hb dX1_crockOf_17 (by decide) ?_
    subst hQ
    exact W.iret (v := (-1)) hx hb hrt (fun t ht _ => ⟨_, rfl, (show (-1) = (if wi c (nI 0) (nI (N 3) - nI 1) = true then coS N G J (tn c) w else -1) from by rw [if_neg (by rw [c_14]; decide)]), ht⟩) t_nil dX1_crockOf_18
theorem w_X1_crockOf {R : Room} {s : State} {args : Array Value} {own : String} {idx : Nat} (hts : ∀ w ∈ lw_all, w.before args s = true) (h1 : Cond.methodLink own idx yX1_crockOf ∈ lw_all) {rm : Room} {mc ms : Nat} (hrc : rm.cells = mc) (hrs : rm.slots = ms) (hR : rm.frames + 1 ≤ R.frames ∧ 8 + (4 + 11) + rm.locals ≤ R.locals) : CallW R s args own RX1 idx yX1_crockOf cX1_crockOf 4 (some .int) (ws_ yX1_crockOf cX1_crockOf 4 (some .int)) rm mc ms 2 := cwV 2 hts (lw_V h1 q592 q593 q62 q594) rfl hrc hrs (by decide +kernel) hR

abbrev r_X1_span : Room := { frames := 5, cells := 0, slots := 0, locals := 117 }
set_option maxHeartbeats 1000000 in
theorem c_X1_span (lh : Launch) (A : Nat → Prop) (D : va_G) (dA : Nat → ClassId) (K : Nat → Nat) (ad X : Nat → Nat → Nat) (Y : Nat → Nat → Nat → Int32) (N : Nat → Nat) (I : Nat → Int32) (G : Nat → Nat → Nat) (J : Nat → Nat → Int32) (c : Int32) (h : Int32) (n : Int32) (w : Int32) (h1 : ∀ a b, G a b < 2 ^ 31) (h2 : N 3 ≤ 10) (h3 : N 14 ≤ 600) (h4 : N 19 ≤ 100) (h5 : XOk N G X) (h6 : TsOk N G) (h7 : RtOk N G Y) : Met lh yX1_span (ws_ yX1_span cX1_span 6 (some .int)) r_X1_span (PX (fun U H => RH A D dA K ad X Y N I G J H ∧ GK D dA U) [.ref (ad 0 0), .int c, .int h, .int n, .int w]) (vp_Si (fun rv => rv = (if spanB N G c h n w = true then spanS G J (tn c) (tn h) (tn n) (decide (w = nI 1)) else -1))) 0 0 (fun _ => False) := by
  refine Met.ofW (cc := cX1_span) (maxL := 6) (ret := (some .int)) (by decide) rfl ?_
  intro p e s m args below meth cd s₁ B hml hv
  obtain ⟨hargs, hH, hG⟩ := hv
  have hx := B.exec
  have hb := B.bytes
  have hrt := B.returns
  have hts := atoms_spec (ws := (ws_ yX1_span cX1_span 6 (some .int))) B.pre
  have hts : ∀ w ∈ lw_all, w.before _ s = true := fun w h => hts w (List.mem_cons_of_mem _ h)
  have hown : s.vm.findClass RX1 = some m.cls := findClass_of_methodNamed B.named
  have hlocks := B.notSynchronized
  have hE : entryFrame m args 6 = F0 m 0 ((lg_sl ([.ref (ad 0 0), .int c, .int h, .int n, .int w]) ++ List.replicate (6 - (lg_sl ([.ref (ad 0 0), .int c, .int h, .int n, .int w])).length) Slot.unset).toArray) [] := by rw [hargs]; exact lg_entry_eq m _ 6
  have hl := lv_entry ([.ref (ad 0 0), .int c, .int h, .int n, .int w]) (n := 6) (Nat.le_of_ble_eq_true rfl)
  rw [hE]
  clear hE
  generalize (lg_sl ([.ref (ad 0 0), .int c, .int h, .int n, .int w]) ++ List.replicate (6 - (lg_sl ([.ref (ad 0 0), .int c, .int h, .int n, .int w])).length) Slot.unset).toArray = ls at hl ⊢
  have hl : lv_has ls 6 [(0, .ref (ad 0 0)), (1, .int c), (2, .int h), (3, .int n), (4, .int w)] := hl
  generalize hQ : MQ _ _ _ _ _ _ _ = Q
  have hX := h5
  refine lv_aload_n hx hb dX1_span_0 rfl (lv_at hl 0 rfl) ?_
  refine lv_iload_n hx hb dX1_span_1 rfl (lv_at hl 1 rfl) ?_
  refine va_csq (va_Run.call (va_runV (As := [.int c]) (rest := []) ⟨hx, hb, hml, hown, hts⟩ (c_X1_there lh A D dA K ad X Y N I G J c (h1) (h2) (h5)) (w_X1_there hts q436 rfl rfl ⟨Nat.le_of_ble_eq_true rfl, Nat.le_of_ble_eq_true rfl⟩) ⟨PX.blind (Mv.and Mv.heap Mv.gk), (O_recv hG hH.o0 rfl), PX.pre (Mv.and Mv.heap Mv.gk) ⟨hH, hG⟩⟩ rfl rfl hl.1 rfl (lv_room (Nat.le_of_ble_eq_true rfl)) dX1_span_2 ⟨Nat.le_of_ble_eq_true rfl, Nat.le_of_ble_eq_true rfl⟩)) (fun rr hrr => ?_)
  subst hrr
  by_cases hq2 : lvI (N 3) G c = true
  · rw [if_pos hq2]
    show W p lh e r_X1_span s m args below meth cd _ _ _ _ Q (F0 m _ ls (.ref (ad 6 (tn c)) :: _))
    obtain ⟨j, hj, rfl, hlj⟩ := lvI_nat (by omega) hq2
    rw [tn_nI (show j < 2 ^ 31 by omega)]
    refine lv_astore (lv' := [(5, .ref (ad 6 j)), (0, .ref (ad 0 0)), (1, .int (nI j)), (2, .int h), (3, .int n), (4, .int w)]) hx hb dX1_span_5 hl (by decide) rfl (fun ls hl => ?_)
    refine lv_aload hx hb dX1_span_7 (lv_at hl 0 rfl) ?_
    refine lv_ifnull hx hb dX1_span_9 ?_
    refine lv_iload_n hx hb dX1_span_12 rfl (lv_at hl 3 rfl) ?_
    refine lv_aload hx hb dX1_span_13 (lv_at hl 0 rfl) ?_
    refine ko_getN (C := RX4) (T := TX4) (N := 11) (ci := 2) (v := .int (nI (G 9 j))) hx hb hts in_X4 hown hG.1 (hH.cr (show j < N 3 from by omega)) rfl 6 (by decide) (hG.2.1 _ q329 rfl) (fun _ h => h) (rfl) dX1_span_15 ?_
    refine lv_aload_n hx hb dX1_span_18 rfl (lv_at hl 1 rfl) ?_
    refine ko_get (C := RX1) (T := TX1) (N := 28) (ci := 1) (v := .int (nI (N 14))) hx hb hts in_X1 hown hG.1 hH.o0 rfl 9 (by decide) q194 (fun _ h => h) (rfl) dX1_span_19 ?_
    refine vp_callSi (W.runS (As := [.int h, .int (nI (G 9 j)), .int (nI (N 14))]) (rest := []) ⟨hx, hb, hml, hown, hts⟩ (c_X1_in lh h (nI (G 9 j)) (nI (N 14))) (w_X1_in hts q277 rfl rfl ⟨Nat.le_of_ble_eq_true rfl, Nat.le_of_ble_eq_true rfl⟩) ⟨P0.blind, P0.pre⟩ rfl rfl hl.1 rfl (lv_room (Nat.le_of_ble_eq_true rfl)) dX1_span_22 ⟨Nat.le_of_ble_eq_true rfl, Nat.le_of_ble_eq_true rfl⟩) (fun rr hrr => ?_)
    subst hrr
    refine kb_eq (tgt := 53) hx hb dX1_span_25 (by decide) (fun c_25 => ?_) (fun c_25 => ?_)
    · refine lv_iconst (v := -1) hx hb dX1_span_53 (by decide) ?_
      subst hQ
      exact W.iret (v := (-1)) hx hb hrt (fun t ht _ => ⟨_, rfl, (show (-1) = (if spanB N G (nI j) h n w = true then spanS G J (tn (nI j)) (tn h) (tn n) (decide (w = nI 1)) else -1) from by rw [if_neg (by simp [spanB, hq2, c_25, tn_nI (show j < 2 ^ 31 by omega)])]), ht⟩) t_nil dX1_span_54
    · obtain ⟨k, hk1, hk2, rfl⟩ := wi_nat (h1 _ _) (by omega) c_25
      refine lv_iload_n hx hb dX1_span_28 rfl (lv_at hl 4 rfl) ?_
      refine lv_iconst (v := nI 0) hx hb dX1_span_29 (by decide) ?_
      refine lv_aload_n hx hb dX1_span_30 rfl (lv_at hl 1 rfl) ?_
      refine ko_get (C := RX1) (T := TX1) (N := 28) (ci := 1) (v := .ref (ad 4 1)) hx hb hts in_X1 hown hG.1 hH.o0 rfl 4 (by decide) q189 (fun _ h => h) (rfl) dX1_span_31 ?_
      refine vp_callSi (va_Run.call (va_runV (As := []) (rest := [.int (nI 0), .int n]) ⟨hx, hb, hml, hown, hts⟩ (c_J2_size lh D dA (ad 4 1) (Y 3 1 0) (elH K ad X 1) (N 19)) (w_J2_size hts q284 rfl rfl ⟨Nat.le_of_ble_eq_true rfl, Nat.le_of_ble_eq_true rfl⟩) ⟨PX.blind (Mv.and Mv.heap Mv.gk), (O_recv hG (hH.li 1 (by decide)) rfl), PX.pre (Mv.and Mv.heap Mv.gk) ⟨(hH.li 1 (by decide)), hG⟩⟩ rfl rfl hl.1 rfl (lv_room (Nat.le_of_ble_eq_true rfl)) dX1_span_34 ⟨Nat.le_of_ble_eq_true rfl, Nat.le_of_ble_eq_true rfl⟩)) (fun rr hrr => ?_)
      subst hrr
      refine vp_callSi (W.runS (As := [.int n, .int (nI 0), .int (nI (N 19))]) (rest := []) ⟨hx, hb, hml, hown, hts⟩ (c_X1_in lh n (nI 0) (nI (N 19))) (w_X1_in hts q277 rfl rfl ⟨Nat.le_of_ble_eq_true rfl, Nat.le_of_ble_eq_true rfl⟩) ⟨P0.blind, P0.pre⟩ rfl rfl hl.1 rfl (lv_room (Nat.le_of_ble_eq_true rfl)) dX1_span_37 ⟨Nat.le_of_ble_eq_true rfl, Nat.le_of_ble_eq_true rfl⟩) (fun rr hrr => ?_)
      subst hrr
      refine kb_eq (tgt := 53) hx hb dX1_span_40 (by decide) (fun c_40 => ?_) (fun c_40 => ?_)
      · refine lv_iconst (v := -1) hx hb dX1_span_53 (by decide) ?_
        subst hQ
        exact W.iret (v := (-1)) hx hb hrt (fun t ht _ => ⟨_, rfl, (show (-1) = (if spanB N G (nI j) (nI k) n w = true then spanS G J (tn (nI j)) (tn (nI k)) (tn n) (decide (w = nI 1)) else -1) from by rw [if_neg (by simp [spanB, hq2, c_25, c_40, tn_nI (show j < 2 ^ 31 by omega), tn_nI (show k < 2 ^ 31 by omega)])]), ht⟩) t_nil dX1_span_54
      · obtain ⟨q, hq1, hq2x, rfl⟩ := wi_nat (by decide) (by omega) c_40
        refine lv_iload hx hb dX1_span_43 (lv_at hl 5 rfl) ?_
        refine lv_iconst (v := nI 0) hx hb dX1_span_45 (by decide) ?_
        refine lv_iconst (v := nI 1) hx hb dX1_span_46 (by decide) ?_
        refine vp_callSi (W.runS (As := [.int w, .int (nI 0), .int (nI 1)]) (rest := []) ⟨hx, hb, hml, hown, hts⟩ (c_X1_in lh w (nI 0) (nI 1)) (w_X1_in hts q277 rfl rfl ⟨Nat.le_of_ble_eq_true rfl, Nat.le_of_ble_eq_true rfl⟩) ⟨P0.blind, P0.pre⟩ rfl rfl hl.1 rfl (lv_room (Nat.le_of_ble_eq_true rfl)) dX1_span_47 ⟨Nat.le_of_ble_eq_true rfl, Nat.le_of_ble_eq_true rfl⟩) (fun rr hrr => ?_)
        subst hrr
        refine kb_ne (tgt := 55) hx hb dX1_span_50 (by decide) (fun c_50 => ?_) (fun c_50 => ?_)
        · refine lv_aload_n hx hb dX1_span_55 rfl (lv_at hl 1 rfl) ?_
          refine lv_aload hx hb dX1_span_56 (lv_at hl 0 rfl) ?_
          refine lv_iload_n hx hb dX1_span_58 rfl (lv_at hl 3 rfl) ?_
          refine lv_iload_n hx hb dX1_span_59 rfl (lv_at hl 4 rfl) ?_
          refine lv_iload hx hb dX1_span_60 (lv_at hl 5 rfl) ?_
          refine lv_iconst (v := nI 1) hx hb dX1_span_62 (by decide) ?_
          refine lv_icmp_ne (tgt := 70) hx hb dX1_span_63 (by decide) (fun c_63 => ?_) (fun c_63 => ?_)
          · refine lv_iconst (v := nI 0) hx hb dX1_span_70 (by decide) ?_
            refine vp_callSi (va_Run.call (va_runV (As := [.ref (ad 6 j), .int (nI k), .int (nI q), .int (nI 0)]) (rest := []) ⟨hx, hb, hml, hown, hts⟩ (c_X1_sour lh A D dA K ad X Y N I G J j k q false (h1) (by omega) (by omega) (by omega) (by omega) (h4) (h5) (h6) (lv_t hlj) (h7)) (w_X1_sour hts q491 rfl rfl ⟨Nat.le_of_ble_eq_true rfl, Nat.le_of_ble_eq_true rfl⟩) ⟨PX.blind (Mv.and Mv.heap Mv.gk), (O_recv hG hH.o0 rfl), PX.pre (Mv.and Mv.heap Mv.gk) ⟨hH, hG⟩⟩ rfl rfl hl.1 rfl (lv_room (Nat.le_of_ble_eq_true rfl)) dX1_span_71 ⟨Nat.le_of_ble_eq_true rfl, Nat.le_of_ble_eq_true rfl⟩)) (fun rr hrr => ?_)
            subst hrr
            subst hQ
            exact W.iret (v := spanS G J j k q false) hx hb hrt (fun t ht _ => ⟨_, rfl, (show spanS G J j k q false = (if spanB N G (nI j) (nI k) (nI q) w = true then spanS G J (tn (nI j)) (tn (nI k)) (tn (nI q)) (decide (w = nI 1)) else -1) from by rw [if_pos (by simp [spanB, hq2, c_25, c_40, c_50, tn_nI (show j < 2 ^ 31 by omega), tn_nI (show k < 2 ^ 31 by omega), tn_nI (show q < 2 ^ 31 by omega)]), tn_nI (show j < 2 ^ 31 by omega), tn_nI (show k < 2 ^ 31 by omega), tn_nI (show q < 2 ^ 31 by omega)]; simp [c_63]), ht⟩) t_nil dX1_span_74
          · refine lv_iconst (v := nI 1) hx hb dX1_span_66 (by decide) ?_
            refine lv_goto (tgt := 71) hx hb dX1_span_67 (by decide) ?_
            refine vp_callSi (va_Run.call (va_runV (As := [.ref (ad 6 j), .int (nI k), .int (nI q), .int (nI 1)]) (rest := []) ⟨hx, hb, hml, hown, hts⟩ (c_X1_sour lh A D dA K ad X Y N I G J j k q true (h1) (by omega) (by omega) (by omega) (by omega) (h4) (h5) (h6) (lv_t hlj) (h7)) (w_X1_sour hts q491 rfl rfl ⟨Nat.le_of_ble_eq_true rfl, Nat.le_of_ble_eq_true rfl⟩) ⟨PX.blind (Mv.and Mv.heap Mv.gk), (O_recv hG hH.o0 rfl), PX.pre (Mv.and Mv.heap Mv.gk) ⟨hH, hG⟩⟩ rfl rfl hl.1 rfl (lv_room (Nat.le_of_ble_eq_true rfl)) dX1_span_71 ⟨Nat.le_of_ble_eq_true rfl, Nat.le_of_ble_eq_true rfl⟩)) (fun rr hrr => ?_)
            subst hrr
            subst hQ
            exact W.iret (v := spanS G J j k q true) hx hb hrt (fun t ht _ => ⟨_, rfl, (show spanS G J j k q true = (if spanB N G (nI j) (nI k) (nI q) w = true then spanS G J (tn (nI j)) (tn (nI k)) (tn (nI q)) (decide (w = nI 1)) else -1) from by rw [if_pos (by simp [spanB, hq2, c_25, c_40, c_50, tn_nI (show j < 2 ^ 31 by omega), tn_nI (show k < 2 ^ 31 by omega), tn_nI (show q < 2 ^ 31 by omega)]), tn_nI (show j < 2 ^ 31 by omega), tn_nI (show k < 2 ^ 31 by omega), tn_nI (show q < 2 ^ 31 by omega)]; simp [c_63]), ht⟩) t_nil dX1_span_74
        · refine lv_iconst (v := -1) hx hb dX1_span_53 (by decide) ?_
          subst hQ
          exact W.iret (v := (-1)) hx hb hrt (fun t ht _ => ⟨_, rfl, (show (-1) = (if spanB N G (nI j) (nI k) (nI q) w = true then spanS G J (tn (nI j)) (tn (nI k)) (tn (nI q)) (decide (w = nI 1)) else -1) from by rw [if_neg (by simp [spanB, hq2, c_25, c_40, c_50, tn_nI (show j < 2 ^ 31 by omega), tn_nI (show k < 2 ^ 31 by omega), tn_nI (show q < 2 ^ 31 by omega)])]), ht⟩) t_nil dX1_span_54
  · rw [if_neg hq2]
    show W p lh e r_X1_span s m args below meth cd _ _ _ _ Q (F0 m _ ls (.null :: _))
    refine lv_astoreN (lv' := [(5, .null), (0, .ref (ad 0 0)), (1, .int c), (2, .int h), (3, .int n), (4, .int w)]) hx hb dX1_span_5 hl (by decide) rfl (fun ls hl => ?_)
    refine lv_aloadN hx hb dX1_span_7 (lv_at hl 0 rfl) ?_
    refine lv_ifnullN (tgt := 53) hx hb dX1_span_9 (by decide) ?_
    refine lv_iconst (v := -1) hx hb dX1_span_53 (by decide) ?_
    subst hQ
    exact W.iret (v := (-1)) hx hb hrt (fun t ht _ => ⟨_, rfl, (show (-1) = (if spanB N G c h n w = true then spanS G J (tn c) (tn h) (tn n) (decide (w = nI 1)) else -1) from by rw [if_neg (by simp [spanB, hq2])]), ht⟩) t_nil dX1_span_54
theorem w_X1_span {R : Room} {s : State} {args : Array Value} {own : String} {idx : Nat} (hts : ∀ w ∈ lw_all, w.before args s = true) (h1 : Cond.methodLink own idx yX1_span ∈ lw_all) {rm : Room} {mc ms : Nat} (hrc : rm.cells = mc) (hrs : rm.slots = ms) (hR : rm.frames + 1 ≤ R.frames ∧ 8 + (6 + 11) + rm.locals ≤ R.locals) : CallW R s args own RX1 idx yX1_span cX1_span 6 (some .int) (ws_ yX1_span cX1_span 6 (some .int)) rm mc ms 4 := cwV 4 hts (lw_V h1 q588 q589 q62 q590) rfl hrc hrs (by decide +kernel) hR
