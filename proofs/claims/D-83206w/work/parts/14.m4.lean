set_option maxRecDepth 100000
abbrev r_X2_inForce : Room := { frames := 0, cells := 0, slots := 0, locals := 0 }
set_option maxHeartbeats 400000 in
theorem c_X2_inForce (lh : Launch) (D : va_G) (dA : Nat → ClassId) (a0 : Nat) (ad : Nat → Nat) (N : Nat → Nat) (I : Nat → Int32) (G : Nat → Nat → Nat) (J : Nat → Nat → Int32) (h1 : ∀ a b, G a b < 2 ^ 31) (h2 : N 14 ≤ 600) (h3 : N 23 ≤ 10) : Met lh yX2_inForce (ws_ yX2_inForce cX2_inForce 3 (some .int)) r_X2_inForce (PqM D dA a0 ad N I G J [.ref a0]) (vp_Si (fun rv => rv = oI (ifS G (N 14 / 24) (N 23)))) 0 0 (fun _ => False) := by
  refine Met.ofW (cc := cX2_inForce) (maxL := 3) (ret := (some .int)) (by decide) rfl ?_
  intro p e s m args below meth cd s₁ B hml hv
  obtain ⟨hargs, hM, hG⟩ := hv
  have hx := B.exec
  have hb := B.bytes
  have hrt := B.returns
  have hts := atoms_spec (ws := (ws_ yX2_inForce cX2_inForce 3 (some .int))) B.pre
  have hts : ∀ w ∈ lw_all, w.before _ s = true := fun w h => hts w (List.mem_cons_of_mem _ h)
  have hown : s.vm.findClass RX2 = some m.cls := findClass_of_methodNamed B.named
  have hlocks := B.notSynchronized
  have hE : entryFrame m args 3 = F0 m 0 ((lg_sl ([.ref a0]) ++ List.replicate (3 - (lg_sl ([.ref a0])).length) Slot.unset).toArray) [] := by rw [hargs]; exact lg_entry_eq m _ 3
  have hl := lv_entry ([.ref a0]) (n := 3) (Nat.le_of_ble_eq_true rfl)
  rw [hE]
  clear hE
  generalize (lg_sl ([.ref a0]) ++ List.replicate (3 - (lg_sl ([.ref a0])).length) Slot.unset).toArray = ls at hl ⊢
  have hl : lv_has ls 3 [(0, .ref a0)] := hl
  generalize hQ : MQ _ _ _ _ _ _ _ = Q
  refine lv_iconst (v := -1) hx hb dX2_inForce_0 (by decide) ?_
  refine lv_istore_n (lv' := [(1, .int (-1)), (0, .ref a0)]) hx hb dX2_inForce_1 rfl hl (by decide) rfl (fun ls hl => ?_)
  refine lv_iconst (v := nI 0) hx hb dX2_inForce_2 (by decide) ?_
  refine lv_istore_n (lv' := [(2, .int (nI 0)), (1, .int (-1)), (0, .ref a0)]) hx hb dX2_inForce_3 rfl hl (by decide) rfl (fun ls hl => ?_)
  have L4 : ∀ (nn4 : Nat) (k : Nat), (k ≤ N 23) → N 23 - k < nn4 → ∀ (ls : Array Slot), lv_has ls 3 [(0, .ref a0), (1, .int (oI (ifS G (N 14 / 24) k))), (2, .int (nI k))] → W p lh e r_X2_inForce s m args below meth cd s.heap [] 0 0 Q (F0 m 4 ls []) := by
    intro nn4
    induction nn4 with
    | zero => intro k i4_0 hm4; exact absurd hm4 (Nat.not_lt_zero _)
    | succ nn4 ih4 =>
      intro k i4_0 hm4 ls hl
      refine lv_iload_n hx hb dX2_inForce_4 rfl (lv_at hl 2 rfl) ?_
      refine lv_aload_n hx hb dX2_inForce_5 rfl (lv_at hl 0 rfl) ?_
      refine M_get (v := .int (nI (N 23))) hx hb hts hown hG hM 23 (by decide) q1315 rfl rfl dX2_inForce_6 ?_
      refine kn_cge (tgt := 56) hx hb dX2_inForce_9 (by decide) (by omega) (by omega) (fun c_9 => ?_) (fun c_9 => ?_)
      · refine lv_iload_n hx hb dX2_inForce_56 rfl (lv_at hl 1 rfl) ?_
        subst hQ
        exact W.iret (v := oI (ifS G (N 14 / 24) k)) hx hb hrt (fun t ht _ => ⟨_, rfl, (show oI (ifS G (N 14 / 24) k) = oI (ifS G (N 14 / 24) (N 23)) from by rw [show k = N 23 by omega]), ht⟩) t_nil dX2_inForce_57
      · refine lv_aload_n hx hb dX2_inForce_12 rfl (lv_at hl 0 rfl) ?_
        refine M_get (v := .ref (ad 24)) hx hb hts hown hG hM 24 (by decide) q1316 rfl rfl dX2_inForce_13 ?_
        refine lv_iload_n hx hb dX2_inForce_16 rfl (lv_at hl 2 rfl) ?_
        refine M_iald (v := nI (G 24 k)) hx hb hG hM 24 rfl rfl (show k < 10 from by omega) (rfl) dX2_inForce_17 ?_
        refine lv_aload_n hx hb dX2_inForce_18 rfl (lv_at hl 0 rfl) ?_
        refine M_get (v := .int (nI (N 14))) hx hb hts hown hG hM 14 (by decide) q1306 rfl rfl dX2_inForce_19 ?_
        refine lv_bipush (v := nI 24) hx hb dX2_inForce_22 (by decide) ?_
        refine kn_div hx hb dX2_inForce_24 (by omega) (by omega) (by omega) ?_
        refine kn_cgt (tgt := 50) hx hb dX2_inForce_25 (by decide) (h1 _ _) (by omega) (fun c_25 => ?_) (fun c_25 => ?_)
        · refine lv_iinc (v := nI (k + 1)) (lv' := [(2, .int (nI (k + 1))), (0, .ref a0), (1, .int (oI (ifS G (N 14 / 24) k)))]) hx hb dX2_inForce_50 hl (k := 2) rfl (show nI k + Int32.ofInt 1 = nI (k + 1) from nI_add _ 1) (by decide) rfl (fun ls hl => ?_)
          refine lv_goto (tgt := 4) hx hb dX2_inForce_53 (by decide) ?_
          exact ih4 (k + 1) (by omega) (by omega) _ (lv_conv (show lv_has ls 3 [(0, .ref a0), (1, .int (oI (ifS G (N 14 / 24) k))), (2, .int (nI (k + 1)))] from (lv_sub hl [1, 2, 0] rfl)) (by rw [ifS_n (fun q => by omega)]))
        · refine lv_iload_n hx hb dX2_inForce_28 rfl (lv_at hl 1 rfl) ?_
          refine lv_iconst (v := -1) hx hb dX2_inForce_29 (by decide) ?_
          refine kO_eq (tgt := 48) hx hb dX2_inForce_30 (by decide) (fun j q => by have := ifS_lt q; omega) (fun c_30 => ?_) (fun k30 c_30 => ?_)
          · rw [c_30] at hl
            have hl : lv_has ls 3 [(0, .ref a0), (1, .int (-1)), (2, .int (nI k))] := hl
            skip
            refine lv_iload_n hx hb dX2_inForce_48 rfl (lv_at hl 2 rfl) ?_
            refine lv_istore_n (lv' := [(1, .int (nI k)), (0, .ref a0), (2, .int (nI k))]) hx hb dX2_inForce_49 rfl hl (by decide) rfl (fun ls hl => ?_)
            refine lv_iinc (v := nI (k + 1)) (lv' := [(2, .int (nI (k + 1))), (1, .int (nI k)), (0, .ref a0)]) hx hb dX2_inForce_50 hl (k := 2) rfl (show nI k + Int32.ofInt 1 = nI (k + 1) from nI_add _ 1) (by decide) rfl (fun ls hl => ?_)
            refine lv_goto (tgt := 4) hx hb dX2_inForce_53 (by decide) ?_
            exact ih4 (k + 1) (by omega) (by omega) _ (lv_conv (show lv_has ls 3 [(0, .ref a0), (1, .int (nI k)), (2, .int (nI (k + 1)))] from (lv_sub hl [2, 1, 0] rfl)) (by rw [ifS_y c_25 (fun j q => by rw [c_30] at q; cases q)]; rfl))
          · rw [c_30] at hl
            have hl : lv_has ls 3 [(0, .ref a0), (1, .int (nI k30)), (2, .int (nI k))] := hl
            skip
            have c_lt := ifS_lt c_30
            refine lv_aload_n hx hb dX2_inForce_33 rfl (lv_at hl 0 rfl) ?_
            refine M_get (v := .ref (ad 24)) hx hb hts hown hG hM 24 (by decide) q1316 rfl rfl dX2_inForce_34 ?_
            refine lv_iload_n hx hb dX2_inForce_37 rfl (lv_at hl 2 rfl) ?_
            refine M_iald (v := nI (G 24 k)) hx hb hG hM 24 rfl rfl (show k < 10 from by omega) (rfl) dX2_inForce_38 ?_
            refine lv_aload_n hx hb dX2_inForce_39 rfl (lv_at hl 0 rfl) ?_
            refine M_get (v := .ref (ad 24)) hx hb hts hown hG hM 24 (by decide) q1316 rfl rfl dX2_inForce_40 ?_
            refine lv_iload_n hx hb dX2_inForce_43 rfl (lv_at hl 1 rfl) ?_
            refine M_iald (v := nI (G 24 k30)) hx hb hG hM 24 rfl rfl (show k30 < 10 from by omega) (rfl) dX2_inForce_44 ?_
            refine kn_clt (tgt := 50) hx hb dX2_inForce_45 (by decide) (h1 _ _) (h1 _ _) (fun c_45 => ?_) (fun c_45 => ?_)
            · refine lv_iinc (v := nI (k + 1)) (lv' := [(2, .int (nI (k + 1))), (0, .ref a0), (1, .int (nI k30))]) hx hb dX2_inForce_50 hl (k := 2) rfl (show nI k + Int32.ofInt 1 = nI (k + 1) from nI_add _ 1) (by decide) rfl (fun ls hl => ?_)
              refine lv_goto (tgt := 4) hx hb dX2_inForce_53 (by decide) ?_
              exact ih4 (k + 1) (by omega) (by omega) _ (lv_conv (show lv_has ls 3 [(0, .ref a0), (1, .int (nI k30)), (2, .int (nI (k + 1)))] from (lv_sub hl [1, 2, 0] rfl)) (by rw [ifS_n (fun q => by have := q.2 _ c_30; omega), c_30]; rfl))
            · refine lv_iload_n hx hb dX2_inForce_48 rfl (lv_at hl 2 rfl) ?_
              refine lv_istore_n (lv' := [(1, .int (nI k)), (0, .ref a0), (2, .int (nI k))]) hx hb dX2_inForce_49 rfl hl (by decide) rfl (fun ls hl => ?_)
              refine lv_iinc (v := nI (k + 1)) (lv' := [(2, .int (nI (k + 1))), (1, .int (nI k)), (0, .ref a0)]) hx hb dX2_inForce_50 hl (k := 2) rfl (show nI k + Int32.ofInt 1 = nI (k + 1) from nI_add _ 1) (by decide) rfl (fun ls hl => ?_)
              refine lv_goto (tgt := 4) hx hb dX2_inForce_53 (by decide) ?_
              exact ih4 (k + 1) (by omega) (by omega) _ (lv_conv (show lv_has ls 3 [(0, .ref a0), (1, .int (nI k)), (2, .int (nI (k + 1)))] from (lv_sub hl [2, 1, 0] rfl)) (by rw [ifS_y c_25 (fun j q => by rw [c_30] at q; cases q; exact c_45)]; rfl))
  exact L4 _ 0 (by omega) (Nat.lt_succ_self _) _ (lv_sub hl [2, 1, 0] rfl)
theorem w_X2_inForce {R : Room} {s : State} {args : Array Value} {own : String} {idx : Nat} (hts : ∀ w ∈ lw_all, w.before args s = true) (h1 : Cond.methodLink own idx yX2_inForce ∈ lw_all) {rm : Room} {mc ms : Nat} (hrc : rm.cells = mc) (hrs : rm.slots = ms) (hR : rm.frames + 1 ≤ R.frames ∧ 8 + (3 + 11) + rm.locals ≤ R.locals) : CallW R s args own RX2 idx yX2_inForce cX2_inForce 3 (some .int) (ws_ yX2_inForce cX2_inForce 3 (some .int)) rm mc ms 0 := cwV 0 hts (lw_V h1 q1588 qs46 q70 q1589) rfl hrc hrs (by decide +kernel) hR

abbrev r_X2_testsOf : Room := { frames := 0, cells := 0, slots := 0, locals := 0 }
set_option maxHeartbeats 400000 in
theorem c_X2_testsOf (lh : Launch) (D : va_G) (dA : Nat → ClassId) (a0 : Nat) (ad : Nat → Nat) (N : Nat → Nat) (I : Nat → Int32) (G : Nat → Nat → Nat) (J : Nat → Nat → Int32) (c : Nat) (h1 : ∀ a b, G a b < 2 ^ 31) (h2 : c < 10) (h3 : N 19 ≤ 100) : Met lh yX2_testsOf (ws_ yX2_testsOf cX2_testsOf 4 (some .int)) r_X2_testsOf (PqM D dA a0 ad N I G J [.ref a0, .int (nI c)]) (vp_Si (fun rv => rv = nI (toS G c (N 19)))) 0 0 (fun _ => False) := by
  refine Met.ofW (cc := cX2_testsOf) (maxL := 4) (ret := (some .int)) (by decide) rfl ?_
  intro p e s m args below meth cd s₁ B hml hv
  obtain ⟨hargs, hM, hG⟩ := hv
  have hx := B.exec
  have hb := B.bytes
  have hrt := B.returns
  have hts := atoms_spec (ws := (ws_ yX2_testsOf cX2_testsOf 4 (some .int))) B.pre
  have hts : ∀ w ∈ lw_all, w.before _ s = true := fun w h => hts w (List.mem_cons_of_mem _ h)
  have hown : s.vm.findClass RX2 = some m.cls := findClass_of_methodNamed B.named
  have hlocks := B.notSynchronized
  have hE : entryFrame m args 4 = F0 m 0 ((lg_sl ([.ref a0, .int (nI c)]) ++ List.replicate (4 - (lg_sl ([.ref a0, .int (nI c)])).length) Slot.unset).toArray) [] := by rw [hargs]; exact lg_entry_eq m _ 4
  have hl := lv_entry ([.ref a0, .int (nI c)]) (n := 4) (Nat.le_of_ble_eq_true rfl)
  rw [hE]
  clear hE
  generalize (lg_sl ([.ref a0, .int (nI c)]) ++ List.replicate (4 - (lg_sl ([.ref a0, .int (nI c)])).length) Slot.unset).toArray = ls at hl ⊢
  have hl : lv_has ls 4 [(0, .ref a0), (1, .int (nI c))] := hl
  generalize hQ : MQ _ _ _ _ _ _ _ = Q
  refine lv_iconst (v := nI 0) hx hb dX2_testsOf_0 (by decide) ?_
  refine lv_istore_n (lv' := [(2, .int (nI 0)), (0, .ref a0), (1, .int (nI c))]) hx hb dX2_testsOf_1 rfl hl (by decide) rfl (fun ls hl => ?_)
  refine lv_iconst (v := nI 0) hx hb dX2_testsOf_2 (by decide) ?_
  refine lv_istore_n (lv' := [(3, .int (nI 0)), (2, .int (nI 0)), (0, .ref a0), (1, .int (nI c))]) hx hb dX2_testsOf_3 rfl hl (by decide) rfl (fun ls hl => ?_)
  have L4 : ∀ (nn4 : Nat) (k : Nat), (k ≤ N 19) → N 19 - k < nn4 → ∀ (ls : Array Slot), lv_has ls 4 [(0, .ref a0), (1, .int (nI c)), (2, .int (nI (toS G c k))), (3, .int (nI k))] → W p lh e r_X2_testsOf s m args below meth cd s.heap [] 0 0 Q (F0 m 4 ls []) := by
    intro nn4
    induction nn4 with
    | zero => intro k i4_0 hm4; exact absurd hm4 (Nat.not_lt_zero _)
    | succ nn4 ih4 =>
      intro k i4_0 hm4 ls hl
      refine lv_iload_n hx hb dX2_testsOf_4 rfl (lv_at hl 3 rfl) ?_
      refine lv_aload_n hx hb dX2_testsOf_5 rfl (lv_at hl 0 rfl) ?_
      refine M_get (v := .int (nI (N 19))) hx hb hts hown hG hM 19 (by decide) q1311 rfl rfl dX2_testsOf_6 ?_
      refine kn_cge (tgt := 51) hx hb dX2_testsOf_9 (by decide) (by omega) (by omega) (fun c_9 => ?_) (fun c_9 => ?_)
      · refine lv_iload_n hx hb dX2_testsOf_51 rfl (lv_at hl 2 rfl) ?_
        subst hQ
        exact W.iret (v := nI (toS G c k)) hx hb hrt (fun t ht _ => ⟨_, rfl, (show nI (toS G c k) = nI (toS G c (N 19)) from by rw [show k = N 19 by omega]), ht⟩) t_nil dX2_testsOf_52
      · refine lv_iload_n hx hb dX2_testsOf_12 rfl (lv_at hl 2 rfl) ?_
        refine lv_aload_n hx hb dX2_testsOf_13 rfl (lv_at hl 0 rfl) ?_
        refine M_get (v := .ref (ad 20)) hx hb hts hown hG hM 20 (by decide) q1312 rfl rfl dX2_testsOf_14 ?_
        refine lv_iload_n hx hb dX2_testsOf_17 rfl (lv_at hl 3 rfl) ?_
        refine M_iald (v := nI (G 20 k)) hx hb hG hM 20 rfl rfl (show k < 100 from by omega) (rfl) dX2_testsOf_18 ?_
        refine lv_iload_n hx hb dX2_testsOf_19 rfl (lv_at hl 1 rfl) ?_
        refine kn_cne (tgt := 42) hx hb dX2_testsOf_20 (by decide) (h1 _ _) (by omega) (fun c_20 => ?_) (fun c_20 => ?_)
        · refine lv_iconst (v := nI 0) hx hb dX2_testsOf_42 (by decide) ?_
          refine kn_add hx hb dX2_testsOf_43 ?_
          refine lv_istore_n (lv' := [(2, .int (nI (toS G c k + 0))), (0, .ref a0), (1, .int (nI c)), (3, .int (nI k))]) hx hb dX2_testsOf_44 rfl hl (by decide) rfl (fun ls hl => ?_)
          refine lv_iinc (v := nI (k + 1)) (lv' := [(3, .int (nI (k + 1))), (2, .int (nI (toS G c k + 0))), (0, .ref a0), (1, .int (nI c))]) hx hb dX2_testsOf_45 hl (k := 3) rfl (show nI k + Int32.ofInt 1 = nI (k + 1) from nI_add _ 1) (by decide) rfl (fun ls hl => ?_)
          refine lv_goto (tgt := 4) hx hb dX2_testsOf_48 (by decide) ?_
          exact ih4 (k + 1) (by omega) (by omega) _ (lv_conv (show lv_has ls 4 [(0, .ref a0), (1, .int (nI c)), (2, .int (nI (toS G c k + 0))), (3, .int (nI (k + 1)))] from (lv_sub hl [2, 3, 1, 0] rfl)) (by simp [toS, c_20]))
        · refine lv_aload_n hx hb dX2_testsOf_23 rfl (lv_at hl 0 rfl) ?_
          refine M_get (v := .ref (ad 21)) hx hb hts hown hG hM 21 (by decide) q1313 rfl rfl dX2_testsOf_24 ?_
          refine lv_iload_n hx hb dX2_testsOf_27 rfl (lv_at hl 3 rfl) ?_
          refine M_iald (v := nI (G 21 k)) hx hb hG hM 21 rfl rfl (show k < 100 from by omega) (rfl) dX2_testsOf_28 ?_
          refine lv_aload_n hx hb dX2_testsOf_29 rfl (lv_at hl 0 rfl) ?_
          refine M_get (v := .ref (ad 9)) hx hb hts hown hG hM 9 (by decide) q1301 rfl rfl dX2_testsOf_30 ?_
          refine lv_iload_n hx hb dX2_testsOf_33 rfl (lv_at hl 1 rfl) ?_
          refine M_iald (v := nI (G 9 c)) hx hb hG hM 9 rfl rfl (show c < 10 from by omega) (rfl) dX2_testsOf_34 ?_
          refine kn_clt (tgt := 42) hx hb dX2_testsOf_35 (by decide) (h1 _ _) (h1 _ _) (fun c_35 => ?_) (fun c_35 => ?_)
          · refine lv_iconst (v := nI 0) hx hb dX2_testsOf_42 (by decide) ?_
            refine kn_add hx hb dX2_testsOf_43 ?_
            refine lv_istore_n (lv' := [(2, .int (nI (toS G c k + 0))), (0, .ref a0), (1, .int (nI c)), (3, .int (nI k))]) hx hb dX2_testsOf_44 rfl hl (by decide) rfl (fun ls hl => ?_)
            refine lv_iinc (v := nI (k + 1)) (lv' := [(3, .int (nI (k + 1))), (2, .int (nI (toS G c k + 0))), (0, .ref a0), (1, .int (nI c))]) hx hb dX2_testsOf_45 hl (k := 3) rfl (show nI k + Int32.ofInt 1 = nI (k + 1) from nI_add _ 1) (by decide) rfl (fun ls hl => ?_)
            refine lv_goto (tgt := 4) hx hb dX2_testsOf_48 (by decide) ?_
            exact ih4 (k + 1) (by omega) (by omega) _ (lv_conv (show lv_has ls 4 [(0, .ref a0), (1, .int (nI c)), (2, .int (nI (toS G c k + 0))), (3, .int (nI (k + 1)))] from (lv_sub hl [2, 3, 1, 0] rfl)) (by simp [toS, c_20, Nat.not_le.mpr c_35]))
          · refine lv_iconst (v := nI 1) hx hb dX2_testsOf_38 (by decide) ?_
            refine lv_goto (tgt := 43) hx hb dX2_testsOf_39 (by decide) ?_
            refine kn_add hx hb dX2_testsOf_43 ?_
            refine lv_istore_n (lv' := [(2, .int (nI (toS G c k + 1))), (0, .ref a0), (1, .int (nI c)), (3, .int (nI k))]) hx hb dX2_testsOf_44 rfl hl (by decide) rfl (fun ls hl => ?_)
            refine lv_iinc (v := nI (k + 1)) (lv' := [(3, .int (nI (k + 1))), (2, .int (nI (toS G c k + 1))), (0, .ref a0), (1, .int (nI c))]) hx hb dX2_testsOf_45 hl (k := 3) rfl (show nI k + Int32.ofInt 1 = nI (k + 1) from nI_add _ 1) (by decide) rfl (fun ls hl => ?_)
            refine lv_goto (tgt := 4) hx hb dX2_testsOf_48 (by decide) ?_
            exact ih4 (k + 1) (by omega) (by omega) _ (lv_conv (show lv_has ls 4 [(0, .ref a0), (1, .int (nI c)), (2, .int (nI (toS G c k + 1))), (3, .int (nI (k + 1)))] from (lv_sub hl [2, 3, 1, 0] rfl)) (by simp [toS, c_20, c_35]))
  exact L4 _ 0 (by omega) (Nat.lt_succ_self _) _ (lv_sub hl [2, 3, 1, 0] rfl)
theorem w_X2_testsOf {R : Room} {s : State} {args : Array Value} {own : String} {idx : Nat} (hts : ∀ w ∈ lw_all, w.before args s = true) (h1 : Cond.methodLink own idx yX2_testsOf ∈ lw_all) {rm : Room} {mc ms : Nat} (hrc : rm.cells = mc) (hrs : rm.slots = ms) (hR : rm.frames + 1 ≤ R.frames ∧ 8 + (4 + 11) + rm.locals ≤ R.locals) : CallW R s args own RX2 idx yX2_testsOf cX2_testsOf 4 (some .int) (ws_ yX2_testsOf cX2_testsOf 4 (some .int)) rm mc ms 1 := cwV 1 hts (lw_V h1 q1600 qs49 q70 q1601) rfl hrc hrs (by decide +kernel) hR

abbrev r_X2_fieldOf : Room := { frames := 3, cells := 0, slots := 0, locals := 76 }
set_option maxHeartbeats 400000 in
theorem c_X2_fieldOf (lh : Launch) (D : va_G) (dA : Nat → ClassId) (a0 : Nat) (ad : Nat → Nat) (N : Nat → Nat) (I : Nat → Int32) (G : Nat → Nat → Nat) (J : Nat → Nat → Int32) (c : Nat) (f : Nat) (h1 : ∀ a b, G a b < 2 ^ 31) (h2 : c < 10) (h3 : N 14 ≤ 600) (h4 : N 19 ≤ 100) (h5 : f ≤ 7) : Met lh yX2_fieldOf (ws_ yX2_fieldOf cX2_fieldOf 3 (some .int)) r_X2_fieldOf (PqM D dA a0 ad N I G J [.ref a0, .int (nI c), .int (nI f)]) (vp_Si (fun rv => rv = fldS G J c (N 14) (N 19) f)) 0 0 (fun _ => False) := by
  refine Met.ofW (cc := cX2_fieldOf) (maxL := 3) (ret := (some .int)) (by decide) rfl ?_
  intro p e s m args below meth cd s₁ B hml hv
  obtain ⟨hargs, hM, hG⟩ := hv
  have hx := B.exec
  have hb := B.bytes
  have hrt := B.returns
  have hts := atoms_spec (ws := (ws_ yX2_fieldOf cX2_fieldOf 3 (some .int))) B.pre
  have hts : ∀ w ∈ lw_all, w.before _ s = true := fun w h => hts w (List.mem_cons_of_mem _ h)
  have hown : s.vm.findClass RX2 = some m.cls := findClass_of_methodNamed B.named
  have hlocks := B.notSynchronized
  have hE : entryFrame m args 3 = F0 m 0 ((lg_sl ([.ref a0, .int (nI c), .int (nI f)]) ++ List.replicate (3 - (lg_sl ([.ref a0, .int (nI c), .int (nI f)])).length) Slot.unset).toArray) [] := by rw [hargs]; exact lg_entry_eq m _ 3
  have hl := lv_entry ([.ref a0, .int (nI c), .int (nI f)]) (n := 3) (Nat.le_of_ble_eq_true rfl)
  rw [hE]
  clear hE
  generalize (lg_sl ([.ref a0, .int (nI c), .int (nI f)]) ++ List.replicate (3 - (lg_sl ([.ref a0, .int (nI c), .int (nI f)])).length) Slot.unset).toArray = ls at hl ⊢
  have hl : lv_has ls 3 [(0, .ref a0), (1, .int (nI c)), (2, .int (nI f))] := hl
  generalize hQ : MQ _ _ _ _ _ _ _ = Q
  refine lv_iload_n hx hb dX2_fieldOf_0 rfl (lv_at hl 2 rfl) ?_
  by_cases w1_0 : f = 0
  · refine kx_int (y := nI 0) (by rw [w1_0]) ?_
    refine lv_tableIn (tgt := 44) (off := 43) hx hb dX2_fieldOf_1 (by decide) (by decide) (by decide) (by decide) ?_
    refine lv_aload_n hx hb dX2_fieldOf_44 rfl (lv_at hl 0 rfl) ?_
    refine lv_iload_n hx hb dX2_fieldOf_45 rfl (lv_at hl 1 rfl) ?_
    refine lv_aload_n hx hb dX2_fieldOf_46 rfl (lv_at hl 0 rfl) ?_
    refine M_get (v := .int (nI (N 14))) hx hb hts hown hG hM 14 (by decide) q1306 rfl rfl dX2_fieldOf_47 ?_
    refine lv_aload_n hx hb dX2_fieldOf_50 rfl (lv_at hl 0 rfl) ?_
    refine M_get (v := .int (nI (N 19))) hx hb hts hown hG hM 19 (by decide) q1311 rfl rfl dX2_fieldOf_51 ?_
    refine lv_iconst (v := nI 0) hx hb dX2_fieldOf_54 (by decide) ?_
    refine vp_callSi (W.runV (As := [.int (nI c), .int (nI (N 14)), .int (nI (N 19)), .int (nI 0)]) (rest := []) ⟨hx, hb, hml, hown, hts⟩ (c_X2_spanOf lh D dA a0 ad N I G J c (N 14) (N 19) false (show ∀ a b, G a b < 2 ^ 31 from by first | omega | assumption | exact hB_up (by assumption) (by omega)) (show c < 10 from by first | omega | assumption | exact hB_up (by assumption) (by omega)) (show (N 14) ≤ 600 from by first | omega | assumption | exact hB_up (by assumption) (by omega)) (show (N 19) ≤ 100 from by first | omega | assumption | exact hB_up (by assumption) (by omega))) (w_X2_spanOf hts q1507 rfl rfl ⟨Nat.le_of_ble_eq_true rfl, Nat.le_of_ble_eq_true rfl⟩) ⟨PqM.blind, M_recv hG hM, PqM.pre hG hM⟩ rfl rfl hl.1 rfl (lv_room (Nat.le_of_ble_eq_true rfl)) dX2_fieldOf_55 ⟨Nat.le_of_ble_eq_true rfl, Nat.le_of_ble_eq_true rfl⟩) (fun rr hrr => ?_)
    subst hrr
    subst hQ
    exact W.iret (v := spanS G J c (N 14) (N 19) false) hx hb hrt (fun t ht _ => ⟨_, rfl, (show spanS G J c (N 14) (N 19) false = fldS G J c (N 14) (N 19) f from by simp [fldS, w1_0]), ht⟩) t_nil dX2_fieldOf_58
  by_cases w1_1 : f = 1
  · refine kx_int (y := nI 1) (by rw [w1_1]) ?_
    refine lv_tableIn (tgt := 59) (off := 58) hx hb dX2_fieldOf_1 (by decide) (by decide) (by decide) (by decide) ?_
    refine lv_aload_n hx hb dX2_fieldOf_59 rfl (lv_at hl 0 rfl) ?_
    refine lv_iload_n hx hb dX2_fieldOf_60 rfl (lv_at hl 1 rfl) ?_
    refine lv_aload_n hx hb dX2_fieldOf_61 rfl (lv_at hl 0 rfl) ?_
    refine M_get (v := .int (nI (N 14))) hx hb hts hown hG hM 14 (by decide) q1306 rfl rfl dX2_fieldOf_62 ?_
    refine lv_aload_n hx hb dX2_fieldOf_65 rfl (lv_at hl 0 rfl) ?_
    refine M_get (v := .int (nI (N 19))) hx hb hts hown hG hM 19 (by decide) q1311 rfl rfl dX2_fieldOf_66 ?_
    refine lv_iconst (v := nI 1) hx hb dX2_fieldOf_69 (by decide) ?_
    refine vp_callSi (W.runV (As := [.int (nI c), .int (nI (N 14)), .int (nI (N 19)), .int (nI 1)]) (rest := []) ⟨hx, hb, hml, hown, hts⟩ (c_X2_spanOf lh D dA a0 ad N I G J c (N 14) (N 19) true (show ∀ a b, G a b < 2 ^ 31 from by first | omega | assumption | exact hB_up (by assumption) (by omega)) (show c < 10 from by first | omega | assumption | exact hB_up (by assumption) (by omega)) (show (N 14) ≤ 600 from by first | omega | assumption | exact hB_up (by assumption) (by omega)) (show (N 19) ≤ 100 from by first | omega | assumption | exact hB_up (by assumption) (by omega))) (w_X2_spanOf hts q1507 rfl rfl ⟨Nat.le_of_ble_eq_true rfl, Nat.le_of_ble_eq_true rfl⟩) ⟨PqM.blind, M_recv hG hM, PqM.pre hG hM⟩ rfl rfl hl.1 rfl (lv_room (Nat.le_of_ble_eq_true rfl)) dX2_fieldOf_70 ⟨Nat.le_of_ble_eq_true rfl, Nat.le_of_ble_eq_true rfl⟩) (fun rr hrr => ?_)
    subst hrr
    subst hQ
    exact W.iret (v := spanS G J c (N 14) (N 19) true) hx hb hrt (fun t ht _ => ⟨_, rfl, (show spanS G J c (N 14) (N 19) true = fldS G J c (N 14) (N 19) f from by simp [fldS, w1_0, w1_1]), ht⟩) t_nil dX2_fieldOf_73
  by_cases w1_2 : f = 2
  · refine kx_int (y := nI 2) (by rw [w1_2]) ?_
    refine lv_tableIn (tgt := 74) (off := 73) hx hb dX2_fieldOf_1 (by decide) (by decide) (by decide) (by decide) ?_
    refine lv_aload_n hx hb dX2_fieldOf_74 rfl (lv_at hl 0 rfl) ?_
    refine M_get (v := .ref (ad 8)) hx hb hts hown hG hM 8 (by decide) q1300 rfl rfl dX2_fieldOf_75 ?_
    refine lv_iload_n hx hb dX2_fieldOf_78 rfl (lv_at hl 1 rfl) ?_
    refine M_iald (v := nI (G 8 c)) hx hb hG hM 8 rfl rfl (show c < 10 from by omega) (rfl) dX2_fieldOf_79 ?_
    subst hQ
    exact W.iret (v := nI (G 8 c)) hx hb hrt (fun t ht _ => ⟨_, rfl, (show nI (G 8 c) = fldS G J c (N 14) (N 19) f from by simp [fldS, w1_0, w1_1, w1_2]), ht⟩) t_nil dX2_fieldOf_80
  by_cases w1_3 : f = 3
  · refine kx_int (y := nI 3) (by rw [w1_3]) ?_
    refine lv_tableIn (tgt := 81) (off := 80) hx hb dX2_fieldOf_1 (by decide) (by decide) (by decide) (by decide) ?_
    refine lv_aload_n hx hb dX2_fieldOf_81 rfl (lv_at hl 0 rfl) ?_
    refine M_get (v := .ref (ad 7)) hx hb hts hown hG hM 7 (by decide) q1299 rfl rfl dX2_fieldOf_82 ?_
    refine lv_iload_n hx hb dX2_fieldOf_85 rfl (lv_at hl 1 rfl) ?_
    refine M_iald (v := nI (G 7 c)) hx hb hG hM 7 rfl rfl (show c < 10 from by omega) (rfl) dX2_fieldOf_86 ?_
    subst hQ
    exact W.iret (v := nI (G 7 c)) hx hb hrt (fun t ht _ => ⟨_, rfl, (show nI (G 7 c) = fldS G J c (N 14) (N 19) f from by simp [fldS, w1_0, w1_1, w1_2, w1_3]), ht⟩) t_nil dX2_fieldOf_87
  by_cases w1_4 : f = 4
  · refine kx_int (y := nI 4) (by rw [w1_4]) ?_
    refine lv_tableIn (tgt := 88) (off := 87) hx hb dX2_fieldOf_1 (by decide) (by decide) (by decide) (by decide) ?_
    refine lv_aload_n hx hb dX2_fieldOf_88 rfl (lv_at hl 0 rfl) ?_
    refine M_get (v := .int (nI (N 14))) hx hb hts hown hG hM 14 (by decide) q1306 rfl rfl dX2_fieldOf_89 ?_
    refine lv_aload_n hx hb dX2_fieldOf_92 rfl (lv_at hl 0 rfl) ?_
    refine M_get (v := .ref (ad 9)) hx hb hts hown hG hM 9 (by decide) q1301 rfl rfl dX2_fieldOf_93 ?_
    refine lv_iload_n hx hb dX2_fieldOf_96 rfl (lv_at hl 1 rfl) ?_
    refine M_iald (v := nI (G 9 c)) hx hb hG hM 9 rfl rfl (show c < 10 from by omega) (rfl) dX2_fieldOf_97 ?_
    refine lv_isub hx hb dX2_fieldOf_98 ?_
    subst hQ
    exact W.iret (v := nI (N 14) - (nI (G 9 c))) hx hb hrt (fun t ht _ => ⟨_, rfl, (show nI (N 14) - (nI (G 9 c)) = fldS G J c (N 14) (N 19) f from by simp [fldS, w1_0, w1_1, w1_2, w1_3, w1_4]), ht⟩) t_nil dX2_fieldOf_99
  by_cases w1_5 : f = 5
  · refine kx_int (y := nI 5) (by rw [w1_5]) ?_
    refine lv_tableIn (tgt := 100) (off := 99) hx hb dX2_fieldOf_1 (by decide) (by decide) (by decide) (by decide) ?_
    refine lv_aload_n hx hb dX2_fieldOf_100 rfl (lv_at hl 0 rfl) ?_
    refine lv_iload_n hx hb dX2_fieldOf_101 rfl (lv_at hl 1 rfl) ?_
    refine vp_callSi (W.runV (As := [.int (nI c)]) (rest := []) ⟨hx, hb, hml, hown, hts⟩ (c_X2_testsOf lh D dA a0 ad N I G J c (show ∀ a b, G a b < 2 ^ 31 from by first | omega | assumption | exact hB_up (by assumption) (by omega)) (show c < 10 from by first | omega | assumption | exact hB_up (by assumption) (by omega)) (show (N 19) ≤ 100 from by first | omega | assumption | exact hB_up (by assumption) (by omega))) (w_X2_testsOf hts q1598 rfl rfl ⟨Nat.le_of_ble_eq_true rfl, Nat.le_of_ble_eq_true rfl⟩) ⟨PqM.blind, M_recv hG hM, PqM.pre hG hM⟩ rfl rfl hl.1 rfl (lv_room (Nat.le_of_ble_eq_true rfl)) dX2_fieldOf_102 ⟨Nat.le_of_ble_eq_true rfl, Nat.le_of_ble_eq_true rfl⟩) (fun rr hrr => ?_)
    subst hrr
    subst hQ
    exact W.iret (v := nI (toS G c ((N 19)))) hx hb hrt (fun t ht _ => ⟨_, rfl, (show nI (toS G c ((N 19))) = fldS G J c (N 14) (N 19) f from by simp [fldS, w1_0, w1_1, w1_2, w1_3, w1_4, w1_5]), ht⟩) t_nil dX2_fieldOf_105
  by_cases w1_6 : f = 6
  · refine kx_int (y := nI 6) (by rw [w1_6]) ?_
    refine lv_tableIn (tgt := 106) (off := 105) hx hb dX2_fieldOf_1 (by decide) (by decide) (by decide) (by decide) ?_
    refine lv_aload_n hx hb dX2_fieldOf_106 rfl (lv_at hl 0 rfl) ?_
    refine M_get (v := .ref (ad 5)) hx hb hts hown hG hM 5 (by decide) q1297 rfl rfl dX2_fieldOf_107 ?_
    refine lv_iload_n hx hb dX2_fieldOf_110 rfl (lv_at hl 1 rfl) ?_
    refine M_iald (v := nI (G 5 c)) hx hb hG hM 5 rfl rfl (show c < 10 from by omega) (rfl) dX2_fieldOf_111 ?_
    refine lv_bipush (v := nI 7) hx hb dX2_fieldOf_112 (by decide) ?_
    refine kn_cle (tgt := 121) hx hb dX2_fieldOf_114 (by decide) (h1 _ _) (by omega) (fun c_114 => ?_) (fun c_114 => ?_)
    · refine lv_iconst (v := nI 0) hx hb dX2_fieldOf_121 (by decide) ?_
      subst hQ
      exact W.iret (v := nI 0) hx hb hrt (fun t ht _ => ⟨_, rfl, (show nI 0 = fldS G J c (N 14) (N 19) f from by simp [fldS, w1_0, w1_1, w1_2, w1_3, w1_4, w1_5, w1_6, Nat.not_lt.mpr c_114]), ht⟩) t_nil dX2_fieldOf_122
    · refine lv_iconst (v := nI 1) hx hb dX2_fieldOf_117 (by decide) ?_
      refine lv_goto (tgt := 122) hx hb dX2_fieldOf_118 (by decide) ?_
      subst hQ
      exact W.iret (v := nI 1) hx hb hrt (fun t ht _ => ⟨_, rfl, (show nI 1 = fldS G J c (N 14) (N 19) f from by simp [fldS, w1_0, w1_1, w1_2, w1_3, w1_4, w1_5, w1_6, c_114]), ht⟩) t_nil dX2_fieldOf_122
  refine lv_tableOut (tgt := 123) hx hb dX2_fieldOf_1 (swN_out (n := 6) (by omega) (by omega)) (by decide) ?_
  refine lv_aload_n hx hb dX2_fieldOf_123 rfl (lv_at hl 0 rfl) ?_
  refine M_get (v := .int (nI (N 14))) hx hb hts hown hG hM 14 (by decide) q1306 rfl rfl dX2_fieldOf_124 ?_
  refine lv_bipush (v := nI 24) hx hb dX2_fieldOf_127 (by decide) ?_
  refine kn_div hx hb dX2_fieldOf_129 (by omega) (by omega) (by omega) ?_
  subst hQ
  exact W.iret (v := nI ((N 14) / 24)) hx hb hrt (fun t ht _ => ⟨_, rfl, (show nI ((N 14) / 24) = fldS G J c (N 14) (N 19) f from by simp [fldS, w1_0, w1_1, w1_2, w1_3, w1_4, w1_5, w1_6]), ht⟩) t_nil dX2_fieldOf_130
theorem w_X2_fieldOf {R : Room} {s : State} {args : Array Value} {own : String} {idx : Nat} (hts : ∀ w ∈ lw_all, w.before args s = true) (h1 : Cond.methodLink own idx yX2_fieldOf ∈ lw_all) {rm : Room} {mc ms : Nat} (hrc : rm.cells = mc) (hrs : rm.slots = ms) (hR : rm.frames + 1 ≤ R.frames ∧ 8 + (3 + 11) + rm.locals ≤ R.locals) : CallW R s args own RX2 idx yX2_fieldOf cX2_fieldOf 3 (some .int) (ws_ yX2_fieldOf cX2_fieldOf 3 (some .int)) rm mc ms 2 := cwV 2 hts (lw_V h1 q1596 qs48 q70 q1597) rfl hrc hrs (by decide +kernel) hR

abbrev r_X2_crockOf : Room := { frames := 3, cells := 0, slots := 0, locals := 69 }
set_option maxHeartbeats 400000 in
theorem c_X2_crockOf (lh : Launch) (D : va_G) (dA : Nat → ClassId) (a0 : Nat) (ad : Nat → Nat) (N : Nat → Nat) (I : Nat → Int32) (G : Nat → Nat → Nat) (J : Nat → Nat → Int32) (sz : Nat) (c : Int32) (w : Int32) (h1 : ∀ a b, G a b < 2 ^ 31) (h2 : N 3 ≤ 10) (h3 : N 14 ≤ 600) (h4 : N 19 ≤ 100) : Met lh yX2_crockOf (ws_ yX2_crockOf cX2_crockOf 3 (some .int)) r_X2_crockOf (PmM D dA a0 ad N I G J sz [.ref a0, .int c, .int w]) (va_Qi (fun (r : Int32) (u : SgT) => if wi c (nI 0) (nI (N 3) - nI 1) = true then r = coS N G J (tn c) w ∧ u = (up1 N 0 0, I, G, J) else r = -1 ∧ u = (up1 N 0 0, I, G, J)) (BmM D dA a0 ad) (AM a0 ad sz)) 0 0 (AM a0 ad sz) := by
  refine Met.ofW (cc := cX2_crockOf) (maxL := 3) (ret := (some .int)) (by decide) rfl ?_
  intro p e s m args below meth cd s₁ B hml hv
  obtain ⟨hargs, hsz, hM, hG⟩ := hv
  have hx := B.exec
  have hb := B.bytes
  have hrt := B.returns
  have hts := atoms_spec (ws := (ws_ yX2_crockOf cX2_crockOf 3 (some .int))) B.pre
  have hts : ∀ w ∈ lw_all, w.before _ s = true := fun w h => hts w (List.mem_cons_of_mem _ h)
  have hown : s.vm.findClass RX2 = some m.cls := findClass_of_methodNamed B.named
  have hlocks := B.notSynchronized
  subst hsz
  have hS : va_S (AM a0 ad s.heap.size) s.heap s.heap [] := va_S.rf
  have hE : entryFrame m args 3 = F0 m 0 ((lg_sl ([.ref a0, .int c, .int w]) ++ List.replicate (3 - (lg_sl ([.ref a0, .int c, .int w])).length) Slot.unset).toArray) [] := by rw [hargs]; exact lg_entry_eq m _ 3
  have hl := lv_entry ([.ref a0, .int c, .int w]) (n := 3) (Nat.le_of_ble_eq_true rfl)
  rw [hE]
  clear hE
  generalize (lg_sl ([.ref a0, .int c, .int w]) ++ List.replicate (3 - (lg_sl ([.ref a0, .int c, .int w])).length) Slot.unset).toArray = ls at hl ⊢
  have hl : lv_has ls 3 [(0, .ref a0), (1, .int c), (2, .int w)] := hl
  generalize hQ : MQ _ _ _ _ _ _ _ = Q
  refine lv_aload_n hx hb dX2_crockOf_0 rfl (lv_at hl 0 rfl) ?_
  refine lv_iconst (v := nI 0) hx hb dX2_crockOf_1 (by decide) ?_
  refine M_put hx hb hts hown hG hS AM.o hM 0 (by decide) q1292 rfl rfl rfl (up1 N 0 0) I rfl dX2_crockOf_2 (fun H locs hM hz hS => ?_)
  refine lv_aload_n hx hb dX2_crockOf_5 rfl (lv_at hl 0 rfl) ?_
  refine lv_iload_n hx hb dX2_crockOf_6 rfl (lv_at hl 1 rfl) ?_
  refine vp_callSi (W.runV (As := [.int c]) (rest := []) ⟨hx, hb, hml, hown, hts⟩ (c_X2_isCrock lh D dA a0 ad (up1 N 0 0) I G J c) (w_X2_isCrock hts q1483 rfl rfl ⟨Nat.le_of_ble_eq_true rfl, Nat.le_of_ble_eq_true rfl⟩) ⟨PqM.blind, M_recv hG hM, PqM.pre hG hM⟩ rfl rfl hl.1 rfl (lv_room (Nat.le_of_ble_eq_true rfl)) dX2_crockOf_7 ⟨Nat.le_of_ble_eq_true rfl, Nat.le_of_ble_eq_true rfl⟩) (fun rr hrr => ?_)
  subst hrr
  refine kx_int (y := bI (wi c (nI 0) (nI ((N 3)) - nI 1))) rfl ?_
  refine kb_ne (tgt := 15) hx hb dX2_crockOf_10 (by decide) (fun c_10 => ?_) (fun c_10 => ?_)
  · obtain ⟨j, hj, rfl⟩ := wi_cnt (by omega) c_10
    refine lv_iload_n hx hb dX2_crockOf_15 rfl (lv_at hl 2 rfl) ?_
    by_cases w16_0 : w = nI 0
    · refine kx_int (y := nI 0) (w16_0) ?_
      refine lv_tableIn (tgt := 64) (off := 48) hx hb dX2_crockOf_16 (by decide) (by decide) (by decide) (by decide) ?_
      refine lv_aload_n hx hb dX2_crockOf_64 rfl (lv_at hl 0 rfl) ?_
      refine lv_iload_n hx hb dX2_crockOf_65 rfl (lv_at hl 1 rfl) ?_
      refine vp_callSi (W.runV (As := [.int (nI j)]) (rest := []) ⟨hx, hb, hml, hown, hts⟩ (c_X2_lives lh D dA a0 ad (up1 N 0 0) I G J (nI j) (show ∀ a b, G a b < 2 ^ 31 from by first | omega | assumption | exact hB_up (by assumption) (by omega)) (show (N 3) ≤ 10 from by first | omega | assumption | exact hB_up (by assumption) (by omega))) (w_X2_lives hts q1479 rfl rfl ⟨Nat.le_of_ble_eq_true rfl, Nat.le_of_ble_eq_true rfl⟩) ⟨PqM.blind, M_recv hG hM, PqM.pre hG hM⟩ rfl rfl hl.1 rfl (lv_room (Nat.le_of_ble_eq_true rfl)) dX2_crockOf_66 ⟨Nat.le_of_ble_eq_true rfl, Nat.le_of_ble_eq_true rfl⟩) (fun rr hrr => ?_)
      subst hrr
      refine kx_int (y := bI (lvI ((N 3)) G (nI j))) rfl ?_
      refine kb_eq (tgt := 81) hx hb dX2_crockOf_69 (by decide) (fun c_69 => ?_) (fun c_69 => ?_)
      · refine lv_iconst (v := -1) hx hb dX2_crockOf_81 (by decide) ?_
        subst hQ
        exact W.iret (v := (-1)) hx hb hrt (fun t ht hW => ⟨⟨_, ((up1 N 0 0), I, G, J), rfl, (by dsimp only; rw [if_pos c_10, tn_nI (show j < 2 ^ 31 by omega)]; refine ⟨?_, rfl⟩; have hww := w16_0; unfold coS; rw [if_pos w16_0]; simp [show lv G j = false from (lvI_lv (by omega) c_10).symm.trans c_69]; try rfl), by rw [ht]; exact hM, GK.warm hW hG⟩, hS.F ht⟩) hS.2.2 dX2_crockOf_82
      · refine lv_aload_n hx hb dX2_crockOf_72 rfl (lv_at hl 0 rfl) ?_
        refine M_get (v := .ref (ad 5)) hx hb hts hown hG hM 5 (by decide) q1297 rfl rfl dX2_crockOf_73 ?_
        refine lv_iload_n hx hb dX2_crockOf_76 rfl (lv_at hl 1 rfl) ?_
        refine M_iald (v := nI (G 5 j)) hx hb hG hM 5 rfl rfl (show j < 10 from by omega) (rfl) dX2_crockOf_77 ?_
        refine lv_goto (tgt := 82) hx hb dX2_crockOf_78 (by decide) ?_
        subst hQ
        exact W.iret (v := nI (G 5 j)) hx hb hrt (fun t ht hW => ⟨⟨_, ((up1 N 0 0), I, G, J), rfl, (by dsimp only; rw [if_pos c_10, tn_nI (show j < 2 ^ 31 by omega)]; refine ⟨?_, rfl⟩; have hww := w16_0; unfold coS; rw [if_pos w16_0]; simp [show lv G j = true from (lvI_lv (by omega) c_10).symm.trans c_69]; try rfl), by rw [ht]; exact hM, GK.warm hW hG⟩, hS.F ht⟩) hS.2.2 dX2_crockOf_82
    by_cases w16_1 : w = nI 1
    · refine kx_int (y := nI 1) (w16_1) ?_
      refine lv_tableIn (tgt := 83) (off := 67) hx hb dX2_crockOf_16 (by decide) (by decide) (by decide) (by decide) ?_
      refine lv_aload_n hx hb dX2_crockOf_83 rfl (lv_at hl 0 rfl) ?_
      refine M_get (v := .ref (ad 6)) hx hb hts hown hG hM 6 (by decide) q1298 rfl rfl dX2_crockOf_84 ?_
      refine lv_iload_n hx hb dX2_crockOf_87 rfl (lv_at hl 1 rfl) ?_
      refine M_iald (v := nI (G 6 j)) hx hb hG hM 6 rfl rfl (show j < 10 from by omega) (rfl) dX2_crockOf_88 ?_
      subst hQ
      exact W.iret (v := nI (G 6 j)) hx hb hrt (fun t ht hW => ⟨⟨_, ((up1 N 0 0), I, G, J), rfl, (by dsimp only; rw [if_pos c_10, tn_nI (show j < 2 ^ 31 by omega)]; refine ⟨?_, rfl⟩; have hww := w16_1; unfold coS; rw [if_neg w16_0]; rw [if_pos w16_1]; try rfl), by rw [ht]; exact hM, GK.warm hW hG⟩, hS.F ht⟩) hS.2.2 dX2_crockOf_89
    by_cases w16_2 : w = nI 2
    · refine kx_int (y := nI 2) (w16_2) ?_
      refine lv_tableIn (tgt := 90) (off := 74) hx hb dX2_crockOf_16 (by decide) (by decide) (by decide) (by decide) ?_
      refine lv_aload_n hx hb dX2_crockOf_90 rfl (lv_at hl 0 rfl) ?_
      refine M_get (v := .ref (ad 7)) hx hb hts hown hG hM 7 (by decide) q1299 rfl rfl dX2_crockOf_91 ?_
      refine lv_iload_n hx hb dX2_crockOf_94 rfl (lv_at hl 1 rfl) ?_
      refine M_iald (v := nI (G 7 j)) hx hb hG hM 7 rfl rfl (show j < 10 from by omega) (rfl) dX2_crockOf_95 ?_
      subst hQ
      exact W.iret (v := nI (G 7 j)) hx hb hrt (fun t ht hW => ⟨⟨_, ((up1 N 0 0), I, G, J), rfl, (by dsimp only; rw [if_pos c_10, tn_nI (show j < 2 ^ 31 by omega)]; refine ⟨?_, rfl⟩; have hww := w16_2; unfold coS; rw [if_neg w16_0]; rw [if_neg w16_1]; rw [if_pos w16_2]; try rfl), by rw [ht]; exact hM, GK.warm hW hG⟩, hS.F ht⟩) hS.2.2 dX2_crockOf_96
    by_cases w16_3 : w = nI 3
    · refine kx_int (y := nI 3) (w16_3) ?_
      refine lv_tableIn (tgt := 97) (off := 81) hx hb dX2_crockOf_16 (by decide) (by decide) (by decide) (by decide) ?_
      refine lv_aload_n hx hb dX2_crockOf_97 rfl (lv_at hl 0 rfl) ?_
      refine M_get (v := .ref (ad 8)) hx hb hts hown hG hM 8 (by decide) q1300 rfl rfl dX2_crockOf_98 ?_
      refine lv_iload_n hx hb dX2_crockOf_101 rfl (lv_at hl 1 rfl) ?_
      refine M_iald (v := nI (G 8 j)) hx hb hG hM 8 rfl rfl (show j < 10 from by omega) (rfl) dX2_crockOf_102 ?_
      subst hQ
      exact W.iret (v := nI (G 8 j)) hx hb hrt (fun t ht hW => ⟨⟨_, ((up1 N 0 0), I, G, J), rfl, (by dsimp only; rw [if_pos c_10, tn_nI (show j < 2 ^ 31 by omega)]; refine ⟨?_, rfl⟩; have hww := w16_3; unfold coS; rw [if_neg w16_0]; rw [if_neg w16_1]; rw [if_neg w16_2]; rw [if_pos w16_3]; try rfl), by rw [ht]; exact hM, GK.warm hW hG⟩, hS.F ht⟩) hS.2.2 dX2_crockOf_103
    by_cases w16_4 : w = nI 4
    · refine kx_int (y := nI 4) (w16_4) ?_
      refine lv_tableIn (tgt := 104) (off := 88) hx hb dX2_crockOf_16 (by decide) (by decide) (by decide) (by decide) ?_
      refine lv_aload_n hx hb dX2_crockOf_104 rfl (lv_at hl 0 rfl) ?_
      refine M_get (v := .ref (ad 9)) hx hb hts hown hG hM 9 (by decide) q1301 rfl rfl dX2_crockOf_105 ?_
      refine lv_iload_n hx hb dX2_crockOf_108 rfl (lv_at hl 1 rfl) ?_
      refine M_iald (v := nI (G 9 j)) hx hb hG hM 9 rfl rfl (show j < 10 from by omega) (rfl) dX2_crockOf_109 ?_
      subst hQ
      exact W.iret (v := nI (G 9 j)) hx hb hrt (fun t ht hW => ⟨⟨_, ((up1 N 0 0), I, G, J), rfl, (by dsimp only; rw [if_pos c_10, tn_nI (show j < 2 ^ 31 by omega)]; refine ⟨?_, rfl⟩; have hww := w16_4; unfold coS; rw [if_neg w16_0]; rw [if_neg w16_1]; rw [if_neg w16_2]; rw [if_neg w16_3]; rw [if_pos w16_4]; try rfl), by rw [ht]; exact hM, GK.warm hW hG⟩, hS.F ht⟩) hS.2.2 dX2_crockOf_110
    by_cases w16_5 : w = nI 5
    · refine kx_int (y := nI 5) (w16_5) ?_
      refine lv_tableIn (tgt := 111) (off := 95) hx hb dX2_crockOf_16 (by decide) (by decide) (by decide) (by decide) ?_
      refine lv_aload_n hx hb dX2_crockOf_111 rfl (lv_at hl 0 rfl) ?_
      refine lv_iload_n hx hb dX2_crockOf_112 rfl (lv_at hl 1 rfl) ?_
      refine vp_callSi (W.runV (As := [.int (nI j)]) (rest := []) ⟨hx, hb, hml, hown, hts⟩ (c_X2_grams lh D dA a0 ad (up1 N 0 0) I G J j (show j < 10 from by first | omega | assumption | exact hB_up (by assumption) (by omega))) (w_X2_grams hts q1487 rfl rfl ⟨Nat.le_of_ble_eq_true rfl, Nat.le_of_ble_eq_true rfl⟩) ⟨PqM.blind, M_recv hG hM, PqM.pre hG hM⟩ rfl rfl hl.1 rfl (lv_room (Nat.le_of_ble_eq_true rfl)) dX2_crockOf_113 ⟨Nat.le_of_ble_eq_true rfl, Nat.le_of_ble_eq_true rfl⟩) (fun rr hrr => ?_)
      subst hrr
      refine kx_int (y := nI (gr G j)) rfl ?_
      subst hQ
      exact W.iret (v := nI (gr G j)) hx hb hrt (fun t ht hW => ⟨⟨_, ((up1 N 0 0), I, G, J), rfl, (by dsimp only; rw [if_pos c_10, tn_nI (show j < 2 ^ 31 by omega)]; refine ⟨?_, rfl⟩; have hww := w16_5; unfold coS; rw [if_neg w16_0]; rw [if_neg w16_1]; rw [if_neg w16_2]; rw [if_neg w16_3]; rw [if_neg w16_4]; rw [if_pos w16_5]; try rfl), by rw [ht]; exact hM, GK.warm hW hG⟩, hS.F ht⟩) hS.2.2 dX2_crockOf_116
    by_cases w16_6 : w = nI 6
    · refine kx_int (y := nI 6) (w16_6) ?_
      refine lv_tableIn (tgt := 117) (off := 101) hx hb dX2_crockOf_16 (by decide) (by decide) (by decide) (by decide) ?_
      refine lv_aload_n hx hb dX2_crockOf_117 rfl (lv_at hl 0 rfl) ?_
      refine lv_iload_n hx hb dX2_crockOf_118 rfl (lv_at hl 1 rfl) ?_
      refine vp_callSi (W.runV (As := [.int (nI j)]) (rest := []) ⟨hx, hb, hml, hown, hts⟩ (c_X2_isFit lh D dA a0 ad (up1 N 0 0) I G J j (show ∀ a b, G a b < 2 ^ 31 from by first | omega | assumption | exact hB_up (by assumption) (by omega)) (show j < 10 from by first | omega | assumption | exact hB_up (by assumption) (by omega)) (show (N 14) ≤ 600 from by first | omega | assumption | exact hB_up (by assumption) (by omega)) (show (N 19) ≤ 100 from by first | omega | assumption | exact hB_up (by assumption) (by omega))) (w_X2_isFit hts q1634 rfl rfl ⟨Nat.le_of_ble_eq_true rfl, Nat.le_of_ble_eq_true rfl⟩) ⟨PqM.blind, M_recv hG hM, PqM.pre hG hM⟩ rfl rfl hl.1 rfl (lv_room (Nat.le_of_ble_eq_true rfl)) dX2_crockOf_119 ⟨Nat.le_of_ble_eq_true rfl, Nat.le_of_ble_eq_true rfl⟩) (fun rr hrr => ?_)
      subst hrr
      refine kx_int (y := bI (fitS G j ((N 14)) ((N 19)) ((N 42)) ((N 43)))) rfl ?_
      refine kb_eq (tgt := 129) hx hb dX2_crockOf_122 (by decide) (fun c_122 => ?_) (fun c_122 => ?_)
      · refine lv_iconst (v := nI 0) hx hb dX2_crockOf_129 (by decide) ?_
        subst hQ
        exact W.iret (v := nI 0) hx hb hrt (fun t ht hW => ⟨⟨_, ((up1 N 0 0), I, G, J), rfl, (by dsimp only; rw [if_pos c_10, tn_nI (show j < 2 ^ 31 by omega)]; refine ⟨?_, rfl⟩; have hww := w16_6; unfold coS; rw [if_neg w16_0]; rw [if_neg w16_1]; rw [if_neg w16_2]; rw [if_neg w16_3]; rw [if_neg w16_4]; rw [if_neg w16_5]; rw [if_pos w16_6]; simp [show fitS G j (N 14) (N 19) (N 42) (N 43) = false from c_122, bI]; try rfl), by rw [ht]; exact hM, GK.warm hW hG⟩, hS.F ht⟩) hS.2.2 dX2_crockOf_130
      · refine lv_iconst (v := nI 1) hx hb dX2_crockOf_125 (by decide) ?_
        refine lv_goto (tgt := 130) hx hb dX2_crockOf_126 (by decide) ?_
        subst hQ
        exact W.iret (v := nI 1) hx hb hrt (fun t ht hW => ⟨⟨_, ((up1 N 0 0), I, G, J), rfl, (by dsimp only; rw [if_pos c_10, tn_nI (show j < 2 ^ 31 by omega)]; refine ⟨?_, rfl⟩; have hww := w16_6; unfold coS; rw [if_neg w16_0]; rw [if_neg w16_1]; rw [if_neg w16_2]; rw [if_neg w16_3]; rw [if_neg w16_4]; rw [if_neg w16_5]; rw [if_pos w16_6]; simp [show fitS G j (N 14) (N 19) (N 42) (N 43) = true from c_122, bI]; try rfl), by rw [ht]; exact hM, GK.warm hW hG⟩, hS.F ht⟩) hS.2.2 dX2_crockOf_130
    by_cases w16_7 : w = nI 7
    · refine kx_int (y := nI 7) (w16_7) ?_
      refine lv_tableIn (tgt := 131) (off := 115) hx hb dX2_crockOf_16 (by decide) (by decide) (by decide) (by decide) ?_
      refine lv_aload_n hx hb dX2_crockOf_131 rfl (lv_at hl 0 rfl) ?_
      refine M_get (v := .ref (ad 13)) hx hb hts hown hG hM 13 (by decide) q1305 rfl rfl dX2_crockOf_132 ?_
      refine lv_iload_n hx hb dX2_crockOf_135 rfl (lv_at hl 1 rfl) ?_
      refine M_iald (v := J 13 j) hx hb hG hM 13 rfl rfl (show j < 10 from by omega) (rfl) dX2_crockOf_136 ?_
      subst hQ
      exact W.iret (v := J 13 j) hx hb hrt (fun t ht hW => ⟨⟨_, ((up1 N 0 0), I, G, J), rfl, (by dsimp only; rw [if_pos c_10, tn_nI (show j < 2 ^ 31 by omega)]; refine ⟨?_, rfl⟩; have hww := w16_7; unfold coS; rw [if_neg w16_0]; rw [if_neg w16_1]; rw [if_neg w16_2]; rw [if_neg w16_3]; rw [if_neg w16_4]; rw [if_neg w16_5]; rw [if_neg w16_6]; rw [if_pos w16_7]; try rfl), by rw [ht]; exact hM, GK.warm hW hG⟩, hS.F ht⟩) hS.2.2 dX2_crockOf_137
    refine lv_tableOut (tgt := 138) hx hb dX2_crockOf_16 (sw_out 7 (lt_s (lt_s (lt_s (lt_s (lt_s (lt_s (lt_s (lt_s lt_0 w16_0) w16_1) w16_2) w16_3) w16_4) w16_5) w16_6) w16_7)) (by decide) ?_
    refine lv_iconst (v := -1) hx hb dX2_crockOf_138 (by decide) ?_
    subst hQ
    exact W.iret (v := (-1)) hx hb hrt (fun t ht hW => ⟨⟨_, ((up1 N 0 0), I, G, J), rfl, (by dsimp only; rw [if_pos c_10, tn_nI (show j < 2 ^ 31 by omega)]; refine ⟨?_, rfl⟩; unfold coS; rw [if_neg w16_0]; rw [if_neg w16_1]; rw [if_neg w16_2]; rw [if_neg w16_3]; rw [if_neg w16_4]; rw [if_neg w16_5]; rw [if_neg w16_6]; rw [if_neg w16_7]; try rfl), by rw [ht]; exact hM, GK.warm hW hG⟩, hS.F ht⟩) hS.2.2 dX2_crockOf_139
  · refine lv_iconst (v := -1) hx hb dX2_crockOf_13 (by decide) ?_
    subst hQ
    exact W.iret (v := (-1)) hx hb hrt (fun t ht hW => ⟨⟨_, ((up1 N 0 0), I, G, J), rfl, (by dsimp only; rw [if_neg (by simp [c_10])]; exact ⟨rfl, rfl⟩), by rw [ht]; exact hM, GK.warm hW hG⟩, hS.F ht⟩) hS.2.2 dX2_crockOf_14
theorem w_X2_crockOf {R : Room} {s : State} {args : Array Value} {own : String} {idx : Nat} (hts : ∀ w ∈ lw_all, w.before args s = true) (h1 : Cond.methodLink own idx yX2_crockOf ∈ lw_all) {rm : Room} {mc ms : Nat} (hrc : rm.cells = mc) (hrs : rm.slots = ms) (hR : rm.frames + 1 ≤ R.frames ∧ 8 + (3 + 11) + rm.locals ≤ R.locals) : CallW R s args own RX2 idx yX2_crockOf cX2_crockOf 3 (some .int) (ws_ yX2_crockOf cX2_crockOf 3 (some .int)) rm mc ms 2 := cwV 2 hts (lw_V h1 q1687 q1688 q70 q1689) rfl hrc hrs (by decide +kernel) hR

abbrev r_X2_count : Room := { frames := 1, cells := 0, slots := 0, locals := 23 }
set_option maxHeartbeats 400000 in
theorem c_X2_count (lh : Launch) (D : va_G) (dA : Nat → ClassId) (a0 : Nat) (ad : Nat → Nat) (N : Nat → Nat) (I : Nat → Int32) (G : Nat → Nat → Nat) (J : Nat → Nat → Int32) (sz : Nat) (w : Int32) (h1 : ∀ a b, G a b < 2 ^ 31) (h2 : N 1 ≤ 20) (h3 : N 3 ≤ 10) (h4 : N 14 ≤ 600) (h5 : N 23 ≤ 10) (h6 : N 40 ≤ 60) : Met lh yX2_count (ws_ yX2_count cX2_count 4 (some .int)) r_X2_count (PmM D dA a0 ad N I G J sz [.ref a0, .int w]) (va_Qi (fun (r : Int32) (u : SgT) => r = cntS N G w ∧ u = (up1 N 0 0, I, G, J)) (BmM D dA a0 ad) (AM a0 ad sz)) 0 0 (AM a0 ad sz) := by
  refine Met.ofW (cc := cX2_count) (maxL := 4) (ret := (some .int)) (by decide) rfl ?_
  intro p e s m args below meth cd s₁ B hml hv
  obtain ⟨hargs, hsz, hM, hG⟩ := hv
  have hx := B.exec
  have hb := B.bytes
  have hrt := B.returns
  have hts := atoms_spec (ws := (ws_ yX2_count cX2_count 4 (some .int))) B.pre
  have hts : ∀ w ∈ lw_all, w.before _ s = true := fun w h => hts w (List.mem_cons_of_mem _ h)
  have hown : s.vm.findClass RX2 = some m.cls := findClass_of_methodNamed B.named
  have hlocks := B.notSynchronized
  subst hsz
  have hS : va_S (AM a0 ad s.heap.size) s.heap s.heap [] := va_S.rf
  have hE : entryFrame m args 4 = F0 m 0 ((lg_sl ([.ref a0, .int w]) ++ List.replicate (4 - (lg_sl ([.ref a0, .int w])).length) Slot.unset).toArray) [] := by rw [hargs]; exact lg_entry_eq m _ 4
  have hl := lv_entry ([.ref a0, .int w]) (n := 4) (Nat.le_of_ble_eq_true rfl)
  rw [hE]
  clear hE
  generalize (lg_sl ([.ref a0, .int w]) ++ List.replicate (4 - (lg_sl ([.ref a0, .int w])).length) Slot.unset).toArray = ls at hl ⊢
  have hl : lv_has ls 4 [(0, .ref a0), (1, .int w)] := hl
  generalize hQ : MQ _ _ _ _ _ _ _ = Q
  refine lv_aload_n hx hb dX2_count_0 rfl (lv_at hl 0 rfl) ?_
  refine lv_iconst (v := nI 0) hx hb dX2_count_1 (by decide) ?_
  refine M_put hx hb hts hown hG hS AM.o hM 0 (by decide) q1292 rfl rfl rfl (up1 N 0 0) I rfl dX2_count_2 (fun H locs hM hz hS => ?_)
  refine lv_iconst (v := nI 0) hx hb dX2_count_5 (by decide) ?_
  refine lv_istore_n (lv' := [(2, .int (nI 0)), (0, .ref a0), (1, .int w)]) hx hb dX2_count_6 rfl hl (by decide) rfl (fun ls hl => ?_)
  refine lv_iload_n hx hb dX2_count_7 rfl (lv_at hl 2 rfl) ?_
  by_cases w8_0 : w = nI 0
  · refine kx_int (y := nI 0) (w8_0) ?_
    refine lv_tableIn (tgt := 76) (off := 68) hx hb dX2_count_8 (by decide) (by decide) (by decide) (by decide) ?_
    refine lv_aload_n hx hb dX2_count_76 rfl (lv_at hl 1 rfl) ?_
    refine M_get (v := .int (nI (N 1))) hx hb hts hown hG hM 1 (by decide) q1293 rfl rfl dX2_count_77 ?_
    subst hQ
    exact W.iret (v := nI (N 1)) hx hb hrt (fun t ht hW => ⟨⟨_, ((up1 N 0 0), I, G, J), rfl, (by dsimp only; refine ⟨?_, rfl⟩; unfold cntS; rw [if_pos w8_0]; try rfl), by rw [ht]; exact hM, GK.warm hW hG⟩, hS.F ht⟩) hS.2.2 dX2_count_80
  by_cases w8_1 : w = nI 1
  · refine kx_int (y := nI 1) (w8_1) ?_
    refine lv_tableIn (tgt := 81) (off := 73) hx hb dX2_count_8 (by decide) (by decide) (by decide) (by decide) ?_
    refine lv_aload_n hx hb dX2_count_81 rfl (lv_at hl 1 rfl) ?_
    refine M_get (v := .int (nI (N 3))) hx hb hts hown hG hM 3 (by decide) q1295 rfl rfl dX2_count_82 ?_
    subst hQ
    exact W.iret (v := nI (N 3)) hx hb hrt (fun t ht hW => ⟨⟨_, ((up1 N 0 0), I, G, J), rfl, (by dsimp only; refine ⟨?_, rfl⟩; unfold cntS; rw [if_neg w8_0]; rw [if_pos w8_1]; try rfl), by rw [ht]; exact hM, GK.warm hW hG⟩, hS.F ht⟩) hS.2.2 dX2_count_85
  by_cases w8_2 : w = nI 2
  · refine kx_int (y := nI 2) (w8_2) ?_
    refine lv_tableIn (tgt := 86) (off := 78) hx hb dX2_count_8 (by decide) (by decide) (by decide) (by decide) ?_
    refine lv_aload_n hx hb dX2_count_86 rfl (lv_at hl 1 rfl) ?_
    refine M_get (v := .int (nI (N 14))) hx hb hts hown hG hM 14 (by decide) q1306 rfl rfl dX2_count_87 ?_
    subst hQ
    exact W.iret (v := nI (N 14)) hx hb hrt (fun t ht hW => ⟨⟨_, ((up1 N 0 0), I, G, J), rfl, (by dsimp only; refine ⟨?_, rfl⟩; unfold cntS; rw [if_neg w8_0]; rw [if_neg w8_1]; rw [if_pos w8_2]; try rfl), by rw [ht]; exact hM, GK.warm hW hG⟩, hS.F ht⟩) hS.2.2 dX2_count_90
  by_cases w8_3 : w = nI 3
  · refine kx_int (y := nI 3) (w8_3) ?_
    refine lv_tableIn (tgt := 91) (off := 83) hx hb dX2_count_8 (by decide) (by decide) (by decide) (by decide) ?_
    refine lv_aload_n hx hb dX2_count_91 rfl (lv_at hl 1 rfl) ?_
    refine M_get (v := .int (nI (N 19))) hx hb hts hown hG hM 19 (by decide) q1311 rfl rfl dX2_count_92 ?_
    subst hQ
    exact W.iret (v := nI (N 19)) hx hb hrt (fun t ht hW => ⟨⟨_, ((up1 N 0 0), I, G, J), rfl, (by dsimp only; refine ⟨?_, rfl⟩; unfold cntS; rw [if_neg w8_0]; rw [if_neg w8_1]; rw [if_neg w8_2]; rw [if_pos w8_3]; try rfl), by rw [ht]; exact hM, GK.warm hW hG⟩, hS.F ht⟩) hS.2.2 dX2_count_95
  by_cases w8_4 : w = nI 4
  · refine kx_int (y := nI 4) (w8_4) ?_
    refine lv_tableIn (tgt := 96) (off := 88) hx hb dX2_count_8 (by decide) (by decide) (by decide) (by decide) ?_
    refine lv_aload_n hx hb dX2_count_96 rfl (lv_at hl 1 rfl) ?_
    refine M_get (v := .int (nI (N 23))) hx hb hts hown hG hM 23 (by decide) q1315 rfl rfl dX2_count_97 ?_
    subst hQ
    exact W.iret (v := nI (N 23)) hx hb hrt (fun t ht hW => ⟨⟨_, ((up1 N 0 0), I, G, J), rfl, (by dsimp only; refine ⟨?_, rfl⟩; unfold cntS; rw [if_neg w8_0]; rw [if_neg w8_1]; rw [if_neg w8_2]; rw [if_neg w8_3]; rw [if_pos w8_4]; try rfl), by rw [ht]; exact hM, GK.warm hW hG⟩, hS.F ht⟩) hS.2.2 dX2_count_100
  by_cases w8_5 : w = nI 5
  · refine kx_int (y := nI 5) (w8_5) ?_
    refine lv_tableIn (tgt := 101) (off := 93) hx hb dX2_count_8 (by decide) (by decide) (by decide) (by decide) ?_
    refine lv_aload_n hx hb dX2_count_101 rfl (lv_at hl 1 rfl) ?_
    refine M_get (v := .int (nI (N 40))) hx hb hts hown hG hM 40 (by decide) q1332 rfl rfl dX2_count_102 ?_
    subst hQ
    exact W.iret (v := nI (N 40)) hx hb hrt (fun t ht hW => ⟨⟨_, ((up1 N 0 0), I, G, J), rfl, (by dsimp only; refine ⟨?_, rfl⟩; unfold cntS; rw [if_neg w8_0]; rw [if_neg w8_1]; rw [if_neg w8_2]; rw [if_neg w8_3]; rw [if_neg w8_4]; rw [if_pos w8_5]; try rfl), by rw [ht]; exact hM, GK.warm hW hG⟩, hS.F ht⟩) hS.2.2 dX2_count_105
  by_cases w8_6 : w = nI 6
  · refine kx_int (y := nI 6) (w8_6) ?_
    refine lv_tableIn (tgt := 106) (off := 98) hx hb dX2_count_8 (by decide) (by decide) (by decide) (by decide) ?_
    refine lv_aload_n hx hb dX2_count_106 rfl (lv_at hl 1 rfl) ?_
    refine M_get (v := .int (nI (N 44))) hx hb hts hown hG hM 44 (by decide) q1336 rfl rfl dX2_count_107 ?_
    subst hQ
    exact W.iret (v := nI (N 44)) hx hb hrt (fun t ht hW => ⟨⟨_, ((up1 N 0 0), I, G, J), rfl, (by dsimp only; refine ⟨?_, rfl⟩; unfold cntS; rw [if_neg w8_0]; rw [if_neg w8_1]; rw [if_neg w8_2]; rw [if_neg w8_3]; rw [if_neg w8_4]; rw [if_neg w8_5]; rw [if_pos w8_6]; try rfl), by rw [ht]; exact hM, GK.warm hW hG⟩, hS.F ht⟩) hS.2.2 dX2_count_110
  by_cases w8_7 : w = nI 7
  · refine kx_int (y := nI 7) (w8_7) ?_
    refine lv_tableIn (tgt := 111) (off := 103) hx hb dX2_count_8 (by decide) (by decide) (by decide) (by decide) ?_
    refine lv_aload_n hx hb dX2_count_111 rfl (lv_at hl 1 rfl) ?_
    refine M_get (v := .int (nI (N 33))) hx hb hts hown hG hM 33 (by decide) q1325 rfl rfl dX2_count_112 ?_
    subst hQ
    exact W.iret (v := nI (N 33)) hx hb hrt (fun t ht hW => ⟨⟨_, ((up1 N 0 0), I, G, J), rfl, (by dsimp only; refine ⟨?_, rfl⟩; unfold cntS; rw [if_neg w8_0]; rw [if_neg w8_1]; rw [if_neg w8_2]; rw [if_neg w8_3]; rw [if_neg w8_4]; rw [if_neg w8_5]; rw [if_neg w8_6]; rw [if_pos w8_7]; try rfl), by rw [ht]; exact hM, GK.warm hW hG⟩, hS.F ht⟩) hS.2.2 dX2_count_115
  by_cases w8_8 : w = nI 8
  · refine kx_int (y := nI 8) (w8_8) ?_
    refine lv_tableIn (tgt := 116) (off := 108) hx hb dX2_count_8 (by decide) (by decide) (by decide) (by decide) ?_
    refine lv_iconst (v := nI 0) hx hb dX2_count_116 (by decide) ?_
    refine lv_istore_n (lv' := [(3, .int (nI 0)), (2, .int (nI 0)), (0, .ref a0), (1, .int w)]) hx hb dX2_count_117 rfl hl (by decide) rfl (fun ls hl => ?_)
    have L118 : ∀ (nn118 : Nat) (q : Nat), (q ≤ N 1) → N 1 - q < nn118 → ∀ (H : Heap) (locs : List Loc), RM D dA a0 ad (up1 N 0 0) I G J H → va_S (AM a0 ad s.heap.size) s.heap H locs → ∀ (ls : Array Slot), lv_has ls 4 [(0, .ref a0), (1, .int w), (2, .int (nI (sumTo (G 2) q))), (3, .int (nI q))] → W p lh e r_X2_count s m args below meth cd H locs 0 0 Q (F0 m 118 ls []) := by
      intro nn118
      induction nn118 with
      | zero => intro q i118_0 hm118; exact absurd hm118 (Nat.not_lt_zero _)
      | succ nn118 ih118 =>
        intro q i118_0 hm118 H locs hM hS ls hl
        refine lv_iload_n hx hb dX2_count_118 rfl (lv_at hl 3 rfl) ?_
        refine lv_aload_n hx hb dX2_count_119 rfl (lv_at hl 0 rfl) ?_
        refine M_get (v := .int (nI (N 1))) hx hb hts hown hG hM 1 (by decide) q1293 rfl rfl dX2_count_120 ?_
        refine kn_cge (tgt := 141) hx hb dX2_count_123 (by decide) (by omega) (by omega) (fun c_123 => ?_) (fun c_123 => ?_)
        · refine lv_iload_n hx hb dX2_count_141 rfl (lv_at hl 2 rfl) ?_
          subst hQ
          exact W.iret (v := nI (sumTo (G 2) q)) hx hb hrt (fun t ht hW => ⟨⟨_, ((up1 N 0 0), I, G, J), rfl, (by dsimp only; refine ⟨?_, rfl⟩; unfold cntS; rw [if_neg w8_0]; rw [if_neg w8_1]; rw [if_neg w8_2]; rw [if_neg w8_3]; rw [if_neg w8_4]; rw [if_neg w8_5]; rw [if_neg w8_6]; rw [if_neg w8_7]; rw [if_pos w8_8]; rw [show N 1 = q by omega]), by rw [ht]; exact hM, GK.warm hW hG⟩, hS.F ht⟩) hS.2.2 dX2_count_142
        · refine lv_iload_n hx hb dX2_count_126 rfl (lv_at hl 2 rfl) ?_
          refine lv_aload_n hx hb dX2_count_127 rfl (lv_at hl 0 rfl) ?_
          refine M_get (v := .ref (ad 2)) hx hb hts hown hG hM 2 (by decide) q1294 rfl rfl dX2_count_128 ?_
          refine lv_iload_n hx hb dX2_count_131 rfl (lv_at hl 3 rfl) ?_
          refine M_iald (v := nI (G 2 q)) hx hb hG hM 2 rfl rfl (show q < 20 from by omega) (rfl) dX2_count_132 ?_
          refine kn_add hx hb dX2_count_133 ?_
          refine lv_istore_n (lv' := [(2, .int (nI (sumTo (G 2) q + (G 2 q)))), (0, .ref a0), (1, .int w), (3, .int (nI q))]) hx hb dX2_count_134 rfl hl (by decide) rfl (fun ls hl => ?_)
          refine lv_iinc (v := nI (q + 1)) (lv' := [(3, .int (nI (q + 1))), (2, .int (nI (sumTo (G 2) q + (G 2 q)))), (0, .ref a0), (1, .int w)]) hx hb dX2_count_135 hl (k := 3) rfl (show nI q + Int32.ofInt 1 = nI (q + 1) from nI_add _ 1) (by decide) rfl (fun ls hl => ?_)
          refine lv_goto (tgt := 118) hx hb dX2_count_138 (by decide) ?_
          exact ih118 (q + 1) (by omega) (by omega) _ _ hM hS _ (lv_sub hl [2, 3, 1, 0] rfl)
    exact L118 _ 0 (by omega) (Nat.lt_succ_self _) _ _ hM hS _ (lv_sub hl [2, 3, 1, 0] rfl)
  by_cases w8_9 : w = nI 9
  · refine kx_int (y := nI 9) (w8_9) ?_
    refine lv_tableIn (tgt := 143) (off := 135) hx hb dX2_count_8 (by decide) (by decide) (by decide) (by decide) ?_
    refine lv_iconst (v := nI 0) hx hb dX2_count_143 (by decide) ?_
    refine lv_istore_n (lv' := [(3, .int (nI 0)), (2, .int (nI 0)), (0, .ref a0), (1, .int w)]) hx hb dX2_count_144 rfl hl (by decide) rfl (fun ls hl => ?_)
    have L145 : ∀ (nn145 : Nat) (q : Nat), (q ≤ N 3) → N 3 - q < nn145 → ∀ (H : Heap) (locs : List Loc), RM D dA a0 ad (up1 N 0 0) I G J H → va_S (AM a0 ad s.heap.size) s.heap H locs → ∀ (ls : Array Slot), lv_has ls 4 [(0, .ref a0), (1, .int w), (2, .int (nI (sumTo (gr G) q))), (3, .int (nI q))] → W p lh e r_X2_count s m args below meth cd H locs 0 0 Q (F0 m 145 ls []) := by
      intro nn145
      induction nn145 with
      | zero => intro q i145_0 hm145; exact absurd hm145 (Nat.not_lt_zero _)
      | succ nn145 ih145 =>
        intro q i145_0 hm145 H locs hM hS ls hl
        refine lv_iload_n hx hb dX2_count_145 rfl (lv_at hl 3 rfl) ?_
        refine lv_aload_n hx hb dX2_count_146 rfl (lv_at hl 0 rfl) ?_
        refine M_get (v := .int (nI (N 3))) hx hb hts hown hG hM 3 (by decide) q1295 rfl rfl dX2_count_147 ?_
        refine kn_cge (tgt := 167) hx hb dX2_count_150 (by decide) (by omega) (by omega) (fun c_150 => ?_) (fun c_150 => ?_)
        · refine lv_iload_n hx hb dX2_count_167 rfl (lv_at hl 2 rfl) ?_
          subst hQ
          exact W.iret (v := nI (sumTo (gr G) q)) hx hb hrt (fun t ht hW => ⟨⟨_, ((up1 N 0 0), I, G, J), rfl, (by dsimp only; refine ⟨?_, rfl⟩; unfold cntS; rw [if_neg w8_0]; rw [if_neg w8_1]; rw [if_neg w8_2]; rw [if_neg w8_3]; rw [if_neg w8_4]; rw [if_neg w8_5]; rw [if_neg w8_6]; rw [if_neg w8_7]; rw [if_neg w8_8]; rw [if_pos w8_9]; rw [show N 3 = q by omega]), by rw [ht]; exact hM, GK.warm hW hG⟩, hS.F ht⟩) hS.2.2 dX2_count_168
        · refine lv_iload_n hx hb dX2_count_153 rfl (lv_at hl 2 rfl) ?_
          refine lv_aload_n hx hb dX2_count_154 rfl (lv_at hl 0 rfl) ?_
          refine lv_iload_n hx hb dX2_count_155 rfl (lv_at hl 3 rfl) ?_
          refine vp_callSi (W.runV (As := [.int (nI q)]) (rest := [.int (nI (sumTo (gr G) q))]) ⟨hx, hb, hml, hown, hts⟩ (c_X2_grams lh D dA a0 ad (up1 N 0 0) I G J q (show q < 10 from by first | omega | assumption | exact hB_up (by assumption) (by omega))) (w_X2_grams hts q1487 rfl rfl ⟨Nat.le_of_ble_eq_true rfl, Nat.le_of_ble_eq_true rfl⟩) ⟨PqM.blind, M_recv hG hM, PqM.pre hG hM⟩ rfl rfl hl.1 rfl (lv_room (Nat.le_of_ble_eq_true rfl)) dX2_count_156 ⟨Nat.le_of_ble_eq_true rfl, Nat.le_of_ble_eq_true rfl⟩) (fun rr hrr => ?_)
          subst hrr
          refine kx_int (y := nI (gr G q)) rfl ?_
          refine kn_add hx hb dX2_count_159 ?_
          refine lv_istore_n (lv' := [(2, .int (nI (sumTo (gr G) q + (gr G q)))), (0, .ref a0), (1, .int w), (3, .int (nI q))]) hx hb dX2_count_160 rfl hl (by decide) rfl (fun ls hl => ?_)
          refine lv_iinc (v := nI (q + 1)) (lv' := [(3, .int (nI (q + 1))), (2, .int (nI (sumTo (gr G) q + (gr G q)))), (0, .ref a0), (1, .int w)]) hx hb dX2_count_161 hl (k := 3) rfl (show nI q + Int32.ofInt 1 = nI (q + 1) from nI_add _ 1) (by decide) rfl (fun ls hl => ?_)
          refine lv_goto (tgt := 145) hx hb dX2_count_164 (by decide) ?_
          exact ih145 (q + 1) (by omega) (by omega) _ _ hM hS _ (lv_sub hl [2, 3, 1, 0] rfl)
    exact L145 _ 0 (by omega) (Nat.lt_succ_self _) _ _ hM hS _ (lv_sub hl [2, 3, 1, 0] rfl)
  by_cases w8_10 : w = nI 10
  · refine kx_int (y := nI 10) (w8_10) ?_
    refine lv_tableIn (tgt := 169) (off := 161) hx hb dX2_count_8 (by decide) (by decide) (by decide) (by decide) ?_
    refine lv_iconst (v := nI 0) hx hb dX2_count_169 (by decide) ?_
    refine lv_istore_n (lv' := [(3, .int (nI 0)), (2, .int (nI 0)), (0, .ref a0), (1, .int w)]) hx hb dX2_count_170 rfl hl (by decide) rfl (fun ls hl => ?_)
    have L171 : ∀ (nn171 : Nat) (q : Nat), (q ≤ 20 * N 40) → 20 * N 40 - q < nn171 → ∀ (H : Heap) (locs : List Loc), RM D dA a0 ad (up1 N 0 0) I G J H → va_S (AM a0 ad s.heap.size) s.heap H locs → ∀ (ls : Array Slot), lv_has ls 4 [(0, .ref a0), (1, .int w), (2, .int (nI (sumTo (G 41) q))), (3, .int (nI q))] → W p lh e r_X2_count s m args below meth cd H locs 0 0 Q (F0 m 171 ls []) := by
      intro nn171
      induction nn171 with
      | zero => intro q i171_0 hm171; exact absurd hm171 (Nat.not_lt_zero _)
      | succ nn171 ih171 =>
        intro q i171_0 hm171 H locs hM hS ls hl
        refine lv_iload_n hx hb dX2_count_171 rfl (lv_at hl 3 rfl) ?_
        refine lv_bipush (v := nI 20) hx hb dX2_count_172 (by decide) ?_
        refine lv_aload_n hx hb dX2_count_174 rfl (lv_at hl 0 rfl) ?_
        refine M_get (v := .int (nI (N 40))) hx hb hts hown hG hM 40 (by decide) q1332 rfl rfl dX2_count_175 ?_
        refine kn_mul hx hb dX2_count_178 ?_
        refine kn_cge (tgt := 197) hx hb dX2_count_179 (by decide) (by omega) (by omega) (fun c_179 => ?_) (fun c_179 => ?_)
        · refine lv_iload_n hx hb dX2_count_197 rfl (lv_at hl 2 rfl) ?_
          subst hQ
          exact W.iret (v := nI (sumTo (G 41) q)) hx hb hrt (fun t ht hW => ⟨⟨_, ((up1 N 0 0), I, G, J), rfl, (by dsimp only; refine ⟨?_, rfl⟩; unfold cntS; rw [if_neg w8_0]; rw [if_neg w8_1]; rw [if_neg w8_2]; rw [if_neg w8_3]; rw [if_neg w8_4]; rw [if_neg w8_5]; rw [if_neg w8_6]; rw [if_neg w8_7]; rw [if_neg w8_8]; rw [if_neg w8_9]; rw [if_pos w8_10]; rw [show 20 * N 40 = q by omega]), by rw [ht]; exact hM, GK.warm hW hG⟩, hS.F ht⟩) hS.2.2 dX2_count_198
        · refine lv_iload_n hx hb dX2_count_182 rfl (lv_at hl 2 rfl) ?_
          refine lv_aload_n hx hb dX2_count_183 rfl (lv_at hl 0 rfl) ?_
          refine M_get (v := .ref (ad 41)) hx hb hts hown hG hM 41 (by decide) q1333 rfl rfl dX2_count_184 ?_
          refine lv_iload_n hx hb dX2_count_187 rfl (lv_at hl 3 rfl) ?_
          refine M_iald (v := nI (G 41 q)) hx hb hG hM 41 rfl rfl (show q < 1200 from by omega) (rfl) dX2_count_188 ?_
          refine kn_add hx hb dX2_count_189 ?_
          refine lv_istore_n (lv' := [(2, .int (nI (sumTo (G 41) q + (G 41 q)))), (0, .ref a0), (1, .int w), (3, .int (nI q))]) hx hb dX2_count_190 rfl hl (by decide) rfl (fun ls hl => ?_)
          refine lv_iinc (v := nI (q + 1)) (lv' := [(3, .int (nI (q + 1))), (2, .int (nI (sumTo (G 41) q + (G 41 q)))), (0, .ref a0), (1, .int w)]) hx hb dX2_count_191 hl (k := 3) rfl (show nI q + Int32.ofInt 1 = nI (q + 1) from nI_add _ 1) (by decide) rfl (fun ls hl => ?_)
          refine lv_goto (tgt := 171) hx hb dX2_count_194 (by decide) ?_
          exact ih171 (q + 1) (by omega) (by omega) _ _ hM hS _ (lv_sub hl [2, 3, 1, 0] rfl)
    exact L171 _ 0 (by omega) (Nat.lt_succ_self _) _ _ hM hS _ (lv_sub hl [2, 3, 1, 0] rfl)
  by_cases w8_11 : w = nI 11
  · refine kx_int (y := nI 11) (w8_11) ?_
    refine lv_tableIn (tgt := 199) (off := 191) hx hb dX2_count_8 (by decide) (by decide) (by decide) (by decide) ?_
    refine lv_aload_n hx hb dX2_count_199 rfl (lv_at hl 1 rfl) ?_
    refine M_get (v := .int (nI (N 15))) hx hb hts hown hG hM 15 (by decide) q1307 rfl rfl dX2_count_200 ?_
    subst hQ
    exact W.iret (v := nI (N 15)) hx hb hrt (fun t ht hW => ⟨⟨_, ((up1 N 0 0), I, G, J), rfl, (by dsimp only; refine ⟨?_, rfl⟩; unfold cntS; rw [if_neg w8_0]; rw [if_neg w8_1]; rw [if_neg w8_2]; rw [if_neg w8_3]; rw [if_neg w8_4]; rw [if_neg w8_5]; rw [if_neg w8_6]; rw [if_neg w8_7]; rw [if_neg w8_8]; rw [if_neg w8_9]; rw [if_neg w8_10]; rw [if_pos w8_11]; try rfl), by rw [ht]; exact hM, GK.warm hW hG⟩, hS.F ht⟩) hS.2.2 dX2_count_203
  by_cases w8_12 : w = nI 12
  · refine kx_int (y := nI 12) (w8_12) ?_
    refine lv_tableIn (tgt := 204) (off := 196) hx hb dX2_count_8 (by decide) (by decide) (by decide) (by decide) ?_
    refine lv_aload_n hx hb dX2_count_204 rfl (lv_at hl 1 rfl) ?_
    refine vp_callSi (W.runV (As := []) (rest := []) ⟨hx, hb, hml, hown, hts⟩ (c_X2_inForce lh D dA a0 ad (up1 N 0 0) I G J (show ∀ a b, G a b < 2 ^ 31 from by first | omega | assumption | exact hB_up (by assumption) (by omega)) (show (N 14) ≤ 600 from by first | omega | assumption | exact hB_up (by assumption) (by omega)) (show (N 23) ≤ 10 from by first | omega | assumption | exact hB_up (by assumption) (by omega))) (w_X2_inForce hts q1586 rfl rfl ⟨Nat.le_of_ble_eq_true rfl, Nat.le_of_ble_eq_true rfl⟩) ⟨PqM.blind, M_recv hG hM, PqM.pre hG hM⟩ rfl rfl hl.1 rfl (lv_room (Nat.le_of_ble_eq_true rfl)) dX2_count_205 ⟨Nat.le_of_ble_eq_true rfl, Nat.le_of_ble_eq_true rfl⟩) (fun rr hrr => ?_)
    subst hrr
    refine kx_int (y := oI (ifS G ((N 14) / 24) ((N 23)))) rfl ?_
    rcases ho205 : ifS G ((N 14) / 24) ((N 23)) with _ | k205
    · show W p lh e r_X2_count s m args below meth cd _ _ _ _ Q (F0 m _ ls (.int (-1) :: _))
      subst hQ
      exact W.iret (v := (-1)) hx hb hrt (fun t ht hW => ⟨⟨_, ((up1 N 0 0), I, G, J), rfl, (by dsimp only; refine ⟨?_, rfl⟩; unfold cntS; rw [if_neg w8_0]; rw [if_neg w8_1]; rw [if_neg w8_2]; rw [if_neg w8_3]; rw [if_neg w8_4]; rw [if_neg w8_5]; rw [if_neg w8_6]; rw [if_neg w8_7]; rw [if_neg w8_8]; rw [if_neg w8_9]; rw [if_neg w8_10]; rw [if_neg w8_11]; rw [if_pos w8_12]; rw [ho205]; rfl), by rw [ht]; exact hM, GK.warm hW hG⟩, hS.F ht⟩) hS.2.2 dX2_count_208
    · show W p lh e r_X2_count s m args below meth cd _ _ _ _ Q (F0 m _ ls (.int (nI k205) :: _))
      subst hQ
      exact W.iret (v := nI k205) hx hb hrt (fun t ht hW => ⟨⟨_, ((up1 N 0 0), I, G, J), rfl, (by dsimp only; refine ⟨?_, rfl⟩; unfold cntS; rw [if_neg w8_0]; rw [if_neg w8_1]; rw [if_neg w8_2]; rw [if_neg w8_3]; rw [if_neg w8_4]; rw [if_neg w8_5]; rw [if_neg w8_6]; rw [if_neg w8_7]; rw [if_neg w8_8]; rw [if_neg w8_9]; rw [if_neg w8_10]; rw [if_neg w8_11]; rw [if_pos w8_12]; rw [ho205]; rfl), by rw [ht]; exact hM, GK.warm hW hG⟩, hS.F ht⟩) hS.2.2 dX2_count_208
  refine lv_tableOut (tgt := 209) hx hb dX2_count_8 (sw_out 12 (lt_s (lt_s (lt_s (lt_s (lt_s (lt_s (lt_s (lt_s (lt_s (lt_s (lt_s (lt_s (lt_s lt_0 w8_0) w8_1) w8_2) w8_3) w8_4) w8_5) w8_6) w8_7) w8_8) w8_9) w8_10) w8_11) w8_12)) (by decide) ?_
  refine lv_iconst (v := -1) hx hb dX2_count_209 (by decide) ?_
  subst hQ
  exact W.iret (v := (-1)) hx hb hrt (fun t ht hW => ⟨⟨_, ((up1 N 0 0), I, G, J), rfl, (by dsimp only; refine ⟨?_, rfl⟩; unfold cntS; rw [if_neg w8_0]; rw [if_neg w8_1]; rw [if_neg w8_2]; rw [if_neg w8_3]; rw [if_neg w8_4]; rw [if_neg w8_5]; rw [if_neg w8_6]; rw [if_neg w8_7]; rw [if_neg w8_8]; rw [if_neg w8_9]; rw [if_neg w8_10]; rw [if_neg w8_11]; rw [if_neg w8_12]; try rfl), by rw [ht]; exact hM, GK.warm hW hG⟩, hS.F ht⟩) hS.2.2 dX2_count_210
theorem w_X2_count {R : Room} {s : State} {args : Array Value} {own : String} {idx : Nat} (hts : ∀ w ∈ lw_all, w.before args s = true) (h1 : Cond.methodLink own idx yX2_count ∈ lw_all) {rm : Room} {mc ms : Nat} (hrc : rm.cells = mc) (hrs : rm.slots = ms) (hR : rm.frames + 1 ≤ R.frames ∧ 8 + (4 + 11) + rm.locals ≤ R.locals) : CallW R s args own RX2 idx yX2_count cX2_count 4 (some .int) (ws_ yX2_count cX2_count 4 (some .int)) rm mc ms 1 := cwV 1 hts (lw_V h1 q1691 q1692 q70 q1693) rfl hrc hrs (by decide +kernel) hR
