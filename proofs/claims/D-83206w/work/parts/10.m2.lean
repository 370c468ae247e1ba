set_option maxRecDepth 100000
abbrev r_X2_latestTest : Room := { frames := 1, cells := 0, slots := 0, locals := 22 }
set_option maxHeartbeats 400000 in
theorem c_X2_latestTest (lh : Launch) (D : va_G) (dA : Nat → ClassId) (a0 : Nat) (ad : Nat → Nat) (N : Nat → Nat) (I : Nat → Int32) (G : Nat → Nat → Nat) (J : Nat → Nat → Int32) (c : Nat) (hr : Nat) (n : Nat) (h1 : ∀ a b, G a b < 2 ^ 31) (h2 : c < 10) (h3 : hr < 2 ^ 31) (h4 : n ≤ 100) : Met lh yX2_latestTest (ws_ yX2_latestTest cX2_latestTest 6 (some .int)) r_X2_latestTest (PqM D dA a0 ad N I G J [.ref a0, .int (nI c), .int (nI hr), .int (nI n)]) (vp_Si (fun rv => rv = oI (latS G c hr n))) 0 0 (fun _ => False) := by
  refine Met.ofW (cc := cX2_latestTest) (maxL := 6) (ret := (some .int)) (by decide) rfl ?_
  intro p e s m args below meth cd s₁ B hml hv
  obtain ⟨hargs, hM, hG⟩ := hv
  have hx := B.exec
  have hb := B.bytes
  have hrt := B.returns
  have hts := atoms_spec (ws := (ws_ yX2_latestTest cX2_latestTest 6 (some .int))) B.pre
  have hts : ∀ w ∈ lw_all, w.before _ s = true := fun w h => hts w (List.mem_cons_of_mem _ h)
  have hown : s.vm.findClass RX2 = some m.cls := findClass_of_methodNamed B.named
  have hlocks := B.notSynchronized
  have hE : entryFrame m args 6 = F0 m 0 ((lg_sl ([.ref a0, .int (nI c), .int (nI hr), .int (nI n)]) ++ List.replicate (6 - (lg_sl ([.ref a0, .int (nI c), .int (nI hr), .int (nI n)])).length) Slot.unset).toArray) [] := by rw [hargs]; exact lg_entry_eq m _ 6
  have hl := lv_entry ([.ref a0, .int (nI c), .int (nI hr), .int (nI n)]) (n := 6) (Nat.le_of_ble_eq_true rfl)
  rw [hE]
  clear hE
  generalize (lg_sl ([.ref a0, .int (nI c), .int (nI hr), .int (nI n)]) ++ List.replicate (6 - (lg_sl ([.ref a0, .int (nI c), .int (nI hr), .int (nI n)])).length) Slot.unset).toArray = ls at hl ⊢
  have hl : lv_has ls 6 [(0, .ref a0), (1, .int (nI c)), (2, .int (nI hr)), (3, .int (nI n))] := hl
  generalize hQ : MQ _ _ _ _ _ _ _ = Q
  refine lv_iconst (v := -1) hx hb dX2_latestTest_0 (by decide) ?_
  refine lv_istore (lv' := [(4, .int (-1)), (0, .ref a0), (1, .int (nI c)), (2, .int (nI hr)), (3, .int (nI n))]) hx hb dX2_latestTest_1 hl (by decide) rfl (fun ls hl => ?_)
  refine lv_iconst (v := nI 0) hx hb dX2_latestTest_3 (by decide) ?_
  refine lv_istore (lv' := [(5, .int (nI 0)), (4, .int (-1)), (0, .ref a0), (1, .int (nI c)), (2, .int (nI hr)), (3, .int (nI n))]) hx hb dX2_latestTest_4 hl (by decide) rfl (fun ls hl => ?_)
  have L6 : ∀ (nn6 : Nat) (k : Nat), (k ≤ n) → n - k < nn6 → ∀ (ls : Array Slot), lv_has ls 6 [(0, .ref a0), (1, .int (nI c)), (2, .int (nI hr)), (3, .int (nI n)), (4, .int (oI (latS G c hr k))), (5, .int (nI k))] → W p lh e r_X2_latestTest s m args below meth cd s.heap [] 0 0 Q (F0 m 6 ls []) := by
    intro nn6
    induction nn6 with
    | zero => intro k i6_0 hm6; exact absurd hm6 (Nat.not_lt_zero _)
    | succ nn6 ih6 =>
      intro k i6_0 hm6 ls hl
      refine lv_iload hx hb dX2_latestTest_6 (lv_at hl 5 rfl) ?_
      refine lv_iload_n hx hb dX2_latestTest_8 rfl (lv_at hl 3 rfl) ?_
      refine kn_cge (tgt := 76) hx hb dX2_latestTest_9 (by decide) (by omega) (by omega) (fun c_9 => ?_) (fun c_9 => ?_)
      · refine lv_iload hx hb dX2_latestTest_76 (lv_at hl 4 rfl) ?_
        subst hQ
        exact W.iret (v := oI (latS G c hr k)) hx hb hrt (fun t ht _ => ⟨_, rfl, (show oI (latS G c hr k) = oI (latS G c hr n) from by rw [show k = n by omega]), ht⟩) t_nil dX2_latestTest_78
      · refine lv_aload_n hx hb dX2_latestTest_12 rfl (lv_at hl 0 rfl) ?_
        refine M_get (v := .ref (ad 20)) hx hb hts hown hG hM 20 (by decide) q1312 rfl rfl dX2_latestTest_13 ?_
        refine lv_iload hx hb dX2_latestTest_16 (lv_at hl 5 rfl) ?_
        refine M_iald (v := nI (G 20 k)) hx hb hG hM 20 rfl rfl (show k < 100 from by omega) (rfl) dX2_latestTest_18 ?_
        refine lv_iload_n hx hb dX2_latestTest_19 rfl (lv_at hl 1 rfl) ?_
        refine kn_cne (tgt := 70) hx hb dX2_latestTest_20 (by decide) (h1 _ _) (by omega) (fun c_20 => ?_) (fun c_20 => ?_)
        · refine lv_iinc (v := nI (k + 1)) (lv' := [(5, .int (nI (k + 1))), (0, .ref a0), (1, .int (nI c)), (2, .int (nI hr)), (3, .int (nI n)), (4, .int (oI (latS G c hr k)))]) hx hb dX2_latestTest_70 hl (k := 5) rfl (show nI k + Int32.ofInt 1 = nI (k + 1) from nI_add _ 1) (by decide) rfl (fun ls hl => ?_)
          refine lv_goto (tgt := 6) hx hb dX2_latestTest_73 (by decide) ?_
          exact ih6 (k + 1) (by omega) (by omega) _ (lv_conv (show lv_has ls 6 [(0, .ref a0), (1, .int (nI c)), (2, .int (nI hr)), (3, .int (nI n)), (4, .int (oI (latS G c hr k))), (5, .int (nI (k + 1)))] from (lv_sub hl [1, 2, 3, 4, 5, 0] rfl)) (by rw [latS_n (fun q => c_20 q.1)]))
        · refine lv_aload_n hx hb dX2_latestTest_23 rfl (lv_at hl 0 rfl) ?_
          refine M_get (v := .ref (ad 21)) hx hb hts hown hG hM 21 (by decide) q1313 rfl rfl dX2_latestTest_24 ?_
          refine lv_iload hx hb dX2_latestTest_27 (lv_at hl 5 rfl) ?_
          refine M_iald (v := nI (G 21 k)) hx hb hG hM 21 rfl rfl (show k < 100 from by omega) (rfl) dX2_latestTest_29 ?_
          refine lv_aload_n hx hb dX2_latestTest_30 rfl (lv_at hl 0 rfl) ?_
          refine M_get (v := .ref (ad 9)) hx hb hts hown hG hM 9 (by decide) q1301 rfl rfl dX2_latestTest_31 ?_
          refine lv_iload_n hx hb dX2_latestTest_34 rfl (lv_at hl 1 rfl) ?_
          refine M_iald (v := nI (G 9 c)) hx hb hG hM 9 rfl rfl (show c < 10 from by omega) (rfl) dX2_latestTest_35 ?_
          refine lv_iload_n hx hb dX2_latestTest_36 rfl (lv_at hl 2 rfl) ?_
          refine vp_callSi (W.runS (As := [.int (nI (G 21 k)), .int (nI (G 9 c)), .int (nI hr)]) (rest := []) ⟨hx, hb, hml, hown, hts⟩ (c_X2_within lh (nI (G 21 k)) (nI (G 9 c)) (nI hr)) (w_X2_within hts q1464 rfl rfl ⟨Nat.le_of_ble_eq_true rfl, Nat.le_of_ble_eq_true rfl⟩) ⟨P0.blind, P0.pre⟩ rfl rfl hl.1 rfl (lv_room (Nat.le_of_ble_eq_true rfl)) dX2_latestTest_37 ⟨Nat.le_of_ble_eq_true rfl, Nat.le_of_ble_eq_true rfl⟩) (fun rr hrr => ?_)
          subst hrr
          refine kb_eq (tgt := 70) hx hb dX2_latestTest_40 (by decide) (fun c_40 => ?_) (fun c_40 => ?_)
          · rw [wi_nat' (h1 _ _) (h1 _ _) (by omega)] at c_40
            refine lv_iinc (v := nI (k + 1)) (lv' := [(5, .int (nI (k + 1))), (0, .ref a0), (1, .int (nI c)), (2, .int (nI hr)), (3, .int (nI n)), (4, .int (oI (latS G c hr k)))]) hx hb dX2_latestTest_70 hl (k := 5) rfl (show nI k + Int32.ofInt 1 = nI (k + 1) from nI_add _ 1) (by decide) rfl (fun ls hl => ?_)
            refine lv_goto (tgt := 6) hx hb dX2_latestTest_73 (by decide) ?_
            exact ih6 (k + 1) (by omega) (by omega) _ (lv_conv (show lv_has ls 6 [(0, .ref a0), (1, .int (nI c)), (2, .int (nI hr)), (3, .int (nI n)), (4, .int (oI (latS G c hr k))), (5, .int (nI (k + 1)))] from (lv_sub hl [1, 2, 3, 4, 5, 0] rfl)) (by rw [latS_n (fun q => by simp [q.2.1, q.2.2.1] at c_40)]))
          · rw [wi_nat' (h1 _ _) (h1 _ _) (by omega)] at c_40
            refine lv_iload hx hb dX2_latestTest_43 (lv_at hl 4 rfl) ?_
            refine lv_iconst (v := -1) hx hb dX2_latestTest_45 (by decide) ?_
            refine kO_eq (tgt := 66) hx hb dX2_latestTest_46 (by decide) (fun j q => by have := latS_lt q; omega) (fun c_46 => ?_) (fun k46 c_46 => ?_)
            · rw [c_46] at hl
              have hl : lv_has ls 6 [(0, .ref a0), (1, .int (nI c)), (2, .int (nI hr)), (3, .int (nI n)), (4, .int (-1)), (5, .int (nI k))] := hl
              skip
              refine lv_iload hx hb dX2_latestTest_66 (lv_at hl 5 rfl) ?_
              refine lv_istore (lv' := [(4, .int (nI k)), (0, .ref a0), (1, .int (nI c)), (2, .int (nI hr)), (3, .int (nI n)), (5, .int (nI k))]) hx hb dX2_latestTest_68 hl (by decide) rfl (fun ls hl => ?_)
              refine lv_iinc (v := nI (k + 1)) (lv' := [(5, .int (nI (k + 1))), (4, .int (nI k)), (0, .ref a0), (1, .int (nI c)), (2, .int (nI hr)), (3, .int (nI n))]) hx hb dX2_latestTest_70 hl (k := 5) rfl (show nI k + Int32.ofInt 1 = nI (k + 1) from nI_add _ 1) (by decide) rfl (fun ls hl => ?_)
              refine lv_goto (tgt := 6) hx hb dX2_latestTest_73 (by decide) ?_
              exact ih6 (k + 1) (by omega) (by omega) _ (lv_conv (show lv_has ls 6 [(0, .ref a0), (1, .int (nI c)), (2, .int (nI hr)), (3, .int (nI n)), (4, .int (nI k)), (5, .int (nI (k + 1)))] from (lv_sub hl [2, 3, 4, 5, 1, 0] rfl)) (by rw [latS_y c_20 (by simp at c_40; exact c_40.1) (by simp at c_40; exact c_40.2) (fun j q => by rw [c_46] at q; cases q)]; rfl))
            · rw [c_46] at hl
              have hl : lv_has ls 6 [(0, .ref a0), (1, .int (nI c)), (2, .int (nI hr)), (3, .int (nI n)), (4, .int (nI k46)), (5, .int (nI k))] := hl
              skip
              have c_lt := latS_lt c_46
              refine lv_aload_n hx hb dX2_latestTest_49 rfl (lv_at hl 0 rfl) ?_
              refine M_get (v := .ref (ad 21)) hx hb hts hown hG hM 21 (by decide) q1313 rfl rfl dX2_latestTest_50 ?_
              refine lv_iload hx hb dX2_latestTest_53 (lv_at hl 5 rfl) ?_
              refine M_iald (v := nI (G 21 k)) hx hb hG hM 21 rfl rfl (show k < 100 from by omega) (rfl) dX2_latestTest_55 ?_
              refine lv_aload_n hx hb dX2_latestTest_56 rfl (lv_at hl 0 rfl) ?_
              refine M_get (v := .ref (ad 21)) hx hb hts hown hG hM 21 (by decide) q1313 rfl rfl dX2_latestTest_57 ?_
              refine lv_iload hx hb dX2_latestTest_60 (lv_at hl 4 rfl) ?_
              refine M_iald (v := nI (G 21 k46)) hx hb hG hM 21 rfl rfl (show k46 < 100 from by omega) (rfl) dX2_latestTest_62 ?_
              refine kn_clt (tgt := 70) hx hb dX2_latestTest_63 (by decide) (h1 _ _) (h1 _ _) (fun c_63 => ?_) (fun c_63 => ?_)
              · refine lv_iinc (v := nI (k + 1)) (lv' := [(5, .int (nI (k + 1))), (0, .ref a0), (1, .int (nI c)), (2, .int (nI hr)), (3, .int (nI n)), (4, .int (nI k46))]) hx hb dX2_latestTest_70 hl (k := 5) rfl (show nI k + Int32.ofInt 1 = nI (k + 1) from nI_add _ 1) (by decide) rfl (fun ls hl => ?_)
                refine lv_goto (tgt := 6) hx hb dX2_latestTest_73 (by decide) ?_
                exact ih6 (k + 1) (by omega) (by omega) _ (lv_conv (show lv_has ls 6 [(0, .ref a0), (1, .int (nI c)), (2, .int (nI hr)), (3, .int (nI n)), (4, .int (nI k46)), (5, .int (nI (k + 1)))] from (lv_sub hl [1, 2, 3, 4, 5, 0] rfl)) (by rw [latS_n (fun q => by have := q.2.2.2 _ c_46; omega), c_46]; rfl))
              · refine lv_iload hx hb dX2_latestTest_66 (lv_at hl 5 rfl) ?_
                refine lv_istore (lv' := [(4, .int (nI k)), (0, .ref a0), (1, .int (nI c)), (2, .int (nI hr)), (3, .int (nI n)), (5, .int (nI k))]) hx hb dX2_latestTest_68 hl (by decide) rfl (fun ls hl => ?_)
                refine lv_iinc (v := nI (k + 1)) (lv' := [(5, .int (nI (k + 1))), (4, .int (nI k)), (0, .ref a0), (1, .int (nI c)), (2, .int (nI hr)), (3, .int (nI n))]) hx hb dX2_latestTest_70 hl (k := 5) rfl (show nI k + Int32.ofInt 1 = nI (k + 1) from nI_add _ 1) (by decide) rfl (fun ls hl => ?_)
                refine lv_goto (tgt := 6) hx hb dX2_latestTest_73 (by decide) ?_
                exact ih6 (k + 1) (by omega) (by omega) _ (lv_conv (show lv_has ls 6 [(0, .ref a0), (1, .int (nI c)), (2, .int (nI hr)), (3, .int (nI n)), (4, .int (nI k)), (5, .int (nI (k + 1)))] from (lv_sub hl [2, 3, 4, 5, 1, 0] rfl)) (by rw [latS_y c_20 (by simp at c_40; exact c_40.1) (by simp at c_40; exact c_40.2) (fun j q => by rw [c_46] at q; cases q; exact c_63)]; rfl))
  exact L6 _ 0 (by omega) (Nat.lt_succ_self _) _ (lv_sub hl [2, 3, 4, 5, 1, 0] rfl)
theorem w_X2_latestTest {R : Room} {s : State} {args : Array Value} {own : String} {idx : Nat} (hts : ∀ w ∈ lw_all, w.before args s = true) (h1 : Cond.methodLink own idx yX2_latestTest ∈ lw_all) {rm : Room} {mc ms : Nat} (hrc : rm.cells = mc) (hrs : rm.slots = ms) (hR : rm.frames + 1 ≤ R.frames ∧ 8 + (6 + 11) + rm.locals ≤ R.locals) : CallW R s args own RX2 idx yX2_latestTest cX2_latestTest 6 (some .int) (ws_ yX2_latestTest cX2_latestTest 6 (some .int)) rm mc ms 3 := cwV 3 hts (lw_V h1 q1513 qs35 q70 q1514) rfl hrc hrs (by decide +kernel) hR

abbrev r_X2_spanOf : Room := { frames := 2, cells := 0, slots := 0, locals := 47 }
set_option maxHeartbeats 400000 in
theorem c_X2_spanOf (lh : Launch) (D : va_G) (dA : Nat → ClassId) (a0 : Nat) (ad : Nat → Nat) (N : Nat → Nat) (I : Nat → Int32) (G : Nat → Nat → Nat) (J : Nat → Nat → Int32) (c : Nat) (hr : Nat) (k : Nat) (hi : Bool) (h1 : ∀ a b, G a b < 2 ^ 31) (h2 : c < 10) (h3 : hr ≤ 600) (h4 : k ≤ 100) : Met lh yX2_spanOf (ws_ yX2_spanOf cX2_spanOf 10 (some .int)) r_X2_spanOf (PqM D dA a0 ad N I G J [.ref a0, .int (nI c), .int (nI hr), .int (nI k), .int (bI hi)]) (vp_Si (fun rv => rv = spanS G J c hr k hi)) 0 0 (fun _ => False) := by
  refine Met.ofW (cc := cX2_spanOf) (maxL := 10) (ret := (some .int)) (by decide) rfl ?_
  intro p e s m args below meth cd s₁ B hml hv
  obtain ⟨hargs, hM, hG⟩ := hv
  have hx := B.exec
  have hb := B.bytes
  have hrt := B.returns
  have hts := atoms_spec (ws := (ws_ yX2_spanOf cX2_spanOf 10 (some .int))) B.pre
  have hts : ∀ w ∈ lw_all, w.before _ s = true := fun w h => hts w (List.mem_cons_of_mem _ h)
  have hown : s.vm.findClass RX2 = some m.cls := findClass_of_methodNamed B.named
  have hlocks := B.notSynchronized
  have hE : entryFrame m args 10 = F0 m 0 ((lg_sl ([.ref a0, .int (nI c), .int (nI hr), .int (nI k), .int (bI hi)]) ++ List.replicate (10 - (lg_sl ([.ref a0, .int (nI c), .int (nI hr), .int (nI k), .int (bI hi)])).length) Slot.unset).toArray) [] := by rw [hargs]; exact lg_entry_eq m _ 10
  have hl := lv_entry ([.ref a0, .int (nI c), .int (nI hr), .int (nI k), .int (bI hi)]) (n := 10) (Nat.le_of_ble_eq_true rfl)
  rw [hE]
  clear hE
  generalize (lg_sl ([.ref a0, .int (nI c), .int (nI hr), .int (nI k), .int (bI hi)]) ++ List.replicate (10 - (lg_sl ([.ref a0, .int (nI c), .int (nI hr), .int (nI k), .int (bI hi)])).length) Slot.unset).toArray = ls at hl ⊢
  have hl : lv_has ls 10 [(0, .ref a0), (1, .int (nI c)), (2, .int (nI hr)), (3, .int (nI k)), (4, .int (bI hi))] := hl
  generalize hQ : MQ _ _ _ _ _ _ _ = Q
  refine lv_aload_n hx hb dX2_spanOf_0 rfl (lv_at hl 0 rfl) ?_
  refine lv_iload_n hx hb dX2_spanOf_1 rfl (lv_at hl 1 rfl) ?_
  refine lv_iload_n hx hb dX2_spanOf_2 rfl (lv_at hl 2 rfl) ?_
  refine lv_iload_n hx hb dX2_spanOf_3 rfl (lv_at hl 3 rfl) ?_
  refine vp_callSi (W.runV (As := [.int (nI c), .int (nI hr), .int (nI k)]) (rest := []) ⟨hx, hb, hml, hown, hts⟩ (c_X2_latestTest lh D dA a0 ad N I G J c hr k (show ∀ a b, G a b < 2 ^ 31 from by first | omega | assumption | exact hB_up (by assumption) (by omega)) (show c < 10 from by first | omega | assumption | exact hB_up (by assumption) (by omega)) (show hr < 2 ^ 31 from by first | omega | assumption | exact hB_up (by assumption) (by omega)) (show k ≤ 100 from by first | omega | assumption | exact hB_up (by assumption) (by omega))) (w_X2_latestTest hts q1511 rfl rfl ⟨Nat.le_of_ble_eq_true rfl, Nat.le_of_ble_eq_true rfl⟩) ⟨PqM.blind, M_recv hG hM, PqM.pre hG hM⟩ rfl rfl hl.1 rfl (lv_room (Nat.le_of_ble_eq_true rfl)) dX2_spanOf_4 ⟨Nat.le_of_ble_eq_true rfl, Nat.le_of_ble_eq_true rfl⟩) (fun rr hrr => ?_)
  subst hrr
  rcases ho4 : latS G c hr k with _ | k4
  · show W p lh e r_X2_spanOf s m args below meth cd _ _ _ _ Q (F0 m _ ls (.int (-1) :: _))
    refine lv_istore (lv' := [(5, .int (-1)), (0, .ref a0), (1, .int (nI c)), (2, .int (nI hr)), (3, .int (nI k)), (4, .int (bI hi))]) hx hb dX2_spanOf_7 hl (by decide) rfl (fun ls hl => ?_)
    refine lv_iload hx hb dX2_spanOf_9 (lv_at hl 0 rfl) ?_
    refine lv_iconst (v := -1) hx hb dX2_spanOf_11 (by decide) ?_
    refine lv_icmp_ne (tgt := 24) hx hb dX2_spanOf_12 (by decide) (fun c => absurd rfl c) (fun _ => ?_)
    refine lv_aload_n hx hb dX2_spanOf_15 rfl (lv_at hl 1 rfl) ?_
    refine M_get (v := .ref (ad 9)) hx hb hts hown hG hM 9 (by decide) q1301 rfl rfl dX2_spanOf_16 ?_
    refine lv_iload_n hx hb dX2_spanOf_19 rfl (lv_at hl 2 rfl) ?_
    refine M_iald (v := nI (G 9 c)) hx hb hG hM 9 rfl rfl (show c < 10 from by omega) (rfl) dX2_spanOf_20 ?_
    refine lv_goto (tgt := 31) hx hb dX2_spanOf_21 (by decide) ?_
    refine lv_istore (lv' := [(6, .int (nI (G 9 c))), (5, .int (-1)), (0, .ref a0), (1, .int (nI c)), (2, .int (nI hr)), (3, .int (nI k)), (4, .int (bI hi))]) hx hb dX2_spanOf_31 hl (by decide) rfl (fun ls hl => ?_)
    refine lv_iload hx hb dX2_spanOf_33 (lv_at hl 1 rfl) ?_
    refine lv_iconst (v := -1) hx hb dX2_spanOf_35 (by decide) ?_
    refine lv_icmp_eq (tgt := 49) hx hb dX2_spanOf_36 (by decide) (fun _ => ?_) (fun c => absurd rfl c)
    refine lv_iload hx hb dX2_spanOf_49 (lv_at hl 6 rfl) ?_
    refine kb_eq (tgt := 63) hx hb dX2_spanOf_51 (by decide) (fun c_51 => ?_) (fun c_51 => ?_)
    · refine lv_aload_n hx hb dX2_spanOf_63 rfl (lv_at hl 2 rfl) ?_
      refine M_get (v := .ref (ad 10)) hx hb hts hown hG hM 10 (by decide) q1302 rfl rfl dX2_spanOf_64 ?_
      refine lv_iload_n hx hb dX2_spanOf_67 rfl (lv_at hl 3 rfl) ?_
      refine M_iald (v := J 10 c) hx hb hG hM 10 rfl rfl (show c < 10 from by omega) (rfl) dX2_spanOf_68 ?_
      refine lv_istore (lv' := [(7, .int (J 10 c)), (6, .int (nI (G 9 c))), (5, .int (-1)), (0, .ref a0), (1, .int (nI c)), (2, .int (nI hr)), (3, .int (nI k)), (4, .int (bI hi))]) hx hb dX2_spanOf_69 hl (by decide) rfl (fun ls hl => ?_)
      refine lv_iload hx hb dX2_spanOf_71 (lv_at hl 1 rfl) ?_
      refine lv_istore (lv' := [(8, .int (nI (G 9 c))), (7, .int (J 10 c)), (6, .int (nI (G 9 c))), (5, .int (-1)), (0, .ref a0), (1, .int (nI c)), (2, .int (nI hr)), (3, .int (nI k)), (4, .int (bI hi))]) hx hb dX2_spanOf_73 hl (by decide) rfl (fun ls hl => ?_)
      have L75 : ∀ (nn75 : Nat) (q : Nat), (q ≤ hr - (G 9 c)) → hr - ((G 9 c) + q) < nn75 → ∀ (ls : Array Slot), lv_has ls 10 [(0, .ref a0), (1, .int (nI c)), (2, .int (nI hr)), (4, .int (bI hi)), (7, .int (spL G c hi (J 10 c) (G 9 c) q)), (8, .int (nI ((G 9 c) + q)))] → W p lh e r_X2_spanOf s m args below meth cd s.heap [] 0 0 Q (F0 m 75 ls []) := by
        intro nn75
        induction nn75 with
        | zero => intro q i75_0 hm75; exact absurd hm75 (Nat.not_lt_zero _)
        | succ nn75 ih75 =>
          intro q i75_0 hm75 ls hl
          have hfr : G 9 c < 2 ^ 31 := h1 _ _
          refine lv_iload hx hb dX2_spanOf_75 (lv_at hl 5 rfl) ?_
          refine lv_iload_n hx hb dX2_spanOf_77 rfl (lv_at hl 2 rfl) ?_
          refine kn_cge (tgt := 128) hx hb dX2_spanOf_78 (by decide) (by omega) (by omega) (fun c_78 => ?_) (fun c_78 => ?_)
          · refine lv_iload hx hb dX2_spanOf_128 (lv_at hl 4 rfl) ?_
            refine lv_sipush (v := nI 1000) hx hb dX2_spanOf_130 (by decide) ?_
            refine lv_icmp_le (tgt := 142) hx hb dX2_spanOf_133 (by decide) (fun c_133 => ?_) (fun c_133 => ?_)
            · refine lv_iload hx hb dX2_spanOf_142 (lv_at hl 4 rfl) ?_
              subst hQ
              exact W.iret (v := spL G c hi (J 10 c) (G 9 c) q) hx hb hrt (fun t ht _ => ⟨_, rfl, (show spL G c hi (J 10 c) (G 9 c) q = spanS G J c hr k hi from by have e : q = hr - (G 9 c) := (by omega); subst e; simp only [spanS, ho4]; rw [if_neg (by rw [c_51]; decide)]; simp only [cap]; rw [if_pos c_133]), ht⟩) t_nil dX2_spanOf_144
            · refine lv_sipush (v := nI 1000) hx hb dX2_spanOf_136 (by decide) ?_
              refine lv_goto (tgt := 144) hx hb dX2_spanOf_139 (by decide) ?_
              subst hQ
              exact W.iret (v := nI 1000) hx hb hrt (fun t ht _ => ⟨_, rfl, (show nI 1000 = spanS G J c hr k hi from by have e : q = hr - (G 9 c) := (by omega); subst e; simp only [spanS, ho4]; rw [if_neg (by rw [c_51]; decide)]; simp only [cap]; rw [if_neg c_133]), ht⟩) t_nil dX2_spanOf_144
          · refine lv_aload_n hx hb dX2_spanOf_81 rfl (lv_at hl 0 rfl) ?_
            refine M_get (v := .ref (ad 12)) hx hb hts hown hG hM 12 (by decide) q1304 rfl rfl dX2_spanOf_82 ?_
            refine lv_sipush (v := nI 600) hx hb dX2_spanOf_85 (by decide) ?_
            refine lv_iload_n hx hb dX2_spanOf_88 rfl (lv_at hl 1 rfl) ?_
            refine kn_mul hx hb dX2_spanOf_89 ?_
            refine lv_iload hx hb dX2_spanOf_90 (lv_at hl 5 rfl) ?_
            refine kn_add hx hb dX2_spanOf_92 ?_
            refine M_bald (v := nI (G 12 (600 * c + ((G 9 c) + q)))) hx hb hG hM 12 rfl rfl (show 600 * c + ((G 9 c) + q) < 6000 from by omega) (rfl) dX2_spanOf_93 ?_
            refine lv_iconst (v := nI 1) hx hb dX2_spanOf_94 (by decide) ?_
            refine lv_isub hx hb dX2_spanOf_95 ?_
            refine lv_istore (lv' := [(9, .int (nI (G 12 (600 * c + ((G 9 c) + q))) - (nI 1))), (0, .ref a0), (1, .int (nI c)), (2, .int (nI hr)), (4, .int (bI hi)), (7, .int (spL G c hi (J 10 c) (G 9 c) q)), (8, .int (nI ((G 9 c) + q)))]) hx hb dX2_spanOf_96 hl (by decide) rfl (fun ls hl => ?_)
            refine lv_iload hx hb dX2_spanOf_98 (lv_at hl 5 rfl) ?_
            refine lv_iload hx hb dX2_spanOf_100 (lv_at hl 4 rfl) ?_
            refine kb_eq (tgt := 117) hx hb dX2_spanOf_102 (by decide) (fun c_102 => ?_) (fun c_102 => ?_)
            · refine lv_iload hx hb dX2_spanOf_117 (lv_at hl 0 rfl) ?_
              refine lv_iadd hx hb dX2_spanOf_119 ?_
              refine lv_istore (lv' := [(7, .int ((spL G c hi (J 10 c) (G 9 c) q) + (nI (G 12 (600 * c + ((G 9 c) + q))) - (nI 1)))), (9, .int (nI (G 12 (600 * c + ((G 9 c) + q))) - (nI 1))), (0, .ref a0), (1, .int (nI c)), (2, .int (nI hr)), (4, .int (bI hi)), (8, .int (nI ((G 9 c) + q)))]) hx hb dX2_spanOf_120 hl (by decide) rfl (fun ls hl => ?_)
              refine lv_iinc (v := nI ((G 9 c) + q + 1)) (lv' := [(8, .int (nI ((G 9 c) + q + 1))), (7, .int ((spL G c hi (J 10 c) (G 9 c) q) + (nI (G 12 (600 * c + ((G 9 c) + q))) - (nI 1)))), (9, .int (nI (G 12 (600 * c + ((G 9 c) + q))) - (nI 1))), (0, .ref a0), (1, .int (nI c)), (2, .int (nI hr)), (4, .int (bI hi))]) hx hb dX2_spanOf_122 hl (k := 6) rfl (show nI ((G 9 c) + q) + Int32.ofInt 1 = nI ((G 9 c) + q + 1) from nI_add _ 1) (by decide) rfl (fun ls hl => ?_)
              refine lv_goto (tgt := 75) hx hb dX2_spanOf_125 (by decide) ?_
              exact ih75 (q + 1) (by omega) (by omega) _ (lv_conv (show lv_has ls 10 [(0, .ref a0), (1, .int (nI c)), (2, .int (nI hr)), (4, .int (bI hi)), (7, .int ((spL G c hi (J 10 c) (G 9 c) q) + (nI (G 12 (600 * c + ((G 9 c) + q))) - (nI 1)))), (8, .int (nI ((G 9 c) + q + 1)))] from (lv_sub hl [3, 4, 5, 6, 1, 0] rfl)) (by simp [spL, incS, c_102, Nat.add_assoc]))
            · refine lv_iload hx hb dX2_spanOf_105 (lv_at hl 0 rfl) ?_
              refine lv_iload hx hb dX2_spanOf_107 (lv_at hl 0 rfl) ?_
              refine lv_iconst (v := nI 2) hx hb dX2_spanOf_109 (by decide) ?_
              refine lv_idiv hx hb dX2_spanOf_110 (by decide) ?_
              refine lv_iadd hx hb dX2_spanOf_111 ?_
              refine lv_iconst (v := nI 1) hx hb dX2_spanOf_112 (by decide) ?_
              refine lv_iadd hx hb dX2_spanOf_113 ?_
              refine lv_goto (tgt := 119) hx hb dX2_spanOf_114 (by decide) ?_
              refine lv_iadd hx hb dX2_spanOf_119 ?_
              refine lv_istore (lv' := [(7, .int ((spL G c hi (J 10 c) (G 9 c) q) + (nI (G 12 (600 * c + ((G 9 c) + q))) - (nI 1) + ((nI (G 12 (600 * c + ((G 9 c) + q))) - (nI 1)) / (nI 2)) + (nI 1)))), (9, .int (nI (G 12 (600 * c + ((G 9 c) + q))) - (nI 1))), (0, .ref a0), (1, .int (nI c)), (2, .int (nI hr)), (4, .int (bI hi)), (8, .int (nI ((G 9 c) + q)))]) hx hb dX2_spanOf_120 hl (by decide) rfl (fun ls hl => ?_)
              refine lv_iinc (v := nI ((G 9 c) + q + 1)) (lv' := [(8, .int (nI ((G 9 c) + q + 1))), (7, .int ((spL G c hi (J 10 c) (G 9 c) q) + (nI (G 12 (600 * c + ((G 9 c) + q))) - (nI 1) + ((nI (G 12 (600 * c + ((G 9 c) + q))) - (nI 1)) / (nI 2)) + (nI 1)))), (9, .int (nI (G 12 (600 * c + ((G 9 c) + q))) - (nI 1))), (0, .ref a0), (1, .int (nI c)), (2, .int (nI hr)), (4, .int (bI hi))]) hx hb dX2_spanOf_122 hl (k := 6) rfl (show nI ((G 9 c) + q) + Int32.ofInt 1 = nI ((G 9 c) + q + 1) from nI_add _ 1) (by decide) rfl (fun ls hl => ?_)
              refine lv_goto (tgt := 75) hx hb dX2_spanOf_125 (by decide) ?_
              exact ih75 (q + 1) (by omega) (by omega) _ (lv_conv (show lv_has ls 10 [(0, .ref a0), (1, .int (nI c)), (2, .int (nI hr)), (4, .int (bI hi)), (7, .int ((spL G c hi (J 10 c) (G 9 c) q) + (nI (G 12 (600 * c + ((G 9 c) + q))) - (nI 1) + ((nI (G 12 (600 * c + ((G 9 c) + q))) - (nI 1)) / (nI 2)) + (nI 1)))), (8, .int (nI ((G 9 c) + q + 1)))] from (lv_sub hl [3, 4, 5, 6, 1, 0] rfl)) (by simp [spL, incS, c_102, Nat.add_assoc]))
      exact L75 _ 0 (by omega) (Nat.lt_succ_self _) _ (lv_sub hl [4, 5, 6, 8, 1, 0] rfl)
    · refine lv_aload_n hx hb dX2_spanOf_54 rfl (lv_at hl 2 rfl) ?_
      refine M_get (v := .ref (ad 11)) hx hb hts hown hG hM 11 (by decide) q1303 rfl rfl dX2_spanOf_55 ?_
      refine lv_iload_n hx hb dX2_spanOf_58 rfl (lv_at hl 3 rfl) ?_
      refine M_iald (v := J 11 c) hx hb hG hM 11 rfl rfl (show c < 10 from by omega) (rfl) dX2_spanOf_59 ?_
      refine lv_goto (tgt := 69) hx hb dX2_spanOf_60 (by decide) ?_
      refine lv_istore (lv' := [(7, .int (J 11 c)), (6, .int (nI (G 9 c))), (5, .int (-1)), (0, .ref a0), (1, .int (nI c)), (2, .int (nI hr)), (3, .int (nI k)), (4, .int (bI hi))]) hx hb dX2_spanOf_69 hl (by decide) rfl (fun ls hl => ?_)
      refine lv_iload hx hb dX2_spanOf_71 (lv_at hl 1 rfl) ?_
      refine lv_istore (lv' := [(8, .int (nI (G 9 c))), (7, .int (J 11 c)), (6, .int (nI (G 9 c))), (5, .int (-1)), (0, .ref a0), (1, .int (nI c)), (2, .int (nI hr)), (3, .int (nI k)), (4, .int (bI hi))]) hx hb dX2_spanOf_73 hl (by decide) rfl (fun ls hl => ?_)
      have L75 : ∀ (nn75 : Nat) (q : Nat), (q ≤ hr - (G 9 c)) → hr - ((G 9 c) + q) < nn75 → ∀ (ls : Array Slot), lv_has ls 10 [(0, .ref a0), (1, .int (nI c)), (2, .int (nI hr)), (4, .int (bI hi)), (7, .int (spL G c hi (J 11 c) (G 9 c) q)), (8, .int (nI ((G 9 c) + q)))] → W p lh e r_X2_spanOf s m args below meth cd s.heap [] 0 0 Q (F0 m 75 ls []) := by
        intro nn75
        induction nn75 with
        | zero => intro q i75_0 hm75; exact absurd hm75 (Nat.not_lt_zero _)
        | succ nn75 ih75 =>
          intro q i75_0 hm75 ls hl
          have hfr : G 9 c < 2 ^ 31 := h1 _ _
          refine lv_iload hx hb dX2_spanOf_75 (lv_at hl 5 rfl) ?_
          refine lv_iload_n hx hb dX2_spanOf_77 rfl (lv_at hl 2 rfl) ?_
          refine kn_cge (tgt := 128) hx hb dX2_spanOf_78 (by decide) (by omega) (by omega) (fun c_78 => ?_) (fun c_78 => ?_)
          · refine lv_iload hx hb dX2_spanOf_128 (lv_at hl 4 rfl) ?_
            refine lv_sipush (v := nI 1000) hx hb dX2_spanOf_130 (by decide) ?_
            refine lv_icmp_le (tgt := 142) hx hb dX2_spanOf_133 (by decide) (fun c_133 => ?_) (fun c_133 => ?_)
            · refine lv_iload hx hb dX2_spanOf_142 (lv_at hl 4 rfl) ?_
              subst hQ
              exact W.iret (v := spL G c hi (J 11 c) (G 9 c) q) hx hb hrt (fun t ht _ => ⟨_, rfl, (show spL G c hi (J 11 c) (G 9 c) q = spanS G J c hr k hi from by have e : q = hr - (G 9 c) := (by omega); subst e; simp only [spanS, ho4]; rw [if_pos c_51]; simp only [cap]; rw [if_pos c_133]), ht⟩) t_nil dX2_spanOf_144
            · refine lv_sipush (v := nI 1000) hx hb dX2_spanOf_136 (by decide) ?_
              refine lv_goto (tgt := 144) hx hb dX2_spanOf_139 (by decide) ?_
              subst hQ
              exact W.iret (v := nI 1000) hx hb hrt (fun t ht _ => ⟨_, rfl, (show nI 1000 = spanS G J c hr k hi from by have e : q = hr - (G 9 c) := (by omega); subst e; simp only [spanS, ho4]; rw [if_pos c_51]; simp only [cap]; rw [if_neg c_133]), ht⟩) t_nil dX2_spanOf_144
          · refine lv_aload_n hx hb dX2_spanOf_81 rfl (lv_at hl 0 rfl) ?_
            refine M_get (v := .ref (ad 12)) hx hb hts hown hG hM 12 (by decide) q1304 rfl rfl dX2_spanOf_82 ?_
            refine lv_sipush (v := nI 600) hx hb dX2_spanOf_85 (by decide) ?_
            refine lv_iload_n hx hb dX2_spanOf_88 rfl (lv_at hl 1 rfl) ?_
            refine kn_mul hx hb dX2_spanOf_89 ?_
            refine lv_iload hx hb dX2_spanOf_90 (lv_at hl 5 rfl) ?_
            refine kn_add hx hb dX2_spanOf_92 ?_
            refine M_bald (v := nI (G 12 (600 * c + ((G 9 c) + q)))) hx hb hG hM 12 rfl rfl (show 600 * c + ((G 9 c) + q) < 6000 from by omega) (rfl) dX2_spanOf_93 ?_
            refine lv_iconst (v := nI 1) hx hb dX2_spanOf_94 (by decide) ?_
            refine lv_isub hx hb dX2_spanOf_95 ?_
            refine lv_istore (lv' := [(9, .int (nI (G 12 (600 * c + ((G 9 c) + q))) - (nI 1))), (0, .ref a0), (1, .int (nI c)), (2, .int (nI hr)), (4, .int (bI hi)), (7, .int (spL G c hi (J 11 c) (G 9 c) q)), (8, .int (nI ((G 9 c) + q)))]) hx hb dX2_spanOf_96 hl (by decide) rfl (fun ls hl => ?_)
            refine lv_iload hx hb dX2_spanOf_98 (lv_at hl 5 rfl) ?_
            refine lv_iload hx hb dX2_spanOf_100 (lv_at hl 4 rfl) ?_
            refine kb_eq (tgt := 117) hx hb dX2_spanOf_102 (by decide) (fun c_102 => ?_) (fun c_102 => ?_)
            · refine lv_iload hx hb dX2_spanOf_117 (lv_at hl 0 rfl) ?_
              refine lv_iadd hx hb dX2_spanOf_119 ?_
              refine lv_istore (lv' := [(7, .int ((spL G c hi (J 11 c) (G 9 c) q) + (nI (G 12 (600 * c + ((G 9 c) + q))) - (nI 1)))), (9, .int (nI (G 12 (600 * c + ((G 9 c) + q))) - (nI 1))), (0, .ref a0), (1, .int (nI c)), (2, .int (nI hr)), (4, .int (bI hi)), (8, .int (nI ((G 9 c) + q)))]) hx hb dX2_spanOf_120 hl (by decide) rfl (fun ls hl => ?_)
              refine lv_iinc (v := nI ((G 9 c) + q + 1)) (lv' := [(8, .int (nI ((G 9 c) + q + 1))), (7, .int ((spL G c hi (J 11 c) (G 9 c) q) + (nI (G 12 (600 * c + ((G 9 c) + q))) - (nI 1)))), (9, .int (nI (G 12 (600 * c + ((G 9 c) + q))) - (nI 1))), (0, .ref a0), (1, .int (nI c)), (2, .int (nI hr)), (4, .int (bI hi))]) hx hb dX2_spanOf_122 hl (k := 6) rfl (show nI ((G 9 c) + q) + Int32.ofInt 1 = nI ((G 9 c) + q + 1) from nI_add _ 1) (by decide) rfl (fun ls hl => ?_)
              refine lv_goto (tgt := 75) hx hb dX2_spanOf_125 (by decide) ?_
              exact ih75 (q + 1) (by omega) (by omega) _ (lv_conv (show lv_has ls 10 [(0, .ref a0), (1, .int (nI c)), (2, .int (nI hr)), (4, .int (bI hi)), (7, .int ((spL G c hi (J 11 c) (G 9 c) q) + (nI (G 12 (600 * c + ((G 9 c) + q))) - (nI 1)))), (8, .int (nI ((G 9 c) + q + 1)))] from (lv_sub hl [3, 4, 5, 6, 1, 0] rfl)) (by simp [spL, incS, c_102, Nat.add_assoc]))
            · refine lv_iload hx hb dX2_spanOf_105 (lv_at hl 0 rfl) ?_
              refine lv_iload hx hb dX2_spanOf_107 (lv_at hl 0 rfl) ?_
              refine lv_iconst (v := nI 2) hx hb dX2_spanOf_109 (by decide) ?_
              refine lv_idiv hx hb dX2_spanOf_110 (by decide) ?_
              refine lv_iadd hx hb dX2_spanOf_111 ?_
              refine lv_iconst (v := nI 1) hx hb dX2_spanOf_112 (by decide) ?_
              refine lv_iadd hx hb dX2_spanOf_113 ?_
              refine lv_goto (tgt := 119) hx hb dX2_spanOf_114 (by decide) ?_
              refine lv_iadd hx hb dX2_spanOf_119 ?_
              refine lv_istore (lv' := [(7, .int ((spL G c hi (J 11 c) (G 9 c) q) + (nI (G 12 (600 * c + ((G 9 c) + q))) - (nI 1) + ((nI (G 12 (600 * c + ((G 9 c) + q))) - (nI 1)) / (nI 2)) + (nI 1)))), (9, .int (nI (G 12 (600 * c + ((G 9 c) + q))) - (nI 1))), (0, .ref a0), (1, .int (nI c)), (2, .int (nI hr)), (4, .int (bI hi)), (8, .int (nI ((G 9 c) + q)))]) hx hb dX2_spanOf_120 hl (by decide) rfl (fun ls hl => ?_)
              refine lv_iinc (v := nI ((G 9 c) + q + 1)) (lv' := [(8, .int (nI ((G 9 c) + q + 1))), (7, .int ((spL G c hi (J 11 c) (G 9 c) q) + (nI (G 12 (600 * c + ((G 9 c) + q))) - (nI 1) + ((nI (G 12 (600 * c + ((G 9 c) + q))) - (nI 1)) / (nI 2)) + (nI 1)))), (9, .int (nI (G 12 (600 * c + ((G 9 c) + q))) - (nI 1))), (0, .ref a0), (1, .int (nI c)), (2, .int (nI hr)), (4, .int (bI hi))]) hx hb dX2_spanOf_122 hl (k := 6) rfl (show nI ((G 9 c) + q) + Int32.ofInt 1 = nI ((G 9 c) + q + 1) from nI_add _ 1) (by decide) rfl (fun ls hl => ?_)
              refine lv_goto (tgt := 75) hx hb dX2_spanOf_125 (by decide) ?_
              exact ih75 (q + 1) (by omega) (by omega) _ (lv_conv (show lv_has ls 10 [(0, .ref a0), (1, .int (nI c)), (2, .int (nI hr)), (4, .int (bI hi)), (7, .int ((spL G c hi (J 11 c) (G 9 c) q) + (nI (G 12 (600 * c + ((G 9 c) + q))) - (nI 1) + ((nI (G 12 (600 * c + ((G 9 c) + q))) - (nI 1)) / (nI 2)) + (nI 1)))), (8, .int (nI ((G 9 c) + q + 1)))] from (lv_sub hl [3, 4, 5, 6, 1, 0] rfl)) (by simp [spL, incS, c_102, Nat.add_assoc]))
      exact L75 _ 0 (by omega) (Nat.lt_succ_self _) _ (lv_sub hl [4, 5, 6, 8, 1, 0] rfl)
  · show W p lh e r_X2_spanOf s m args below meth cd _ _ _ _ Q (F0 m _ ls (.int (nI k4) :: _))
    have hlt := latS_lt ho4
    refine lv_istore (lv' := [(5, .int (nI k4)), (0, .ref a0), (1, .int (nI c)), (2, .int (nI hr)), (3, .int (nI k)), (4, .int (bI hi))]) hx hb dX2_spanOf_7 hl (by decide) rfl (fun ls hl => ?_)
    refine lv_iload hx hb dX2_spanOf_9 (lv_at hl 0 rfl) ?_
    refine lv_iconst (v := -1) hx hb dX2_spanOf_11 (by decide) ?_
    refine lv_icmp_ne (tgt := 24) hx hb dX2_spanOf_12 (by decide) (fun _ => ?_) (fun c => absurd c (nI_nm1 (by omega)))
    refine lv_aload_n hx hb dX2_spanOf_24 rfl (lv_at hl 1 rfl) ?_
    refine M_get (v := .ref (ad 21)) hx hb hts hown hG hM 21 (by decide) q1313 rfl rfl dX2_spanOf_25 ?_
    refine lv_iload hx hb dX2_spanOf_28 (lv_at hl 0 rfl) ?_
    refine M_iald (v := nI (G 21 k4)) hx hb hG hM 21 rfl rfl (show k4 < 100 from by omega) (rfl) dX2_spanOf_30 ?_
    refine lv_istore (lv' := [(6, .int (nI (G 21 k4))), (5, .int (nI k4)), (0, .ref a0), (1, .int (nI c)), (2, .int (nI hr)), (3, .int (nI k)), (4, .int (bI hi))]) hx hb dX2_spanOf_31 hl (by decide) rfl (fun ls hl => ?_)
    refine lv_iload hx hb dX2_spanOf_33 (lv_at hl 1 rfl) ?_
    refine lv_iconst (v := -1) hx hb dX2_spanOf_35 (by decide) ?_
    refine lv_icmp_eq (tgt := 49) hx hb dX2_spanOf_36 (by decide) (fun c => absurd c (nI_nm1 (by omega))) (fun _ => ?_)
    refine lv_aload_n hx hb dX2_spanOf_39 rfl (lv_at hl 2 rfl) ?_
    refine M_get (v := .ref (ad 22)) hx hb hts hown hG hM 22 (by decide) q1314 rfl rfl dX2_spanOf_40 ?_
    refine lv_iload hx hb dX2_spanOf_43 (lv_at hl 1 rfl) ?_
    refine M_iald (v := nI (G 22 k4)) hx hb hG hM 22 rfl rfl (show k4 < 100 from by omega) (rfl) dX2_spanOf_45 ?_
    refine lv_goto (tgt := 69) hx hb dX2_spanOf_46 (by decide) ?_
    refine lv_istore (lv' := [(7, .int (nI (G 22 k4))), (6, .int (nI (G 21 k4))), (5, .int (nI k4)), (0, .ref a0), (1, .int (nI c)), (2, .int (nI hr)), (3, .int (nI k)), (4, .int (bI hi))]) hx hb dX2_spanOf_69 hl (by decide) rfl (fun ls hl => ?_)
    refine lv_iload hx hb dX2_spanOf_71 (lv_at hl 1 rfl) ?_
    refine lv_istore (lv' := [(8, .int (nI (G 21 k4))), (7, .int (nI (G 22 k4))), (6, .int (nI (G 21 k4))), (5, .int (nI k4)), (0, .ref a0), (1, .int (nI c)), (2, .int (nI hr)), (3, .int (nI k)), (4, .int (bI hi))]) hx hb dX2_spanOf_73 hl (by decide) rfl (fun ls hl => ?_)
    have L75 : ∀ (nn75 : Nat) (q : Nat), (q ≤ hr - (G 21 k4)) → hr - ((G 21 k4) + q) < nn75 → ∀ (ls : Array Slot), lv_has ls 10 [(0, .ref a0), (1, .int (nI c)), (2, .int (nI hr)), (4, .int (bI hi)), (7, .int (spL G c hi (nI (G 22 k4)) (G 21 k4) q)), (8, .int (nI ((G 21 k4) + q)))] → W p lh e r_X2_spanOf s m args below meth cd s.heap [] 0 0 Q (F0 m 75 ls []) := by
      intro nn75
      induction nn75 with
      | zero => intro q i75_0 hm75; exact absurd hm75 (Nat.not_lt_zero _)
      | succ nn75 ih75 =>
        intro q i75_0 hm75 ls hl
        have hfr : G 21 k4 < 2 ^ 31 := h1 _ _
        refine lv_iload hx hb dX2_spanOf_75 (lv_at hl 5 rfl) ?_
        refine lv_iload_n hx hb dX2_spanOf_77 rfl (lv_at hl 2 rfl) ?_
        refine kn_cge (tgt := 128) hx hb dX2_spanOf_78 (by decide) (by omega) (by omega) (fun c_78 => ?_) (fun c_78 => ?_)
        · refine lv_iload hx hb dX2_spanOf_128 (lv_at hl 4 rfl) ?_
          refine lv_sipush (v := nI 1000) hx hb dX2_spanOf_130 (by decide) ?_
          refine lv_icmp_le (tgt := 142) hx hb dX2_spanOf_133 (by decide) (fun c_133 => ?_) (fun c_133 => ?_)
          · refine lv_iload hx hb dX2_spanOf_142 (lv_at hl 4 rfl) ?_
            subst hQ
            exact W.iret (v := spL G c hi (nI (G 22 k4)) (G 21 k4) q) hx hb hrt (fun t ht _ => ⟨_, rfl, (show spL G c hi (nI (G 22 k4)) (G 21 k4) q = spanS G J c hr k hi from by have e : q = hr - (G 21 k4) := (by omega); subst e; simp only [spanS, ho4]; simp only [cap]; rw [if_pos c_133]), ht⟩) t_nil dX2_spanOf_144
          · refine lv_sipush (v := nI 1000) hx hb dX2_spanOf_136 (by decide) ?_
            refine lv_goto (tgt := 144) hx hb dX2_spanOf_139 (by decide) ?_
            subst hQ
            exact W.iret (v := nI 1000) hx hb hrt (fun t ht _ => ⟨_, rfl, (show nI 1000 = spanS G J c hr k hi from by have e : q = hr - (G 21 k4) := (by omega); subst e; simp only [spanS, ho4]; simp only [cap]; rw [if_neg c_133]), ht⟩) t_nil dX2_spanOf_144
        · refine lv_aload_n hx hb dX2_spanOf_81 rfl (lv_at hl 0 rfl) ?_
          refine M_get (v := .ref (ad 12)) hx hb hts hown hG hM 12 (by decide) q1304 rfl rfl dX2_spanOf_82 ?_
          refine lv_sipush (v := nI 600) hx hb dX2_spanOf_85 (by decide) ?_
          refine lv_iload_n hx hb dX2_spanOf_88 rfl (lv_at hl 1 rfl) ?_
          refine kn_mul hx hb dX2_spanOf_89 ?_
          refine lv_iload hx hb dX2_spanOf_90 (lv_at hl 5 rfl) ?_
          refine kn_add hx hb dX2_spanOf_92 ?_
          refine M_bald (v := nI (G 12 (600 * c + ((G 21 k4) + q)))) hx hb hG hM 12 rfl rfl (show 600 * c + ((G 21 k4) + q) < 6000 from by omega) (rfl) dX2_spanOf_93 ?_
          refine lv_iconst (v := nI 1) hx hb dX2_spanOf_94 (by decide) ?_
          refine lv_isub hx hb dX2_spanOf_95 ?_
          refine lv_istore (lv' := [(9, .int (nI (G 12 (600 * c + ((G 21 k4) + q))) - (nI 1))), (0, .ref a0), (1, .int (nI c)), (2, .int (nI hr)), (4, .int (bI hi)), (7, .int (spL G c hi (nI (G 22 k4)) (G 21 k4) q)), (8, .int (nI ((G 21 k4) + q)))]) hx hb dX2_spanOf_96 hl (by decide) rfl (fun ls hl => ?_)
          refine lv_iload hx hb dX2_spanOf_98 (lv_at hl 5 rfl) ?_
          refine lv_iload hx hb dX2_spanOf_100 (lv_at hl 4 rfl) ?_
          refine kb_eq (tgt := 117) hx hb dX2_spanOf_102 (by decide) (fun c_102 => ?_) (fun c_102 => ?_)
          · refine lv_iload hx hb dX2_spanOf_117 (lv_at hl 0 rfl) ?_
            refine lv_iadd hx hb dX2_spanOf_119 ?_
            refine lv_istore (lv' := [(7, .int ((spL G c hi (nI (G 22 k4)) (G 21 k4) q) + (nI (G 12 (600 * c + ((G 21 k4) + q))) - (nI 1)))), (9, .int (nI (G 12 (600 * c + ((G 21 k4) + q))) - (nI 1))), (0, .ref a0), (1, .int (nI c)), (2, .int (nI hr)), (4, .int (bI hi)), (8, .int (nI ((G 21 k4) + q)))]) hx hb dX2_spanOf_120 hl (by decide) rfl (fun ls hl => ?_)
            refine lv_iinc (v := nI ((G 21 k4) + q + 1)) (lv' := [(8, .int (nI ((G 21 k4) + q + 1))), (7, .int ((spL G c hi (nI (G 22 k4)) (G 21 k4) q) + (nI (G 12 (600 * c + ((G 21 k4) + q))) - (nI 1)))), (9, .int (nI (G 12 (600 * c + ((G 21 k4) + q))) - (nI 1))), (0, .ref a0), (1, .int (nI c)), (2, .int (nI hr)), (4, .int (bI hi))]) hx hb dX2_spanOf_122 hl (k := 6) rfl (show nI ((G 21 k4) + q) + Int32.ofInt 1 = nI ((G 21 k4) + q + 1) from nI_add _ 1) (by decide) rfl (fun ls hl => ?_)
            refine lv_goto (tgt := 75) hx hb dX2_spanOf_125 (by decide) ?_
            exact ih75 (q + 1) (by omega) (by omega) _ (lv_conv (show lv_has ls 10 [(0, .ref a0), (1, .int (nI c)), (2, .int (nI hr)), (4, .int (bI hi)), (7, .int ((spL G c hi (nI (G 22 k4)) (G 21 k4) q) + (nI (G 12 (600 * c + ((G 21 k4) + q))) - (nI 1)))), (8, .int (nI ((G 21 k4) + q + 1)))] from (lv_sub hl [3, 4, 5, 6, 1, 0] rfl)) (by simp [spL, incS, c_102, Nat.add_assoc]))
          · refine lv_iload hx hb dX2_spanOf_105 (lv_at hl 0 rfl) ?_
            refine lv_iload hx hb dX2_spanOf_107 (lv_at hl 0 rfl) ?_
            refine lv_iconst (v := nI 2) hx hb dX2_spanOf_109 (by decide) ?_
            refine lv_idiv hx hb dX2_spanOf_110 (by decide) ?_
            refine lv_iadd hx hb dX2_spanOf_111 ?_
            refine lv_iconst (v := nI 1) hx hb dX2_spanOf_112 (by decide) ?_
            refine lv_iadd hx hb dX2_spanOf_113 ?_
            refine lv_goto (tgt := 119) hx hb dX2_spanOf_114 (by decide) ?_
            refine lv_iadd hx hb dX2_spanOf_119 ?_
            refine lv_istore (lv' := [(7, .int ((spL G c hi (nI (G 22 k4)) (G 21 k4) q) + (nI (G 12 (600 * c + ((G 21 k4) + q))) - (nI 1) + ((nI (G 12 (600 * c + ((G 21 k4) + q))) - (nI 1)) / (nI 2)) + (nI 1)))), (9, .int (nI (G 12 (600 * c + ((G 21 k4) + q))) - (nI 1))), (0, .ref a0), (1, .int (nI c)), (2, .int (nI hr)), (4, .int (bI hi)), (8, .int (nI ((G 21 k4) + q)))]) hx hb dX2_spanOf_120 hl (by decide) rfl (fun ls hl => ?_)
            refine lv_iinc (v := nI ((G 21 k4) + q + 1)) (lv' := [(8, .int (nI ((G 21 k4) + q + 1))), (7, .int ((spL G c hi (nI (G 22 k4)) (G 21 k4) q) + (nI (G 12 (600 * c + ((G 21 k4) + q))) - (nI 1) + ((nI (G 12 (600 * c + ((G 21 k4) + q))) - (nI 1)) / (nI 2)) + (nI 1)))), (9, .int (nI (G 12 (600 * c + ((G 21 k4) + q))) - (nI 1))), (0, .ref a0), (1, .int (nI c)), (2, .int (nI hr)), (4, .int (bI hi))]) hx hb dX2_spanOf_122 hl (k := 6) rfl (show nI ((G 21 k4) + q) + Int32.ofInt 1 = nI ((G 21 k4) + q + 1) from nI_add _ 1) (by decide) rfl (fun ls hl => ?_)
            refine lv_goto (tgt := 75) hx hb dX2_spanOf_125 (by decide) ?_
            exact ih75 (q + 1) (by omega) (by omega) _ (lv_conv (show lv_has ls 10 [(0, .ref a0), (1, .int (nI c)), (2, .int (nI hr)), (4, .int (bI hi)), (7, .int ((spL G c hi (nI (G 22 k4)) (G 21 k4) q) + (nI (G 12 (600 * c + ((G 21 k4) + q))) - (nI 1) + ((nI (G 12 (600 * c + ((G 21 k4) + q))) - (nI 1)) / (nI 2)) + (nI 1)))), (8, .int (nI ((G 21 k4) + q + 1)))] from (lv_sub hl [3, 4, 5, 6, 1, 0] rfl)) (by simp [spL, incS, c_102, Nat.add_assoc]))
    exact L75 _ 0 (by omega) (Nat.lt_succ_self _) _ (lv_sub hl [4, 5, 6, 8, 1, 0] rfl)
theorem w_X2_spanOf {R : Room} {s : State} {args : Array Value} {own : String} {idx : Nat} (hts : ∀ w ∈ lw_all, w.before args s = true) (h1 : Cond.methodLink own idx yX2_spanOf ∈ lw_all) {rm : Room} {mc ms : Nat} (hrc : rm.cells = mc) (hrs : rm.slots = ms) (hR : rm.frames + 1 ≤ R.frames ∧ 8 + (10 + 11) + rm.locals ≤ R.locals) : CallW R s args own RX2 idx yX2_spanOf cX2_spanOf 10 (some .int) (ws_ yX2_spanOf cX2_spanOf 10 (some .int)) rm mc ms 4 := cwV 4 hts (lw_V h1 q1509 qs34 q70 q1510) rfl hrc hrs (by decide +kernel) hR

abbrev r_X2_warmthIn : Room := { frames := 0, cells := 0, slots := 0, locals := 0 }
set_option maxHeartbeats 400000 in
theorem c_X2_warmthIn (lh : Launch) (D : va_G) (dA : Nat → ClassId) (a0 : Nat) (ad : Nat → Nat) (N : Nat → Nat) (I : Nat → Int32) (G : Nat → Nat → Nat) (J : Nat → Nat → Int32) (z : Nat) (hr : Nat) (h1 : ∀ a b, G a b < 2 ^ 31) (h2 : z < 3) (h3 : hr < 600) : Met lh yX2_warmthIn (ws_ yX2_warmthIn cX2_warmthIn 4 (some .int)) r_X2_warmthIn (PqM D dA a0 ad N I G J [.ref a0, .int (nI z), .int (nI hr)]) (vp_Si (fun rv => rv = warmS G J z (hr + 1))) 0 0 (fun _ => False) := by
  refine Met.ofW (cc := cX2_warmthIn) (maxL := 4) (ret := (some .int)) (by decide) rfl ?_
  intro p e s m args below meth cd s₁ B hml hv
  obtain ⟨hargs, hM, hG⟩ := hv
  have hx := B.exec
  have hb := B.bytes
  have hrt := B.returns
  have hts := atoms_spec (ws := (ws_ yX2_warmthIn cX2_warmthIn 4 (some .int))) B.pre
  have hts : ∀ w ∈ lw_all, w.before _ s = true := fun w h => hts w (List.mem_cons_of_mem _ h)
  have hown : s.vm.findClass RX2 = some m.cls := findClass_of_methodNamed B.named
  have hlocks := B.notSynchronized
  have hE : entryFrame m args 4 = F0 m 0 ((lg_sl ([.ref a0, .int (nI z), .int (nI hr)]) ++ List.replicate (4 - (lg_sl ([.ref a0, .int (nI z), .int (nI hr)])).length) Slot.unset).toArray) [] := by rw [hargs]; exact lg_entry_eq m _ 4
  have hl := lv_entry ([.ref a0, .int (nI z), .int (nI hr)]) (n := 4) (Nat.le_of_ble_eq_true rfl)
  rw [hE]
  clear hE
  generalize (lg_sl ([.ref a0, .int (nI z), .int (nI hr)]) ++ List.replicate (4 - (lg_sl ([.ref a0, .int (nI z), .int (nI hr)])).length) Slot.unset).toArray = ls at hl ⊢
  have hl : lv_has ls 4 [(0, .ref a0), (1, .int (nI z)), (2, .int (nI hr))] := hl
  generalize hQ : MQ _ _ _ _ _ _ _ = Q
  refine lv_iload_n hx hb dX2_warmthIn_0 rfl (lv_at hl 2 rfl) ?_
  refine lv_istore_n (lv' := [(3, .int (nI hr)), (0, .ref a0), (1, .int (nI z)), (2, .int (nI hr))]) hx hb dX2_warmthIn_1 rfl hl (by decide) rfl (fun ls hl => ?_)
  have L2 : ∀ (nn2 : Nat) (n : Nat), (n ≤ hr + 1) → (warmS G J z (hr + 1) = warmS G J z n) → n < nn2 → ∀ (ls : Array Slot), lv_has ls 4 [(0, .ref a0), (1, .int (nI z)), (3, .int (dI n))] → W p lh e r_X2_warmthIn s m args below meth cd s.heap [] 0 0 Q (F0 m 2 ls []) := by
    intro nn2
    induction nn2 with
    | zero => intro n i2_0 i2_1 hm2; exact absurd hm2 (Nat.not_lt_zero _)
    | succ nn2 ih2 =>
      intro n i2_0 i2_1 hm2 ls hl
      rcases n with _ | k
      · rw [dI_0] at hl
        refine lv_iload_n hx hb dX2_warmthIn_2 rfl (lv_at hl 2 rfl) ?_
        refine lv_if_lt (tgt := 27) hx hb dX2_warmthIn_3 (by decide) (fun _ => ?_) (fun c => absurd (by decide) c)
        refine lv_iload_n hx hb dX2_warmthIn_27 rfl (lv_at hl 2 rfl) ?_
        refine lv_if_ge (tgt := 36) hx hb dX2_warmthIn_28 (by decide) (fun c => absurd c (by decide)) (fun _ => ?_)
        refine lv_bipush (v := nI 15) hx hb dX2_warmthIn_31 (by decide) ?_
        refine lv_goto (tgt := 48) hx hb dX2_warmthIn_33 (by decide) ?_
        subst hQ
        exact W.iret (v := nI 15) hx hb hrt (fun t ht _ => ⟨_, rfl, (show nI 15 = warmS G J z (hr + 1) from by rw [i2_1]; simp [warmS]), ht⟩) t_nil dX2_warmthIn_48
      · rw [dI_s] at hl
        refine lv_iload_n hx hb dX2_warmthIn_2 rfl (lv_at hl 2 rfl) ?_
        refine kn_zlt hx hb dX2_warmthIn_3 (tgt := 27) (by decide) (by omega) ?_
        refine lv_aload_n hx hb dX2_warmthIn_6 rfl (lv_at hl 0 rfl) ?_
        refine M_get (v := .ref (ad 17)) hx hb hts hown hG hM 17 (by decide) q1309 rfl rfl dX2_warmthIn_7 ?_
        refine lv_sipush (v := nI 600) hx hb dX2_warmthIn_10 (by decide) ?_
        refine lv_iload_n hx hb dX2_warmthIn_13 rfl (lv_at hl 1 rfl) ?_
        refine kn_mul hx hb dX2_warmthIn_14 ?_
        refine lv_iload_n hx hb dX2_warmthIn_15 rfl (lv_at hl 2 rfl) ?_
        refine kn_add hx hb dX2_warmthIn_16 ?_
        refine M_zald (v := nI (G 17 (600 * z + k))) hx hb hG hM 17 rfl rfl (show 600 * z + k < 1800 from by omega) (rfl) dX2_warmthIn_17 ?_
        refine kn_zne (tgt := 27) hx hb dX2_warmthIn_18 (by decide) (h1 _ _) (fun c_18 => ?_) (fun c_18 => ?_)
        · refine lv_iload_n hx hb dX2_warmthIn_27 rfl (lv_at hl 2 rfl) ?_
          refine kn_zge (tgt := 36) hx hb dX2_warmthIn_28 (by decide) (by omega) ?_
          refine lv_aload_n hx hb dX2_warmthIn_36 rfl (lv_at hl 0 rfl) ?_
          refine M_get (v := .ref (ad 16)) hx hb hts hown hG hM 16 (by decide) q1308 rfl rfl dX2_warmthIn_37 ?_
          refine lv_sipush (v := nI 600) hx hb dX2_warmthIn_40 (by decide) ?_
          refine lv_iload_n hx hb dX2_warmthIn_43 rfl (lv_at hl 1 rfl) ?_
          refine kn_mul hx hb dX2_warmthIn_44 ?_
          refine lv_iload_n hx hb dX2_warmthIn_45 rfl (lv_at hl 2 rfl) ?_
          refine kn_add hx hb dX2_warmthIn_46 ?_
          refine M_bald (v := J 16 (600 * z + k)) hx hb hG hM 16 rfl rfl (show 600 * z + k < 1800 from by omega) (rfl) dX2_warmthIn_47 ?_
          subst hQ
          exact W.iret (v := J 16 (600 * z + k)) hx hb hrt (fun t ht _ => ⟨_, rfl, (show J 16 (600 * z + k) = warmS G J z (hr + 1) from by rw [i2_1]; simp [warmS, c_18]), ht⟩) t_nil dX2_warmthIn_48
        · refine lv_iinc (v := dI k) (lv' := [(3, .int (dI k)), (0, .ref a0), (1, .int (nI z))]) hx hb dX2_warmthIn_21 hl (k := 2) rfl (rfl) (by decide) rfl (fun ls hl => ?_)
          refine lv_goto (tgt := 2) hx hb dX2_warmthIn_24 (by decide) ?_
          exact ih2 k (by omega) (by rw [i2_1]; simp [warmS, c_18]) (by omega) _ (lv_sub hl [1, 2, 0] rfl)
  exact L2 _ (hr + 1) (by omega) (rfl) (Nat.lt_succ_self _) _ (lv_conv (show lv_has ls 4 [(0, .ref a0), (1, .int (nI z)), (3, .int (nI hr))] from (lv_sub hl [1, 2, 0] rfl)) (by rw [dI_s]))
theorem w_X2_warmthIn {R : Room} {s : State} {args : Array Value} {own : String} {idx : Nat} (hts : ∀ w ∈ lw_all, w.before args s = true) (h1 : Cond.methodLink own idx yX2_warmthIn ∈ lw_all) {rm : Room} {mc ms : Nat} (hrc : rm.cells = mc) (hrs : rm.slots = ms) (hR : rm.frames + 1 ≤ R.frames ∧ 8 + (4 + 11) + rm.locals ≤ R.locals) : CallW R s args own RX2 idx yX2_warmthIn cX2_warmthIn 4 (some .int) (ws_ yX2_warmthIn cX2_warmthIn 4 (some .int)) rm mc ms 2 := cwV 2 hts (lw_V h1 q1620 qs54 q70 q1621) rfl hrc hrs (by decide +kernel) hR

abbrev r_X2_rateOf : Room := { frames := 1, cells := 0, slots := 0, locals := 23 }
set_option maxHeartbeats 400000 in
theorem c_X2_rateOf (lh : Launch) (D : va_G) (dA : Nat → ClassId) (a0 : Nat) (ad : Nat → Nat) (N : Nat → Nat) (I : Nat → Int32) (G : Nat → Nat → Nat) (J : Nat → Nat → Int32) (c : Nat) (hr : Nat) (h1 : ∀ a b, G a b < 2 ^ 31) (h2 : c < 10) (h3 : hr < 600) (h4 : G 5 c < 12) (h5 : G 7 c < 64) (h6 : WmOk G J) : Met lh yX2_rateOf (ws_ yX2_rateOf cX2_rateOf 3 (some .int)) r_X2_rateOf (PqM D dA a0 ad N I G J [.ref a0, .int (nI c), .int (nI hr)]) (vp_Si (fun rv => rv = nI (rateS G J c hr))) 0 0 (fun _ => False) := by
  refine Met.ofW (cc := cX2_rateOf) (maxL := 3) (ret := (some .int)) (by decide) rfl ?_
  intro p e s m args below meth cd s₁ B hml hv
  obtain ⟨hargs, hM, hG⟩ := hv
  have hx := B.exec
  have hb := B.bytes
  have hrt := B.returns
  have hts := atoms_spec (ws := (ws_ yX2_rateOf cX2_rateOf 3 (some .int))) B.pre
  have hts : ∀ w ∈ lw_all, w.before _ s = true := fun w h => hts w (List.mem_cons_of_mem _ h)
  have hown : s.vm.findClass RX2 = some m.cls := findClass_of_methodNamed B.named
  have hlocks := B.notSynchronized
  have hE : entryFrame m args 3 = F0 m 0 ((lg_sl ([.ref a0, .int (nI c), .int (nI hr)]) ++ List.replicate (3 - (lg_sl ([.ref a0, .int (nI c), .int (nI hr)])).length) Slot.unset).toArray) [] := by rw [hargs]; exact lg_entry_eq m _ 3
  have hl := lv_entry ([.ref a0, .int (nI c), .int (nI hr)]) (n := 3) (Nat.le_of_ble_eq_true rfl)
  rw [hE]
  clear hE
  generalize (lg_sl ([.ref a0, .int (nI c), .int (nI hr)]) ++ List.replicate (3 - (lg_sl ([.ref a0, .int (nI c), .int (nI hr)])).length) Slot.unset).toArray = ls at hl ⊢
  have hl : lv_has ls 3 [(0, .ref a0), (1, .int (nI c)), (2, .int (nI hr))] := hl
  generalize hQ : MQ _ _ _ _ _ _ _ = Q
  refine lv_aload_n hx hb dX2_rateOf_0 rfl (lv_at hl 0 rfl) ?_
  refine M_get (v := .ref (ad 18)) hx hb hts hown hG hM 18 (by decide) q1310 rfl rfl dX2_rateOf_1 ?_
  refine lv_iconst (v := nI 4) hx hb dX2_rateOf_4 (by decide) ?_
  refine lv_aload_n hx hb dX2_rateOf_5 rfl (lv_at hl 0 rfl) ?_
  refine lv_aload_n hx hb dX2_rateOf_6 rfl (lv_at hl 0 rfl) ?_
  refine M_get (v := .ref (ad 5)) hx hb hts hown hG hM 5 (by decide) q1297 rfl rfl dX2_rateOf_7 ?_
  refine lv_iload_n hx hb dX2_rateOf_10 rfl (lv_at hl 1 rfl) ?_
  refine M_iald (v := nI (G 5 c)) hx hb hG hM 5 rfl rfl (show c < 10 from by omega) (rfl) dX2_rateOf_11 ?_
  refine lv_iconst (v := nI 4) hx hb dX2_rateOf_12 (by decide) ?_
  refine kn_div hx hb dX2_rateOf_13 (by omega) (by omega) (by omega) ?_
  refine lv_iload_n hx hb dX2_rateOf_14 rfl (lv_at hl 2 rfl) ?_
  refine vp_callSi (W.runV (As := [.int (nI ((G 5 c) / 4)), .int (nI hr)]) (rest := [.int (nI 4), .ref (ad 18)]) ⟨hx, hb, hml, hown, hts⟩ (c_X2_warmthIn lh D dA a0 ad N I G J ((G 5 c) / 4) hr (show ∀ a b, G a b < 2 ^ 31 from by first | omega | assumption | exact hB_up (by assumption) (by omega)) (show ((G 5 c) / 4) < 3 from by first | omega | assumption | exact hB_up (by assumption) (by omega)) (show hr < 600 from by first | omega | assumption | exact hB_up (by assumption) (by omega))) (w_X2_warmthIn hts q1618 rfl rfl ⟨Nat.le_of_ble_eq_true rfl, Nat.le_of_ble_eq_true rfl⟩) ⟨PqM.blind, M_recv hG hM, PqM.pre hG hM⟩ rfl rfl hl.1 rfl (lv_room (Nat.le_of_ble_eq_true rfl)) dX2_rateOf_15 ⟨Nat.le_of_ble_eq_true rfl, Nat.le_of_ble_eq_true rfl⟩) (fun rr hrr => ?_)
  subst hrr
  refine lv_iconst (v := nI 5) hx hb dX2_rateOf_18 (by decide) ?_
  refine lv_iadd hx hb dX2_rateOf_19 ?_
  obtain ⟨w, hw, ew⟩ := warmS_nat h6 (G 5 c / 4) (hr + 1)
  refine kx_int (y := nI w) ew ?_
  refine lv_bipush (v := nI 8) hx hb dX2_rateOf_20 (by decide) ?_
  refine kn_div hx hb dX2_rateOf_22 (by omega) (by omega) (by omega) ?_
  refine kn_mul hx hb dX2_rateOf_23 ?_
  refine lv_aload_n hx hb dX2_rateOf_24 rfl (lv_at hl 0 rfl) ?_
  refine M_get (v := .ref (ad 7)) hx hb hts hown hG hM 7 (by decide) q1299 rfl rfl dX2_rateOf_25 ?_
  refine lv_iload_n hx hb dX2_rateOf_28 rfl (lv_at hl 1 rfl) ?_
  refine M_iald (v := nI (G 7 c)) hx hb hG hM 7 rfl rfl (show c < 10 from by omega) (rfl) dX2_rateOf_29 ?_
  refine lv_bipush (v := nI 16) hx hb dX2_rateOf_30 (by decide) ?_
  refine kn_div hx hb dX2_rateOf_32 (by omega) (by omega) (by omega) ?_
  refine kn_add hx hb dX2_rateOf_33 ?_
  refine M_iald (v := nI (G 18 (4 * (w / 8) + ((G 7 c) / 16)))) hx hb hG hM 18 rfl rfl (show 4 * (w / 8) + ((G 7 c) / 16) < 24 from by omega) (rfl) dX2_rateOf_34 ?_
  subst hQ
  exact W.iret (v := nI (G 18 (4 * (w / 8) + ((G 7 c) / 16)))) hx hb hrt (fun t ht _ => ⟨_, rfl, (show nI (G 18 (4 * (w / 8) + ((G 7 c) / 16))) = nI (rateS G J c hr) from by rw [rateS_at hw ew]), ht⟩) t_nil dX2_rateOf_35
theorem w_X2_rateOf {R : Room} {s : State} {args : Array Value} {own : String} {idx : Nat} (hts : ∀ w ∈ lw_all, w.before args s = true) (h1 : Cond.methodLink own idx yX2_rateOf ∈ lw_all) {rm : Room} {mc ms : Nat} (hrc : rm.cells = mc) (hrs : rm.slots = ms) (hR : rm.frames + 1 ≤ R.frames ∧ 8 + (3 + 11) + rm.locals ≤ R.locals) : CallW R s args own RX2 idx yX2_rateOf cX2_rateOf 3 (some .int) (ws_ yX2_rateOf cX2_rateOf 3 (some .int)) rm mc ms 2 := cwV 2 hts (lw_V h1 q1616 qs53 q70 q1617) rfl hrc hrs (by decide +kernel) hR

abbrev r_X2_lot : Room := { frames := 1, cells := 0, slots := 0, locals := 22 }
set_option maxHeartbeats 400000 in
theorem c_X2_lot (lh : Launch) (D : va_G) (dA : Nat → ClassId) (a0 : Nat) (ad : Nat → Nat) (N : Nat → Nat) (I : Nat → Int32) (G : Nat → Nat → Nat) (J : Nat → Nat → Int32) (sz : Nat) (g : Int32) (h1 : N 1 ≤ 20) : Met lh yX2_lot (ws_ yX2_lot cX2_lot 2 (some .int)) r_X2_lot (PmM D dA a0 ad N I G J sz [.ref a0, .int g]) (va_Qi (fun (r : Int32) (u : SgT) => if lotB N g = true then r = nI (N 1) ∧ u = (up1 (up1 N 0 0) 1 (N 1 + 1), I, up2 G 2 (N 1) (tn g), J) else r = -1 ∧ u = (up1 N 0 0, I, G, J)) (BmM D dA a0 ad) (AM a0 ad sz)) 0 0 (AM a0 ad sz) := by
  refine Met.ofW (cc := cX2_lot) (maxL := 2) (ret := (some .int)) (by decide) rfl ?_
  intro p e s m args below meth cd s₁ B hml hv
  obtain ⟨hargs, hsz, hM, hG⟩ := hv
  have hx := B.exec
  have hb := B.bytes
  have hrt := B.returns
  have hts := atoms_spec (ws := (ws_ yX2_lot cX2_lot 2 (some .int))) B.pre
  have hts : ∀ w ∈ lw_all, w.before _ s = true := fun w h => hts w (List.mem_cons_of_mem _ h)
  have hown : s.vm.findClass RX2 = some m.cls := findClass_of_methodNamed B.named
  have hlocks := B.notSynchronized
  subst hsz
  have hS : va_S (AM a0 ad s.heap.size) s.heap s.heap [] := va_S.rf
  have hE : entryFrame m args 2 = F0 m 0 ((lg_sl ([.ref a0, .int g]) ++ List.replicate (2 - (lg_sl ([.ref a0, .int g])).length) Slot.unset).toArray) [] := by rw [hargs]; exact lg_entry_eq m _ 2
  have hl := lv_entry ([.ref a0, .int g]) (n := 2) (Nat.le_of_ble_eq_true rfl)
  rw [hE]
  clear hE
  generalize (lg_sl ([.ref a0, .int g]) ++ List.replicate (2 - (lg_sl ([.ref a0, .int g])).length) Slot.unset).toArray = ls at hl ⊢
  have hl : lv_has ls 2 [(0, .ref a0), (1, .int g)] := hl
  generalize hQ : MQ _ _ _ _ _ _ _ = Q
  refine lv_aload_n hx hb dX2_lot_0 rfl (lv_at hl 0 rfl) ?_
  refine lv_iconst (v := nI 0) hx hb dX2_lot_1 (by decide) ?_
  refine M_put hx hb hts hown hG hS AM.o hM 0 (by decide) q1292 rfl rfl rfl (up1 N 0 0) I rfl dX2_lot_2 (fun H locs hM hz hS => ?_)
  refine lv_aload_n hx hb dX2_lot_5 rfl (lv_at hl 0 rfl) ?_
  refine M_get (v := .int (nI (N 1))) hx hb hts hown hG hM 1 (by decide) q1293 rfl rfl dX2_lot_6 ?_
  refine lv_bipush (v := nI 20) hx hb dX2_lot_9 (by decide) ?_
  refine kn_ceq (tgt := 24) hx hb dX2_lot_11 (by decide) (by omega) (by omega) (fun c_11 => ?_) (fun c_11 => ?_)
  · refine lv_iconst (v := -1) hx hb dX2_lot_24 (by decide) ?_
    subst hQ
    exact W.iret (v := (-1)) hx hb hrt (fun t ht hW => ⟨⟨_, ((up1 N 0 0), I, G, J), rfl, (by dsimp only; rw [if_neg (by simp [lotB, c_11])]; exact ⟨rfl, rfl⟩), by rw [ht]; exact hM, GK.warm hW hG⟩, hS.F ht⟩) hS.2.2 dX2_lot_25
  · refine lv_iload_n hx hb dX2_lot_14 rfl (lv_at hl 1 rfl) ?_
    refine lv_iconst (v := nI 1) hx hb dX2_lot_15 (by decide) ?_
    refine lv_ldc (v := 100000) hx hb hown (hts _ q1463) dX2_lot_16 ?_
    refine kx_int (y := nI 100000) (by decide) ?_
    refine vp_callSi (W.runS (As := [.int g, .int (nI 1), .int (nI 100000)]) (rest := []) ⟨hx, hb, hml, hown, hts⟩ (c_X2_within lh g (nI 1) (nI 100000)) (w_X2_within hts q1464 rfl rfl ⟨Nat.le_of_ble_eq_true rfl, Nat.le_of_ble_eq_true rfl⟩) ⟨P0.blind, P0.pre⟩ rfl rfl hl.1 rfl (lv_room (Nat.le_of_ble_eq_true rfl)) dX2_lot_18 ⟨Nat.le_of_ble_eq_true rfl, Nat.le_of_ble_eq_true rfl⟩) (fun rr hrr => ?_)
    subst hrr
    refine kx_int (y := bI (wi g (nI 1) (nI 100000))) rfl ?_
    refine kb_ne (tgt := 26) hx hb dX2_lot_21 (by decide) (fun c_21 => ?_) (fun c_21 => ?_)
    · obtain ⟨j, hj1, hj2, rfl⟩ := wi_nat (by decide) (by decide) c_21
      refine lv_aload_n hx hb dX2_lot_26 rfl (lv_at hl 0 rfl) ?_
      refine M_get (v := .ref (ad 2)) hx hb hts hown hG hM 2 (by decide) q1294 rfl rfl dX2_lot_27 ?_
      refine lv_aload_n hx hb dX2_lot_30 rfl (lv_at hl 0 rfl) ?_
      refine M_get (v := .int (nI (N 1))) hx hb hts hown hG hM 1 (by decide) q1293 rfl rfl dX2_lot_31 ?_
      refine lv_iload_n hx hb dX2_lot_34 rfl (lv_at hl 1 rfl) ?_
      refine M_iastN (v := j) hx hb hG hS hM 2 rfl (AM.a 2 rfl) rfl rfl (show N 1 < 20 from by omega) dX2_lot_35 (fun H locs hM hz hS => ?_)
      refine lv_aload_n hx hb dX2_lot_36 rfl (lv_at hl 0 rfl) ?_
      refine lv_dup hx hb dX2_lot_37 rfl ?_
      refine M_get (v := .int (nI (N 1))) hx hb hts hown hG hM 1 (by decide) q1293 rfl rfl dX2_lot_38 ?_
      refine lv_iconst (v := nI 1) hx hb dX2_lot_41 (by decide) ?_
      refine kn_add hx hb dX2_lot_42 ?_
      refine M_put hx hb hts hown hG hS AM.o hM 1 (by decide) q1293 rfl rfl rfl (up1 (up1 N 0 0) 1 (N 1 + 1)) I rfl dX2_lot_43 (fun H locs hM hz hS => ?_)
      refine lv_aload_n hx hb dX2_lot_46 rfl (lv_at hl 0 rfl) ?_
      refine M_get (v := .int (nI (N 1 + 1))) hx hb hts hown hG hM 1 (by decide) q1293 rfl rfl dX2_lot_47 ?_
      refine lv_iconst (v := nI 1) hx hb dX2_lot_50 (by decide) ?_
      refine kn_sub hx hb dX2_lot_51 (by omega) ?_
      subst hQ
      exact W.iret (v := nI (N 1 + 1 - 1)) hx hb hrt (fun t ht hW => ⟨⟨_, ((up1 (up1 N 0 0) 1 (N 1 + 1)), I, (up2 G 2 (N 1) j), J), rfl, (by dsimp only; rw [if_pos (by simp [lotB, c_11, c_21, tn_nI (show j < 2 ^ 31 by omega)])]; refine ⟨?_, ?_⟩ <;> (try simp only [tn_nI (show j < 2 ^ 31 by omega)]) <;> (try first | rfl | simp [c_11, c_21])), by rw [ht]; exact hM, GK.warm hW hG⟩, hS.F ht⟩) hS.2.2 dX2_lot_52
    · refine lv_iconst (v := -1) hx hb dX2_lot_24 (by decide) ?_
      subst hQ
      exact W.iret (v := (-1)) hx hb hrt (fun t ht hW => ⟨⟨_, ((up1 N 0 0), I, G, J), rfl, (by dsimp only; rw [if_neg (by simp [lotB, c_11, c_21])]; exact ⟨rfl, rfl⟩), by rw [ht]; exact hM, GK.warm hW hG⟩, hS.F ht⟩) hS.2.2 dX2_lot_25
theorem w_X2_lot {R : Room} {s : State} {args : Array Value} {own : String} {idx : Nat} (hts : ∀ w ∈ lw_all, w.before args s = true) (h1 : Cond.methodLink own idx yX2_lot ∈ lw_all) {rm : Room} {mc ms : Nat} (hrc : rm.cells = mc) (hrs : rm.slots = ms) (hR : rm.frames + 1 ≤ R.frames ∧ 8 + (2 + 11) + rm.locals ≤ R.locals) : CallW R s args own RX2 idx yX2_lot cX2_lot 2 (some .int) (ws_ yX2_lot cX2_lot 2 (some .int)) rm mc ms 1 := cwV 1 hts (lw_V h1 q1460 q1461 q70 q1462) rfl hrc hrs (by decide +kernel) hR

abbrev r_X2_crock : Room := { frames := 1, cells := 0, slots := 0, locals := 22 }
set_option maxHeartbeats 400000 in
theorem c_X2_crock (lh : Launch) (D : va_G) (dA : Nat → ClassId) (a0 : Nat) (ad : Nat → Nat) (N : Nat → Nat) (I : Nat → Int32) (G : Nat → Nat → Nat) (J : Nat → Nat → Int32) (sz : Nat) (q : Int32) (sa : Int32) (h1 : ∀ a b, G a b < 2 ^ 31) (h2 : N 3 ≤ 10) : Met lh yX2_crock (ws_ yX2_crock cX2_crock 3 (some .int)) r_X2_crock (PmM D dA a0 ad N I G J sz [.ref a0, .int q, .int sa]) (va_Qi (fun (r : Int32) (u : SgT) => if crockB N G q sa = true then r = nI (N 3) ∧ u = (up1 (up1 N 0 0) 3 (N 3 + 1), I, crockG G (N 3) (tn q) (tn sa) (N 14), up2 J 13 (N 3) (-1)) else r = -1 ∧ u = (up1 N 0 0, I, G, J)) (BmM D dA a0 ad) (AM a0 ad sz)) 0 0 (AM a0 ad sz) := by
  refine Met.ofW (cc := cX2_crock) (maxL := 3) (ret := (some .int)) (by decide) rfl ?_
  intro p e s m args below meth cd s₁ B hml hv
  obtain ⟨hargs, hsz, hM, hG⟩ := hv
  have hx := B.exec
  have hb := B.bytes
  have hrt := B.returns
  have hts := atoms_spec (ws := (ws_ yX2_crock cX2_crock 3 (some .int))) B.pre
  have hts : ∀ w ∈ lw_all, w.before _ s = true := fun w h => hts w (List.mem_cons_of_mem _ h)
  have hown : s.vm.findClass RX2 = some m.cls := findClass_of_methodNamed B.named
  have hlocks := B.notSynchronized
  subst hsz
  have hS : va_S (AM a0 ad s.heap.size) s.heap s.heap [] := va_S.rf
  have hE : entryFrame m args 3 = F0 m 0 ((lg_sl ([.ref a0, .int q, .int sa]) ++ List.replicate (3 - (lg_sl ([.ref a0, .int q, .int sa])).length) Slot.unset).toArray) [] := by rw [hargs]; exact lg_entry_eq m _ 3
  have hl := lv_entry ([.ref a0, .int q, .int sa]) (n := 3) (Nat.le_of_ble_eq_true rfl)
  rw [hE]
  clear hE
  generalize (lg_sl ([.ref a0, .int q, .int sa]) ++ List.replicate (3 - (lg_sl ([.ref a0, .int q, .int sa])).length) Slot.unset).toArray = ls at hl ⊢
  have hl : lv_has ls 3 [(0, .ref a0), (1, .int q), (2, .int sa)] := hl
  generalize hQ : MQ _ _ _ _ _ _ _ = Q
  refine lv_aload_n hx hb dX2_crock_0 rfl (lv_at hl 0 rfl) ?_
  refine lv_iconst (v := nI 0) hx hb dX2_crock_1 (by decide) ?_
  refine M_put hx hb hts hown hG hS AM.o hM 0 (by decide) q1292 rfl rfl rfl (up1 N 0 0) I rfl dX2_crock_2 (fun H locs hM hz hS => ?_)
  refine lv_aload_n hx hb dX2_crock_5 rfl (lv_at hl 0 rfl) ?_
  refine M_get (v := .int (nI (N 3))) hx hb hts hown hG hM 3 (by decide) q1295 rfl rfl dX2_crock_6 ?_
  refine lv_bipush (v := nI 10) hx hb dX2_crock_9 (by decide) ?_
  refine kn_ceq (tgt := 42) hx hb dX2_crock_11 (by decide) (by omega) (by omega) (fun c_11 => ?_) (fun c_11 => ?_)
  · refine lv_iconst (v := -1) hx hb dX2_crock_42 (by decide) ?_
    subst hQ
    exact W.iret (v := (-1)) hx hb hrt (fun t ht hW => ⟨⟨_, ((up1 N 0 0), I, G, J), rfl, (by dsimp only; rw [if_neg (by simp [crockB, c_11])]; exact ⟨rfl, rfl⟩), by rw [ht]; exact hM, GK.warm hW hG⟩, hS.F ht⟩) hS.2.2 dX2_crock_43
  · refine lv_iload_n hx hb dX2_crock_14 rfl (lv_at hl 1 rfl) ?_
    refine lv_iconst (v := nI 0) hx hb dX2_crock_15 (by decide) ?_
    refine lv_bipush (v := nI 11) hx hb dX2_crock_16 (by decide) ?_
    refine vp_callSi (W.runS (As := [.int q, .int (nI 0), .int (nI 11)]) (rest := []) ⟨hx, hb, hml, hown, hts⟩ (c_X2_within lh q (nI 0) (nI 11)) (w_X2_within hts q1464 rfl rfl ⟨Nat.le_of_ble_eq_true rfl, Nat.le_of_ble_eq_true rfl⟩) ⟨P0.blind, P0.pre⟩ rfl rfl hl.1 rfl (lv_room (Nat.le_of_ble_eq_true rfl)) dX2_crock_18 ⟨Nat.le_of_ble_eq_true rfl, Nat.le_of_ble_eq_true rfl⟩) (fun rr hrr => ?_)
    subst hrr
    refine kx_int (y := bI (wi q (nI 0) (nI 11))) rfl ?_
    refine kb_eq (tgt := 42) hx hb dX2_crock_21 (by decide) (fun c_21 => ?_) (fun c_21 => ?_)
    · refine lv_iconst (v := -1) hx hb dX2_crock_42 (by decide) ?_
      subst hQ
      exact W.iret (v := (-1)) hx hb hrt (fun t ht hW => ⟨⟨_, ((up1 N 0 0), I, G, J), rfl, (by dsimp only; rw [if_neg (by simp [crockB, c_11, c_21])]; exact ⟨rfl, rfl⟩), by rw [ht]; exact hM, GK.warm hW hG⟩, hS.F ht⟩) hS.2.2 dX2_crock_43
    · obtain ⟨j, hj1, hj2, rfl⟩ := wi_nat (by decide) (by decide) c_21
      refine lv_iload_n hx hb dX2_crock_24 rfl (lv_at hl 2 rfl) ?_
      refine lv_iconst (v := nI 0) hx hb dX2_crock_25 (by decide) ?_
      refine lv_bipush (v := nI 60) hx hb dX2_crock_26 (by decide) ?_
      refine vp_callSi (W.runS (As := [.int sa, .int (nI 0), .int (nI 60)]) (rest := []) ⟨hx, hb, hml, hown, hts⟩ (c_X2_within lh sa (nI 0) (nI 60)) (w_X2_within hts q1464 rfl rfl ⟨Nat.le_of_ble_eq_true rfl, Nat.le_of_ble_eq_true rfl⟩) ⟨P0.blind, P0.pre⟩ rfl rfl hl.1 rfl (lv_room (Nat.le_of_ble_eq_true rfl)) dX2_crock_28 ⟨Nat.le_of_ble_eq_true rfl, Nat.le_of_ble_eq_true rfl⟩) (fun rr hrr => ?_)
      subst hrr
      refine kx_int (y := bI (wi sa (nI 0) (nI 60))) rfl ?_
      refine kb_eq (tgt := 42) hx hb dX2_crock_31 (by decide) (fun c_31 => ?_) (fun c_31 => ?_)
      · refine lv_iconst (v := -1) hx hb dX2_crock_42 (by decide) ?_
        subst hQ
        exact W.iret (v := (-1)) hx hb hrt (fun t ht hW => ⟨⟨_, ((up1 N 0 0), I, G, J), rfl, (by dsimp only; rw [if_neg (by simp [crockB, c_11, c_21, c_31, tn_nI (show j < 2 ^ 31 by omega)])]; exact ⟨rfl, rfl⟩), by rw [ht]; exact hM, GK.warm hW hG⟩, hS.F ht⟩) hS.2.2 dX2_crock_43
      · obtain ⟨k, hk1, hk2, rfl⟩ := wi_nat (by decide) (by decide) c_31
        refine lv_aload_n hx hb dX2_crock_34 rfl (lv_at hl 0 rfl) ?_
        refine lv_iload_n hx hb dX2_crock_35 rfl (lv_at hl 1 rfl) ?_
        refine vp_callSi (W.runV (As := [.int (nI j)]) (rest := []) ⟨hx, hb, hml, hown, hts⟩ (c_X2_isFree lh D dA a0 ad (up1 N 0 0) I G J j (show ∀ a b, G a b < 2 ^ 31 from by first | omega | assumption | exact hB_up (by assumption) (by omega)) (show (N 3) ≤ 10 from by first | omega | assumption | exact hB_up (by assumption) (by omega)) (show j < 2 ^ 31 from by first | omega | assumption | exact hB_up (by assumption) (by omega))) (w_X2_isFree hts q1471 rfl rfl ⟨Nat.le_of_ble_eq_true rfl, Nat.le_of_ble_eq_true rfl⟩) ⟨PqM.blind, M_recv hG hM, PqM.pre hG hM⟩ rfl rfl hl.1 rfl (lv_room (Nat.le_of_ble_eq_true rfl)) dX2_crock_36 ⟨Nat.le_of_ble_eq_true rfl, Nat.le_of_ble_eq_true rfl⟩) (fun rr hrr => ?_)
        subst hrr
        refine kx_int (y := bI (frS G j ((N 3)))) rfl ?_
        refine kb_ne (tgt := 44) hx hb dX2_crock_39 (by decide) (fun c_39 => ?_) (fun c_39 => ?_)
        · refine lv_aload_n hx hb dX2_crock_44 rfl (lv_at hl 0 rfl) ?_
          refine M_get (v := .ref (ad 5)) hx hb hts hown hG hM 5 (by decide) q1297 rfl rfl dX2_crock_45 ?_
          refine lv_aload_n hx hb dX2_crock_48 rfl (lv_at hl 0 rfl) ?_
          refine M_get (v := .int (nI (N 3))) hx hb hts hown hG hM 3 (by decide) q1295 rfl rfl dX2_crock_49 ?_
          refine lv_iload_n hx hb dX2_crock_52 rfl (lv_at hl 1 rfl) ?_
          refine M_iastN (v := j) hx hb hG hS hM 5 rfl (AM.a 5 rfl) rfl rfl (show N 3 < 10 from by omega) dX2_crock_53 (fun H locs hM hz hS => ?_)
          refine lv_aload_n hx hb dX2_crock_54 rfl (lv_at hl 0 rfl) ?_
          refine M_get (v := .ref (ad 7)) hx hb hts hown hG hM 7 (by decide) q1299 rfl rfl dX2_crock_55 ?_
          refine lv_aload_n hx hb dX2_crock_58 rfl (lv_at hl 0 rfl) ?_
          refine M_get (v := .int (nI (N 3))) hx hb hts hown hG hM 3 (by decide) q1295 rfl rfl dX2_crock_59 ?_
          refine lv_iload_n hx hb dX2_crock_62 rfl (lv_at hl 2 rfl) ?_
          refine M_iastN (v := k) hx hb hG hS hM 7 rfl (AM.a 7 rfl) rfl rfl (show N 3 < 10 from by omega) dX2_crock_63 (fun H locs hM hz hS => ?_)
          refine lv_aload_n hx hb dX2_crock_64 rfl (lv_at hl 0 rfl) ?_
          refine M_get (v := .ref (ad 9)) hx hb hts hown hG hM 9 (by decide) q1301 rfl rfl dX2_crock_65 ?_
          refine lv_aload_n hx hb dX2_crock_68 rfl (lv_at hl 0 rfl) ?_
          refine M_get (v := .int (nI (N 3))) hx hb hts hown hG hM 3 (by decide) q1295 rfl rfl dX2_crock_69 ?_
          refine lv_aload_n hx hb dX2_crock_72 rfl (lv_at hl 0 rfl) ?_
          refine M_get (v := .int (nI (N 14))) hx hb hts hown hG hM 14 (by decide) q1306 rfl rfl dX2_crock_73 ?_
          refine M_iastN (v := N 14) hx hb hG hS hM 9 rfl (AM.a 9 rfl) rfl rfl (show N 3 < 10 from by omega) dX2_crock_76 (fun H locs hM hz hS => ?_)
          refine lv_aload_n hx hb dX2_crock_77 rfl (lv_at hl 0 rfl) ?_
          refine M_get (v := .ref (ad 13)) hx hb hts hown hG hM 13 (by decide) q1305 rfl rfl dX2_crock_78 ?_
          refine lv_aload_n hx hb dX2_crock_81 rfl (lv_at hl 0 rfl) ?_
          refine M_get (v := .int (nI (N 3))) hx hb hts hown hG hM 3 (by decide) q1295 rfl rfl dX2_crock_82 ?_
          refine lv_iconst (v := -1) hx hb dX2_crock_85 (by decide) ?_
          refine M_iastJ (v := (-1)) hx hb hG hS hM 13 rfl (AM.a 13 rfl) rfl rfl (show N 3 < 10 from by omega) dX2_crock_86 (fun H locs hM hz hS => ?_)
          refine lv_aload_n hx hb dX2_crock_87 rfl (lv_at hl 0 rfl) ?_
          refine lv_dup hx hb dX2_crock_88 rfl ?_
          refine M_get (v := .int (nI (N 3))) hx hb hts hown hG hM 3 (by decide) q1295 rfl rfl dX2_crock_89 ?_
          refine lv_iconst (v := nI 1) hx hb dX2_crock_92 (by decide) ?_
          refine kn_add hx hb dX2_crock_93 ?_
          refine M_put hx hb hts hown hG hS AM.o hM 3 (by decide) q1295 rfl rfl rfl (up1 (up1 N 0 0) 3 (N 3 + 1)) I rfl dX2_crock_94 (fun H locs hM hz hS => ?_)
          refine lv_aload_n hx hb dX2_crock_97 rfl (lv_at hl 0 rfl) ?_
          refine M_get (v := .int (nI (N 3 + 1))) hx hb hts hown hG hM 3 (by decide) q1295 rfl rfl dX2_crock_98 ?_
          refine lv_iconst (v := nI 1) hx hb dX2_crock_101 (by decide) ?_
          refine kn_sub hx hb dX2_crock_102 (by omega) ?_
          subst hQ
          exact W.iret (v := nI (N 3 + 1 - 1)) hx hb hrt (fun t ht hW => ⟨⟨_, ((up1 (up1 N 0 0) 3 (N 3 + 1)), I, (up2 (up2 (up2 G 5 (N 3) j) 7 (N 3) k) 9 (N 3) (N 14)), (up2 J 13 (N 3) (-1))), rfl, (by dsimp only; rw [if_pos (by simp [crockB, c_11, c_21, c_31, c_39, tn_nI (show j < 2 ^ 31 by omega), tn_nI (show k < 2 ^ 31 by omega)])]; refine ⟨?_, ?_⟩ <;> (try simp only [tn_nI (show j < 2 ^ 31 by omega), tn_nI (show k < 2 ^ 31 by omega)]) <;> (try first | rfl | simp [c_11, c_21, c_31, c_39])), by rw [ht]; exact hM, GK.warm hW hG⟩, hS.F ht⟩) hS.2.2 dX2_crock_103
        · refine lv_iconst (v := -1) hx hb dX2_crock_42 (by decide) ?_
          subst hQ
          exact W.iret (v := (-1)) hx hb hrt (fun t ht hW => ⟨⟨_, ((up1 N 0 0), I, G, J), rfl, (by dsimp only; rw [if_neg (by simp [crockB, c_11, c_21, c_31, c_39, tn_nI (show j < 2 ^ 31 by omega), tn_nI (show k < 2 ^ 31 by omega)])]; exact ⟨rfl, rfl⟩), by rw [ht]; exact hM, GK.warm hW hG⟩, hS.F ht⟩) hS.2.2 dX2_crock_43
theorem w_X2_crock {R : Room} {s : State} {args : Array Value} {own : String} {idx : Nat} (hts : ∀ w ∈ lw_all, w.before args s = true) (h1 : Cond.methodLink own idx yX2_crock ∈ lw_all) {rm : Room} {mc ms : Nat} (hrc : rm.cells = mc) (hrs : rm.slots = ms) (hR : rm.frames + 1 ≤ R.frames ∧ 8 + (3 + 11) + rm.locals ≤ R.locals) : CallW R s args own RX2 idx yX2_crock cX2_crock 3 (some .int) (ws_ yX2_crock cX2_crock 3 (some .int)) rm mc ms 2 := cwV 2 hts (lw_V h1 q1468 q1469 q70 q1470) rfl hrc hrs (by decide +kernel) hR

abbrev r_X2_put : Room := { frames := 3, cells := 0, slots := 0, locals := 64 }
set_option maxHeartbeats 400000 in
theorem c_X2_put (lh : Launch) (D : va_G) (dA : Nat → ClassId) (a0 : Nat) (ad : Nat → Nat) (N : Nat → Nat) (I : Nat → Int32) (G : Nat → Nat → Nat) (J : Nat → Nat → Int32) (sz : Nat) (c : Int32) (l : Int32) (g : Int32) (h1 : ∀ a b, G a b < 2 ^ 31) (h2 : N 3 ≤ 10) (h3 : N 1 ≤ 20) : Met lh yX2_put (ws_ yX2_put cX2_put 4 (some .int)) r_X2_put (PmM D dA a0 ad N I G J sz [.ref a0, .int c, .int l, .int g]) (va_Qi (fun (r : Int32) (u : SgT) => if putB N G c l g = true then r = nI (gr (putG G (tn c) (tn l) (tn g)) (tn c)) ∧ u = (up1 N 0 0, I, putG G (tn c) (tn l) (tn g), J) else r = -1 ∧ u = (up1 N 0 0, I, G, J)) (BmM D dA a0 ad) (AM a0 ad sz)) 0 0 (AM a0 ad sz) := by
  refine Met.ofW (cc := cX2_put) (maxL := 4) (ret := (some .int)) (by decide) rfl ?_
  intro p e s m args below meth cd s₁ B hml hv
  obtain ⟨hargs, hsz, hM, hG⟩ := hv
  have hx := B.exec
  have hb := B.bytes
  have hrt := B.returns
  have hts := atoms_spec (ws := (ws_ yX2_put cX2_put 4 (some .int))) B.pre
  have hts : ∀ w ∈ lw_all, w.before _ s = true := fun w h => hts w (List.mem_cons_of_mem _ h)
  have hown : s.vm.findClass RX2 = some m.cls := findClass_of_methodNamed B.named
  have hlocks := B.notSynchronized
  subst hsz
  have hS : va_S (AM a0 ad s.heap.size) s.heap s.heap [] := va_S.rf
  have hE : entryFrame m args 4 = F0 m 0 ((lg_sl ([.ref a0, .int c, .int l, .int g]) ++ List.replicate (4 - (lg_sl ([.ref a0, .int c, .int l, .int g])).length) Slot.unset).toArray) [] := by rw [hargs]; exact lg_entry_eq m _ 4
  have hl := lv_entry ([.ref a0, .int c, .int l, .int g]) (n := 4) (Nat.le_of_ble_eq_true rfl)
  rw [hE]
  clear hE
  generalize (lg_sl ([.ref a0, .int c, .int l, .int g]) ++ List.replicate (4 - (lg_sl ([.ref a0, .int c, .int l, .int g])).length) Slot.unset).toArray = ls at hl ⊢
  have hl : lv_has ls 4 [(0, .ref a0), (1, .int c), (2, .int l), (3, .int g)] := hl
  generalize hQ : MQ _ _ _ _ _ _ _ = Q
  refine lv_aload_n hx hb dX2_put_0 rfl (lv_at hl 0 rfl) ?_
  refine lv_iconst (v := nI 0) hx hb dX2_put_1 (by decide) ?_
  refine M_put hx hb hts hown hG hS AM.o hM 0 (by decide) q1292 rfl rfl rfl (up1 N 0 0) I rfl dX2_put_2 (fun H locs hM hz hS => ?_)
  refine lv_aload_n hx hb dX2_put_5 rfl (lv_at hl 0 rfl) ?_
  refine lv_iload_n hx hb dX2_put_6 rfl (lv_at hl 1 rfl) ?_
  refine vp_callSi (W.runV (As := [.int c]) (rest := []) ⟨hx, hb, hml, hown, hts⟩ (c_X2_lives lh D dA a0 ad (up1 N 0 0) I G J c (show ∀ a b, G a b < 2 ^ 31 from by first | omega | assumption | exact hB_up (by assumption) (by omega)) (show (N 3) ≤ 10 from by first | omega | assumption | exact hB_up (by assumption) (by omega))) (w_X2_lives hts q1479 rfl rfl ⟨Nat.le_of_ble_eq_true rfl, Nat.le_of_ble_eq_true rfl⟩) ⟨PqM.blind, M_recv hG hM, PqM.pre hG hM⟩ rfl rfl hl.1 rfl (lv_room (Nat.le_of_ble_eq_true rfl)) dX2_put_7 ⟨Nat.le_of_ble_eq_true rfl, Nat.le_of_ble_eq_true rfl⟩) (fun rr hrr => ?_)
  subst hrr
  refine kx_int (y := bI (lvI ((N 3)) G c)) rfl ?_
  refine kb_eq (tgt := 42) hx hb dX2_put_10 (by decide) (fun c_10 => ?_) (fun c_10 => ?_)
  · refine lv_iconst (v := -1) hx hb dX2_put_42 (by decide) ?_
    subst hQ
    exact W.iret (v := (-1)) hx hb hrt (fun t ht hW => ⟨⟨_, ((up1 N 0 0), I, G, J), rfl, (by dsimp only; rw [if_neg (by simp [putB, c_10])]; exact ⟨rfl, rfl⟩), by rw [ht]; exact hM, GK.warm hW hG⟩, hS.F ht⟩) hS.2.2 dX2_put_43
  · obtain ⟨j, hj, rfl, hlj⟩ := lvI_nat (by omega) c_10
    refine lv_iload_n hx hb dX2_put_13 rfl (lv_at hl 2 rfl) ?_
    refine lv_iconst (v := nI 0) hx hb dX2_put_14 (by decide) ?_
    refine lv_aload_n hx hb dX2_put_15 rfl (lv_at hl 0 rfl) ?_
    refine M_get (v := .int (nI (N 1))) hx hb hts hown hG hM 1 (by decide) q1293 rfl rfl dX2_put_16 ?_
    refine lv_iconst (v := nI 1) hx hb dX2_put_19 (by decide) ?_
    refine lv_isub hx hb dX2_put_20 ?_
    refine vp_callSi (W.runS (As := [.int l, .int (nI 0), .int (nI (N 1) - (nI 1))]) (rest := []) ⟨hx, hb, hml, hown, hts⟩ (c_X2_within lh l (nI 0) (nI (N 1) - (nI 1))) (w_X2_within hts q1464 rfl rfl ⟨Nat.le_of_ble_eq_true rfl, Nat.le_of_ble_eq_true rfl⟩) ⟨P0.blind, P0.pre⟩ rfl rfl hl.1 rfl (lv_room (Nat.le_of_ble_eq_true rfl)) dX2_put_21 ⟨Nat.le_of_ble_eq_true rfl, Nat.le_of_ble_eq_true rfl⟩) (fun rr hrr => ?_)
    subst hrr
    refine kx_int (y := bI (wi l (nI 0) (nI (N 1) - (nI 1)))) rfl ?_
    refine kb_eq (tgt := 42) hx hb dX2_put_24 (by decide) (fun c_24 => ?_) (fun c_24 => ?_)
    · refine lv_iconst (v := -1) hx hb dX2_put_42 (by decide) ?_
      subst hQ
      exact W.iret (v := (-1)) hx hb hrt (fun t ht hW => ⟨⟨_, ((up1 N 0 0), I, G, J), rfl, (by dsimp only; rw [if_neg (by simp [putB, c_10, c_24, tn_nI (show j < 2 ^ 31 by omega)])]; exact ⟨rfl, rfl⟩), by rw [ht]; exact hM, GK.warm hW hG⟩, hS.F ht⟩) hS.2.2 dX2_put_43
    · obtain ⟨k, hk, rfl⟩ := wi_cnt (by omega) c_24
      refine lv_iload_n hx hb dX2_put_27 rfl (lv_at hl 3 rfl) ?_
      refine lv_iconst (v := nI 1) hx hb dX2_put_28 (by decide) ?_
      refine lv_icmp_lt (tgt := 42) hx hb dX2_put_29 (by decide) (fun c_29 => ?_) (fun c_29 => ?_)
      · refine lv_iconst (v := -1) hx hb dX2_put_42 (by decide) ?_
        subst hQ
        exact W.iret (v := (-1)) hx hb hrt (fun t ht hW => ⟨⟨_, ((up1 N 0 0), I, G, J), rfl, (by dsimp only; rw [if_neg (by simp [putB, c_10, c_24, c_29, tn_nI (show j < 2 ^ 31 by omega), tn_nI (show k < 2 ^ 31 by omega)])]; exact ⟨rfl, rfl⟩), by rw [ht]; exact hM, GK.warm hW hG⟩, hS.F ht⟩) hS.2.2 dX2_put_43
      · obtain ⟨g1, hg1, hg2, rfl⟩ := nI_ge1 c_29
        refine lv_iload_n hx hb dX2_put_32 rfl (lv_at hl 3 rfl) ?_
        refine lv_aload_n hx hb dX2_put_33 rfl (lv_at hl 0 rfl) ?_
        refine M_get (v := .ref (ad 2)) hx hb hts hown hG hM 2 (by decide) q1294 rfl rfl dX2_put_34 ?_
        refine lv_iload_n hx hb dX2_put_37 rfl (lv_at hl 2 rfl) ?_
        refine M_iald (v := nI (G 2 k)) hx hb hG hM 2 rfl rfl (show k < 20 from by omega) (rfl) dX2_put_38 ?_
        refine lv_icmp_le (tgt := 44) hx hb dX2_put_39 (by decide) (fun c_39 => ?_) (fun c_39 => ?_)
        · have hle : g1 ≤ G 2 k := (nI_leI (by omega) (h1 _ _)).mp c_39
          refine lv_aload_n hx hb dX2_put_44 rfl (lv_at hl 0 rfl) ?_
          refine M_get (v := .ref (ad 2)) hx hb hts hown hG hM 2 (by decide) q1294 rfl rfl dX2_put_45 ?_
          refine lv_iload_n hx hb dX2_put_48 rfl (lv_at hl 2 rfl) ?_
          refine lv_dup2_11 hx hb dX2_put_49 rfl rfl ?_
          refine M_iald (v := nI (G 2 k)) hx hb hG hM 2 rfl rfl (show k < 20 from by omega) (rfl) dX2_put_50 ?_
          refine lv_iload_n hx hb dX2_put_51 rfl (lv_at hl 3 rfl) ?_
          refine kn_sub hx hb dX2_put_52 (by omega) ?_
          refine M_iastN (v := G 2 k - g1) hx hb hG hS hM 2 rfl (AM.a 2 rfl) rfl rfl (show k < 20 from by omega) dX2_put_53 (fun H locs hM hz hS => ?_)
          refine lv_aload_n hx hb dX2_put_54 rfl (lv_at hl 0 rfl) ?_
          refine M_get (v := .ref (ad 4)) hx hb hts hown hG hM 4 (by decide) q1296 rfl rfl dX2_put_55 ?_
          refine lv_bipush (v := nI 20) hx hb dX2_put_58 (by decide) ?_
          refine lv_iload_n hx hb dX2_put_60 rfl (lv_at hl 1 rfl) ?_
          refine kn_mul hx hb dX2_put_61 ?_
          refine lv_iload_n hx hb dX2_put_62 rfl (lv_at hl 2 rfl) ?_
          refine kn_add hx hb dX2_put_63 ?_
          refine lv_dup2_11 hx hb dX2_put_64 rfl rfl ?_
          refine M_iald (v := nI (G 4 (20 * j + k))) hx hb hG hM 4 rfl rfl (show 20 * j + k < 200 from by omega) (rfl) dX2_put_65 ?_
          refine lv_iload_n hx hb dX2_put_66 rfl (lv_at hl 3 rfl) ?_
          refine kn_add hx hb dX2_put_67 ?_
          refine M_iastN (v := G 4 (20 * j + k) + g1) hx hb hG hS hM 4 rfl (AM.a 4 rfl) rfl rfl (show 20 * j + k < 200 from by omega) dX2_put_68 (fun H locs hM hz hS => ?_)
          refine lv_aload_n hx hb dX2_put_69 rfl (lv_at hl 0 rfl) ?_
          refine lv_iload_n hx hb dX2_put_70 rfl (lv_at hl 1 rfl) ?_
          refine vp_callSi (W.runV (As := [.int (nI j)]) (rest := []) ⟨hx, hb, hml, hown, hts⟩ (c_X2_grams lh D dA a0 ad (up1 N 0 0) I (up2 (up2 G 2 k (G 2 k - g1)) 4 (20 * j + k) (G 4 (20 * j + k) + g1)) J j (show j < 10 from by first | omega | assumption | exact hB_up (by assumption) (by omega))) (w_X2_grams hts q1487 rfl rfl ⟨Nat.le_of_ble_eq_true rfl, Nat.le_of_ble_eq_true rfl⟩) ⟨PqM.blind, M_recv hG hM, PqM.pre hG hM⟩ rfl rfl hl.1 rfl (lv_room (Nat.le_of_ble_eq_true rfl)) dX2_put_71 ⟨Nat.le_of_ble_eq_true rfl, Nat.le_of_ble_eq_true rfl⟩) (fun rr hrr => ?_)
          subst hrr
          refine kx_int (y := nI (gr (up2 (up2 G 2 k (G 2 k - g1)) 4 (20 * j + k) (G 4 (20 * j + k) + g1)) j)) rfl ?_
          subst hQ
          exact W.iret (v := nI (gr (up2 (up2 G 2 k (G 2 k - g1)) 4 (20 * j + k) (G 4 (20 * j + k) + g1)) j)) hx hb hrt (fun t ht hW => ⟨⟨_, ((up1 N 0 0), I, (up2 (up2 G 2 k (G 2 k - g1)) 4 (20 * j + k) (G 4 (20 * j + k) + g1)), J), rfl, (by dsimp only; rw [if_pos (by simp [putB, c_10, c_24, c_29, c_39, tn_nI (show j < 2 ^ 31 by omega), tn_nI (show k < 2 ^ 31 by omega), tn_nI (show g1 < 2 ^ 31 by omega)])]; refine ⟨?_, ?_⟩ <;> (try simp only [tn_nI (show j < 2 ^ 31 by omega), tn_nI (show k < 2 ^ 31 by omega), tn_nI (show g1 < 2 ^ 31 by omega)]) <;> (try first | rfl | simp [c_10, c_24, c_29, c_39])), by rw [ht]; exact hM, GK.warm hW hG⟩, hS.F ht⟩) hS.2.2 dX2_put_74
        · refine lv_iconst (v := -1) hx hb dX2_put_42 (by decide) ?_
          subst hQ
          exact W.iret (v := (-1)) hx hb hrt (fun t ht hW => ⟨⟨_, ((up1 N 0 0), I, G, J), rfl, (by dsimp only; rw [if_neg (by simp [putB, c_10, c_24, c_29, c_39, tn_nI (show j < 2 ^ 31 by omega), tn_nI (show k < 2 ^ 31 by omega), tn_nI (show g1 < 2 ^ 31 by omega)])]; exact ⟨rfl, rfl⟩), by rw [ht]; exact hM, GK.warm hW hG⟩, hS.F ht⟩) hS.2.2 dX2_put_43
theorem w_X2_put {R : Room} {s : State} {args : Array Value} {own : String} {idx : Nat} (hts : ∀ w ∈ lw_all, w.before args s = true) (h1 : Cond.methodLink own idx yX2_put ∈ lw_all) {rm : Room} {mc ms : Nat} (hrc : rm.cells = mc) (hrs : rm.slots = ms) (hR : rm.frames + 1 ≤ R.frames ∧ 8 + (4 + 11) + rm.locals ≤ R.locals) : CallW R s args own RX2 idx yX2_put cX2_put 4 (some .int) (ws_ yX2_put cX2_put 4 (some .int)) rm mc ms 3 := cwV 3 hts (lw_V h1 q1476 q1477 q70 q1478) rfl hrc hrs (by decide +kernel) hR
