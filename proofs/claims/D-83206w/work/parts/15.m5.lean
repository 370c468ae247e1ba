set_option maxRecDepth 100000
abbrev r_X2_holds : Room := { frames := 4, cells := 0, slots := 0, locals := 98 }
set_option maxHeartbeats 400000 in
theorem c_X2_holds (lh : Launch) (D : va_G) (dA : Nat → ClassId) (a0 : Nat) (ad : Nat → Nat) (N : Nat → Nat) (I : Nat → Int32) (G : Nat → Nat → Nat) (J : Nat → Nat → Int32) (c : Nat) (r : Nat) (h1 : ∀ a b, G a b < 2 ^ 31) (h2 : c < 10) (h3 : N 14 ≤ 600) (h4 : N 19 ≤ 100) (h5 : r < 110) (h6 : G 28 r ≤ 3) (h7 : ∀ j, j < 3 → G 29 (3 * r + j) ≤ 7) : Met lh yX2_holds (ws_ yX2_holds cX2_holds 6 (some .boolean)) r_X2_holds (PqM D dA a0 ad N I G J [.ref a0, .int (nI c), .int (nI r)]) (vp_Si (fun rv => rv = bI (hdS G J c (N 14) (N 19) r (G 28 r)))) 0 0 (fun _ => False) := by
  refine Met.ofW (cc := cX2_holds) (maxL := 6) (ret := (some .boolean)) (by decide) rfl ?_
  intro p e s m args below meth cd s₁ B hml hv
  obtain ⟨hargs, hM, hG⟩ := hv
  have hx := B.exec
  have hb := B.bytes
  have hrt := B.returns
  have hts := atoms_spec (ws := (ws_ yX2_holds cX2_holds 6 (some .boolean))) B.pre
  have hts : ∀ w ∈ lw_all, w.before _ s = true := fun w h => hts w (List.mem_cons_of_mem _ h)
  have hown : s.vm.findClass RX2 = some m.cls := findClass_of_methodNamed B.named
  have hlocks := B.notSynchronized
  have hE : entryFrame m args 6 = F0 m 0 ((lg_sl ([.ref a0, .int (nI c), .int (nI r)]) ++ List.replicate (6 - (lg_sl ([.ref a0, .int (nI c), .int (nI r)])).length) Slot.unset).toArray) [] := by rw [hargs]; exact lg_entry_eq m _ 6
  have hl := lv_entry ([.ref a0, .int (nI c), .int (nI r)]) (n := 6) (Nat.le_of_ble_eq_true rfl)
  rw [hE]
  clear hE
  generalize (lg_sl ([.ref a0, .int (nI c), .int (nI r)]) ++ List.replicate (6 - (lg_sl ([.ref a0, .int (nI c), .int (nI r)])).length) Slot.unset).toArray = ls at hl ⊢
  have hl : lv_has ls 6 [(0, .ref a0), (1, .int (nI c)), (2, .int (nI r))] := hl
  generalize hQ : MQ _ _ _ _ _ _ _ = Q
  refine lv_iconst (v := nI 1) hx hb dX2_holds_0 (by decide) ?_
  refine lv_istore_n (lv' := [(3, .int (nI 1)), (0, .ref a0), (1, .int (nI c)), (2, .int (nI r))]) hx hb dX2_holds_1 rfl hl (by decide) rfl (fun ls hl => ?_)
  refine lv_iconst (v := nI 3) hx hb dX2_holds_2 (by decide) ?_
  refine lv_iload_n hx hb dX2_holds_3 rfl (lv_at hl 3 rfl) ?_
  refine kn_mul hx hb dX2_holds_4 ?_
  refine lv_istore (lv' := [(4, .int (nI (3 * r))), (3, .int (nI 1)), (0, .ref a0), (1, .int (nI c)), (2, .int (nI r))]) hx hb dX2_holds_5 hl (by decide) rfl (fun ls hl => ?_)
  have L7 : ∀ (nn7 : Nat) (q : Nat), (q ≤ G 28 r) → G 28 r - q < nn7 → ∀ (ls : Array Slot), lv_has ls 6 [(0, .ref a0), (1, .int (nI c)), (2, .int (nI r)), (3, .int (bI (hdS G J c (N 14) (N 19) r q))), (4, .int (nI (3 * r + q)))] → W p lh e r_X2_holds s m args below meth cd s.heap [] 0 0 Q (F0 m 7 ls []) := by
    intro nn7
    induction nn7 with
    | zero => intro q i7_0 hm7; exact absurd hm7 (Nat.not_lt_zero _)
    | succ nn7 ih7 =>
      intro q i7_0 hm7 ls hl
      refine lv_iload hx hb dX2_holds_7 (lv_at hl 4 rfl) ?_
      refine lv_iconst (v := nI 3) hx hb dX2_holds_9 (by decide) ?_
      refine lv_iload_n hx hb dX2_holds_10 rfl (lv_at hl 2 rfl) ?_
      refine kn_mul hx hb dX2_holds_11 ?_
      refine lv_aload_n hx hb dX2_holds_12 rfl (lv_at hl 0 rfl) ?_
      refine M_get (v := .ref (ad 28)) hx hb hts hown hG hM 28 (by decide) q1320 rfl rfl dX2_holds_13 ?_
      refine lv_iload_n hx hb dX2_holds_16 rfl (lv_at hl 2 rfl) ?_
      refine M_iald (v := nI (G 28 r)) hx hb hG hM 28 rfl rfl (show r < 110 from by omega) (rfl) dX2_holds_17 ?_
      refine kn_add hx hb dX2_holds_18 ?_
      refine kn_cge (tgt := 125) hx hb dX2_holds_19 (by decide) (by omega) (by omega) (fun c_19 => ?_) (fun c_19 => ?_)
      · refine lv_iload_n hx hb dX2_holds_125 rfl (lv_at hl 3 rfl) ?_
        subst hQ
        exact W.zret (v := bI (hdS G J c (N 14) (N 19) r q)) hx hb hrt (narB _) (fun t ht _ => ⟨_, rfl, (show bI (hdS G J c (N 14) (N 19) r q) = bI (hdS G J c (N 14) (N 19) r (G 28 r)) from by rw [show q = G 28 r by omega]), ht⟩) t_nil dX2_holds_126
      · refine lv_iload_n hx hb dX2_holds_22 rfl (lv_at hl 3 rfl) ?_
        refine kb_eq (tgt := 125) hx hb dX2_holds_23 (by decide) (fun c_23 => ?_) (fun c_23 => ?_)
        · refine lv_iload_n hx hb dX2_holds_125 rfl (lv_at hl 3 rfl) ?_
          subst hQ
          exact W.zret (v := bI (hdS G J c (N 14) (N 19) r q)) hx hb hrt (narB _) (fun t ht _ => ⟨_, rfl, (show bI (hdS G J c (N 14) (N 19) r q) = bI (hdS G J c (N 14) (N 19) r (G 28 r)) from by rw [c_23, hdS_no' c_23 i7_0]), ht⟩) t_nil dX2_holds_126
        · refine lv_aload_n hx hb dX2_holds_26 rfl (lv_at hl 0 rfl) ?_
          refine lv_iload_n hx hb dX2_holds_27 rfl (lv_at hl 1 rfl) ?_
          refine lv_aload_n hx hb dX2_holds_28 rfl (lv_at hl 0 rfl) ?_
          refine M_get (v := .ref (ad 29)) hx hb hts hown hG hM 29 (by decide) q1321 rfl rfl dX2_holds_29 ?_
          refine lv_iload hx hb dX2_holds_32 (lv_at hl 4 rfl) ?_
          refine M_iald (v := nI (G 29 (3 * r + q))) hx hb hG hM 29 rfl rfl (show 3 * r + q < 330 from by omega) (rfl) dX2_holds_34 ?_
          refine vp_callSi (W.runV (As := [.int (nI c), .int (nI (G 29 (3 * r + q)))]) (rest := []) ⟨hx, hb, hml, hown, hts⟩ (c_X2_fieldOf lh D dA a0 ad N I G J c (G 29 (3 * r + q)) (show ∀ a b, G a b < 2 ^ 31 from by first | omega | assumption | exact hB_up (by assumption) (by omega)) (show c < 10 from by first | omega | assumption | exact hB_up (by assumption) (by omega)) (show (N 14) ≤ 600 from by first | omega | assumption | exact hB_up (by assumption) (by omega)) (show (N 19) ≤ 100 from by first | omega | assumption | exact hB_up (by assumption) (by omega)) (h7 q (by omega))) (w_X2_fieldOf hts q1594 rfl rfl ⟨Nat.le_of_ble_eq_true rfl, Nat.le_of_ble_eq_true rfl⟩) ⟨PqM.blind, M_recv hG hM, PqM.pre hG hM⟩ rfl rfl hl.1 rfl (lv_room (Nat.le_of_ble_eq_true rfl)) dX2_holds_35 ⟨Nat.le_of_ble_eq_true rfl, Nat.le_of_ble_eq_true rfl⟩) (fun rr hrr => ?_)
          subst hrr
          refine lv_istore (lv' := [(5, .int (fldS G J c ((N 14)) ((N 19)) (G 29 (3 * r + q)))), (0, .ref a0), (1, .int (nI c)), (2, .int (nI r)), (3, .int (bI (hdS G J c (N 14) (N 19) r q))), (4, .int (nI (3 * r + q)))]) hx hb dX2_holds_38 hl (by decide) rfl (fun ls hl => ?_)
          refine lv_aload_n hx hb dX2_holds_40 rfl (lv_at hl 1 rfl) ?_
          refine M_get (v := .ref (ad 30)) hx hb hts hown hG hM 30 (by decide) q1322 rfl rfl dX2_holds_41 ?_
          refine lv_iload hx hb dX2_holds_44 (lv_at hl 5 rfl) ?_
          refine M_iald (v := nI (G 30 (3 * r + q))) hx hb hG hM 30 rfl rfl (show 3 * r + q < 330 from by omega) (rfl) dX2_holds_46 ?_
          refine kn_zne (tgt := 70) hx hb dX2_holds_47 (by decide) (h1 _ _) (fun c_47 => ?_) (fun c_47 => ?_)
          · refine lv_aload_n hx hb dX2_holds_70 rfl (lv_at hl 1 rfl) ?_
            refine M_get (v := .ref (ad 30)) hx hb hts hown hG hM 30 (by decide) q1322 rfl rfl dX2_holds_71 ?_
            refine lv_iload hx hb dX2_holds_74 (lv_at hl 5 rfl) ?_
            refine M_iald (v := nI (G 30 (3 * r + q))) hx hb hG hM 30 rfl rfl (show 3 * r + q < 330 from by omega) (rfl) dX2_holds_76 ?_
            refine lv_iconst (v := nI 1) hx hb dX2_holds_77 (by decide) ?_
            refine kn_cne (tgt := 101) hx hb dX2_holds_78 (by decide) (h1 _ _) (by omega) (fun c_78 => ?_) (fun c_78 => ?_)
            · refine lv_iload hx hb dX2_holds_101 (lv_at hl 0 rfl) ?_
              refine lv_aload_n hx hb dX2_holds_103 rfl (lv_at hl 1 rfl) ?_
              refine M_get (v := .ref (ad 31)) hx hb hts hown hG hM 31 (by decide) q1323 rfl rfl dX2_holds_104 ?_
              refine lv_iload hx hb dX2_holds_107 (lv_at hl 5 rfl) ?_
              refine M_iald (v := nI (G 31 (3 * r + q))) hx hb hG hM 31 rfl rfl (show 3 * r + q < 330 from by omega) (rfl) dX2_holds_109 ?_
              refine lv_icmp_le (tgt := 117) hx hb dX2_holds_110 (by decide) (fun c_110 => ?_) (fun c_110 => ?_)
              · refine lv_iconst (v := nI 0) hx hb dX2_holds_117 (by decide) ?_
                refine lv_istore_n (lv' := [(3, .int (nI 0)), (5, .int (fldS G J c ((N 14)) ((N 19)) (G 29 (3 * r + q)))), (0, .ref a0), (1, .int (nI c)), (2, .int (nI r)), (4, .int (nI (3 * r + q)))]) hx hb dX2_holds_118 rfl hl (by decide) rfl (fun ls hl => ?_)
                refine lv_iinc (v := nI (3 * r + q + 1)) (lv' := [(4, .int (nI (3 * r + q + 1))), (3, .int (nI 0)), (5, .int (fldS G J c ((N 14)) ((N 19)) (G 29 (3 * r + q)))), (0, .ref a0), (1, .int (nI c)), (2, .int (nI r))]) hx hb dX2_holds_119 hl (k := 5) rfl (show nI (3 * r + q) + Int32.ofInt 1 = nI (3 * r + q + 1) from nI_add _ 1) (by decide) rfl (fun ls hl => ?_)
                refine lv_goto (tgt := 7) hx hb dX2_holds_122 (by decide) ?_
                exact ih7 (q + 1) (by omega) (by omega) _ (lv_conv (show lv_has ls 6 [(0, .ref a0), (1, .int (nI c)), (2, .int (nI r)), (3, .int (nI 0)), (4, .int (nI (3 * r + q + 1)))] from (lv_sub hl [3, 4, 5, 1, 0] rfl)) (by rw [show hdS G J c (N 14) (N 19) r (q + 1) = false from by simp [hdS, cmpS, c_23, c_47, c_78, Int32.not_lt.mpr c_110]]; rfl))
              · refine lv_iconst (v := nI 1) hx hb dX2_holds_113 (by decide) ?_
                refine lv_goto (tgt := 118) hx hb dX2_holds_114 (by decide) ?_
                refine lv_istore_n (lv' := [(3, .int (nI 1)), (5, .int (fldS G J c ((N 14)) ((N 19)) (G 29 (3 * r + q)))), (0, .ref a0), (1, .int (nI c)), (2, .int (nI r)), (4, .int (nI (3 * r + q)))]) hx hb dX2_holds_118 rfl hl (by decide) rfl (fun ls hl => ?_)
                refine lv_iinc (v := nI (3 * r + q + 1)) (lv' := [(4, .int (nI (3 * r + q + 1))), (3, .int (nI 1)), (5, .int (fldS G J c ((N 14)) ((N 19)) (G 29 (3 * r + q)))), (0, .ref a0), (1, .int (nI c)), (2, .int (nI r))]) hx hb dX2_holds_119 hl (k := 5) rfl (show nI (3 * r + q) + Int32.ofInt 1 = nI (3 * r + q + 1) from nI_add _ 1) (by decide) rfl (fun ls hl => ?_)
                refine lv_goto (tgt := 7) hx hb dX2_holds_122 (by decide) ?_
                exact ih7 (q + 1) (by omega) (by omega) _ (lv_conv (show lv_has ls 6 [(0, .ref a0), (1, .int (nI c)), (2, .int (nI r)), (3, .int (nI 1)), (4, .int (nI (3 * r + q + 1)))] from (lv_sub hl [3, 4, 5, 1, 0] rfl)) (by rw [show hdS G J c (N 14) (N 19) r (q + 1) = true from by simp [hdS, cmpS, c_23, c_47, c_78, Int32.not_le.mp c_110]]; rfl))
            · refine lv_iload hx hb dX2_holds_81 (lv_at hl 0 rfl) ?_
              refine lv_aload_n hx hb dX2_holds_83 rfl (lv_at hl 1 rfl) ?_
              refine M_get (v := .ref (ad 31)) hx hb hts hown hG hM 31 (by decide) q1323 rfl rfl dX2_holds_84 ?_
              refine lv_iload hx hb dX2_holds_87 (lv_at hl 5 rfl) ?_
              refine M_iald (v := nI (G 31 (3 * r + q))) hx hb hG hM 31 rfl rfl (show 3 * r + q < 330 from by omega) (rfl) dX2_holds_89 ?_
              refine lv_icmp_ne (tgt := 97) hx hb dX2_holds_90 (by decide) (fun c_90 => ?_) (fun c_90 => ?_)
              · refine lv_iconst (v := nI 0) hx hb dX2_holds_97 (by decide) ?_
                refine lv_goto (tgt := 118) hx hb dX2_holds_98 (by decide) ?_
                refine lv_istore_n (lv' := [(3, .int (nI 0)), (5, .int (fldS G J c ((N 14)) ((N 19)) (G 29 (3 * r + q)))), (0, .ref a0), (1, .int (nI c)), (2, .int (nI r)), (4, .int (nI (3 * r + q)))]) hx hb dX2_holds_118 rfl hl (by decide) rfl (fun ls hl => ?_)
                refine lv_iinc (v := nI (3 * r + q + 1)) (lv' := [(4, .int (nI (3 * r + q + 1))), (3, .int (nI 0)), (5, .int (fldS G J c ((N 14)) ((N 19)) (G 29 (3 * r + q)))), (0, .ref a0), (1, .int (nI c)), (2, .int (nI r))]) hx hb dX2_holds_119 hl (k := 5) rfl (show nI (3 * r + q) + Int32.ofInt 1 = nI (3 * r + q + 1) from nI_add _ 1) (by decide) rfl (fun ls hl => ?_)
                refine lv_goto (tgt := 7) hx hb dX2_holds_122 (by decide) ?_
                exact ih7 (q + 1) (by omega) (by omega) _ (lv_conv (show lv_has ls 6 [(0, .ref a0), (1, .int (nI c)), (2, .int (nI r)), (3, .int (nI 0)), (4, .int (nI (3 * r + q + 1)))] from (lv_sub hl [3, 4, 5, 1, 0] rfl)) (by rw [show hdS G J c (N 14) (N 19) r (q + 1) = false from by simp [hdS, cmpS, c_23, c_47, c_78, c_90]]; rfl))
              · refine lv_iconst (v := nI 1) hx hb dX2_holds_93 (by decide) ?_
                refine lv_goto (tgt := 118) hx hb dX2_holds_94 (by decide) ?_
                refine lv_istore_n (lv' := [(3, .int (nI 1)), (5, .int (fldS G J c ((N 14)) ((N 19)) (G 29 (3 * r + q)))), (0, .ref a0), (1, .int (nI c)), (2, .int (nI r)), (4, .int (nI (3 * r + q)))]) hx hb dX2_holds_118 rfl hl (by decide) rfl (fun ls hl => ?_)
                refine lv_iinc (v := nI (3 * r + q + 1)) (lv' := [(4, .int (nI (3 * r + q + 1))), (3, .int (nI 1)), (5, .int (fldS G J c ((N 14)) ((N 19)) (G 29 (3 * r + q)))), (0, .ref a0), (1, .int (nI c)), (2, .int (nI r))]) hx hb dX2_holds_119 hl (k := 5) rfl (show nI (3 * r + q) + Int32.ofInt 1 = nI (3 * r + q + 1) from nI_add _ 1) (by decide) rfl (fun ls hl => ?_)
                refine lv_goto (tgt := 7) hx hb dX2_holds_122 (by decide) ?_
                exact ih7 (q + 1) (by omega) (by omega) _ (lv_conv (show lv_has ls 6 [(0, .ref a0), (1, .int (nI c)), (2, .int (nI r)), (3, .int (nI 1)), (4, .int (nI (3 * r + q + 1)))] from (lv_sub hl [3, 4, 5, 1, 0] rfl)) (by rw [show hdS G J c (N 14) (N 19) r (q + 1) = true from by simp [hdS, cmpS, c_23, c_47, c_78, c_90]]; rfl))
          · refine lv_iload hx hb dX2_holds_50 (lv_at hl 0 rfl) ?_
            refine lv_aload_n hx hb dX2_holds_52 rfl (lv_at hl 1 rfl) ?_
            refine M_get (v := .ref (ad 31)) hx hb hts hown hG hM 31 (by decide) q1323 rfl rfl dX2_holds_53 ?_
            refine lv_iload hx hb dX2_holds_56 (lv_at hl 5 rfl) ?_
            refine M_iald (v := nI (G 31 (3 * r + q))) hx hb hG hM 31 rfl rfl (show 3 * r + q < 330 from by omega) (rfl) dX2_holds_58 ?_
            refine lv_icmp_ge (tgt := 66) hx hb dX2_holds_59 (by decide) (fun c_59 => ?_) (fun c_59 => ?_)
            · refine lv_iconst (v := nI 0) hx hb dX2_holds_66 (by decide) ?_
              refine lv_goto (tgt := 118) hx hb dX2_holds_67 (by decide) ?_
              refine lv_istore_n (lv' := [(3, .int (nI 0)), (5, .int (fldS G J c ((N 14)) ((N 19)) (G 29 (3 * r + q)))), (0, .ref a0), (1, .int (nI c)), (2, .int (nI r)), (4, .int (nI (3 * r + q)))]) hx hb dX2_holds_118 rfl hl (by decide) rfl (fun ls hl => ?_)
              refine lv_iinc (v := nI (3 * r + q + 1)) (lv' := [(4, .int (nI (3 * r + q + 1))), (3, .int (nI 0)), (5, .int (fldS G J c ((N 14)) ((N 19)) (G 29 (3 * r + q)))), (0, .ref a0), (1, .int (nI c)), (2, .int (nI r))]) hx hb dX2_holds_119 hl (k := 5) rfl (show nI (3 * r + q) + Int32.ofInt 1 = nI (3 * r + q + 1) from nI_add _ 1) (by decide) rfl (fun ls hl => ?_)
              refine lv_goto (tgt := 7) hx hb dX2_holds_122 (by decide) ?_
              exact ih7 (q + 1) (by omega) (by omega) _ (lv_conv (show lv_has ls 6 [(0, .ref a0), (1, .int (nI c)), (2, .int (nI r)), (3, .int (nI 0)), (4, .int (nI (3 * r + q + 1)))] from (lv_sub hl [3, 4, 5, 1, 0] rfl)) (by rw [show hdS G J c (N 14) (N 19) r (q + 1) = false from by simp [hdS, cmpS, c_23, c_47, Int32.not_lt.mpr c_59]]; rfl))
            · refine lv_iconst (v := nI 1) hx hb dX2_holds_62 (by decide) ?_
              refine lv_goto (tgt := 118) hx hb dX2_holds_63 (by decide) ?_
              refine lv_istore_n (lv' := [(3, .int (nI 1)), (5, .int (fldS G J c ((N 14)) ((N 19)) (G 29 (3 * r + q)))), (0, .ref a0), (1, .int (nI c)), (2, .int (nI r)), (4, .int (nI (3 * r + q)))]) hx hb dX2_holds_118 rfl hl (by decide) rfl (fun ls hl => ?_)
              refine lv_iinc (v := nI (3 * r + q + 1)) (lv' := [(4, .int (nI (3 * r + q + 1))), (3, .int (nI 1)), (5, .int (fldS G J c ((N 14)) ((N 19)) (G 29 (3 * r + q)))), (0, .ref a0), (1, .int (nI c)), (2, .int (nI r))]) hx hb dX2_holds_119 hl (k := 5) rfl (show nI (3 * r + q) + Int32.ofInt 1 = nI (3 * r + q + 1) from nI_add _ 1) (by decide) rfl (fun ls hl => ?_)
              refine lv_goto (tgt := 7) hx hb dX2_holds_122 (by decide) ?_
              exact ih7 (q + 1) (by omega) (by omega) _ (lv_conv (show lv_has ls 6 [(0, .ref a0), (1, .int (nI c)), (2, .int (nI r)), (3, .int (nI 1)), (4, .int (nI (3 * r + q + 1)))] from (lv_sub hl [3, 4, 5, 1, 0] rfl)) (by rw [show hdS G J c (N 14) (N 19) r (q + 1) = true from by simp [hdS, cmpS, c_23, c_47, Int32.not_le.mp c_59]]; rfl))
  exact L7 _ 0 (by omega) (Nat.lt_succ_self _) _ (lv_sub hl [2, 3, 4, 1, 0] rfl)
theorem w_X2_holds {R : Room} {s : State} {args : Array Value} {own : String} {idx : Nat} (hts : ∀ w ∈ lw_all, w.before args s = true) (h1 : Cond.methodLink own idx yX2_holds ∈ lw_all) {rm : Room} {mc ms : Nat} (hrc : rm.cells = mc) (hrs : rm.slots = ms) (hR : rm.frames + 1 ≤ R.frames ∧ 8 + (6 + 11) + rm.locals ≤ R.locals) : CallW R s args own RX2 idx yX2_holds cX2_holds 6 (some .boolean) (ws_ yX2_holds cX2_holds 6 (some .boolean)) rm mc ms 2 := cwV 2 hts (lw_V h1 q1592 qs47 q70 q1593) rfl hrc hrs (by decide +kernel) hR

abbrev r_X2_moves : Room := { frames := 1, cells := 0, slots := 0, locals := 22 }
set_option maxHeartbeats 400000 in
theorem c_X2_moves (lh : Launch) (D : va_G) (dA : Nat → ClassId) (a0 : Nat) (ad : Nat → Nat) (N : Nat → Nat) (I : Nat → Int32) (G : Nat → Nat → Nat) (J : Nat → Nat → Int32) (sz : Nat) (c : Nat) (lo : Nat) (hi : Nat) (h1 : ∀ a b, G a b < 2 ^ 31) (h2 : c < 10) (h3 : N 3 ≤ 10) (h4 : hi < 12) (h5 : lo ≤ hi) : Met lh yX2_moves (ws_ yX2_moves cX2_moves 5 none) r_X2_moves (PmM D dA a0 ad N I G J sz [.ref a0, .int (nI c), .int (nI lo), .int (nI hi)]) (va_Qv (fun u : SgT => u = (N, I, mvG G (N 3) c lo (hi + 1 - lo), J)) (BmM D dA a0 ad) (AM a0 ad sz)) 0 0 (AM a0 ad sz) := by
  refine Met.ofW (cc := cX2_moves) (maxL := 5) (ret := none) (by decide) rfl ?_
  intro p e s m args below meth cd s₁ B hml hv
  obtain ⟨hargs, hsz, hM, hG⟩ := hv
  have hx := B.exec
  have hb := B.bytes
  have hrt := B.returns
  have hts := atoms_spec (ws := (ws_ yX2_moves cX2_moves 5 none)) B.pre
  have hts : ∀ w ∈ lw_all, w.before _ s = true := fun w h => hts w (List.mem_cons_of_mem _ h)
  have hown : s.vm.findClass RX2 = some m.cls := findClass_of_methodNamed B.named
  have hlocks := B.notSynchronized
  subst hsz
  have hS : va_S (AM a0 ad s.heap.size) s.heap s.heap [] := va_S.rf
  have hE : entryFrame m args 5 = F0 m 0 ((lg_sl ([.ref a0, .int (nI c), .int (nI lo), .int (nI hi)]) ++ List.replicate (5 - (lg_sl ([.ref a0, .int (nI c), .int (nI lo), .int (nI hi)])).length) Slot.unset).toArray) [] := by rw [hargs]; exact lg_entry_eq m _ 5
  have hl := lv_entry ([.ref a0, .int (nI c), .int (nI lo), .int (nI hi)]) (n := 5) (Nat.le_of_ble_eq_true rfl)
  rw [hE]
  clear hE
  generalize (lg_sl ([.ref a0, .int (nI c), .int (nI lo), .int (nI hi)]) ++ List.replicate (5 - (lg_sl ([.ref a0, .int (nI c), .int (nI lo), .int (nI hi)])).length) Slot.unset).toArray = ls at hl ⊢
  have hl : lv_has ls 5 [(0, .ref a0), (1, .int (nI c)), (2, .int (nI lo)), (3, .int (nI hi))] := hl
  generalize hQ : MQ _ _ _ _ _ _ _ = Q
  refine lv_iload_n hx hb dX2_moves_0 rfl (lv_at hl 2 rfl) ?_
  refine lv_istore (lv' := [(4, .int (nI lo)), (0, .ref a0), (1, .int (nI c)), (2, .int (nI lo)), (3, .int (nI hi))]) hx hb dX2_moves_1 hl (by decide) rfl (fun ls hl => ?_)
  have L3 : ∀ (nn3 : Nat) (q : Nat), (frP G (N 3) lo (hi + 1 - lo) = frP G (N 3) q (hi + 1 - q)) → (q ≤ hi + 1) → hi + 1 - q < nn3 → ∀ (H : Heap) (locs : List Loc), RM D dA a0 ad N I G J H → va_S (AM a0 ad s.heap.size) s.heap H locs → ∀ (ls : Array Slot), lv_has ls 5 [(0, .ref a0), (1, .int (nI c)), (3, .int (nI hi)), (4, .int (nI q))] → W p lh e r_X2_moves s m args below meth cd H locs 0 0 Q (F0 m 3 ls []) := by
    intro nn3
    induction nn3 with
    | zero => intro q i3_0 i3_1 hm3; exact absurd hm3 (Nat.not_lt_zero _)
    | succ nn3 ih3 =>
      intro q i3_0 i3_1 hm3 H locs hM hS ls hl
      refine lv_iload hx hb dX2_moves_3 (lv_at hl 3 rfl) ?_
      refine lv_iload_n hx hb dX2_moves_5 rfl (lv_at hl 2 rfl) ?_
      refine kn_cgt (tgt := 24) hx hb dX2_moves_6 (by decide) (by omega) (by omega) (fun c_6 => ?_) (fun c_6 => ?_)
      · refine lv_iload hx hb dX2_moves_24 (lv_at hl 3 rfl) ?_
        refine lv_iload_n hx hb dX2_moves_26 rfl (lv_at hl 2 rfl) ?_
        refine kn_cgt (tgt := 38) hx hb dX2_moves_27 (by decide) (by omega) (by omega) (fun c_27 => ?_) (fun c_27 => ?_)
        · subst hQ
          exact W.vret hx hb hrt (fun t ht hW => ⟨⟨(N, I, G, J), rfl, (by rw [mvG, i3_0, show hi + 1 - q = 0 by omega]; rfl), by rw [ht]; exact hM, GK.warm hW hG⟩, hS.F ht⟩) hS.2.2 dX2_moves_38
        · refine lv_aload_n hx hb dX2_moves_30 rfl (lv_at hl 0 rfl) ?_
          refine M_get (v := .ref (ad 5)) hx hb hts hown hG hM 5 (by decide) q1297 rfl rfl dX2_moves_31 ?_
          refine lv_iload_n hx hb dX2_moves_34 rfl (lv_at hl 1 rfl) ?_
          refine lv_iload hx hb dX2_moves_35 (lv_at hl 3 rfl) ?_
          refine M_iastN (v := q) hx hb hG hS hM 5 rfl (AM.a 5 rfl) rfl rfl (show c < 10 from by omega) dX2_moves_37 (fun H locs hM hz hS => ?_)
          subst hQ
          exact W.vret hx hb hrt (fun t ht hW => ⟨⟨(N, I, (up2 G 5 c q), J), rfl, (by exfalso; omega), by rw [ht]; exact hM, GK.warm hW hG⟩, hS.F ht⟩) hS.2.2 dX2_moves_38
      · refine lv_aload_n hx hb dX2_moves_9 rfl (lv_at hl 0 rfl) ?_
        refine lv_iload hx hb dX2_moves_10 (lv_at hl 3 rfl) ?_
        refine vp_callSi (W.runV (As := [.int (nI q)]) (rest := []) ⟨hx, hb, hml, hown, hts⟩ (c_X2_isFree lh D dA a0 ad N I G J q (show ∀ a b, G a b < 2 ^ 31 from by first | omega | assumption | exact hB_up (by assumption) (by omega)) (show (N 3) ≤ 10 from by first | omega | assumption | exact hB_up (by assumption) (by omega)) (show q < 2 ^ 31 from by first | omega | assumption | exact hB_up (by assumption) (by omega))) (w_X2_isFree hts q1471 rfl rfl ⟨Nat.le_of_ble_eq_true rfl, Nat.le_of_ble_eq_true rfl⟩) ⟨PqM.blind, M_recv hG hM, PqM.pre hG hM⟩ rfl rfl hl.1 rfl (lv_room (Nat.le_of_ble_eq_true rfl)) dX2_moves_12 ⟨Nat.le_of_ble_eq_true rfl, Nat.le_of_ble_eq_true rfl⟩) (fun rr hrr => ?_)
        subst hrr
        refine kb_ne (tgt := 24) hx hb dX2_moves_15 (by decide) (fun c_15 => ?_) (fun c_15 => ?_)
        · refine lv_iload hx hb dX2_moves_24 (lv_at hl 3 rfl) ?_
          refine lv_iload_n hx hb dX2_moves_26 rfl (lv_at hl 2 rfl) ?_
          refine kn_cgt (tgt := 38) hx hb dX2_moves_27 (by decide) (by omega) (by omega) (fun c_27 => ?_) (fun c_27 => ?_)
          · subst hQ
            exact W.vret hx hb hrt (fun t ht hW => ⟨⟨(N, I, G, J), rfl, (by rw [mvG, i3_0, show hi + 1 - q = 0 by omega]; rfl), by rw [ht]; exact hM, GK.warm hW hG⟩, hS.F ht⟩) hS.2.2 dX2_moves_38
          · refine lv_aload_n hx hb dX2_moves_30 rfl (lv_at hl 0 rfl) ?_
            refine M_get (v := .ref (ad 5)) hx hb hts hown hG hM 5 (by decide) q1297 rfl rfl dX2_moves_31 ?_
            refine lv_iload_n hx hb dX2_moves_34 rfl (lv_at hl 1 rfl) ?_
            refine lv_iload hx hb dX2_moves_35 (lv_at hl 3 rfl) ?_
            refine M_iastN (v := q) hx hb hG hS hM 5 rfl (AM.a 5 rfl) rfl rfl (show c < 10 from by omega) dX2_moves_37 (fun H locs hM hz hS => ?_)
            subst hQ
            exact W.vret hx hb hrt (fun t ht hW => ⟨⟨(N, I, (up2 G 5 c q), J), rfl, (by rw [mvG, i3_0, show hi + 1 - q = (hi - q) + 1 by omega, frP, if_pos c_15]), by rw [ht]; exact hM, GK.warm hW hG⟩, hS.F ht⟩) hS.2.2 dX2_moves_38
        · refine lv_iinc (v := nI (q + 1)) (lv' := [(4, .int (nI (q + 1))), (0, .ref a0), (1, .int (nI c)), (3, .int (nI hi))]) hx hb dX2_moves_18 hl (k := 3) rfl (show nI q + Int32.ofInt 1 = nI (q + 1) from nI_add _ 1) (by decide) rfl (fun ls hl => ?_)
          refine lv_goto (tgt := 3) hx hb dX2_moves_21 (by decide) ?_
          exact ih3 (q + 1) (by rw [i3_0, show hi + 1 - q = (hi - q) + 1 by omega, frP, if_neg (by rw [c_15]; decide), show hi + 1 - (q + 1) = hi - q by omega]) (by omega) (by omega) _ _ hM hS _ (lv_sub hl [1, 2, 3, 0] rfl)
  exact L3 _ lo (rfl) (by omega) (Nat.lt_succ_self _) _ _ hM hS _ (lv_sub hl [1, 2, 4, 0] rfl)
theorem w_X2_moves {R : Room} {s : State} {args : Array Value} {own : String} {idx : Nat} (hts : ∀ w ∈ lw_all, w.before args s = true) (h1 : Cond.methodLink own idx yX2_moves ∈ lw_all) {rm : Room} {mc ms : Nat} (hrc : rm.cells = mc) (hrs : rm.slots = ms) (hR : rm.frames + 1 ≤ R.frames ∧ 8 + (5 + 11) + rm.locals ≤ R.locals) : CallW R s args own RX2 idx yX2_moves cX2_moves 5 none (ws_ yX2_moves cX2_moves 5 none) rm mc ms 3 := cwV 3 hts (lw_V h1 q1612 qs52 q70 q1613) rfl hrc hrs (by decide +kernel) hR

abbrev r_X2_acts : Room := { frames := 2, cells := 0, slots := 0, locals := 46 }
set_option maxHeartbeats 400000 in
theorem c_X2_acts (lh : Launch) (D : va_G) (dA : Nat → ClassId) (a0 : Nat) (ad : Nat → Nat) (N : Nat → Nat) (I : Nat → Int32) (G : Nat → Nat → Nat) (J : Nat → Nat → Int32) (sz : Nat) (c : Nat) (r : Nat) (h1 : OkS N G J) (h2 : c < 10) (h3 : r < 110) : Met lh yX2_acts (ws_ yX2_acts cX2_acts 3 none) r_X2_acts (PmM D dA a0 ad N I G J sz [.ref a0, .int (nI c), .int (nI r)]) (va_Qv (fun u : SgT => u = (actN N G c r, I, actG N G c r, J)) (BmM D dA a0 ad) (AM a0 ad sz)) 0 0 (AM a0 ad sz) := by
  refine Met.ofW (cc := cX2_acts) (maxL := 3) (ret := none) (by decide) rfl ?_
  intro p e s m args below meth cd s₁ B hml hv
  obtain ⟨hargs, hsz, hM, hG⟩ := hv
  have hx := B.exec
  have hb := B.bytes
  have hrt := B.returns
  have hts := atoms_spec (ws := (ws_ yX2_acts cX2_acts 3 none)) B.pre
  have hts : ∀ w ∈ lw_all, w.before _ s = true := fun w h => hts w (List.mem_cons_of_mem _ h)
  have hown : s.vm.findClass RX2 = some m.cls := findClass_of_methodNamed B.named
  have hlocks := B.notSynchronized
  subst hsz
  have hS : va_S (AM a0 ad s.heap.size) s.heap s.heap [] := va_S.rf
  have hE : entryFrame m args 3 = F0 m 0 ((lg_sl ([.ref a0, .int (nI c), .int (nI r)]) ++ List.replicate (3 - (lg_sl ([.ref a0, .int (nI c), .int (nI r)])).length) Slot.unset).toArray) [] := by rw [hargs]; exact lg_entry_eq m _ 3
  have hl := lv_entry ([.ref a0, .int (nI c), .int (nI r)]) (n := 3) (Nat.le_of_ble_eq_true rfl)
  rw [hE]
  clear hE
  generalize (lg_sl ([.ref a0, .int (nI c), .int (nI r)]) ++ List.replicate (3 - (lg_sl ([.ref a0, .int (nI c), .int (nI r)])).length) Slot.unset).toArray = ls at hl ⊢
  have hl : lv_has ls 3 [(0, .ref a0), (1, .int (nI c)), (2, .int (nI r))] := hl
  generalize hQ : MQ _ _ _ _ _ _ _ = Q
  have hokk := h1
  obtain ⟨hB, ⟨hn1, hn3, hn14, hn19, hn23, hn33, hn40, hn44⟩, hcr, hst, hwm, hrc⟩ := hokk
  have hB26 := hB 26 r
  have hB7 := hB 27 r
  have hc := hcr c
  have hmo := (hst r).2
  refine lv_aload_n hx hb dX2_acts_0 rfl (lv_at hl 0 rfl) ?_
  refine M_get (v := .ref (ad 26)) hx hb hts hown hG hM 26 (by decide) q1318 rfl rfl dX2_acts_1 ?_
  refine lv_iload_n hx hb dX2_acts_4 rfl (lv_at hl 2 rfl) ?_
  refine M_iald (v := nI (G 26 r)) hx hb hG hM 26 rfl rfl (show r < 110 from by omega) (rfl) dX2_acts_5 ?_
  by_cases w6_0 : G 26 r = 0
  · refine kx_int (y := nI 0) (by rw [w6_0]) ?_
    refine lv_tableIn (tgt := 40) (off := 34) hx hb dX2_acts_6 (by decide) (by decide) (by decide) (by decide) ?_
    refine lv_aload_n hx hb dX2_acts_40 rfl (lv_at hl 0 rfl) ?_
    refine M_get (v := .ref (ad 8)) hx hb hts hown hG hM 8 (by decide) q1300 rfl rfl dX2_acts_41 ?_
    refine lv_iload_n hx hb dX2_acts_44 rfl (lv_at hl 1 rfl) ?_
    refine lv_iconst (v := nI 0) hx hb dX2_acts_45 (by decide) ?_
    refine M_iastN (v := 0) hx hb hG hS hM 8 rfl (AM.a 8 rfl) rfl rfl (show c < 10 from by omega) dX2_acts_46 (fun H locs hM hz hS => ?_)
    subst hQ
    exact W.vret hx hb hrt (fun t ht hW => ⟨⟨(N, I, (up2 G 8 c 0), J), rfl, (by rw [show actN N G c r = N from by unfold actN; rw [if_neg (by omega)]]; unfold actG; rw [if_pos w6_0]; ), by rw [ht]; exact hM, GK.warm hW hG⟩, hS.F ht⟩) hS.2.2 dX2_acts_47
  by_cases w6_1 : G 26 r = 1
  · refine kx_int (y := nI 1) (by rw [w6_1]) ?_
    refine lv_tableIn (tgt := 48) (off := 42) hx hb dX2_acts_6 (by decide) (by decide) (by decide) (by decide) ?_
    refine lv_aload_n hx hb dX2_acts_48 rfl (lv_at hl 0 rfl) ?_
    refine lv_iload_n hx hb dX2_acts_49 rfl (lv_at hl 1 rfl) ?_
    refine lv_iconst (v := nI 2) hx hb dX2_acts_50 (by decide) ?_
    refine va_callv (va_runV (As := [.int (nI c), .int (nI 2)]) (rest := []) ⟨hx, hb, hml, hown, hts⟩ (c_X2_goes lh D dA a0 ad N I G J s.heap.size c 2 (show c < 10 from by first | omega | assumption | exact hB_up (by assumption) (by omega))) (w_X2_goes hts q1606 rfl rfl ⟨Nat.le_of_ble_eq_true rfl, Nat.le_of_ble_eq_true rfl⟩) ⟨PmM.blind, M_recv hG hM, PmM.pre hG hM⟩ rfl rfl hl.1 rfl (lv_room (Nat.le_of_ble_eq_true rfl)) dX2_acts_51 ⟨Nat.le_of_ble_eq_true rfl, Nat.le_of_ble_eq_true rfl⟩) hS (fun q _ h => AM.up (hS.1) q h) (fun q h => AM.up (hS.1) q h) (fun u t H1 locs ht hvm hp hB hz hk hS => ?_)
    obtain ⟨hM, -⟩ := hB
    rw [ht] at hM
    clear ht hz hk
    generalize H1 = H at hM hS ⊢
    subst hp
    dsimp only at hM
    subst hQ
    exact W.vret hx hb hrt (fun t ht hW => ⟨⟨((up1 N 15 ((N 15) + gr G c)), I, (goesG G c 2), J), rfl, (by rw [show actN N G c r = up1 N 15 (N 15 + gr G c) from by unfold actN; rw [if_pos w6_1]]; unfold actG; rw [if_neg w6_0]; rw [if_pos w6_1]; ), by rw [ht]; exact hM, GK.warm hW hG⟩, hS.F ht⟩) hS.2.2 dX2_acts_54
  by_cases w6_2 : G 26 r = 2
  · refine kx_int (y := nI 2) (by rw [w6_2]) ?_
    refine lv_tableIn (tgt := 55) (off := 49) hx hb dX2_acts_6 (by decide) (by decide) (by decide) (by decide) ?_
    refine lv_aload_n hx hb dX2_acts_55 rfl (lv_at hl 0 rfl) ?_
    refine M_get (v := .ref (ad 6)) hx hb hts hown hG hM 6 (by decide) q1298 rfl rfl dX2_acts_56 ?_
    refine lv_iload_n hx hb dX2_acts_59 rfl (lv_at hl 1 rfl) ?_
    refine lv_iconst (v := nI 1) hx hb dX2_acts_60 (by decide) ?_
    refine M_iastN (v := 1) hx hb hG hS hM 6 rfl (AM.a 6 rfl) rfl rfl (show c < 10 from by omega) dX2_acts_61 (fun H locs hM hz hS => ?_)
    subst hQ
    exact W.vret hx hb hrt (fun t ht hW => ⟨⟨(N, I, (up2 G 6 c 1), J), rfl, (by rw [show actN N G c r = N from by unfold actN; rw [if_neg (by omega)]]; unfold actG; rw [if_neg w6_0]; rw [if_neg w6_1]; rw [if_pos w6_2]; ), by rw [ht]; exact hM, GK.warm hW hG⟩, hS.F ht⟩) hS.2.2 dX2_acts_62
  by_cases w6_3 : G 26 r = 3
  · refine kx_int (y := nI 3) (by rw [w6_3]) ?_
    refine lv_tableIn (tgt := 63) (off := 57) hx hb dX2_acts_6 (by decide) (by decide) (by decide) (by decide) ?_
    refine lv_aload_n hx hb dX2_acts_63 rfl (lv_at hl 0 rfl) ?_
    refine M_get (v := .ref (ad 5)) hx hb hts hown hG hM 5 (by decide) q1297 rfl rfl dX2_acts_64 ?_
    refine lv_iload_n hx hb dX2_acts_67 rfl (lv_at hl 1 rfl) ?_
    refine M_iald (v := nI (G 5 c)) hx hb hG hM 5 rfl rfl (show c < 10 from by omega) (rfl) dX2_acts_68 ?_
    refine lv_bipush (v := nI 8) hx hb dX2_acts_69 (by decide) ?_
    refine kn_cge (tgt := 83) hx hb dX2_acts_71 (by decide) (hB _ _) (by omega) (fun c_71 => ?_) (fun c_71 => ?_)
    · subst hQ
      exact W.vret hx hb hrt (fun t ht hW => ⟨⟨(N, I, G, J), rfl, (by rw [show actN N G c r = N from by unfold actN; rw [if_neg (by omega)]]; unfold actG; rw [if_neg w6_0]; rw [if_neg w6_1]; rw [if_neg w6_2]; rw [if_pos w6_3]; rw [if_neg (by omega)]), by rw [ht]; exact hM, GK.warm hW hG⟩, hS.F ht⟩) hS.2.2 dX2_acts_83
    · refine lv_aload_n hx hb dX2_acts_74 rfl (lv_at hl 0 rfl) ?_
      refine lv_iload_n hx hb dX2_acts_75 rfl (lv_at hl 1 rfl) ?_
      refine lv_bipush (v := nI 8) hx hb dX2_acts_76 (by decide) ?_
      refine lv_bipush (v := nI 11) hx hb dX2_acts_78 (by decide) ?_
      refine va_callv (va_runV (As := [.int (nI c), .int (nI 8), .int (nI 11)]) (rest := []) ⟨hx, hb, hml, hown, hts⟩ (c_X2_moves lh D dA a0 ad N I G J s.heap.size c 8 11 (show ∀ a b, G a b < 2 ^ 31 from by first | omega | assumption | exact hB_up (by assumption) (by omega)) (show c < 10 from by first | omega | assumption | exact hB_up (by assumption) (by omega)) (show (N 3) ≤ 10 from by first | omega | assumption | exact hB_up (by assumption) (by omega)) (show 11 < 12 from by first | omega | assumption | exact hB_up (by assumption) (by omega)) (show 8 ≤ 11 from by first | omega | assumption | exact hB_up (by assumption) (by omega))) (w_X2_moves hts q1610 rfl rfl ⟨Nat.le_of_ble_eq_true rfl, Nat.le_of_ble_eq_true rfl⟩) ⟨PmM.blind, M_recv hG hM, PmM.pre hG hM⟩ rfl rfl hl.1 rfl (lv_room (Nat.le_of_ble_eq_true rfl)) dX2_acts_80 ⟨Nat.le_of_ble_eq_true rfl, Nat.le_of_ble_eq_true rfl⟩) hS (fun q _ h => AM.up (hS.1) q h) (fun q h => AM.up (hS.1) q h) (fun u t H1 locs ht hvm hp hB hz hk hS => ?_)
      obtain ⟨hM, -⟩ := hB
      rw [ht] at hM
      clear ht hz hk
      generalize H1 = H at hM hS ⊢
      subst hp
      dsimp only at hM
      subst hQ
      exact W.vret hx hb hrt (fun t ht hW => ⟨⟨(N, I, (mvG G ((N 3)) c 8 (11 + 1 - 8)), J), rfl, (by rw [show actN N G c r = N from by unfold actN; rw [if_neg (by omega)]]; unfold actG; rw [if_neg w6_0]; rw [if_neg w6_1]; rw [if_neg w6_2]; rw [if_pos w6_3]; rw [if_pos c_71]), by rw [ht]; exact hM, GK.warm hW hG⟩, hS.F ht⟩) hS.2.2 dX2_acts_83
  by_cases w6_4 : G 26 r = 4
  · refine kx_int (y := nI 4) (by rw [w6_4]) ?_
    refine lv_tableIn (tgt := 84) (off := 78) hx hb dX2_acts_6 (by decide) (by decide) (by decide) (by decide) ?_
    refine lv_aload_n hx hb dX2_acts_84 rfl (lv_at hl 0 rfl) ?_
    refine M_get (v := .ref (ad 5)) hx hb hts hown hG hM 5 (by decide) q1297 rfl rfl dX2_acts_85 ?_
    refine lv_iload_n hx hb dX2_acts_88 rfl (lv_at hl 1 rfl) ?_
    refine M_iald (v := nI (G 5 c)) hx hb hG hM 5 rfl rfl (show c < 10 from by omega) (rfl) dX2_acts_89 ?_
    refine lv_bipush (v := nI 7) hx hb dX2_acts_90 (by decide) ?_
    refine kn_cle (tgt := 103) hx hb dX2_acts_92 (by decide) (hB _ _) (by omega) (fun c_92 => ?_) (fun c_92 => ?_)
    · subst hQ
      exact W.vret hx hb hrt (fun t ht hW => ⟨⟨(N, I, G, J), rfl, (by rw [show actN N G c r = N from by unfold actN; rw [if_neg (by omega)]]; unfold actG; rw [if_neg w6_0]; rw [if_neg w6_1]; rw [if_neg w6_2]; rw [if_neg w6_3]; rw [if_pos w6_4]; rw [if_neg (by omega)]), by rw [ht]; exact hM, GK.warm hW hG⟩, hS.F ht⟩) hS.2.2 dX2_acts_103
    · refine lv_aload_n hx hb dX2_acts_95 rfl (lv_at hl 0 rfl) ?_
      refine lv_iload_n hx hb dX2_acts_96 rfl (lv_at hl 1 rfl) ?_
      refine lv_iconst (v := nI 0) hx hb dX2_acts_97 (by decide) ?_
      refine lv_bipush (v := nI 7) hx hb dX2_acts_98 (by decide) ?_
      refine va_callv (va_runV (As := [.int (nI c), .int (nI 0), .int (nI 7)]) (rest := []) ⟨hx, hb, hml, hown, hts⟩ (c_X2_moves lh D dA a0 ad N I G J s.heap.size c 0 7 (show ∀ a b, G a b < 2 ^ 31 from by first | omega | assumption | exact hB_up (by assumption) (by omega)) (show c < 10 from by first | omega | assumption | exact hB_up (by assumption) (by omega)) (show (N 3) ≤ 10 from by first | omega | assumption | exact hB_up (by assumption) (by omega)) (show 7 < 12 from by first | omega | assumption | exact hB_up (by assumption) (by omega)) (show 0 ≤ 7 from by first | omega | assumption | exact hB_up (by assumption) (by omega))) (w_X2_moves hts q1610 rfl rfl ⟨Nat.le_of_ble_eq_true rfl, Nat.le_of_ble_eq_true rfl⟩) ⟨PmM.blind, M_recv hG hM, PmM.pre hG hM⟩ rfl rfl hl.1 rfl (lv_room (Nat.le_of_ble_eq_true rfl)) dX2_acts_100 ⟨Nat.le_of_ble_eq_true rfl, Nat.le_of_ble_eq_true rfl⟩) hS (fun q _ h => AM.up (hS.1) q h) (fun q h => AM.up (hS.1) q h) (fun u t H1 locs ht hvm hp hB hz hk hS => ?_)
      obtain ⟨hM, -⟩ := hB
      rw [ht] at hM
      clear ht hz hk
      generalize H1 = H at hM hS ⊢
      subst hp
      dsimp only at hM
      subst hQ
      exact W.vret hx hb hrt (fun t ht hW => ⟨⟨(N, I, (mvG G ((N 3)) c 0 (7 + 1 - 0)), J), rfl, (by rw [show actN N G c r = N from by unfold actN; rw [if_neg (by omega)]]; unfold actG; rw [if_neg w6_0]; rw [if_neg w6_1]; rw [if_neg w6_2]; rw [if_neg w6_3]; rw [if_pos w6_4]; rw [if_pos c_92]), by rw [ht]; exact hM, GK.warm hW hG⟩, hS.F ht⟩) hS.2.2 dX2_acts_103
  refine lv_tableOut (tgt := 104) hx hb dX2_acts_6 (swN_out (n := 4) (by omega) (by omega)) (by decide) ?_
  refine lv_aload_n hx hb dX2_acts_104 rfl (lv_at hl 0 rfl) ?_
  refine M_get (v := .ref (ad 7)) hx hb hts hown hG hM 7 (by decide) q1299 rfl rfl dX2_acts_105 ?_
  refine lv_iload_n hx hb dX2_acts_108 rfl (lv_at hl 1 rfl) ?_
  refine lv_aload_n hx hb dX2_acts_109 rfl (lv_at hl 0 rfl) ?_
  refine M_get (v := .ref (ad 7)) hx hb hts hown hG hM 7 (by decide) q1299 rfl rfl dX2_acts_110 ?_
  refine lv_iload_n hx hb dX2_acts_113 rfl (lv_at hl 1 rfl) ?_
  refine M_iald (v := nI (G 7 c)) hx hb hG hM 7 rfl rfl (show c < 10 from by omega) (rfl) dX2_acts_114 ?_
  refine lv_aload_n hx hb dX2_acts_115 rfl (lv_at hl 0 rfl) ?_
  refine M_get (v := .ref (ad 27)) hx hb hts hown hG hM 27 (by decide) q1319 rfl rfl dX2_acts_116 ?_
  refine lv_iload_n hx hb dX2_acts_119 rfl (lv_at hl 2 rfl) ?_
  refine M_iald (v := nI (G 27 r)) hx hb hG hM 27 rfl rfl (show r < 110 from by omega) (rfl) dX2_acts_120 ?_
  refine kn_add hx hb dX2_acts_121 ?_
  refine lv_bipush (v := nI 60) hx hb dX2_acts_122 (by decide) ?_
  refine kn_cle (tgt := 132) hx hb dX2_acts_124 (by decide) (by omega) (by omega) (fun c_124 => ?_) (fun c_124 => ?_)
  · refine lv_aload_n hx hb dX2_acts_132 rfl (lv_at hl 0 rfl) ?_
    refine M_get (v := .ref (ad 7)) hx hb hts hown hG hM 7 (by decide) q1299 rfl rfl dX2_acts_133 ?_
    refine lv_iload_n hx hb dX2_acts_136 rfl (lv_at hl 1 rfl) ?_
    refine M_iald (v := nI (G 7 c)) hx hb hG hM 7 rfl rfl (show c < 10 from by omega) (rfl) dX2_acts_137 ?_
    refine lv_aload_n hx hb dX2_acts_138 rfl (lv_at hl 0 rfl) ?_
    refine M_get (v := .ref (ad 27)) hx hb hts hown hG hM 27 (by decide) q1319 rfl rfl dX2_acts_139 ?_
    refine lv_iload_n hx hb dX2_acts_142 rfl (lv_at hl 2 rfl) ?_
    refine M_iald (v := nI (G 27 r)) hx hb hG hM 27 rfl rfl (show r < 110 from by omega) (rfl) dX2_acts_143 ?_
    refine kn_add hx hb dX2_acts_144 ?_
    refine M_iastN (v := G 7 c + (G 27 r)) hx hb hG hS hM 7 rfl (AM.a 7 rfl) rfl rfl (show c < 10 from by omega) dX2_acts_145 (fun H locs hM hz hS => ?_)
    subst hQ
    exact W.vret hx hb hrt (fun t ht hW => ⟨⟨(N, I, (up2 G 7 c (G 7 c + (G 27 r))), J), rfl, (by rw [show actN N G c r = N from by unfold actN; rw [if_neg (by omega)]]; unfold actG; rw [if_neg w6_0]; rw [if_neg w6_1]; rw [if_neg w6_2]; rw [if_neg w6_3]; rw [if_neg w6_4]; rw [if_neg (by omega)]), by rw [ht]; exact hM, GK.warm hW hG⟩, hS.F ht⟩) hS.2.2 dX2_acts_146
  · refine lv_bipush (v := nI 60) hx hb dX2_acts_127 (by decide) ?_
    refine lv_goto (tgt := 145) hx hb dX2_acts_129 (by decide) ?_
    refine M_iastN (v := 60) hx hb hG hS hM 7 rfl (AM.a 7 rfl) rfl rfl (show c < 10 from by omega) dX2_acts_145 (fun H locs hM hz hS => ?_)
    subst hQ
    exact W.vret hx hb hrt (fun t ht hW => ⟨⟨(N, I, (up2 G 7 c 60), J), rfl, (by rw [show actN N G c r = N from by unfold actN; rw [if_neg (by omega)]]; unfold actG; rw [if_neg w6_0]; rw [if_neg w6_1]; rw [if_neg w6_2]; rw [if_neg w6_3]; rw [if_neg w6_4]; rw [if_pos c_124]), by rw [ht]; exact hM, GK.warm hW hG⟩, hS.F ht⟩) hS.2.2 dX2_acts_146
theorem w_X2_acts {R : Room} {s : State} {args : Array Value} {own : String} {idx : Nat} (hts : ∀ w ∈ lw_all, w.before args s = true) (h1 : Cond.methodLink own idx yX2_acts ∈ lw_all) {rm : Room} {mc ms : Nat} (hrc : rm.cells = mc) (hrs : rm.slots = ms) (hR : rm.frames + 1 ≤ R.frames ∧ 8 + (3 + 11) + rm.locals ≤ R.locals) : CallW R s args own RX2 idx yX2_acts cX2_acts 3 none (ws_ yX2_acts cX2_acts 3 none) rm mc ms 2 := cwV 2 hts (lw_V h1 q1604 qs50 q70 q1605) rfl hrc hrs (by decide +kernel) hR

abbrev r_X2_hours : Room := { frames := 5, cells := 0, slots := 0, locals := 123 }
set_option maxHeartbeats 400000 in
theorem c_X2_hours (lh : Launch) (D : va_G) (dA : Nat → ClassId) (a0 : Nat) (ad : Nat → Nat) (N : Nat → Nat) (I : Nat → Int32) (G : Nat → Nat → Nat) (J : Nat → Nat → Int32) (sz : Nat) (n : Int32) (h1 : OkS N G J) : Met lh yX2_hours (ws_ yX2_hours cX2_hours 6 (some .int)) r_X2_hours (PmM D dA a0 ad N I G J sz [.ref a0, .int n]) (va_Qi (fun (r : Int32) (u : SgT) => if hoursB N n = true then r = nI (N 14 + tn n) ∧ u = ((hoT (up1 N 0 0) G J (tn n)).1, I, (hoT (up1 N 0 0) G J (tn n)).2.1, (hoT (up1 N 0 0) G J (tn n)).2.2) else r = -1 ∧ u = (up1 N 0 0, I, G, J)) (BmM D dA a0 ad) (AM a0 ad sz)) 0 0 (AM a0 ad sz) := by
  refine Met.ofW (cc := cX2_hours) (maxL := 6) (ret := (some .int)) (by decide) rfl ?_
  intro p e s m args below meth cd s₁ B hml hv
  obtain ⟨hargs, hsz, hM, hG⟩ := hv
  have hx := B.exec
  have hb := B.bytes
  have hrt := B.returns
  have hts := atoms_spec (ws := (ws_ yX2_hours cX2_hours 6 (some .int))) B.pre
  have hts : ∀ w ∈ lw_all, w.before _ s = true := fun w h => hts w (List.mem_cons_of_mem _ h)
  have hown : s.vm.findClass RX2 = some m.cls := findClass_of_methodNamed B.named
  have hlocks := B.notSynchronized
  subst hsz
  have hS : va_S (AM a0 ad s.heap.size) s.heap s.heap [] := va_S.rf
  have hE : entryFrame m args 6 = F0 m 0 ((lg_sl ([.ref a0, .int n]) ++ List.replicate (6 - (lg_sl ([.ref a0, .int n])).length) Slot.unset).toArray) [] := by rw [hargs]; exact lg_entry_eq m _ 6
  have hl := lv_entry ([.ref a0, .int n]) (n := 6) (Nat.le_of_ble_eq_true rfl)
  rw [hE]
  clear hE
  generalize (lg_sl ([.ref a0, .int n]) ++ List.replicate (6 - (lg_sl ([.ref a0, .int n])).length) Slot.unset).toArray = ls at hl ⊢
  have hl : lv_has ls 6 [(0, .ref a0), (1, .int n)] := hl
  generalize hQ : MQ _ _ _ _ _ _ _ = Q
  have hokk := h1
  obtain ⟨hB, ⟨hn1, hn3, hn14, hn19, hn23, hn33, hn40, hn44⟩, hcr, hst, hwm, hrc⟩ := hokk
  refine lv_aload_n hx hb dX2_hours_0 rfl (lv_at hl 0 rfl) ?_
  refine lv_iconst (v := nI 0) hx hb dX2_hours_1 (by decide) ?_
  refine M_put hx hb hts hown hG hS AM.o hM 0 (by decide) q1292 rfl rfl rfl (up1 N 0 0) I rfl dX2_hours_2 (fun H locs hM hz hS => ?_)
  refine lv_iload_n hx hb dX2_hours_5 rfl (lv_at hl 1 rfl) ?_
  refine lv_iconst (v := nI 1) hx hb dX2_hours_6 (by decide) ?_
  refine lv_bipush (v := nI 100) hx hb dX2_hours_7 (by decide) ?_
  refine vp_callSi (W.runS (As := [.int n, .int (nI 1), .int (nI 100)]) (rest := []) ⟨hx, hb, hml, hown, hts⟩ (c_X2_within lh n (nI 1) (nI 100)) (w_X2_within hts q1464 rfl rfl ⟨Nat.le_of_ble_eq_true rfl, Nat.le_of_ble_eq_true rfl⟩) ⟨P0.blind, P0.pre⟩ rfl rfl hl.1 rfl (lv_room (Nat.le_of_ble_eq_true rfl)) dX2_hours_9 ⟨Nat.le_of_ble_eq_true rfl, Nat.le_of_ble_eq_true rfl⟩) (fun rr hrr => ?_)
  subst hrr
  refine kx_int (y := bI (wi n (nI 1) (nI 100))) rfl ?_
  refine kb_eq (tgt := 27) hx hb dX2_hours_12 (by decide) (fun c_12 => ?_) (fun c_12 => ?_)
  · refine lv_iconst (v := -1) hx hb dX2_hours_27 (by decide) ?_
    subst hQ
    exact W.iret (v := (-1)) hx hb hrt (fun t ht hW => ⟨⟨_, ((up1 N 0 0), I, G, J), rfl, (by dsimp only; rw [if_neg (by simp [hoursB, c_12])]; exact ⟨rfl, rfl⟩), by rw [ht]; exact hM, GK.warm hW hG⟩, hS.F ht⟩) hS.2.2 dX2_hours_28
  · obtain ⟨j, hj1, hj2, rfl⟩ := wi_nat (by decide) (by decide) c_12
    refine lv_aload_n hx hb dX2_hours_15 rfl (lv_at hl 0 rfl) ?_
    refine M_get (v := .int (nI (N 14))) hx hb hts hown hG hM 14 (by decide) q1306 rfl rfl dX2_hours_16 ?_
    refine lv_iload_n hx hb dX2_hours_19 rfl (lv_at hl 1 rfl) ?_
    refine kn_add hx hb dX2_hours_20 ?_
    refine lv_sipush (v := nI 600) hx hb dX2_hours_21 (by decide) ?_
    refine kn_cle (tgt := 29) hx hb dX2_hours_24 (by decide) (by omega) (by omega) (fun c_24 => ?_) (fun c_24 => ?_)
    · refine lv_iconst (v := nI 0) hx hb dX2_hours_29 (by decide) ?_
      refine lv_istore_n (lv' := [(2, .int (nI 0)), (0, .ref a0), (1, .int (nI j))]) hx hb dX2_hours_30 rfl hl (by decide) rfl (fun ls hl => ?_)
      have L31 : ∀ (nn31 : Nat) (i : Nat) (N1 : Nat → Nat) (G1 : Nat → Nat → Nat) (J1 : Nat → Nat → Int32), (i ≤ j) → ((N1, G1, J1) = hoT (up1 N 0 0) G J i) → (OkS N1 G1 J1) → (N1 14 = N 14 + i) → j - i < nn31 → ∀ (H : Heap) (locs : List Loc), RM D dA a0 ad N1 I G1 J1 H → va_S (AM a0 ad s.heap.size) s.heap H locs → ∀ (ls : Array Slot), lv_has ls 6 [(0, .ref a0), (1, .int (nI j)), (2, .int (nI i))] → W p lh e r_X2_hours s m args below meth cd H locs 0 0 Q (F0 m 31 ls []) := by
        intro nn31
        induction nn31 with
        | zero => intro i N1 G1 J1 i31_0 i31_1 i31_2 i31_3 hm31; exact absurd hm31 (Nat.not_lt_zero _)
        | succ nn31 ih31 =>
          intro i N1 G1 J1 i31_0 i31_1 i31_2 i31_3 hm31 H locs hM hS ls hl
          have hokk := i31_2
          obtain ⟨hB, ⟨hn1, hn3, hn14, hn19, hn23, hn33, hn40, hn44⟩, hcr, hst, hwm, hrc⟩ := hokk
          refine lv_iload_n hx hb dX2_hours_31 rfl (lv_at hl 2 rfl) ?_
          refine lv_iload_n hx hb dX2_hours_32 rfl (lv_at hl 1 rfl) ?_
          refine kn_cge (tgt := 254) hx hb dX2_hours_33 (by decide) (by omega) (by omega) (fun c_33 => ?_) (fun c_33 => ?_)
          · refine lv_aload_n hx hb dX2_hours_254 rfl (lv_at hl 0 rfl) ?_
            refine M_get (v := .int (nI (N1 14))) hx hb hts hown hG hM 14 (by decide) q1306 rfl rfl dX2_hours_255 ?_
            subst hQ
            exact W.iret (v := nI (N1 14)) hx hb hrt (fun t ht hW => ⟨⟨_, (N1, I, G1, J1), rfl, (by dsimp only; rw [if_pos (show hoursB N (nI j) = true by simp [hoursB, c_12, nI_add, nI_leI (show N 14 + j < 2 ^ 31 by omega) (show 600 < 2 ^ 31 by decide), c_24]), tn_nI (show j < 2 ^ 31 by omega)]; have e : i = j := (by omega); subst e; rw [← i31_1, i31_3]; exact ⟨rfl, rfl⟩), by rw [ht]; exact hM, GK.warm hW hG⟩, hS.F ht⟩) hS.2.2 dX2_hours_258
          · refine lv_aload_n hx hb dX2_hours_36 rfl (lv_at hl 0 rfl) ?_
            refine vp_callSi (W.runV (As := []) (rest := []) ⟨hx, hb, hml, hown, hts⟩ (c_X2_inForce lh D dA a0 ad N1 I G1 J1 (show ∀ a b, G1 a b < 2 ^ 31 from by first | omega | assumption | exact hB_up (by assumption) (by omega)) (show (N1 14) ≤ 600 from by first | omega | assumption | exact hB_up (by assumption) (by omega)) (show (N1 23) ≤ 10 from by first | omega | assumption | exact hB_up (by assumption) (by omega))) (w_X2_inForce hts q1586 rfl rfl ⟨Nat.le_of_ble_eq_true rfl, Nat.le_of_ble_eq_true rfl⟩) ⟨PqM.blind, M_recv hG hM, PqM.pre hG hM⟩ rfl rfl hl.1 rfl (lv_room (Nat.le_of_ble_eq_true rfl)) dX2_hours_37 ⟨Nat.le_of_ble_eq_true rfl, Nat.le_of_ble_eq_true rfl⟩) (fun rr hrr => ?_)
            subst hrr
            rcases ho37 : ifS G1 ((N1 14) / 24) ((N1 23)) with _ | k37
            · show W p lh e r_X2_hours s m args below meth cd _ _ _ _ Q (F0 m _ ls (.int (-1) :: _))
              refine lv_istore_n (lv' := [(3, .int (-1)), (0, .ref a0), (1, .int (nI j)), (2, .int (nI i))]) hx hb dX2_hours_40 rfl hl (by decide) rfl (fun ls hl => ?_)
              refine lv_iconst (v := nI 0) hx hb dX2_hours_41 (by decide) ?_
              refine lv_istore (lv' := [(4, .int (nI 0)), (3, .int (-1)), (0, .ref a0), (1, .int (nI j)), (2, .int (nI i))]) hx hb dX2_hours_42 hl (by decide) rfl (fun ls hl => ?_)
              have L44 : ∀ (nn44 : Nat) (c2 : Nat) (N2 : Nat → Nat) (G2 : Nat → Nat → Nat) (J2 : Nat → Nat → Int32), (c2 ≤ N1 3) → ((N2, G2, J2) = crT (none) N1 G1 J1 c2) → (OkS N2 G2 J2) → (KeepN N1 N2) → (KeepG G1 G2) → N1 3 - c2 < nn44 → ∀ (H : Heap) (locs : List Loc), RM D dA a0 ad N2 I G2 J2 H → va_S (AM a0 ad s.heap.size) s.heap H locs → ∀ (ls : Array Slot), lv_has ls 6 [(0, .ref a0), (1, .int (nI j)), (2, .int (nI i)), (3, .int (-1)), (4, .int (nI c2))] → W p lh e r_X2_hours s m args below meth cd H locs 0 0 Q (F0 m 44 ls []) := by
                intro nn44
                induction nn44 with
                | zero => intro c2 N2 G2 J2 i44_0 i44_1 i44_2 i44_3 i44_4 hm44; exact absurd hm44 (Nat.not_lt_zero _)
                | succ nn44 ih44 =>
                  intro c2 N2 G2 J2 i44_0 i44_1 i44_2 i44_3 i44_4 hm44 H locs hM hS ls hl
                  have k3 : N2 3 = N1 3 := i44_3 3 (by decide)
                  have k14 : N2 14 = N1 14 := i44_3 14 (by decide)
                  have k19 : N2 19 = N1 19 := i44_3 19 (by decide)
                  have k23 : N2 23 = N1 23 := i44_3 23 (by decide)
                  have hokk := i44_2
                  obtain ⟨hB, ⟨hn1, hn3, hn14, hn19, hn23, hn33, hn40, hn44⟩, hcr, hst, hwm, hrc⟩ := hokk
                  refine lv_iload hx hb dX2_hours_44 (lv_at hl 4 rfl) ?_
                  refine lv_aload_n hx hb dX2_hours_46 rfl (lv_at hl 0 rfl) ?_
                  refine M_get (v := .int (nI (N2 3))) hx hb hts hown hG hM 3 (by decide) q1295 rfl rfl dX2_hours_47 ?_
                  refine kn_cge (tgt := 238) hx hb dX2_hours_50 (by decide) (by omega) (by omega) (fun c_50 => ?_) (fun c_50 => ?_)
                  · refine lv_aload_n hx hb dX2_hours_238 rfl (lv_at hl 0 rfl) ?_
                    refine lv_dup hx hb dX2_hours_239 rfl ?_
                    refine M_get (v := .int (nI (N2 14))) hx hb hts hown hG hM 14 (by decide) q1306 rfl rfl dX2_hours_240 ?_
                    refine lv_iconst (v := nI 1) hx hb dX2_hours_243 (by decide) ?_
                    refine kn_add hx hb dX2_hours_244 ?_
                    refine M_put hx hb hts hown hG hS AM.o hM 14 (by decide) q1306 rfl rfl rfl (up1 N2 14 (N2 14 + 1)) I rfl dX2_hours_245 (fun H locs hM hz hS => ?_)
                    refine lv_iinc (v := nI (i + 1)) (lv' := [(2, .int (nI (i + 1))), (0, .ref a0), (1, .int (nI j)), (3, .int (-1)), (4, .int (nI c2))]) hx hb dX2_hours_248 hl (k := 2) rfl (show nI i + Int32.ofInt 1 = nI (i + 1) from nI_add _ 1) (by decide) rfl (fun ls hl => ?_)
                    refine lv_goto (tgt := 31) hx hb dX2_hours_251 (by decide) ?_
                    exact ih31 (i + 1) (up1 N2 14 (N2 14 + 1)) G2 J2 (by omega) (by rw [hoT_s i31_1, hrS_at ho37 (show (N2, G2, J2) = crT _ N1 G1 J1 (N1 3) by rw [show N1 3 = c2 by omega]; exact i44_1)]) (OkS.now i44_2 (by omega)) (show N2 14 + 1 = N 14 + (i + 1) by omega) (by omega) _ _ hM hS _ (lv_sub hl [1, 2, 0] rfl)
                  · refine lv_iload_n hx hb dX2_hours_53 rfl (lv_at hl 3 rfl) ?_
                    refine lv_iconst (v := -1) hx hb dX2_hours_54 (by decide) ?_
                    refine lv_icmp_eq (tgt := 114) hx hb dX2_hours_55 (by decide) (fun _ => ?_) (fun c => absurd rfl c)
                    have hra : (N2, G2) = ruA none J2 c2 N2 G2 := rfl
                    refine lv_aload_n hx hb dX2_hours_114 rfl (lv_at hl 0 rfl) ?_
                    refine lv_iload hx hb dX2_hours_115 (lv_at hl 4 rfl) ?_
                    refine vp_callSi (W.runV (As := [.int (nI c2)]) (rest := []) ⟨hx, hb, hml, hown, hts⟩ (c_X2_lives lh D dA a0 ad N2 I G2 J2 (nI c2) (show ∀ a b, G2 a b < 2 ^ 31 from by first | omega | assumption | exact hB_up (by assumption) (by omega)) (show (N2 3) ≤ 10 from by first | omega | assumption | exact hB_up (by assumption) (by omega))) (w_X2_lives hts q1479 rfl rfl ⟨Nat.le_of_ble_eq_true rfl, Nat.le_of_ble_eq_true rfl⟩) ⟨PqM.blind, M_recv hG hM, PqM.pre hG hM⟩ rfl rfl hl.1 rfl (lv_room (Nat.le_of_ble_eq_true rfl)) dX2_hours_117 ⟨Nat.le_of_ble_eq_true rfl, Nat.le_of_ble_eq_true rfl⟩) (fun rr hrr => ?_)
                    subst hrr
                    refine kb_ne (tgt := 126) hx hb dX2_hours_120 (by decide) (fun c_120 => ?_) (fun c_120 => ?_)
                    · have hlx : lv G2 c2 = true := (lvI_lv (by omega) (wi_cnt' (by omega) (by omega))).symm.trans c_120
                      have hcc := hcr c2
                      refine lv_aload_n hx hb dX2_hours_126 rfl (lv_at hl 0 rfl) ?_
                      refine lv_iload hx hb dX2_hours_127 (lv_at hl 4 rfl) ?_
                      refine lv_aload_n hx hb dX2_hours_129 rfl (lv_at hl 0 rfl) ?_
                      refine M_get (v := .int (nI (N2 14))) hx hb hts hown hG hM 14 (by decide) q1306 rfl rfl dX2_hours_130 ?_
                      refine vp_callSi (W.runV (As := [.int (nI c2), .int (nI (N2 14))]) (rest := []) ⟨hx, hb, hml, hown, hts⟩ (c_X2_rateOf lh D dA a0 ad N2 I G2 J2 c2 (N2 14) (show ∀ a b, G2 a b < 2 ^ 31 from by first | omega | assumption | exact hB_up (by assumption) (by omega)) (show c2 < 10 from by first | omega | assumption | exact hB_up (by assumption) (by omega)) (show (N2 14) < 600 from by first | omega | assumption | exact hB_up (by assumption) (by omega)) (show G2 5 c2 < 12 from by first | omega | assumption | exact hB_up (by assumption) (by omega)) (show G2 7 c2 < 64 from by first | omega | assumption | exact hB_up (by assumption) (by omega)) (show WmOk G2 J2 from by first | omega | assumption | exact hB_up (by assumption) (by omega))) (w_X2_rateOf hts q1614 rfl rfl ⟨Nat.le_of_ble_eq_true rfl, Nat.le_of_ble_eq_true rfl⟩) ⟨PqM.blind, M_recv hG hM, PqM.pre hG hM⟩ rfl rfl hl.1 rfl (lv_room (Nat.le_of_ble_eq_true rfl)) dX2_hours_133 ⟨Nat.le_of_ble_eq_true rfl, Nat.le_of_ble_eq_true rfl⟩) (fun rr hrr => ?_)
                      subst hrr
                      have hrl : rateS G2 J2 c2 (N2 14) ≤ 12 := rateS_le i44_2 _ _
                      refine lv_istore (lv' := [(5, .int (nI (rateS G2 J2 c2 (N2 14)))), (0, .ref a0), (1, .int (nI j)), (2, .int (nI i)), (3, .int (-1)), (4, .int (nI c2))]) hx hb dX2_hours_136 hl (by decide) rfl (fun ls hl => ?_)
                      refine lv_aload_n hx hb dX2_hours_138 rfl (lv_at hl 1 rfl) ?_
                      refine M_get (v := .ref (ad 12)) hx hb hts hown hG hM 12 (by decide) q1304 rfl rfl dX2_hours_139 ?_
                      refine lv_sipush (v := nI 600) hx hb dX2_hours_142 (by decide) ?_
                      refine lv_iload hx hb dX2_hours_145 (lv_at hl 5 rfl) ?_
                      refine kn_mul hx hb dX2_hours_147 ?_
                      refine lv_aload_n hx hb dX2_hours_148 rfl (lv_at hl 1 rfl) ?_
                      refine M_get (v := .int (nI (N2 14))) hx hb hts hown hG hM 14 (by decide) q1306 rfl rfl dX2_hours_149 ?_
                      refine kn_add hx hb dX2_hours_152 ?_
                      refine lv_iload hx hb dX2_hours_153 (lv_at hl 0 rfl) ?_
                      refine lv_iconst (v := nI 1) hx hb dX2_hours_155 (by decide) ?_
                      refine kn_add hx hb dX2_hours_156 ?_
                      refine lv_i2b (v := (nI (rateS G2 J2 c2 (N2 14) + 1)).toInt8.toInt32) hx hb dX2_hours_157 rfl ?_
                      refine M_bastN (v := rateS G2 J2 c2 (N2 14) + 1) hx hb hG hS hM 12 rfl (AM.a 12 rfl) rfl rfl (show 600 * c2 + (N2 14) < 6000 from by omega) (byt2 (by omega)) dX2_hours_158 (fun H locs hM hz hS => ?_)
                      refine lv_aload_n hx hb dX2_hours_159 rfl (lv_at hl 1 rfl) ?_
                      refine M_get (v := .ref (ad 13)) hx hb hts hown hG hM 13 (by decide) q1305 rfl rfl dX2_hours_160 ?_
                      refine lv_iload hx hb dX2_hours_163 (lv_at hl 5 rfl) ?_
                      refine lv_iload hx hb dX2_hours_165 (lv_at hl 0 rfl) ?_
                      refine M_iastJ (v := nI (rateS G2 J2 c2 (N2 14))) hx hb hG hS hM 13 rfl (AM.a 13 rfl) rfl rfl (show c2 < 10 from by omega) dX2_hours_167 (fun H locs hM hz hS => ?_)
                      refine lv_aload_n hx hb dX2_hours_168 rfl (lv_at hl 1 rfl) ?_
                      refine M_get (v := .ref (ad 8)) hx hb hts hown hG hM 8 (by decide) q1300 rfl rfl dX2_hours_169 ?_
                      refine lv_iload hx hb dX2_hours_172 (lv_at hl 5 rfl) ?_
                      refine lv_aload_n hx hb dX2_hours_174 rfl (lv_at hl 1 rfl) ?_
                      refine M_get (v := .ref (ad 8)) hx hb hts hown hG hM 8 (by decide) q1300 rfl rfl dX2_hours_175 ?_
                      refine lv_iload hx hb dX2_hours_178 (lv_at hl 5 rfl) ?_
                      refine M_iald (v := nI (G2 8 c2)) hx hb hG hM 8 rfl rfl (show c2 < 10 from by omega) (rfl) dX2_hours_180 ?_
                      refine lv_iload hx hb dX2_hours_181 (lv_at hl 0 rfl) ?_
                      refine lv_iconst (v := nI 2) hx hb dX2_hours_183 (by decide) ?_
                      refine kn_div hx hb dX2_hours_184 (by omega) (by omega) (by omega) ?_
                      refine kn_add hx hb dX2_hours_185 ?_
                      refine lv_iconst (v := nI 1) hx hb dX2_hours_186 (by decide) ?_
                      refine kn_add hx hb dX2_hours_187 ?_
                      refine lv_bipush (v := nI 100) hx hb dX2_hours_188 (by decide) ?_
                      refine kn_cle (tgt := 198) hx hb dX2_hours_190 (by decide) (by omega) (by omega) (fun c_190 => ?_) (fun c_190 => ?_)
                      · refine lv_aload_n hx hb dX2_hours_198 rfl (lv_at hl 1 rfl) ?_
                        refine M_get (v := .ref (ad 8)) hx hb hts hown hG hM 8 (by decide) q1300 rfl rfl dX2_hours_199 ?_
                        refine lv_iload hx hb dX2_hours_202 (lv_at hl 5 rfl) ?_
                        refine M_iald (v := nI (G2 8 c2)) hx hb hG hM 8 rfl rfl (show c2 < 10 from by omega) (rfl) dX2_hours_204 ?_
                        refine lv_iload hx hb dX2_hours_205 (lv_at hl 0 rfl) ?_
                        refine lv_iconst (v := nI 2) hx hb dX2_hours_207 (by decide) ?_
                        refine kn_div hx hb dX2_hours_208 (by omega) (by omega) (by omega) ?_
                        refine kn_add hx hb dX2_hours_209 ?_
                        refine lv_iconst (v := nI 1) hx hb dX2_hours_210 (by decide) ?_
                        refine kn_add hx hb dX2_hours_211 ?_
                        refine M_iastN (v := G2 8 c2 + ((rateS G2 J2 c2 (N2 14)) / 2) + 1) hx hb hG hS hM 8 rfl (AM.a 8 rfl) rfl rfl (show c2 < 10 from by omega) dX2_hours_212 (fun H locs hM hz hS => ?_)
                        refine lv_aload_n hx hb dX2_hours_213 rfl (lv_at hl 1 rfl) ?_
                        refine M_get (v := .ref (ad 8)) hx hb hts hown hG hM 8 (by decide) q1300 rfl rfl dX2_hours_214 ?_
                        refine lv_iload hx hb dX2_hours_217 (lv_at hl 5 rfl) ?_
                        refine M_iald (v := nI (G2 8 c2 + ((rateS G2 J2 c2 (N2 14)) / 2) + 1)) hx hb hG hM 8 rfl rfl (show c2 < 10 from by omega) (rdG rfl) dX2_hours_219 ?_
                        refine lv_bipush (v := nI 100) hx hb dX2_hours_220 (by decide) ?_
                        refine kn_cne (tgt := 232) hx hb dX2_hours_222 (by decide) (by omega) (by omega) (fun c_222 => ?_) (fun c_222 => ?_)
                        · refine lv_iinc (v := nI (c2 + 1)) (lv' := [(4, .int (nI (c2 + 1))), (5, .int (nI (rateS G2 J2 c2 (N2 14)))), (0, .ref a0), (1, .int (nI j)), (2, .int (nI i)), (3, .int (-1))]) hx hb dX2_hours_232 hl (k := 5) rfl (show nI c2 + Int32.ofInt 1 = nI (c2 + 1) from nI_add _ 1) (by decide) rfl (fun ls hl => ?_)
                          refine lv_goto (tgt := 44) hx hb dX2_hours_235 (by decide) ?_
                          have htk : tkS N2 G2 J2 c2 = (N2, (up2 (up2 G2 12 (600 * c2 + (N2 14)) (rateS G2 J2 c2 (N2 14) + 1)) 8 c2 (G2 8 c2 + ((rateS G2 J2 c2 (N2 14)) / 2) + 1)), (up2 J2 13 c2 (nI (rateS G2 J2 c2 (N2 14))))) := by rw [tkS, if_neg (by omega)]
                          have ok5 := tkS_ok i44_2 c2
                          have kn5 := tkS_keepN N2 G2 J2 c2
                          have kg5 := tkS_keepG (G := G2) KeepG.rf N2 J2 c2
                          rw [htk] at ok5 kn5 kg5
                          exact ih44 (c2 + 1) N2 (up2 (up2 G2 12 (600 * c2 + (N2 14)) (rateS G2 J2 c2 (N2 14) + 1)) 8 c2 (G2 8 c2 + ((rateS G2 J2 c2 (N2 14)) / 2) + 1)) (up2 J2 13 c2 (nI (rateS G2 J2 c2 (N2 14)))) (by omega) (by rw [crT_s i44_1, chS_at hra, if_pos hlx, htk]) (ok5) (i44_3.tr kn5) (i44_4.tr kg5) (by omega) _ _ hM hS _ (lv_sub hl [2, 3, 4, 5, 0] rfl)
                        · refine lv_aload_n hx hb dX2_hours_225 rfl (lv_at hl 1 rfl) ?_
                          refine lv_iload hx hb dX2_hours_226 (lv_at hl 5 rfl) ?_
                          refine lv_iconst (v := nI 3) hx hb dX2_hours_228 (by decide) ?_
                          refine va_callv (va_runV (As := [.int (nI c2), .int (nI 3)]) (rest := []) ⟨hx, hb, hml, hown, hts⟩ (c_X2_goes lh D dA a0 ad N2 I (up2 (up2 G2 12 (600 * c2 + (N2 14)) (rateS G2 J2 c2 (N2 14) + 1)) 8 c2 (G2 8 c2 + ((rateS G2 J2 c2 (N2 14)) / 2) + 1)) (up2 J2 13 c2 (nI (rateS G2 J2 c2 (N2 14)))) H.size c2 3 (show c2 < 10 from by first | omega | assumption | exact hB_up (by assumption) (by omega))) (w_X2_goes hts q1606 rfl rfl ⟨Nat.le_of_ble_eq_true rfl, Nat.le_of_ble_eq_true rfl⟩) ⟨PmM.blind, M_recv hG hM, PmM.pre hG hM⟩ rfl rfl hl.1 rfl (lv_room (Nat.le_of_ble_eq_true rfl)) dX2_hours_229 ⟨Nat.le_of_ble_eq_true rfl, Nat.le_of_ble_eq_true rfl⟩) hS (fun q _ h => AM.up (hS.1) q h) (fun q h => AM.up (hS.1) q h) (fun u t H1 locs ht hvm hp hB hz hk hS => ?_)
                          obtain ⟨hM, -⟩ := hB
                          rw [ht] at hM
                          clear ht hz hk
                          generalize H1 = H at hM hS ⊢
                          subst hp
                          dsimp only at hM
                          refine lv_iinc (v := nI (c2 + 1)) (lv' := [(4, .int (nI (c2 + 1))), (5, .int (nI (rateS G2 J2 c2 (N2 14)))), (0, .ref a0), (1, .int (nI j)), (2, .int (nI i)), (3, .int (-1))]) hx hb dX2_hours_232 hl (k := 5) rfl (show nI c2 + Int32.ofInt 1 = nI (c2 + 1) from nI_add _ 1) (by decide) rfl (fun ls hl => ?_)
                          refine lv_goto (tgt := 44) hx hb dX2_hours_235 (by decide) ?_
                          have htk : tkS N2 G2 J2 c2 = ((up1 N2 15 ((N2 15) + gr (up2 (up2 G2 12 (600 * c2 + (N2 14)) (rateS G2 J2 c2 (N2 14) + 1)) 8 c2 (G2 8 c2 + ((rateS G2 J2 c2 (N2 14)) / 2) + 1)) c2)), (goesG (up2 (up2 G2 12 (600 * c2 + (N2 14)) (rateS G2 J2 c2 (N2 14) + 1)) 8 c2 (G2 8 c2 + ((rateS G2 J2 c2 (N2 14)) / 2) + 1)) c2 3), (up2 J2 13 c2 (nI (rateS G2 J2 c2 (N2 14))))) := by rw [tkS, if_pos (by omega), c_222]
                          have ok5 := tkS_ok i44_2 c2
                          have kn5 := tkS_keepN N2 G2 J2 c2
                          have kg5 := tkS_keepG (G := G2) KeepG.rf N2 J2 c2
                          rw [htk] at ok5 kn5 kg5
                          exact ih44 (c2 + 1) (up1 N2 15 ((N2 15) + gr (up2 (up2 G2 12 (600 * c2 + (N2 14)) (rateS G2 J2 c2 (N2 14) + 1)) 8 c2 (G2 8 c2 + ((rateS G2 J2 c2 (N2 14)) / 2) + 1)) c2)) (goesG (up2 (up2 G2 12 (600 * c2 + (N2 14)) (rateS G2 J2 c2 (N2 14) + 1)) 8 c2 (G2 8 c2 + ((rateS G2 J2 c2 (N2 14)) / 2) + 1)) c2 3) (up2 J2 13 c2 (nI (rateS G2 J2 c2 (N2 14)))) (by omega) (by rw [crT_s i44_1, chS_at hra, if_pos hlx, htk]) (ok5) (i44_3.tr kn5) (i44_4.tr kg5) (by omega) _ _ hM hS _ (lv_sub hl [2, 3, 4, 5, 0] rfl)
                      · refine lv_bipush (v := nI 100) hx hb dX2_hours_193 (by decide) ?_
                        refine lv_goto (tgt := 212) hx hb dX2_hours_195 (by decide) ?_
                        refine M_iastN (v := 100) hx hb hG hS hM 8 rfl (AM.a 8 rfl) rfl rfl (show c2 < 10 from by omega) dX2_hours_212 (fun H locs hM hz hS => ?_)
                        refine lv_aload_n hx hb dX2_hours_213 rfl (lv_at hl 1 rfl) ?_
                        refine M_get (v := .ref (ad 8)) hx hb hts hown hG hM 8 (by decide) q1300 rfl rfl dX2_hours_214 ?_
                        refine lv_iload hx hb dX2_hours_217 (lv_at hl 5 rfl) ?_
                        refine M_iald (v := nI 100) hx hb hG hM 8 rfl rfl (show c2 < 10 from by omega) (rdG rfl) dX2_hours_219 ?_
                        refine lv_bipush (v := nI 100) hx hb dX2_hours_220 (by decide) ?_
                        refine kn_cne (tgt := 232) hx hb dX2_hours_222 (by decide) (by decide) (by decide) (fun c => absurd c (by decide)) (fun _ => ?_)
                        refine lv_aload_n hx hb dX2_hours_225 rfl (lv_at hl 1 rfl) ?_
                        refine lv_iload hx hb dX2_hours_226 (lv_at hl 5 rfl) ?_
                        refine lv_iconst (v := nI 3) hx hb dX2_hours_228 (by decide) ?_
                        refine va_callv (va_runV (As := [.int (nI c2), .int (nI 3)]) (rest := []) ⟨hx, hb, hml, hown, hts⟩ (c_X2_goes lh D dA a0 ad N2 I (up2 (up2 G2 12 (600 * c2 + (N2 14)) (rateS G2 J2 c2 (N2 14) + 1)) 8 c2 100) (up2 J2 13 c2 (nI (rateS G2 J2 c2 (N2 14)))) H.size c2 3 (show c2 < 10 from by first | omega | assumption | exact hB_up (by assumption) (by omega))) (w_X2_goes hts q1606 rfl rfl ⟨Nat.le_of_ble_eq_true rfl, Nat.le_of_ble_eq_true rfl⟩) ⟨PmM.blind, M_recv hG hM, PmM.pre hG hM⟩ rfl rfl hl.1 rfl (lv_room (Nat.le_of_ble_eq_true rfl)) dX2_hours_229 ⟨Nat.le_of_ble_eq_true rfl, Nat.le_of_ble_eq_true rfl⟩) hS (fun q _ h => AM.up (hS.1) q h) (fun q h => AM.up (hS.1) q h) (fun u t H1 locs ht hvm hp hB hz hk hS => ?_)
                        obtain ⟨hM, -⟩ := hB
                        rw [ht] at hM
                        clear ht hz hk
                        generalize H1 = H at hM hS ⊢
                        subst hp
                        dsimp only at hM
                        refine lv_iinc (v := nI (c2 + 1)) (lv' := [(4, .int (nI (c2 + 1))), (5, .int (nI (rateS G2 J2 c2 (N2 14)))), (0, .ref a0), (1, .int (nI j)), (2, .int (nI i)), (3, .int (-1))]) hx hb dX2_hours_232 hl (k := 5) rfl (show nI c2 + Int32.ofInt 1 = nI (c2 + 1) from nI_add _ 1) (by decide) rfl (fun ls hl => ?_)
                        refine lv_goto (tgt := 44) hx hb dX2_hours_235 (by decide) ?_
                        have htk : tkS N2 G2 J2 c2 = ((up1 N2 15 ((N2 15) + gr (up2 (up2 G2 12 (600 * c2 + (N2 14)) (rateS G2 J2 c2 (N2 14) + 1)) 8 c2 100) c2)), (goesG (up2 (up2 G2 12 (600 * c2 + (N2 14)) (rateS G2 J2 c2 (N2 14) + 1)) 8 c2 100) c2 3), (up2 J2 13 c2 (nI (rateS G2 J2 c2 (N2 14))))) := by rw [tkS, if_pos (by omega)]
                        have ok5 := tkS_ok i44_2 c2
                        have kn5 := tkS_keepN N2 G2 J2 c2
                        have kg5 := tkS_keepG (G := G2) KeepG.rf N2 J2 c2
                        rw [htk] at ok5 kn5 kg5
                        exact ih44 (c2 + 1) (up1 N2 15 ((N2 15) + gr (up2 (up2 G2 12 (600 * c2 + (N2 14)) (rateS G2 J2 c2 (N2 14) + 1)) 8 c2 100) c2)) (goesG (up2 (up2 G2 12 (600 * c2 + (N2 14)) (rateS G2 J2 c2 (N2 14) + 1)) 8 c2 100) c2 3) (up2 J2 13 c2 (nI (rateS G2 J2 c2 (N2 14)))) (by omega) (by rw [crT_s i44_1, chS_at hra, if_pos hlx, htk]) (ok5) (i44_3.tr kn5) (i44_4.tr kg5) (by omega) _ _ hM hS _ (lv_sub hl [2, 3, 4, 5, 0] rfl)
                    · have hlx : lv G2 c2 = false := (lvI_lv (by omega) (wi_cnt' (by omega) (by omega))).symm.trans c_120
                      refine lv_goto (tgt := 232) hx hb dX2_hours_123 (by decide) ?_
                      refine lv_iinc (v := nI (c2 + 1)) (lv' := [(4, .int (nI (c2 + 1))), (0, .ref a0), (1, .int (nI j)), (2, .int (nI i)), (3, .int (-1))]) hx hb dX2_hours_232 hl (k := 4) rfl (show nI c2 + Int32.ofInt 1 = nI (c2 + 1) from nI_add _ 1) (by decide) rfl (fun ls hl => ?_)
                      refine lv_goto (tgt := 44) hx hb dX2_hours_235 (by decide) ?_
                      exact ih44 (c2 + 1) N2 G2 J2 (by omega) (by rw [crT_s i44_1, chS_at hra, if_neg (by rw [hlx]; decide)]) (i44_2) (i44_3) (i44_4) (by omega) _ _ hM hS _ (lv_sub hl [1, 2, 3, 4, 0] rfl)
              exact L44 _ 0 N1 G1 J1 (by omega) (rfl) (i31_2) (KeepN.rf) (KeepG.rf) (Nat.lt_succ_self _) _ _ hM hS _ (lv_sub hl [2, 3, 4, 1, 0] rfl)
            · show W p lh e r_X2_hours s m args below meth cd _ _ _ _ Q (F0 m _ ls (.int (nI k37) :: _))
              have hk37 := ifS_lt ho37
              refine lv_istore_n (lv' := [(3, .int (nI k37)), (0, .ref a0), (1, .int (nI j)), (2, .int (nI i))]) hx hb dX2_hours_40 rfl hl (by decide) rfl (fun ls hl => ?_)
              refine lv_iconst (v := nI 0) hx hb dX2_hours_41 (by decide) ?_
              refine lv_istore (lv' := [(4, .int (nI 0)), (3, .int (nI k37)), (0, .ref a0), (1, .int (nI j)), (2, .int (nI i))]) hx hb dX2_hours_42 hl (by decide) rfl (fun ls hl => ?_)
              have L44 : ∀ (nn44 : Nat) (c2 : Nat) (N2 : Nat → Nat) (G2 : Nat → Nat → Nat) (J2 : Nat → Nat → Int32), (c2 ≤ N1 3) → ((N2, G2, J2) = crT (some k37) N1 G1 J1 c2) → (OkS N2 G2 J2) → (KeepN N1 N2) → (KeepG G1 G2) → N1 3 - c2 < nn44 → ∀ (H : Heap) (locs : List Loc), RM D dA a0 ad N2 I G2 J2 H → va_S (AM a0 ad s.heap.size) s.heap H locs → ∀ (ls : Array Slot), lv_has ls 6 [(0, .ref a0), (1, .int (nI j)), (2, .int (nI i)), (3, .int (nI k37)), (4, .int (nI c2))] → W p lh e r_X2_hours s m args below meth cd H locs 0 0 Q (F0 m 44 ls []) := by
                intro nn44
                induction nn44 with
                | zero => intro c2 N2 G2 J2 i44_0 i44_1 i44_2 i44_3 i44_4 hm44; exact absurd hm44 (Nat.not_lt_zero _)
                | succ nn44 ih44 =>
                  intro c2 N2 G2 J2 i44_0 i44_1 i44_2 i44_3 i44_4 hm44 H locs hM hS ls hl
                  have k3 : N2 3 = N1 3 := i44_3 3 (by decide)
                  have k14 : N2 14 = N1 14 := i44_3 14 (by decide)
                  have k19 : N2 19 = N1 19 := i44_3 19 (by decide)
                  have k23 : N2 23 = N1 23 := i44_3 23 (by decide)
                  have hokk := i44_2
                  obtain ⟨hB, ⟨hn1, hn3, hn14, hn19, hn23, hn33, hn40, hn44⟩, hcr, hst, hwm, hrc⟩ := hokk
                  refine lv_iload hx hb dX2_hours_44 (lv_at hl 4 rfl) ?_
                  refine lv_aload_n hx hb dX2_hours_46 rfl (lv_at hl 0 rfl) ?_
                  refine M_get (v := .int (nI (N2 3))) hx hb hts hown hG hM 3 (by decide) q1295 rfl rfl dX2_hours_47 ?_
                  refine kn_cge (tgt := 238) hx hb dX2_hours_50 (by decide) (by omega) (by omega) (fun c_50 => ?_) (fun c_50 => ?_)
                  · refine lv_aload_n hx hb dX2_hours_238 rfl (lv_at hl 0 rfl) ?_
                    refine lv_dup hx hb dX2_hours_239 rfl ?_
                    refine M_get (v := .int (nI (N2 14))) hx hb hts hown hG hM 14 (by decide) q1306 rfl rfl dX2_hours_240 ?_
                    refine lv_iconst (v := nI 1) hx hb dX2_hours_243 (by decide) ?_
                    refine kn_add hx hb dX2_hours_244 ?_
                    refine M_put hx hb hts hown hG hS AM.o hM 14 (by decide) q1306 rfl rfl rfl (up1 N2 14 (N2 14 + 1)) I rfl dX2_hours_245 (fun H locs hM hz hS => ?_)
                    refine lv_iinc (v := nI (i + 1)) (lv' := [(2, .int (nI (i + 1))), (0, .ref a0), (1, .int (nI j)), (3, .int (nI k37)), (4, .int (nI c2))]) hx hb dX2_hours_248 hl (k := 2) rfl (show nI i + Int32.ofInt 1 = nI (i + 1) from nI_add _ 1) (by decide) rfl (fun ls hl => ?_)
                    refine lv_goto (tgt := 31) hx hb dX2_hours_251 (by decide) ?_
                    exact ih31 (i + 1) (up1 N2 14 (N2 14 + 1)) G2 J2 (by omega) (by rw [hoT_s i31_1, hrS_at ho37 (show (N2, G2, J2) = crT _ N1 G1 J1 (N1 3) by rw [show N1 3 = c2 by omega]; exact i44_1)]) (OkS.now i44_2 (by omega)) (show N2 14 + 1 = N 14 + (i + 1) by omega) (by omega) _ _ hM hS _ (lv_sub hl [1, 2, 0] rfl)
                  · refine lv_iload_n hx hb dX2_hours_53 rfl (lv_at hl 3 rfl) ?_
                    refine lv_iconst (v := -1) hx hb dX2_hours_54 (by decide) ?_
                    refine lv_icmp_eq (tgt := 114) hx hb dX2_hours_55 (by decide) (fun c => absurd c (nI_nm1 (by omega))) (fun _ => ?_)
                    refine lv_bipush (v := nI 10) hx hb dX2_hours_58 (by decide) ?_
                    refine lv_iload_n hx hb dX2_hours_60 rfl (lv_at hl 3 rfl) ?_
                    refine kn_mul hx hb dX2_hours_61 ?_
                    refine lv_istore (lv' := [(5, .int (nI (10 * k37))), (0, .ref a0), (1, .int (nI j)), (2, .int (nI i)), (3, .int (nI k37)), (4, .int (nI c2))]) hx hb dX2_hours_62 hl (by decide) rfl (fun ls hl => ?_)
                    have L64 : ∀ (nn64 : Nat) (q : Nat) (N3 : Nat → Nat) (G3 : Nat → Nat → Nat), (q ≤ G2 25 k37) → ((N3, G3) = ruS J2 c2 (10 * k37) N2 G2 q) → (OkS N3 G3 J2) → (KeepN N2 N3) → (KeepG G2 G3) → G2 25 k37 - q < nn64 → ∀ (H : Heap) (locs : List Loc), RM D dA a0 ad N3 I G3 J2 H → va_S (AM a0 ad s.heap.size) s.heap H locs → ∀ (ls : Array Slot), lv_has ls 6 [(0, .ref a0), (1, .int (nI j)), (2, .int (nI i)), (3, .int (nI k37)), (4, .int (nI c2)), (5, .int (nI (10 * k37 + q)))] → W p lh e r_X2_hours s m args below meth cd H locs 0 0 Q (F0 m 64 ls []) := by
                      intro nn64
                      induction nn64 with
                      | zero => intro q N3 G3 i64_0 i64_1 i64_2 i64_3 i64_4 hm64; exact absurd hm64 (Nat.not_lt_zero _)
                      | succ nn64 ih64 =>
                        intro q N3 G3 i64_0 i64_1 i64_2 i64_3 i64_4 hm64 H locs hM hS ls hl
                        have m3 : N3 3 = N2 3 := i64_3 3 (by decide)
                        have m14 : N3 14 = N2 14 := i64_3 14 (by decide)
                        have m19 : N3 19 = N2 19 := i64_3 19 (by decide)
                        have m23 : N3 23 = N2 23 := i64_3 23 (by decide)
                        have m25 : G3 25 k37 = G2 25 k37 := by rw [i64_4 25 rfl]
                        have hokk := i64_2
                        obtain ⟨hB, ⟨hn1, hn3, hn14, hn19, hn23, hn33, hn40, hn44⟩, hcr, hst, hwm, hrc⟩ := hokk
                        have hru := hrc k37 (by omega)
                        have hru1 := hru.1
                        refine lv_iload hx hb dX2_hours_64 (lv_at hl 5 rfl) ?_
                        refine lv_bipush (v := nI 10) hx hb dX2_hours_66 (by decide) ?_
                        refine lv_iload_n hx hb dX2_hours_68 rfl (lv_at hl 3 rfl) ?_
                        refine kn_mul hx hb dX2_hours_69 ?_
                        refine lv_aload_n hx hb dX2_hours_70 rfl (lv_at hl 0 rfl) ?_
                        refine M_get (v := .ref (ad 25)) hx hb hts hown hG hM 25 (by decide) q1317 rfl rfl dX2_hours_71 ?_
                        refine lv_iload_n hx hb dX2_hours_74 rfl (lv_at hl 3 rfl) ?_
                        refine M_iald (v := nI (G3 25 k37)) hx hb hG hM 25 rfl rfl (show k37 < 11 from by omega) (rfl) dX2_hours_75 ?_
                        refine kn_add hx hb dX2_hours_76 ?_
                        refine kn_cge (tgt := 114) hx hb dX2_hours_77 (by decide) (by omega) (by omega) (fun c_77 => ?_) (fun c_77 => ?_)
                        · have hra : (N3, G3) = ruA (some k37) J2 c2 N2 G2 := by show _ = ruS _ _ _ _ _ _; rw [show G2 25 k37 = q by omega]; exact i64_1
                          refine lv_aload_n hx hb dX2_hours_114 rfl (lv_at hl 0 rfl) ?_
                          refine lv_iload hx hb dX2_hours_115 (lv_at hl 4 rfl) ?_
                          refine vp_callSi (W.runV (As := [.int (nI c2)]) (rest := []) ⟨hx, hb, hml, hown, hts⟩ (c_X2_lives lh D dA a0 ad N3 I G3 J2 (nI c2) (show ∀ a b, G3 a b < 2 ^ 31 from by first | omega | assumption | exact hB_up (by assumption) (by omega)) (show (N3 3) ≤ 10 from by first | omega | assumption | exact hB_up (by assumption) (by omega))) (w_X2_lives hts q1479 rfl rfl ⟨Nat.le_of_ble_eq_true rfl, Nat.le_of_ble_eq_true rfl⟩) ⟨PqM.blind, M_recv hG hM, PqM.pre hG hM⟩ rfl rfl hl.1 rfl (lv_room (Nat.le_of_ble_eq_true rfl)) dX2_hours_117 ⟨Nat.le_of_ble_eq_true rfl, Nat.le_of_ble_eq_true rfl⟩) (fun rr hrr => ?_)
                          subst hrr
                          refine kb_ne (tgt := 126) hx hb dX2_hours_120 (by decide) (fun c_120 => ?_) (fun c_120 => ?_)
                          · have hlx : lv G3 c2 = true := (lvI_lv (by omega) (wi_cnt' (by omega) (by omega))).symm.trans c_120
                            have hcc := hcr c2
                            refine lv_aload_n hx hb dX2_hours_126 rfl (lv_at hl 0 rfl) ?_
                            refine lv_iload hx hb dX2_hours_127 (lv_at hl 4 rfl) ?_
                            refine lv_aload_n hx hb dX2_hours_129 rfl (lv_at hl 0 rfl) ?_
                            refine M_get (v := .int (nI (N3 14))) hx hb hts hown hG hM 14 (by decide) q1306 rfl rfl dX2_hours_130 ?_
                            refine vp_callSi (W.runV (As := [.int (nI c2), .int (nI (N3 14))]) (rest := []) ⟨hx, hb, hml, hown, hts⟩ (c_X2_rateOf lh D dA a0 ad N3 I G3 J2 c2 (N3 14) (show ∀ a b, G3 a b < 2 ^ 31 from by first | omega | assumption | exact hB_up (by assumption) (by omega)) (show c2 < 10 from by first | omega | assumption | exact hB_up (by assumption) (by omega)) (show (N3 14) < 600 from by first | omega | assumption | exact hB_up (by assumption) (by omega)) (show G3 5 c2 < 12 from by first | omega | assumption | exact hB_up (by assumption) (by omega)) (show G3 7 c2 < 64 from by first | omega | assumption | exact hB_up (by assumption) (by omega)) (show WmOk G3 J2 from by first | omega | assumption | exact hB_up (by assumption) (by omega))) (w_X2_rateOf hts q1614 rfl rfl ⟨Nat.le_of_ble_eq_true rfl, Nat.le_of_ble_eq_true rfl⟩) ⟨PqM.blind, M_recv hG hM, PqM.pre hG hM⟩ rfl rfl hl.1 rfl (lv_room (Nat.le_of_ble_eq_true rfl)) dX2_hours_133 ⟨Nat.le_of_ble_eq_true rfl, Nat.le_of_ble_eq_true rfl⟩) (fun rr hrr => ?_)
                            subst hrr
                            have hrl : rateS G3 J2 c2 (N3 14) ≤ 12 := rateS_le i64_2 _ _
                            refine lv_istore (lv' := [(5, .int (nI (rateS G3 J2 c2 (N3 14)))), (0, .ref a0), (1, .int (nI j)), (2, .int (nI i)), (3, .int (nI k37)), (4, .int (nI c2))]) hx hb dX2_hours_136 hl (by decide) rfl (fun ls hl => ?_)
                            refine lv_aload_n hx hb dX2_hours_138 rfl (lv_at hl 1 rfl) ?_
                            refine M_get (v := .ref (ad 12)) hx hb hts hown hG hM 12 (by decide) q1304 rfl rfl dX2_hours_139 ?_
                            refine lv_sipush (v := nI 600) hx hb dX2_hours_142 (by decide) ?_
                            refine lv_iload hx hb dX2_hours_145 (lv_at hl 5 rfl) ?_
                            refine kn_mul hx hb dX2_hours_147 ?_
                            refine lv_aload_n hx hb dX2_hours_148 rfl (lv_at hl 1 rfl) ?_
                            refine M_get (v := .int (nI (N3 14))) hx hb hts hown hG hM 14 (by decide) q1306 rfl rfl dX2_hours_149 ?_
                            refine kn_add hx hb dX2_hours_152 ?_
                            refine lv_iload hx hb dX2_hours_153 (lv_at hl 0 rfl) ?_
                            refine lv_iconst (v := nI 1) hx hb dX2_hours_155 (by decide) ?_
                            refine kn_add hx hb dX2_hours_156 ?_
                            refine lv_i2b (v := (nI (rateS G3 J2 c2 (N3 14) + 1)).toInt8.toInt32) hx hb dX2_hours_157 rfl ?_
                            refine M_bastN (v := rateS G3 J2 c2 (N3 14) + 1) hx hb hG hS hM 12 rfl (AM.a 12 rfl) rfl rfl (show 600 * c2 + (N3 14) < 6000 from by omega) (byt2 (by omega)) dX2_hours_158 (fun H locs hM hz hS => ?_)
                            refine lv_aload_n hx hb dX2_hours_159 rfl (lv_at hl 1 rfl) ?_
                            refine M_get (v := .ref (ad 13)) hx hb hts hown hG hM 13 (by decide) q1305 rfl rfl dX2_hours_160 ?_
                            refine lv_iload hx hb dX2_hours_163 (lv_at hl 5 rfl) ?_
                            refine lv_iload hx hb dX2_hours_165 (lv_at hl 0 rfl) ?_
                            refine M_iastJ (v := nI (rateS G3 J2 c2 (N3 14))) hx hb hG hS hM 13 rfl (AM.a 13 rfl) rfl rfl (show c2 < 10 from by omega) dX2_hours_167 (fun H locs hM hz hS => ?_)
                            refine lv_aload_n hx hb dX2_hours_168 rfl (lv_at hl 1 rfl) ?_
                            refine M_get (v := .ref (ad 8)) hx hb hts hown hG hM 8 (by decide) q1300 rfl rfl dX2_hours_169 ?_
                            refine lv_iload hx hb dX2_hours_172 (lv_at hl 5 rfl) ?_
                            refine lv_aload_n hx hb dX2_hours_174 rfl (lv_at hl 1 rfl) ?_
                            refine M_get (v := .ref (ad 8)) hx hb hts hown hG hM 8 (by decide) q1300 rfl rfl dX2_hours_175 ?_
                            refine lv_iload hx hb dX2_hours_178 (lv_at hl 5 rfl) ?_
                            refine M_iald (v := nI (G3 8 c2)) hx hb hG hM 8 rfl rfl (show c2 < 10 from by omega) (rfl) dX2_hours_180 ?_
                            refine lv_iload hx hb dX2_hours_181 (lv_at hl 0 rfl) ?_
                            refine lv_iconst (v := nI 2) hx hb dX2_hours_183 (by decide) ?_
                            refine kn_div hx hb dX2_hours_184 (by omega) (by omega) (by omega) ?_
                            refine kn_add hx hb dX2_hours_185 ?_
                            refine lv_iconst (v := nI 1) hx hb dX2_hours_186 (by decide) ?_
                            refine kn_add hx hb dX2_hours_187 ?_
                            refine lv_bipush (v := nI 100) hx hb dX2_hours_188 (by decide) ?_
                            refine kn_cle (tgt := 198) hx hb dX2_hours_190 (by decide) (by omega) (by omega) (fun c_190 => ?_) (fun c_190 => ?_)
                            · refine lv_aload_n hx hb dX2_hours_198 rfl (lv_at hl 1 rfl) ?_
                              refine M_get (v := .ref (ad 8)) hx hb hts hown hG hM 8 (by decide) q1300 rfl rfl dX2_hours_199 ?_
                              refine lv_iload hx hb dX2_hours_202 (lv_at hl 5 rfl) ?_
                              refine M_iald (v := nI (G3 8 c2)) hx hb hG hM 8 rfl rfl (show c2 < 10 from by omega) (rfl) dX2_hours_204 ?_
                              refine lv_iload hx hb dX2_hours_205 (lv_at hl 0 rfl) ?_
                              refine lv_iconst (v := nI 2) hx hb dX2_hours_207 (by decide) ?_
                              refine kn_div hx hb dX2_hours_208 (by omega) (by omega) (by omega) ?_
                              refine kn_add hx hb dX2_hours_209 ?_
                              refine lv_iconst (v := nI 1) hx hb dX2_hours_210 (by decide) ?_
                              refine kn_add hx hb dX2_hours_211 ?_
                              refine M_iastN (v := G3 8 c2 + ((rateS G3 J2 c2 (N3 14)) / 2) + 1) hx hb hG hS hM 8 rfl (AM.a 8 rfl) rfl rfl (show c2 < 10 from by omega) dX2_hours_212 (fun H locs hM hz hS => ?_)
                              refine lv_aload_n hx hb dX2_hours_213 rfl (lv_at hl 1 rfl) ?_
                              refine M_get (v := .ref (ad 8)) hx hb hts hown hG hM 8 (by decide) q1300 rfl rfl dX2_hours_214 ?_
                              refine lv_iload hx hb dX2_hours_217 (lv_at hl 5 rfl) ?_
                              refine M_iald (v := nI (G3 8 c2 + ((rateS G3 J2 c2 (N3 14)) / 2) + 1)) hx hb hG hM 8 rfl rfl (show c2 < 10 from by omega) (rdG rfl) dX2_hours_219 ?_
                              refine lv_bipush (v := nI 100) hx hb dX2_hours_220 (by decide) ?_
                              refine kn_cne (tgt := 232) hx hb dX2_hours_222 (by decide) (by omega) (by omega) (fun c_222 => ?_) (fun c_222 => ?_)
                              · refine lv_iinc (v := nI (c2 + 1)) (lv' := [(4, .int (nI (c2 + 1))), (5, .int (nI (rateS G3 J2 c2 (N3 14)))), (0, .ref a0), (1, .int (nI j)), (2, .int (nI i)), (3, .int (nI k37))]) hx hb dX2_hours_232 hl (k := 5) rfl (show nI c2 + Int32.ofInt 1 = nI (c2 + 1) from nI_add _ 1) (by decide) rfl (fun ls hl => ?_)
                                refine lv_goto (tgt := 44) hx hb dX2_hours_235 (by decide) ?_
                                have htk : tkS N3 G3 J2 c2 = (N3, (up2 (up2 G3 12 (600 * c2 + (N3 14)) (rateS G3 J2 c2 (N3 14) + 1)) 8 c2 (G3 8 c2 + ((rateS G3 J2 c2 (N3 14)) / 2) + 1)), (up2 J2 13 c2 (nI (rateS G3 J2 c2 (N3 14))))) := by rw [tkS, if_neg (by omega)]
                                have ok5 := tkS_ok i64_2 c2
                                have kn5 := tkS_keepN N3 G3 J2 c2
                                have kg5 := tkS_keepG (G := G3) KeepG.rf N3 J2 c2
                                rw [htk] at ok5 kn5 kg5
                                exact ih44 (c2 + 1) N3 (up2 (up2 G3 12 (600 * c2 + (N3 14)) (rateS G3 J2 c2 (N3 14) + 1)) 8 c2 (G3 8 c2 + ((rateS G3 J2 c2 (N3 14)) / 2) + 1)) (up2 J2 13 c2 (nI (rateS G3 J2 c2 (N3 14)))) (by omega) (by rw [crT_s i44_1, chS_at hra, if_pos hlx, htk]) (ok5) ((i44_3.tr i64_3).tr kn5) ((i44_4.tr i64_4).tr kg5) (by omega) _ _ hM hS _ (lv_sub hl [2, 3, 4, 5, 0] rfl)
                              · refine lv_aload_n hx hb dX2_hours_225 rfl (lv_at hl 1 rfl) ?_
                                refine lv_iload hx hb dX2_hours_226 (lv_at hl 5 rfl) ?_
                                refine lv_iconst (v := nI 3) hx hb dX2_hours_228 (by decide) ?_
                                refine va_callv (va_runV (As := [.int (nI c2), .int (nI 3)]) (rest := []) ⟨hx, hb, hml, hown, hts⟩ (c_X2_goes lh D dA a0 ad N3 I (up2 (up2 G3 12 (600 * c2 + (N3 14)) (rateS G3 J2 c2 (N3 14) + 1)) 8 c2 (G3 8 c2 + ((rateS G3 J2 c2 (N3 14)) / 2) + 1)) (up2 J2 13 c2 (nI (rateS G3 J2 c2 (N3 14)))) H.size c2 3 (show c2 < 10 from by first | omega | assumption | exact hB_up (by assumption) (by omega))) (w_X2_goes hts q1606 rfl rfl ⟨Nat.le_of_ble_eq_true rfl, Nat.le_of_ble_eq_true rfl⟩) ⟨PmM.blind, M_recv hG hM, PmM.pre hG hM⟩ rfl rfl hl.1 rfl (lv_room (Nat.le_of_ble_eq_true rfl)) dX2_hours_229 ⟨Nat.le_of_ble_eq_true rfl, Nat.le_of_ble_eq_true rfl⟩) hS (fun q _ h => AM.up (hS.1) q h) (fun q h => AM.up (hS.1) q h) (fun u t H1 locs ht hvm hp hB hz hk hS => ?_)
                                obtain ⟨hM, -⟩ := hB
                                rw [ht] at hM
                                clear ht hz hk
                                generalize H1 = H at hM hS ⊢
                                subst hp
                                dsimp only at hM
                                refine lv_iinc (v := nI (c2 + 1)) (lv' := [(4, .int (nI (c2 + 1))), (5, .int (nI (rateS G3 J2 c2 (N3 14)))), (0, .ref a0), (1, .int (nI j)), (2, .int (nI i)), (3, .int (nI k37))]) hx hb dX2_hours_232 hl (k := 5) rfl (show nI c2 + Int32.ofInt 1 = nI (c2 + 1) from nI_add _ 1) (by decide) rfl (fun ls hl => ?_)
                                refine lv_goto (tgt := 44) hx hb dX2_hours_235 (by decide) ?_
                                have htk : tkS N3 G3 J2 c2 = ((up1 N3 15 ((N3 15) + gr (up2 (up2 G3 12 (600 * c2 + (N3 14)) (rateS G3 J2 c2 (N3 14) + 1)) 8 c2 (G3 8 c2 + ((rateS G3 J2 c2 (N3 14)) / 2) + 1)) c2)), (goesG (up2 (up2 G3 12 (600 * c2 + (N3 14)) (rateS G3 J2 c2 (N3 14) + 1)) 8 c2 (G3 8 c2 + ((rateS G3 J2 c2 (N3 14)) / 2) + 1)) c2 3), (up2 J2 13 c2 (nI (rateS G3 J2 c2 (N3 14))))) := by rw [tkS, if_pos (by omega), c_222]
                                have ok5 := tkS_ok i64_2 c2
                                have kn5 := tkS_keepN N3 G3 J2 c2
                                have kg5 := tkS_keepG (G := G3) KeepG.rf N3 J2 c2
                                rw [htk] at ok5 kn5 kg5
                                exact ih44 (c2 + 1) (up1 N3 15 ((N3 15) + gr (up2 (up2 G3 12 (600 * c2 + (N3 14)) (rateS G3 J2 c2 (N3 14) + 1)) 8 c2 (G3 8 c2 + ((rateS G3 J2 c2 (N3 14)) / 2) + 1)) c2)) (goesG (up2 (up2 G3 12 (600 * c2 + (N3 14)) (rateS G3 J2 c2 (N3 14) + 1)) 8 c2 (G3 8 c2 + ((rateS G3 J2 c2 (N3 14)) / 2) + 1)) c2 3) (up2 J2 13 c2 (nI (rateS G3 J2 c2 (N3 14)))) (by omega) (by rw [crT_s i44_1, chS_at hra, if_pos hlx, htk]) (ok5) ((i44_3.tr i64_3).tr kn5) ((i44_4.tr i64_4).tr kg5) (by omega) _ _ hM hS _ (lv_sub hl [2, 3, 4, 5, 0] rfl)
                            · refine lv_bipush (v := nI 100) hx hb dX2_hours_193 (by decide) ?_
                              refine lv_goto (tgt := 212) hx hb dX2_hours_195 (by decide) ?_
                              refine M_iastN (v := 100) hx hb hG hS hM 8 rfl (AM.a 8 rfl) rfl rfl (show c2 < 10 from by omega) dX2_hours_212 (fun H locs hM hz hS => ?_)
                              refine lv_aload_n hx hb dX2_hours_213 rfl (lv_at hl 1 rfl) ?_
                              refine M_get (v := .ref (ad 8)) hx hb hts hown hG hM 8 (by decide) q1300 rfl rfl dX2_hours_214 ?_
                              refine lv_iload hx hb dX2_hours_217 (lv_at hl 5 rfl) ?_
                              refine M_iald (v := nI 100) hx hb hG hM 8 rfl rfl (show c2 < 10 from by omega) (rdG rfl) dX2_hours_219 ?_
                              refine lv_bipush (v := nI 100) hx hb dX2_hours_220 (by decide) ?_
                              refine kn_cne (tgt := 232) hx hb dX2_hours_222 (by decide) (by decide) (by decide) (fun c => absurd c (by decide)) (fun _ => ?_)
                              refine lv_aload_n hx hb dX2_hours_225 rfl (lv_at hl 1 rfl) ?_
                              refine lv_iload hx hb dX2_hours_226 (lv_at hl 5 rfl) ?_
                              refine lv_iconst (v := nI 3) hx hb dX2_hours_228 (by decide) ?_
                              refine va_callv (va_runV (As := [.int (nI c2), .int (nI 3)]) (rest := []) ⟨hx, hb, hml, hown, hts⟩ (c_X2_goes lh D dA a0 ad N3 I (up2 (up2 G3 12 (600 * c2 + (N3 14)) (rateS G3 J2 c2 (N3 14) + 1)) 8 c2 100) (up2 J2 13 c2 (nI (rateS G3 J2 c2 (N3 14)))) H.size c2 3 (show c2 < 10 from by first | omega | assumption | exact hB_up (by assumption) (by omega))) (w_X2_goes hts q1606 rfl rfl ⟨Nat.le_of_ble_eq_true rfl, Nat.le_of_ble_eq_true rfl⟩) ⟨PmM.blind, M_recv hG hM, PmM.pre hG hM⟩ rfl rfl hl.1 rfl (lv_room (Nat.le_of_ble_eq_true rfl)) dX2_hours_229 ⟨Nat.le_of_ble_eq_true rfl, Nat.le_of_ble_eq_true rfl⟩) hS (fun q _ h => AM.up (hS.1) q h) (fun q h => AM.up (hS.1) q h) (fun u t H1 locs ht hvm hp hB hz hk hS => ?_)
                              obtain ⟨hM, -⟩ := hB
                              rw [ht] at hM
                              clear ht hz hk
                              generalize H1 = H at hM hS ⊢
                              subst hp
                              dsimp only at hM
                              refine lv_iinc (v := nI (c2 + 1)) (lv' := [(4, .int (nI (c2 + 1))), (5, .int (nI (rateS G3 J2 c2 (N3 14)))), (0, .ref a0), (1, .int (nI j)), (2, .int (nI i)), (3, .int (nI k37))]) hx hb dX2_hours_232 hl (k := 5) rfl (show nI c2 + Int32.ofInt 1 = nI (c2 + 1) from nI_add _ 1) (by decide) rfl (fun ls hl => ?_)
                              refine lv_goto (tgt := 44) hx hb dX2_hours_235 (by decide) ?_
                              have htk : tkS N3 G3 J2 c2 = ((up1 N3 15 ((N3 15) + gr (up2 (up2 G3 12 (600 * c2 + (N3 14)) (rateS G3 J2 c2 (N3 14) + 1)) 8 c2 100) c2)), (goesG (up2 (up2 G3 12 (600 * c2 + (N3 14)) (rateS G3 J2 c2 (N3 14) + 1)) 8 c2 100) c2 3), (up2 J2 13 c2 (nI (rateS G3 J2 c2 (N3 14))))) := by rw [tkS, if_pos (by omega)]
                              have ok5 := tkS_ok i64_2 c2
                              have kn5 := tkS_keepN N3 G3 J2 c2
                              have kg5 := tkS_keepG (G := G3) KeepG.rf N3 J2 c2
                              rw [htk] at ok5 kn5 kg5
                              exact ih44 (c2 + 1) (up1 N3 15 ((N3 15) + gr (up2 (up2 G3 12 (600 * c2 + (N3 14)) (rateS G3 J2 c2 (N3 14) + 1)) 8 c2 100) c2)) (goesG (up2 (up2 G3 12 (600 * c2 + (N3 14)) (rateS G3 J2 c2 (N3 14) + 1)) 8 c2 100) c2 3) (up2 J2 13 c2 (nI (rateS G3 J2 c2 (N3 14)))) (by omega) (by rw [crT_s i44_1, chS_at hra, if_pos hlx, htk]) (ok5) ((i44_3.tr i64_3).tr kn5) ((i44_4.tr i64_4).tr kg5) (by omega) _ _ hM hS _ (lv_sub hl [2, 3, 4, 5, 0] rfl)
                          · have hlx : lv G3 c2 = false := (lvI_lv (by omega) (wi_cnt' (by omega) (by omega))).symm.trans c_120
                            refine lv_goto (tgt := 232) hx hb dX2_hours_123 (by decide) ?_
                            refine lv_iinc (v := nI (c2 + 1)) (lv' := [(4, .int (nI (c2 + 1))), (0, .ref a0), (1, .int (nI j)), (2, .int (nI i)), (3, .int (nI k37)), (5, .int (nI (10 * k37 + q)))]) hx hb dX2_hours_232 hl (k := 4) rfl (show nI c2 + Int32.ofInt 1 = nI (c2 + 1) from nI_add _ 1) (by decide) rfl (fun ls hl => ?_)
                            refine lv_goto (tgt := 44) hx hb dX2_hours_235 (by decide) ?_
                            exact ih44 (c2 + 1) N3 G3 J2 (by omega) (by rw [crT_s i44_1, chS_at hra, if_neg (by rw [hlx]; decide)]) (i64_2) ((i44_3.tr i64_3)) ((i44_4.tr i64_4)) (by omega) _ _ hM hS _ (lv_sub hl [1, 2, 3, 4, 0] rfl)
                        · refine lv_aload_n hx hb dX2_hours_80 rfl (lv_at hl 0 rfl) ?_
                          refine lv_iload hx hb dX2_hours_81 (lv_at hl 4 rfl) ?_
                          refine vp_callSi (W.runV (As := [.int (nI c2)]) (rest := []) ⟨hx, hb, hml, hown, hts⟩ (c_X2_lives lh D dA a0 ad N3 I G3 J2 (nI c2) (show ∀ a b, G3 a b < 2 ^ 31 from by first | omega | assumption | exact hB_up (by assumption) (by omega)) (show (N3 3) ≤ 10 from by first | omega | assumption | exact hB_up (by assumption) (by omega))) (w_X2_lives hts q1479 rfl rfl ⟨Nat.le_of_ble_eq_true rfl, Nat.le_of_ble_eq_true rfl⟩) ⟨PqM.blind, M_recv hG hM, PqM.pre hG hM⟩ rfl rfl hl.1 rfl (lv_room (Nat.le_of_ble_eq_true rfl)) dX2_hours_83 ⟨Nat.le_of_ble_eq_true rfl, Nat.le_of_ble_eq_true rfl⟩) (fun rr hrr => ?_)
                          subst hrr
                          refine kb_eq (tgt := 114) hx hb dX2_hours_86 (by decide) (fun c_86 => ?_) (fun c_86 => ?_)
                          · have hlv : lv G3 c2 = false := (lvI_lv (by omega) (wi_cnt' (by omega) (by omega))).symm.trans c_86
                            have hra : (N3, G3) = ruA (some k37) J2 c2 N2 G2 := by show _ = ruS _ _ _ _ _ _; rw [ruS_dead (q := q) (by rw [← i64_1]; exact hlv) i64_0]; exact i64_1
                            refine lv_aload_n hx hb dX2_hours_114 rfl (lv_at hl 0 rfl) ?_
                            refine lv_iload hx hb dX2_hours_115 (lv_at hl 4 rfl) ?_
                            refine vp_callSi (W.runV (As := [.int (nI c2)]) (rest := []) ⟨hx, hb, hml, hown, hts⟩ (c_X2_lives lh D dA a0 ad N3 I G3 J2 (nI c2) (show ∀ a b, G3 a b < 2 ^ 31 from by first | omega | assumption | exact hB_up (by assumption) (by omega)) (show (N3 3) ≤ 10 from by first | omega | assumption | exact hB_up (by assumption) (by omega))) (w_X2_lives hts q1479 rfl rfl ⟨Nat.le_of_ble_eq_true rfl, Nat.le_of_ble_eq_true rfl⟩) ⟨PqM.blind, M_recv hG hM, PqM.pre hG hM⟩ rfl rfl hl.1 rfl (lv_room (Nat.le_of_ble_eq_true rfl)) dX2_hours_117 ⟨Nat.le_of_ble_eq_true rfl, Nat.le_of_ble_eq_true rfl⟩) (fun rr hrr => ?_)
                            subst hrr
                            refine kb_ne (tgt := 126) hx hb dX2_hours_120 (by decide) (fun c_120 => ?_) (fun c_120 => ?_)
                            · have hlx : lv G3 c2 = true := (lvI_lv (by omega) (wi_cnt' (by omega) (by omega))).symm.trans c_120
                              have hcc := hcr c2
                              refine lv_aload_n hx hb dX2_hours_126 rfl (lv_at hl 0 rfl) ?_
                              refine lv_iload hx hb dX2_hours_127 (lv_at hl 4 rfl) ?_
                              refine lv_aload_n hx hb dX2_hours_129 rfl (lv_at hl 0 rfl) ?_
                              refine M_get (v := .int (nI (N3 14))) hx hb hts hown hG hM 14 (by decide) q1306 rfl rfl dX2_hours_130 ?_
                              refine vp_callSi (W.runV (As := [.int (nI c2), .int (nI (N3 14))]) (rest := []) ⟨hx, hb, hml, hown, hts⟩ (c_X2_rateOf lh D dA a0 ad N3 I G3 J2 c2 (N3 14) (show ∀ a b, G3 a b < 2 ^ 31 from by first | omega | assumption | exact hB_up (by assumption) (by omega)) (show c2 < 10 from by first | omega | assumption | exact hB_up (by assumption) (by omega)) (show (N3 14) < 600 from by first | omega | assumption | exact hB_up (by assumption) (by omega)) (show G3 5 c2 < 12 from by first | omega | assumption | exact hB_up (by assumption) (by omega)) (show G3 7 c2 < 64 from by first | omega | assumption | exact hB_up (by assumption) (by omega)) (show WmOk G3 J2 from by first | omega | assumption | exact hB_up (by assumption) (by omega))) (w_X2_rateOf hts q1614 rfl rfl ⟨Nat.le_of_ble_eq_true rfl, Nat.le_of_ble_eq_true rfl⟩) ⟨PqM.blind, M_recv hG hM, PqM.pre hG hM⟩ rfl rfl hl.1 rfl (lv_room (Nat.le_of_ble_eq_true rfl)) dX2_hours_133 ⟨Nat.le_of_ble_eq_true rfl, Nat.le_of_ble_eq_true rfl⟩) (fun rr hrr => ?_)
                              subst hrr
                              have hrl : rateS G3 J2 c2 (N3 14) ≤ 12 := rateS_le i64_2 _ _
                              refine lv_istore (lv' := [(5, .int (nI (rateS G3 J2 c2 (N3 14)))), (0, .ref a0), (1, .int (nI j)), (2, .int (nI i)), (3, .int (nI k37)), (4, .int (nI c2))]) hx hb dX2_hours_136 hl (by decide) rfl (fun ls hl => ?_)
                              refine lv_aload_n hx hb dX2_hours_138 rfl (lv_at hl 1 rfl) ?_
                              refine M_get (v := .ref (ad 12)) hx hb hts hown hG hM 12 (by decide) q1304 rfl rfl dX2_hours_139 ?_
                              refine lv_sipush (v := nI 600) hx hb dX2_hours_142 (by decide) ?_
                              refine lv_iload hx hb dX2_hours_145 (lv_at hl 5 rfl) ?_
                              refine kn_mul hx hb dX2_hours_147 ?_
                              refine lv_aload_n hx hb dX2_hours_148 rfl (lv_at hl 1 rfl) ?_
                              refine M_get (v := .int (nI (N3 14))) hx hb hts hown hG hM 14 (by decide) q1306 rfl rfl dX2_hours_149 ?_
                              refine kn_add hx hb dX2_hours_152 ?_
                              refine lv_iload hx hb dX2_hours_153 (lv_at hl 0 rfl) ?_
                              refine lv_iconst (v := nI 1) hx hb dX2_hours_155 (by decide) ?_
                              refine kn_add hx hb dX2_hours_156 ?_
                              refine lv_i2b (v := (nI (rateS G3 J2 c2 (N3 14) + 1)).toInt8.toInt32) hx hb dX2_hours_157 rfl ?_
                              refine M_bastN (v := rateS G3 J2 c2 (N3 14) + 1) hx hb hG hS hM 12 rfl (AM.a 12 rfl) rfl rfl (show 600 * c2 + (N3 14) < 6000 from by omega) (byt2 (by omega)) dX2_hours_158 (fun H locs hM hz hS => ?_)
                              refine lv_aload_n hx hb dX2_hours_159 rfl (lv_at hl 1 rfl) ?_
                              refine M_get (v := .ref (ad 13)) hx hb hts hown hG hM 13 (by decide) q1305 rfl rfl dX2_hours_160 ?_
                              refine lv_iload hx hb dX2_hours_163 (lv_at hl 5 rfl) ?_
                              refine lv_iload hx hb dX2_hours_165 (lv_at hl 0 rfl) ?_
                              refine M_iastJ (v := nI (rateS G3 J2 c2 (N3 14))) hx hb hG hS hM 13 rfl (AM.a 13 rfl) rfl rfl (show c2 < 10 from by omega) dX2_hours_167 (fun H locs hM hz hS => ?_)
                              refine lv_aload_n hx hb dX2_hours_168 rfl (lv_at hl 1 rfl) ?_
                              refine M_get (v := .ref (ad 8)) hx hb hts hown hG hM 8 (by decide) q1300 rfl rfl dX2_hours_169 ?_
                              refine lv_iload hx hb dX2_hours_172 (lv_at hl 5 rfl) ?_
                              refine lv_aload_n hx hb dX2_hours_174 rfl (lv_at hl 1 rfl) ?_
                              refine M_get (v := .ref (ad 8)) hx hb hts hown hG hM 8 (by decide) q1300 rfl rfl dX2_hours_175 ?_
                              refine lv_iload hx hb dX2_hours_178 (lv_at hl 5 rfl) ?_
                              refine M_iald (v := nI (G3 8 c2)) hx hb hG hM 8 rfl rfl (show c2 < 10 from by omega) (rfl) dX2_hours_180 ?_
                              refine lv_iload hx hb dX2_hours_181 (lv_at hl 0 rfl) ?_
                              refine lv_iconst (v := nI 2) hx hb dX2_hours_183 (by decide) ?_
                              refine kn_div hx hb dX2_hours_184 (by omega) (by omega) (by omega) ?_
                              refine kn_add hx hb dX2_hours_185 ?_
                              refine lv_iconst (v := nI 1) hx hb dX2_hours_186 (by decide) ?_
                              refine kn_add hx hb dX2_hours_187 ?_
                              refine lv_bipush (v := nI 100) hx hb dX2_hours_188 (by decide) ?_
                              refine kn_cle (tgt := 198) hx hb dX2_hours_190 (by decide) (by omega) (by omega) (fun c_190 => ?_) (fun c_190 => ?_)
                              · refine lv_aload_n hx hb dX2_hours_198 rfl (lv_at hl 1 rfl) ?_
                                refine M_get (v := .ref (ad 8)) hx hb hts hown hG hM 8 (by decide) q1300 rfl rfl dX2_hours_199 ?_
                                refine lv_iload hx hb dX2_hours_202 (lv_at hl 5 rfl) ?_
                                refine M_iald (v := nI (G3 8 c2)) hx hb hG hM 8 rfl rfl (show c2 < 10 from by omega) (rfl) dX2_hours_204 ?_
                                refine lv_iload hx hb dX2_hours_205 (lv_at hl 0 rfl) ?_
                                refine lv_iconst (v := nI 2) hx hb dX2_hours_207 (by decide) ?_
                                refine kn_div hx hb dX2_hours_208 (by omega) (by omega) (by omega) ?_
                                refine kn_add hx hb dX2_hours_209 ?_
                                refine lv_iconst (v := nI 1) hx hb dX2_hours_210 (by decide) ?_
                                refine kn_add hx hb dX2_hours_211 ?_
                                refine M_iastN (v := G3 8 c2 + ((rateS G3 J2 c2 (N3 14)) / 2) + 1) hx hb hG hS hM 8 rfl (AM.a 8 rfl) rfl rfl (show c2 < 10 from by omega) dX2_hours_212 (fun H locs hM hz hS => ?_)
                                refine lv_aload_n hx hb dX2_hours_213 rfl (lv_at hl 1 rfl) ?_
                                refine M_get (v := .ref (ad 8)) hx hb hts hown hG hM 8 (by decide) q1300 rfl rfl dX2_hours_214 ?_
                                refine lv_iload hx hb dX2_hours_217 (lv_at hl 5 rfl) ?_
                                refine M_iald (v := nI (G3 8 c2 + ((rateS G3 J2 c2 (N3 14)) / 2) + 1)) hx hb hG hM 8 rfl rfl (show c2 < 10 from by omega) (rdG rfl) dX2_hours_219 ?_
                                refine lv_bipush (v := nI 100) hx hb dX2_hours_220 (by decide) ?_
                                refine kn_cne (tgt := 232) hx hb dX2_hours_222 (by decide) (by omega) (by omega) (fun c_222 => ?_) (fun c_222 => ?_)
                                · refine lv_iinc (v := nI (c2 + 1)) (lv' := [(4, .int (nI (c2 + 1))), (5, .int (nI (rateS G3 J2 c2 (N3 14)))), (0, .ref a0), (1, .int (nI j)), (2, .int (nI i)), (3, .int (nI k37))]) hx hb dX2_hours_232 hl (k := 5) rfl (show nI c2 + Int32.ofInt 1 = nI (c2 + 1) from nI_add _ 1) (by decide) rfl (fun ls hl => ?_)
                                  refine lv_goto (tgt := 44) hx hb dX2_hours_235 (by decide) ?_
                                  have htk : tkS N3 G3 J2 c2 = (N3, (up2 (up2 G3 12 (600 * c2 + (N3 14)) (rateS G3 J2 c2 (N3 14) + 1)) 8 c2 (G3 8 c2 + ((rateS G3 J2 c2 (N3 14)) / 2) + 1)), (up2 J2 13 c2 (nI (rateS G3 J2 c2 (N3 14))))) := by rw [tkS, if_neg (by omega)]
                                  have ok5 := tkS_ok i64_2 c2
                                  have kn5 := tkS_keepN N3 G3 J2 c2
                                  have kg5 := tkS_keepG (G := G3) KeepG.rf N3 J2 c2
                                  rw [htk] at ok5 kn5 kg5
                                  exact ih44 (c2 + 1) N3 (up2 (up2 G3 12 (600 * c2 + (N3 14)) (rateS G3 J2 c2 (N3 14) + 1)) 8 c2 (G3 8 c2 + ((rateS G3 J2 c2 (N3 14)) / 2) + 1)) (up2 J2 13 c2 (nI (rateS G3 J2 c2 (N3 14)))) (by omega) (by rw [crT_s i44_1, chS_at hra, if_pos hlx, htk]) (ok5) ((i44_3.tr i64_3).tr kn5) ((i44_4.tr i64_4).tr kg5) (by omega) _ _ hM hS _ (lv_sub hl [2, 3, 4, 5, 0] rfl)
                                · refine lv_aload_n hx hb dX2_hours_225 rfl (lv_at hl 1 rfl) ?_
                                  refine lv_iload hx hb dX2_hours_226 (lv_at hl 5 rfl) ?_
                                  refine lv_iconst (v := nI 3) hx hb dX2_hours_228 (by decide) ?_
                                  refine va_callv (va_runV (As := [.int (nI c2), .int (nI 3)]) (rest := []) ⟨hx, hb, hml, hown, hts⟩ (c_X2_goes lh D dA a0 ad N3 I (up2 (up2 G3 12 (600 * c2 + (N3 14)) (rateS G3 J2 c2 (N3 14) + 1)) 8 c2 (G3 8 c2 + ((rateS G3 J2 c2 (N3 14)) / 2) + 1)) (up2 J2 13 c2 (nI (rateS G3 J2 c2 (N3 14)))) H.size c2 3 (show c2 < 10 from by first | omega | assumption | exact hB_up (by assumption) (by omega))) (w_X2_goes hts q1606 rfl rfl ⟨Nat.le_of_ble_eq_true rfl, Nat.le_of_ble_eq_true rfl⟩) ⟨PmM.blind, M_recv hG hM, PmM.pre hG hM⟩ rfl rfl hl.1 rfl (lv_room (Nat.le_of_ble_eq_true rfl)) dX2_hours_229 ⟨Nat.le_of_ble_eq_true rfl, Nat.le_of_ble_eq_true rfl⟩) hS (fun q _ h => AM.up (hS.1) q h) (fun q h => AM.up (hS.1) q h) (fun u t H1 locs ht hvm hp hB hz hk hS => ?_)
                                  obtain ⟨hM, -⟩ := hB
                                  rw [ht] at hM
                                  clear ht hz hk
                                  generalize H1 = H at hM hS ⊢
                                  subst hp
                                  dsimp only at hM
                                  refine lv_iinc (v := nI (c2 + 1)) (lv' := [(4, .int (nI (c2 + 1))), (5, .int (nI (rateS G3 J2 c2 (N3 14)))), (0, .ref a0), (1, .int (nI j)), (2, .int (nI i)), (3, .int (nI k37))]) hx hb dX2_hours_232 hl (k := 5) rfl (show nI c2 + Int32.ofInt 1 = nI (c2 + 1) from nI_add _ 1) (by decide) rfl (fun ls hl => ?_)
                                  refine lv_goto (tgt := 44) hx hb dX2_hours_235 (by decide) ?_
                                  have htk : tkS N3 G3 J2 c2 = ((up1 N3 15 ((N3 15) + gr (up2 (up2 G3 12 (600 * c2 + (N3 14)) (rateS G3 J2 c2 (N3 14) + 1)) 8 c2 (G3 8 c2 + ((rateS G3 J2 c2 (N3 14)) / 2) + 1)) c2)), (goesG (up2 (up2 G3 12 (600 * c2 + (N3 14)) (rateS G3 J2 c2 (N3 14) + 1)) 8 c2 (G3 8 c2 + ((rateS G3 J2 c2 (N3 14)) / 2) + 1)) c2 3), (up2 J2 13 c2 (nI (rateS G3 J2 c2 (N3 14))))) := by rw [tkS, if_pos (by omega), c_222]
                                  have ok5 := tkS_ok i64_2 c2
                                  have kn5 := tkS_keepN N3 G3 J2 c2
                                  have kg5 := tkS_keepG (G := G3) KeepG.rf N3 J2 c2
                                  rw [htk] at ok5 kn5 kg5
                                  exact ih44 (c2 + 1) (up1 N3 15 ((N3 15) + gr (up2 (up2 G3 12 (600 * c2 + (N3 14)) (rateS G3 J2 c2 (N3 14) + 1)) 8 c2 (G3 8 c2 + ((rateS G3 J2 c2 (N3 14)) / 2) + 1)) c2)) (goesG (up2 (up2 G3 12 (600 * c2 + (N3 14)) (rateS G3 J2 c2 (N3 14) + 1)) 8 c2 (G3 8 c2 + ((rateS G3 J2 c2 (N3 14)) / 2) + 1)) c2 3) (up2 J2 13 c2 (nI (rateS G3 J2 c2 (N3 14)))) (by omega) (by rw [crT_s i44_1, chS_at hra, if_pos hlx, htk]) (ok5) ((i44_3.tr i64_3).tr kn5) ((i44_4.tr i64_4).tr kg5) (by omega) _ _ hM hS _ (lv_sub hl [2, 3, 4, 5, 0] rfl)
                              · refine lv_bipush (v := nI 100) hx hb dX2_hours_193 (by decide) ?_
                                refine lv_goto (tgt := 212) hx hb dX2_hours_195 (by decide) ?_
                                refine M_iastN (v := 100) hx hb hG hS hM 8 rfl (AM.a 8 rfl) rfl rfl (show c2 < 10 from by omega) dX2_hours_212 (fun H locs hM hz hS => ?_)
                                refine lv_aload_n hx hb dX2_hours_213 rfl (lv_at hl 1 rfl) ?_
                                refine M_get (v := .ref (ad 8)) hx hb hts hown hG hM 8 (by decide) q1300 rfl rfl dX2_hours_214 ?_
                                refine lv_iload hx hb dX2_hours_217 (lv_at hl 5 rfl) ?_
                                refine M_iald (v := nI 100) hx hb hG hM 8 rfl rfl (show c2 < 10 from by omega) (rdG rfl) dX2_hours_219 ?_
                                refine lv_bipush (v := nI 100) hx hb dX2_hours_220 (by decide) ?_
                                refine kn_cne (tgt := 232) hx hb dX2_hours_222 (by decide) (by decide) (by decide) (fun c => absurd c (by decide)) (fun _ => ?_)
                                refine lv_aload_n hx hb dX2_hours_225 rfl (lv_at hl 1 rfl) ?_
                                refine lv_iload hx hb dX2_hours_226 (lv_at hl 5 rfl) ?_
                                refine lv_iconst (v := nI 3) hx hb dX2_hours_228 (by decide) ?_
                                refine va_callv (va_runV (As := [.int (nI c2), .int (nI 3)]) (rest := []) ⟨hx, hb, hml, hown, hts⟩ (c_X2_goes lh D dA a0 ad N3 I (up2 (up2 G3 12 (600 * c2 + (N3 14)) (rateS G3 J2 c2 (N3 14) + 1)) 8 c2 100) (up2 J2 13 c2 (nI (rateS G3 J2 c2 (N3 14)))) H.size c2 3 (show c2 < 10 from by first | omega | assumption | exact hB_up (by assumption) (by omega))) (w_X2_goes hts q1606 rfl rfl ⟨Nat.le_of_ble_eq_true rfl, Nat.le_of_ble_eq_true rfl⟩) ⟨PmM.blind, M_recv hG hM, PmM.pre hG hM⟩ rfl rfl hl.1 rfl (lv_room (Nat.le_of_ble_eq_true rfl)) dX2_hours_229 ⟨Nat.le_of_ble_eq_true rfl, Nat.le_of_ble_eq_true rfl⟩) hS (fun q _ h => AM.up (hS.1) q h) (fun q h => AM.up (hS.1) q h) (fun u t H1 locs ht hvm hp hB hz hk hS => ?_)
                                obtain ⟨hM, -⟩ := hB
                                rw [ht] at hM
                                clear ht hz hk
                                generalize H1 = H at hM hS ⊢
                                subst hp
                                dsimp only at hM
                                refine lv_iinc (v := nI (c2 + 1)) (lv' := [(4, .int (nI (c2 + 1))), (5, .int (nI (rateS G3 J2 c2 (N3 14)))), (0, .ref a0), (1, .int (nI j)), (2, .int (nI i)), (3, .int (nI k37))]) hx hb dX2_hours_232 hl (k := 5) rfl (show nI c2 + Int32.ofInt 1 = nI (c2 + 1) from nI_add _ 1) (by decide) rfl (fun ls hl => ?_)
                                refine lv_goto (tgt := 44) hx hb dX2_hours_235 (by decide) ?_
                                have htk : tkS N3 G3 J2 c2 = ((up1 N3 15 ((N3 15) + gr (up2 (up2 G3 12 (600 * c2 + (N3 14)) (rateS G3 J2 c2 (N3 14) + 1)) 8 c2 100) c2)), (goesG (up2 (up2 G3 12 (600 * c2 + (N3 14)) (rateS G3 J2 c2 (N3 14) + 1)) 8 c2 100) c2 3), (up2 J2 13 c2 (nI (rateS G3 J2 c2 (N3 14))))) := by rw [tkS, if_pos (by omega)]
                                have ok5 := tkS_ok i64_2 c2
                                have kn5 := tkS_keepN N3 G3 J2 c2
                                have kg5 := tkS_keepG (G := G3) KeepG.rf N3 J2 c2
                                rw [htk] at ok5 kn5 kg5
                                exact ih44 (c2 + 1) (up1 N3 15 ((N3 15) + gr (up2 (up2 G3 12 (600 * c2 + (N3 14)) (rateS G3 J2 c2 (N3 14) + 1)) 8 c2 100) c2)) (goesG (up2 (up2 G3 12 (600 * c2 + (N3 14)) (rateS G3 J2 c2 (N3 14) + 1)) 8 c2 100) c2 3) (up2 J2 13 c2 (nI (rateS G3 J2 c2 (N3 14)))) (by omega) (by rw [crT_s i44_1, chS_at hra, if_pos hlx, htk]) (ok5) ((i44_3.tr i64_3).tr kn5) ((i44_4.tr i64_4).tr kg5) (by omega) _ _ hM hS _ (lv_sub hl [2, 3, 4, 5, 0] rfl)
                            · have hlx : lv G3 c2 = false := (lvI_lv (by omega) (wi_cnt' (by omega) (by omega))).symm.trans c_120
                              refine lv_goto (tgt := 232) hx hb dX2_hours_123 (by decide) ?_
                              refine lv_iinc (v := nI (c2 + 1)) (lv' := [(4, .int (nI (c2 + 1))), (0, .ref a0), (1, .int (nI j)), (2, .int (nI i)), (3, .int (nI k37)), (5, .int (nI (10 * k37 + q)))]) hx hb dX2_hours_232 hl (k := 4) rfl (show nI c2 + Int32.ofInt 1 = nI (c2 + 1) from nI_add _ 1) (by decide) rfl (fun ls hl => ?_)
                              refine lv_goto (tgt := 44) hx hb dX2_hours_235 (by decide) ?_
                              exact ih44 (c2 + 1) N3 G3 J2 (by omega) (by rw [crT_s i44_1, chS_at hra, if_neg (by rw [hlx]; decide)]) (i64_2) ((i44_3.tr i64_3)) ((i44_4.tr i64_4)) (by omega) _ _ hM hS _ (lv_sub hl [1, 2, 3, 4, 0] rfl)
                          · have hlv : lv G3 c2 = true := (lvI_lv (by omega) (wi_cnt' (by omega) (by omega))).symm.trans c_86
                            refine lv_aload_n hx hb dX2_hours_89 rfl (lv_at hl 0 rfl) ?_
                            refine lv_iload hx hb dX2_hours_90 (lv_at hl 4 rfl) ?_
                            refine lv_iload hx hb dX2_hours_92 (lv_at hl 5 rfl) ?_
                            refine vp_callSi (W.runV (As := [.int (nI c2), .int (nI (10 * k37 + q))]) (rest := []) ⟨hx, hb, hml, hown, hts⟩ (c_X2_holds lh D dA a0 ad N3 I G3 J2 c2 (10 * k37 + q) (show ∀ a b, G3 a b < 2 ^ 31 from by first | omega | assumption | exact hB_up (by assumption) (by omega)) (show c2 < 10 from by first | omega | assumption | exact hB_up (by assumption) (by omega)) (show (N3 14) ≤ 600 from by first | omega | assumption | exact hB_up (by assumption) (by omega)) (show (N3 19) ≤ 100 from by first | omega | assumption | exact hB_up (by assumption) (by omega)) (show (10 * k37 + q) < 110 from by first | omega | assumption | exact hB_up (by assumption) (by omega)) ((hru.2 q (by omega)).1) ((hru.2 q (by omega)).2)) (w_X2_holds hts q1590 rfl rfl ⟨Nat.le_of_ble_eq_true rfl, Nat.le_of_ble_eq_true rfl⟩) ⟨PqM.blind, M_recv hG hM, PqM.pre hG hM⟩ rfl rfl hl.1 rfl (lv_room (Nat.le_of_ble_eq_true rfl)) dX2_hours_94 ⟨Nat.le_of_ble_eq_true rfl, Nat.le_of_ble_eq_true rfl⟩) (fun rr hrr => ?_)
                            subst hrr
                            refine kb_eq (tgt := 108) hx hb dX2_hours_97 (by decide) (fun c_97 => ?_) (fun c_97 => ?_)
                            · refine lv_iinc (v := nI (10 * k37 + q + 1)) (lv' := [(5, .int (nI (10 * k37 + q + 1))), (0, .ref a0), (1, .int (nI j)), (2, .int (nI i)), (3, .int (nI k37)), (4, .int (nI c2))]) hx hb dX2_hours_108 hl (k := 5) rfl (show nI (10 * k37 + q) + Int32.ofInt 1 = nI (10 * k37 + q + 1) from nI_add _ 1) (by decide) rfl (fun ls hl => ?_)
                              refine lv_goto (tgt := 64) hx hb dX2_hours_111 (by decide) ?_
                              exact ih64 (q + 1) N3 G3 (by omega) (by rw [ruS_step i64_1 hlv, if_neg (by rw [c_97]; decide)]) (i64_2) (i64_3) (i64_4) (by omega) _ _ hM hS _ (lv_sub hl [1, 2, 3, 4, 5, 0] rfl)
                            · refine lv_aload_n hx hb dX2_hours_100 rfl (lv_at hl 0 rfl) ?_
                              refine lv_iload hx hb dX2_hours_101 (lv_at hl 4 rfl) ?_
                              refine lv_iload hx hb dX2_hours_103 (lv_at hl 5 rfl) ?_
                              refine va_callv (va_runV (As := [.int (nI c2), .int (nI (10 * k37 + q))]) (rest := []) ⟨hx, hb, hml, hown, hts⟩ (c_X2_acts lh D dA a0 ad N3 I G3 J2 H.size c2 (10 * k37 + q) (show OkS N3 G3 J2 from by first | omega | assumption | exact hB_up (by assumption) (by omega)) (show c2 < 10 from by first | omega | assumption | exact hB_up (by assumption) (by omega)) (show (10 * k37 + q) < 110 from by first | omega | assumption | exact hB_up (by assumption) (by omega))) (w_X2_acts hts q1602 rfl rfl ⟨Nat.le_of_ble_eq_true rfl, Nat.le_of_ble_eq_true rfl⟩) ⟨PmM.blind, M_recv hG hM, PmM.pre hG hM⟩ rfl rfl hl.1 rfl (lv_room (Nat.le_of_ble_eq_true rfl)) dX2_hours_105 ⟨Nat.le_of_ble_eq_true rfl, Nat.le_of_ble_eq_true rfl⟩) hS (fun q _ h => AM.up (hS.1) q h) (fun q h => AM.up (hS.1) q h) (fun u t H1 locs ht hvm hp hB hz hk hS => ?_)
                              obtain ⟨hM, -⟩ := hB
                              rw [ht] at hM
                              clear ht hz hk
                              generalize H1 = H at hM hS ⊢
                              subst hp
                              dsimp only at hM
                              refine lv_iinc (v := nI (10 * k37 + q + 1)) (lv' := [(5, .int (nI (10 * k37 + q + 1))), (0, .ref a0), (1, .int (nI j)), (2, .int (nI i)), (3, .int (nI k37)), (4, .int (nI c2))]) hx hb dX2_hours_108 hl (k := 5) rfl (show nI (10 * k37 + q) + Int32.ofInt 1 = nI (10 * k37 + q + 1) from nI_add _ 1) (by decide) rfl (fun ls hl => ?_)
                              refine lv_goto (tgt := 64) hx hb dX2_hours_111 (by decide) ?_
                              exact ih64 (q + 1) (actN N3 G3 c2 (10 * k37 + q)) (actG N3 G3 c2 (10 * k37 + q)) (by omega) (by rw [ruS_step i64_1 hlv, if_pos c_97]) (actS_ok i64_2 _ _) (i64_3.tr (actN_keep _ _ _ _)) (actG_keep i64_4 _ _ _) (by omega) _ _ hM hS _ (lv_sub hl [1, 2, 3, 4, 5, 0] rfl)
                    exact L64 _ 0 N2 G2 (by omega) (rfl) (i44_2) (KeepN.rf) (KeepG.rf) (Nat.lt_succ_self _) _ _ hM hS _ (lv_sub hl [1, 2, 3, 4, 5, 0] rfl)
              exact L44 _ 0 N1 G1 J1 (by omega) (rfl) (i31_2) (KeepN.rf) (KeepG.rf) (Nat.lt_succ_self _) _ _ hM hS _ (lv_sub hl [2, 3, 4, 1, 0] rfl)
      exact L31 _ 0 (up1 N 0 0) G J (by omega) (rfl) (h1) (rfl) (Nat.lt_succ_self _) _ _ hM hS _ (lv_sub hl [1, 2, 0] rfl)
    · refine lv_iconst (v := -1) hx hb dX2_hours_27 (by decide) ?_
      subst hQ
      exact W.iret (v := (-1)) hx hb hrt (fun t ht hW => ⟨⟨_, ((up1 N 0 0), I, G, J), rfl, (by dsimp only; rw [if_neg (by simp [hoursB, nI_add, c_12, nI_leI (show N 14 + j < 2 ^ 31 by omega) (show 600 < 2 ^ 31 by decide), Nat.not_le.mpr c_24])]; exact ⟨rfl, rfl⟩), by rw [ht]; exact hM, GK.warm hW hG⟩, hS.F ht⟩) hS.2.2 dX2_hours_28
theorem w_X2_hours {R : Room} {s : State} {args : Array Value} {own : String} {idx : Nat} (hts : ∀ w ∈ lw_all, w.before args s = true) (h1 : Cond.methodLink own idx yX2_hours ∈ lw_all) {rm : Room} {mc ms : Nat} (hrc : rm.cells = mc) (hrs : rm.slots = ms) (hR : rm.frames + 1 ≤ R.frames ∧ 8 + (6 + 11) + rm.locals ≤ R.locals) : CallW R s args own RX2 idx yX2_hours cX2_hours 6 (some .int) (ws_ yX2_hours cX2_hours 6 (some .int)) rm mc ms 1 := cwV 1 hts (lw_V h1 q1583 q1584 q70 q1585) rfl hrc hrs (by decide +kernel) hR
