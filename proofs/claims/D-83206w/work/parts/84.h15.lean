set_option maxRecDepth 100000
theorem ltH_0x : True := trivial
theorem sumTo_add {f : Nat → Nat} {a : Nat} : ∀ b, sumTo f (a + b) = sumTo f a + sumTo (fun l => f (a + l)) b := by
  intro b
  induction b with
  | zero => rfl
  | succ b ih => show sumTo f (a + b) + f (a + b) = _; rw [ih]; show _ = sumTo f a + (sumTo (fun l => f (a + l)) b + f (a + b)); omega
theorem sum20 {f : Nat → Nat} {i : Nat} : sumTo f (20 * (i + 1)) = sumTo f (20 * i) + sumTo (fun l => f (20 * i + l)) 20 := by
  rw [show 20 * (i + 1) = 20 * i + 20 by omega, sumTo_add]

abbrev r_X1_count : Room := { frames := 4, cells := 0, slots := 0, locals := 87 }
set_option maxHeartbeats 1000000 in
theorem c_X1_count (lh : Launch) (A : Nat → Prop) (D : va_G) (dA : Nat → ClassId) (K : Nat → Nat) (ad X : Nat → Nat → Nat) (Y : Nat → Nat → Nat → Int32) (N : Nat → Nat) (I : Nat → Int32) (G : Nat → Nat → Nat) (J : Nat → Nat → Int32) (w : Int32) (h1 : ∀ a b, G a b < 2 ^ 31) (h2 : N 1 ≤ 20) (h3 : N 3 ≤ 10) (h4 : N 14 ≤ 600) (h5 : N 23 ≤ 10) (h6 : N 40 ≤ 60) (h7 : XOk N G X) : Met lh yX1_count (ws_ yX1_count cX1_count 4 (some .int)) r_X1_count (PX (fun U H => RH A D dA K ad X Y N I G J H ∧ GK D dA U) [.ref (ad 0 0), .int w]) (vp_Si (fun rv => rv = cntS N G w)) 0 0 (fun _ => False) := by
  refine Met.ofW (cc := cX1_count) (maxL := 4) (ret := (some .int)) (by decide) rfl ?_
  intro p e s m args below meth cd s₁ B hml hv
  obtain ⟨hargs, hH, hG⟩ := hv
  have hx := B.exec
  have hb := B.bytes
  have hrt := B.returns
  have hts := atoms_spec (ws := (ws_ yX1_count cX1_count 4 (some .int))) B.pre
  have hts : ∀ w ∈ lw_all, w.before _ s = true := fun w h => hts w (List.mem_cons_of_mem _ h)
  have hown : s.vm.findClass RX1 = some m.cls := findClass_of_methodNamed B.named
  have hlocks := B.notSynchronized
  have hE : entryFrame m args 4 = F0 m 0 ((lg_sl ([.ref (ad 0 0), .int w]) ++ List.replicate (4 - (lg_sl ([.ref (ad 0 0), .int w])).length) Slot.unset).toArray) [] := by rw [hargs]; exact lg_entry_eq m _ 4
  have hl := lv_entry ([.ref (ad 0 0), .int w]) (n := 4) (Nat.le_of_ble_eq_true rfl)
  rw [hE]
  clear hE
  generalize (lg_sl ([.ref (ad 0 0), .int w]) ++ List.replicate (4 - (lg_sl ([.ref (ad 0 0), .int w])).length) Slot.unset).toArray = ls at hl ⊢
  have hl : lv_has ls 4 [(0, .ref (ad 0 0)), (1, .int w)] := hl
  generalize hQ : MQ _ _ _ _ _ _ _ = Q
  have hX := h7
  refine lv_iconst (v := nI 0) hx hb dX1_count_0 (by decide) ?_
  refine lv_istore_n (lv' := [(2, .int (nI 0)), (0, .ref (ad 0 0)), (1, .int w)]) hx hb dX1_count_1 rfl hl (by decide) rfl (fun ls hl => ?_)
  refine lv_iload_n hx hb dX1_count_2 rfl (lv_at hl 2 rfl) ?_
  by_cases w3_0 : w = nI 0
  · refine kx_int (y := nI 0) (w3_0) ?_
    refine lv_tableIn (tgt := 68) (off := 65) hx hb dX1_count_3 (by decide) (by decide) (by decide) (by decide) ?_
    refine lv_aload_n hx hb dX1_count_68 rfl (lv_at hl 1 rfl) ?_
    refine ko_get (C := RX1) (T := TX1) (N := 28) (ci := 1) (v := .int (nI (N 1))) hx hb hts in_X1 hown hG.1 hH.o0 rfl 8 (by decide) q193 (fun _ h => h) (rfl) dX1_count_69 ?_
    subst hQ
    exact W.iret (v := nI (N 1)) hx hb hrt (fun t ht _ => ⟨_, rfl, (show nI (N 1) = cntS N G w from by unfold cntS; rw [if_pos w3_0]), ht⟩) t_nil dX1_count_72
  by_cases w3_1 : w = nI 1
  · refine kx_int (y := nI 1) (w3_1) ?_
    refine lv_tableIn (tgt := 73) (off := 70) hx hb dX1_count_3 (by decide) (by decide) (by decide) (by decide) ?_
    refine lv_aload_n hx hb dX1_count_73 rfl (lv_at hl 1 rfl) ?_
    refine ko_get (C := RX1) (T := TX1) (N := 28) (ci := 1) (v := .ref (ad 4 0)) hx hb hts in_X1 hown hG.1 hH.o0 rfl 3 (by decide) q188 (fun _ h => h) (rfl) dX1_count_74 ?_
    refine vp_callSi (va_Run.call (va_runV (As := []) (rest := []) ⟨hx, hb, hml, hown, hts⟩ (c_J2_size lh D dA (ad 4 0) (Y 3 0 0) (elH K ad X 0) (N 3)) (w_J2_size hts q284 rfl rfl ⟨Nat.le_of_ble_eq_true rfl, Nat.le_of_ble_eq_true rfl⟩) ⟨PX.blind (Mv.and Mv.heap Mv.gk), (O_recv hG (hH.li 0 (by decide)) rfl), PX.pre (Mv.and Mv.heap Mv.gk) ⟨(hH.li 0 (by decide)), hG⟩⟩ rfl rfl hl.1 rfl (lv_room (Nat.le_of_ble_eq_true rfl)) dX1_count_77 ⟨Nat.le_of_ble_eq_true rfl, Nat.le_of_ble_eq_true rfl⟩)) (fun rr hrr => ?_)
    subst hrr
    subst hQ
    exact W.iret (v := nI (N 3)) hx hb hrt (fun t ht _ => ⟨_, rfl, (show nI (N 3) = cntS N G w from by unfold cntS; rw [if_neg w3_0, if_pos w3_1]), ht⟩) t_nil dX1_count_80
  by_cases w3_2 : w = nI 2
  · refine kx_int (y := nI 2) (w3_2) ?_
    refine lv_tableIn (tgt := 81) (off := 78) hx hb dX1_count_3 (by decide) (by decide) (by decide) (by decide) ?_
    refine lv_aload_n hx hb dX1_count_81 rfl (lv_at hl 1 rfl) ?_
    refine ko_get (C := RX1) (T := TX1) (N := 28) (ci := 1) (v := .int (nI (N 14))) hx hb hts in_X1 hown hG.1 hH.o0 rfl 9 (by decide) q194 (fun _ h => h) (rfl) dX1_count_82 ?_
    subst hQ
    exact W.iret (v := nI (N 14)) hx hb hrt (fun t ht _ => ⟨_, rfl, (show nI (N 14) = cntS N G w from by unfold cntS; rw [if_neg w3_0, if_neg w3_1, if_pos w3_2]), ht⟩) t_nil dX1_count_85
  by_cases w3_3 : w = nI 3
  · refine kx_int (y := nI 3) (w3_3) ?_
    refine lv_tableIn (tgt := 86) (off := 83) hx hb dX1_count_3 (by decide) (by decide) (by decide) (by decide) ?_
    refine lv_aload_n hx hb dX1_count_86 rfl (lv_at hl 1 rfl) ?_
    refine ko_get (C := RX1) (T := TX1) (N := 28) (ci := 1) (v := .ref (ad 4 1)) hx hb hts in_X1 hown hG.1 hH.o0 rfl 4 (by decide) q189 (fun _ h => h) (rfl) dX1_count_87 ?_
    refine vp_callSi (va_Run.call (va_runV (As := []) (rest := []) ⟨hx, hb, hml, hown, hts⟩ (c_J2_size lh D dA (ad 4 1) (Y 3 1 0) (elH K ad X 1) (N 19)) (w_J2_size hts q284 rfl rfl ⟨Nat.le_of_ble_eq_true rfl, Nat.le_of_ble_eq_true rfl⟩) ⟨PX.blind (Mv.and Mv.heap Mv.gk), (O_recv hG (hH.li 1 (by decide)) rfl), PX.pre (Mv.and Mv.heap Mv.gk) ⟨(hH.li 1 (by decide)), hG⟩⟩ rfl rfl hl.1 rfl (lv_room (Nat.le_of_ble_eq_true rfl)) dX1_count_90 ⟨Nat.le_of_ble_eq_true rfl, Nat.le_of_ble_eq_true rfl⟩)) (fun rr hrr => ?_)
    subst hrr
    subst hQ
    exact W.iret (v := nI (N 19)) hx hb hrt (fun t ht _ => ⟨_, rfl, (show nI (N 19) = cntS N G w from by unfold cntS; rw [if_neg w3_0, if_neg w3_1, if_neg w3_2, if_pos w3_3]), ht⟩) t_nil dX1_count_93
  by_cases w3_4 : w = nI 4
  · refine kx_int (y := nI 4) (w3_4) ?_
    refine lv_tableIn (tgt := 94) (off := 91) hx hb dX1_count_3 (by decide) (by decide) (by decide) (by decide) ?_
    refine lv_aload_n hx hb dX1_count_94 rfl (lv_at hl 1 rfl) ?_
    refine ko_get (C := RX1) (T := TX1) (N := 28) (ci := 1) (v := .ref (ad 4 2)) hx hb hts in_X1 hown hG.1 hH.o0 rfl 5 (by decide) q190 (fun _ h => h) (rfl) dX1_count_95 ?_
    refine vp_callSi (va_Run.call (va_runV (As := []) (rest := []) ⟨hx, hb, hml, hown, hts⟩ (c_J2_size lh D dA (ad 4 2) (Y 3 2 0) (elH K ad X 2) (N 23)) (w_J2_size hts q284 rfl rfl ⟨Nat.le_of_ble_eq_true rfl, Nat.le_of_ble_eq_true rfl⟩) ⟨PX.blind (Mv.and Mv.heap Mv.gk), (O_recv hG (hH.li 2 (by decide)) rfl), PX.pre (Mv.and Mv.heap Mv.gk) ⟨(hH.li 2 (by decide)), hG⟩⟩ rfl rfl hl.1 rfl (lv_room (Nat.le_of_ble_eq_true rfl)) dX1_count_98 ⟨Nat.le_of_ble_eq_true rfl, Nat.le_of_ble_eq_true rfl⟩)) (fun rr hrr => ?_)
    subst hrr
    subst hQ
    exact W.iret (v := nI (N 23)) hx hb hrt (fun t ht _ => ⟨_, rfl, (show nI (N 23) = cntS N G w from by unfold cntS; rw [if_neg w3_0, if_neg w3_1, if_neg w3_2, if_neg w3_3, if_pos w3_4]), ht⟩) t_nil dX1_count_101
  by_cases w3_5 : w = nI 5
  · refine kx_int (y := nI 5) (w3_5) ?_
    refine lv_tableIn (tgt := 102) (off := 99) hx hb dX1_count_3 (by decide) (by decide) (by decide) (by decide) ?_
    refine lv_aload_n hx hb dX1_count_102 rfl (lv_at hl 1 rfl) ?_
    refine ko_get (C := RX1) (T := TX1) (N := 28) (ci := 1) (v := .ref (ad 4 3)) hx hb hts in_X1 hown hG.1 hH.o0 rfl 6 (by decide) q191 (fun _ h => h) (rfl) dX1_count_103 ?_
    refine vp_callSi (va_Run.call (va_runV (As := []) (rest := []) ⟨hx, hb, hml, hown, hts⟩ (c_J2_size lh D dA (ad 4 3) (Y 3 3 0) (elH K ad X 3) (N 40)) (w_J2_size hts q284 rfl rfl ⟨Nat.le_of_ble_eq_true rfl, Nat.le_of_ble_eq_true rfl⟩) ⟨PX.blind (Mv.and Mv.heap Mv.gk), (O_recv hG (hH.li 3 (by decide)) rfl), PX.pre (Mv.and Mv.heap Mv.gk) ⟨(hH.li 3 (by decide)), hG⟩⟩ rfl rfl hl.1 rfl (lv_room (Nat.le_of_ble_eq_true rfl)) dX1_count_106 ⟨Nat.le_of_ble_eq_true rfl, Nat.le_of_ble_eq_true rfl⟩)) (fun rr hrr => ?_)
    subst hrr
    subst hQ
    exact W.iret (v := nI (N 40)) hx hb hrt (fun t ht _ => ⟨_, rfl, (show nI (N 40) = cntS N G w from by unfold cntS; rw [if_neg w3_0, if_neg w3_1, if_neg w3_2, if_neg w3_3, if_neg w3_4, if_pos w3_5]), ht⟩) t_nil dX1_count_109
  by_cases w3_6 : w = nI 6
  · refine kx_int (y := nI 6) (w3_6) ?_
    refine lv_tableIn (tgt := 110) (off := 107) hx hb dX1_count_3 (by decide) (by decide) (by decide) (by decide) ?_
    refine lv_aload_n hx hb dX1_count_110 rfl (lv_at hl 1 rfl) ?_
    refine ko_get (C := RX1) (T := TX1) (N := 28) (ci := 1) (v := .int (nI (N 44))) hx hb hts in_X1 hown hG.1 hH.o0 rfl 25 (by decide) q210 (fun _ h => h) (rfl) dX1_count_111 ?_
    subst hQ
    exact W.iret (v := nI (N 44)) hx hb hrt (fun t ht _ => ⟨_, rfl, (show nI (N 44) = cntS N G w from by unfold cntS; rw [if_neg w3_0, if_neg w3_1, if_neg w3_2, if_neg w3_3, if_neg w3_4, if_neg w3_5, if_pos w3_6]), ht⟩) t_nil dX1_count_114
  by_cases w3_7 : w = nI 7
  · refine kx_int (y := nI 7) (w3_7) ?_
    refine lv_tableIn (tgt := 115) (off := 112) hx hb dX1_count_3 (by decide) (by decide) (by decide) (by decide) ?_
    refine lv_aload_n hx hb dX1_count_115 rfl (lv_at hl 1 rfl) ?_
    refine ko_get (C := RX1) (T := TX1) (N := 28) (ci := 1) (v := .int (nI (N 33))) hx hb hts in_X1 hown hG.1 hH.o0 rfl 10 (by decide) q195 (fun _ h => h) (rfl) dX1_count_116 ?_
    subst hQ
    exact W.iret (v := nI (N 33)) hx hb hrt (fun t ht _ => ⟨_, rfl, (show nI (N 33) = cntS N G w from by unfold cntS; rw [if_neg w3_0, if_neg w3_1, if_neg w3_2, if_neg w3_3, if_neg w3_4, if_neg w3_5, if_neg w3_6, if_pos w3_7]), ht⟩) t_nil dX1_count_119
  by_cases w3_8 : w = nI 8
  · refine kx_int (y := nI 8) (w3_8) ?_
    refine lv_tableIn (tgt := 120) (off := 117) hx hb dX1_count_3 (by decide) (by decide) (by decide) (by decide) ?_
    refine lv_iconst (v := nI 0) hx hb dX1_count_120 (by decide) ?_
    refine lv_istore_n (lv' := [(3, .int (nI 0)), (2, .int (nI 0)), (0, .ref (ad 0 0)), (1, .int w)]) hx hb dX1_count_121 rfl hl (by decide) rfl (fun ls hl => ?_)
    have L122 : ∀ (nn122 : Nat) (i : Nat), (i ≤ N 1) → N 1 - i < nn122 → ∀ (ls : Array Slot), lv_has ls 4 [(0, .ref (ad 0 0)), (2, .int (nI (sumTo (G 2) i))), (3, .int (nI i))] → W p lh e r_X1_count s m args below meth cd s.heap [] 0 0 Q (F0 m 122 ls []) := by
      intro nn122
      induction nn122 with
      | zero => intro i i122_0 hm122; exact absurd hm122 (Nat.not_lt_zero _)
      | succ nn122 ih122 =>
        intro i i122_0 hm122 ls hl
        refine lv_iload_n hx hb dX1_count_122 rfl (lv_at hl 2 rfl) ?_
        refine lv_aload_n hx hb dX1_count_123 rfl (lv_at hl 0 rfl) ?_
        refine ko_get (C := RX1) (T := TX1) (N := 28) (ci := 1) (v := .int (nI (N 1))) hx hb hts in_X1 hown hG.1 hH.o0 rfl 8 (by decide) q193 (fun _ h => h) (rfl) dX1_count_124 ?_
        refine kn_cge (tgt := 145) hx hb dX1_count_127 (by decide) (by omega) (by omega) (fun c_127 => ?_) (fun c_127 => ?_)
        · refine lv_iload_n hx hb dX1_count_145 rfl (lv_at hl 1 rfl) ?_
          subst hQ
          exact W.iret (v := nI (sumTo (G 2) i)) hx hb hrt (fun t ht _ => ⟨_, rfl, (show nI (sumTo (G 2) i) = cntS N G w from by unfold cntS; rw [if_neg w3_0, if_neg w3_1, if_neg w3_2, if_neg w3_3, if_neg w3_4, if_neg w3_5, if_neg w3_6, if_neg w3_7, if_pos w3_8]; rw [show N 1 = i by omega]), ht⟩) t_nil dX1_count_146
        · refine lv_iload_n hx hb dX1_count_130 rfl (lv_at hl 1 rfl) ?_
          refine lv_aload_n hx hb dX1_count_131 rfl (lv_at hl 0 rfl) ?_
          refine ko_get (C := RX1) (T := TX1) (N := 28) (ci := 1) (v := .ref (ad 1 1)) hx hb hts in_X1 hown hG.1 hH.o0 rfl 1 (by decide) q186 (fun _ h => h) (rfl) dX1_count_132 ?_
          refine lv_iload_n hx hb dX1_count_135 rfl (lv_at hl 2 rfl) ?_
          refine ka_iald (v := nI (G 2 i)) hx hb hG.1 (hH.arr 1 rfl) 0 rfl (show i < 20 from by omega) (by decide) (rfl) dX1_count_136 ?_
          refine kn_add hx hb dX1_count_137 ?_
          refine lv_istore_n (lv' := [(2, .int (nI (sumTo (G 2) i + (G 2 i)))), (0, .ref (ad 0 0)), (3, .int (nI i))]) hx hb dX1_count_138 rfl hl (by decide) rfl (fun ls hl => ?_)
          refine lv_iinc (v := nI (i + 1)) (lv' := [(3, .int (nI (i + 1))), (2, .int (nI (sumTo (G 2) i + (G 2 i)))), (0, .ref (ad 0 0))]) hx hb dX1_count_139 hl (k := 2) rfl (show nI i + Int32.ofInt 1 = nI (i + 1) from nI_add _ 1) (by decide) rfl (fun ls hl => ?_)
          refine lv_goto (tgt := 122) hx hb dX1_count_142 (by decide) ?_
          exact ih122 (i + 1) (by omega) (by omega) _ (lv_sub hl [2, 1, 0] rfl)
    exact L122 _ 0 (by omega) (Nat.lt_succ_self _) _ (lv_sub hl [2, 1, 0] rfl)
  by_cases w3_9 : w = nI 9
  · refine kx_int (y := nI 9) (w3_9) ?_
    refine lv_tableIn (tgt := 147) (off := 144) hx hb dX1_count_3 (by decide) (by decide) (by decide) (by decide) ?_
    refine lv_iconst (v := nI 0) hx hb dX1_count_147 (by decide) ?_
    refine lv_istore_n (lv' := [(3, .int (nI 0)), (2, .int (nI 0)), (0, .ref (ad 0 0)), (1, .int w)]) hx hb dX1_count_148 rfl hl (by decide) rfl (fun ls hl => ?_)
    have L149 : ∀ (nn149 : Nat) (i : Nat), (i ≤ N 3) → N 3 - i < nn149 → ∀ (ls : Array Slot), lv_has ls 4 [(0, .ref (ad 0 0)), (2, .int (nI (sumTo (gr G) i))), (3, .int (nI i))] → W p lh e r_X1_count s m args below meth cd s.heap [] 0 0 Q (F0 m 149 ls []) := by
      intro nn149
      induction nn149 with
      | zero => intro i i149_0 hm149; exact absurd hm149 (Nat.not_lt_zero _)
      | succ nn149 ih149 =>
        intro i i149_0 hm149 ls hl
        refine lv_iload_n hx hb dX1_count_149 rfl (lv_at hl 2 rfl) ?_
        refine lv_aload_n hx hb dX1_count_150 rfl (lv_at hl 0 rfl) ?_
        refine ko_get (C := RX1) (T := TX1) (N := 28) (ci := 1) (v := .ref (ad 4 0)) hx hb hts in_X1 hown hG.1 hH.o0 rfl 3 (by decide) q188 (fun _ h => h) (rfl) dX1_count_151 ?_
        refine vp_callSi (va_Run.call (va_runV (As := []) (rest := [.int (nI i)]) ⟨hx, hb, hml, hown, hts⟩ (c_J2_size lh D dA (ad 4 0) (Y 3 0 0) (elH K ad X 0) (N 3)) (w_J2_size hts q284 rfl rfl ⟨Nat.le_of_ble_eq_true rfl, Nat.le_of_ble_eq_true rfl⟩) ⟨PX.blind (Mv.and Mv.heap Mv.gk), (O_recv hG (hH.li 0 (by decide)) rfl), PX.pre (Mv.and Mv.heap Mv.gk) ⟨(hH.li 0 (by decide)), hG⟩⟩ rfl rfl hl.1 rfl (lv_room (Nat.le_of_ble_eq_true rfl)) dX1_count_154 ⟨Nat.le_of_ble_eq_true rfl, Nat.le_of_ble_eq_true rfl⟩)) (fun rr hrr => ?_)
        subst hrr
        refine kn_cge (tgt := 183) hx hb dX1_count_157 (by decide) (by omega) (by omega) (fun c_157 => ?_) (fun c_157 => ?_)
        · refine lv_iload_n hx hb dX1_count_183 rfl (lv_at hl 1 rfl) ?_
          subst hQ
          exact W.iret (v := nI (sumTo (gr G) i)) hx hb hrt (fun t ht _ => ⟨_, rfl, (show nI (sumTo (gr G) i) = cntS N G w from by unfold cntS; rw [if_neg w3_0, if_neg w3_1, if_neg w3_2, if_neg w3_3, if_neg w3_4, if_neg w3_5, if_neg w3_6, if_neg w3_7, if_neg w3_8, if_pos w3_9]; rw [show N 3 = i by omega]), ht⟩) t_nil dX1_count_184
        · refine lv_iload_n hx hb dX1_count_160 rfl (lv_at hl 1 rfl) ?_
          refine lv_aload_n hx hb dX1_count_161 rfl (lv_at hl 0 rfl) ?_
          refine ko_get (C := RX1) (T := TX1) (N := 28) (ci := 1) (v := .ref (ad 4 0)) hx hb hts in_X1 hown hG.1 hH.o0 rfl 3 (by decide) q188 (fun _ h => h) (rfl) dX1_count_162 ?_
          refine lv_iload_n hx hb dX1_count_165 rfl (lv_at hl 2 rfl) ?_
          refine va_csq (va_Run.call (va_runV (As := [.int (nI i)]) (rest := [.int (nI (sumTo (gr G) i))]) ⟨hx, hb, hml, hown, hts⟩ (c_J2_get lh D dA (ad 4 0) (Y 3 0 0) (ad 5 0) (N 3) (X 0 0) (ltH ad 6 (N 3) 0) (i) (ad 6 i) (show i < N 3 from by omega) ((hX.1 0 (by decide)).1) ((hX.1 0 (by decide)).2) (ltH_0 (show i < N 3 from by omega))) (w_J2_get hts q292 rfl rfl ⟨Nat.le_of_ble_eq_true rfl, Nat.le_of_ble_eq_true rfl⟩) ⟨PX.blind (Mv.and Mv.heap (Mv.and Mv.heap Mv.gk)), (O_recv hG (hH.lo 0 (by decide) (by have hx0 : N 3 ≤ X 0 0 := (hX.1 0 (by decide)).1; omega)) rfl), PX.pre (Mv.and Mv.heap (Mv.and Mv.heap Mv.gk)) ⟨(hH.lo 0 (by decide) (by have hx0 : N 3 ≤ X 0 0 := (hX.1 0 (by decide)).1; omega)), (hH.la 0 (by decide) (by have hx0 : N 3 ≤ X 0 0 := (hX.1 0 (by decide)).1; omega)), hG⟩⟩ rfl rfl hl.1 rfl (lv_room (Nat.le_of_ble_eq_true rfl)) dX1_count_166 ⟨Nat.le_of_ble_eq_true rfl, Nat.le_of_ble_eq_true rfl⟩)) (fun rr hrr => ?_)
          subst hrr
          show W p lh e r_X1_count s m args below meth cd _ _ _ _ Q (F0 m _ ls (.ref (ad 6 i) :: _))
          refine va_castE hx hb hown (hts _ q304) (O_recv hG (hH.cr (show i < N 3 from by omega)) rfl) dX1_count_169 ?_
          refine vp_callSi (va_Run.call (va_runU (As := []) (rest := [.int (nI (sumTo (gr G) i))]) ⟨hx, hb, hml, hown, hts⟩ (c_X3_all_C lh A D dA K ad X Y N I G J i (show i < (N 3) from by first | omega | assumption)) (va_cwU 0 hts (lw_U q440 q441 q443 q444 q72 q445) rfl rfl rfl rfl (by decide +kernel) ⟨Nat.le_of_ble_eq_true rfl, Nat.le_of_ble_eq_true rfl⟩) ⟨PX.blind (Mv.and Mv.heap Mv.gk), (O_recv hG (hH.cr (show i < N 3 from by omega)) rfl), PX.pre (Mv.and Mv.heap Mv.gk) ⟨hH, hG⟩⟩ rfl rfl hl.1 rfl (lv_room (Nat.le_of_ble_eq_true rfl)) dX1_count_172 ⟨Nat.le_of_ble_eq_true rfl, Nat.le_of_ble_eq_true rfl⟩)) (fun rr hrr => ?_)
          subst hrr
          refine kn_add hx hb dX1_count_175 ?_
          refine lv_istore_n (lv' := [(2, .int (nI (sumTo (gr G) i + (gr G i)))), (0, .ref (ad 0 0)), (3, .int (nI i))]) hx hb dX1_count_176 rfl hl (by decide) rfl (fun ls hl => ?_)
          refine lv_iinc (v := nI (i + 1)) (lv' := [(3, .int (nI (i + 1))), (2, .int (nI (sumTo (gr G) i + (gr G i)))), (0, .ref (ad 0 0))]) hx hb dX1_count_177 hl (k := 2) rfl (show nI i + Int32.ofInt 1 = nI (i + 1) from nI_add _ 1) (by decide) rfl (fun ls hl => ?_)
          refine lv_goto (tgt := 149) hx hb dX1_count_180 (by decide) ?_
          exact ih149 (i + 1) (by omega) (by omega) _ (lv_sub hl [2, 1, 0] rfl)
    exact L149 _ 0 (by omega) (Nat.lt_succ_self _) _ (lv_sub hl [2, 1, 0] rfl)
  by_cases w3_10 : w = nI 10
  · refine kx_int (y := nI 10) (w3_10) ?_
    refine lv_tableIn (tgt := 185) (off := 182) hx hb dX1_count_3 (by decide) (by decide) (by decide) (by decide) ?_
    refine lv_iconst (v := nI 0) hx hb dX1_count_185 (by decide) ?_
    refine lv_istore_n (lv' := [(3, .int (nI 0)), (2, .int (nI 0)), (0, .ref (ad 0 0)), (1, .int w)]) hx hb dX1_count_186 rfl hl (by decide) rfl (fun ls hl => ?_)
    have L187 : ∀ (nn187 : Nat) (i : Nat), (i ≤ N 40) → N 40 - i < nn187 → ∀ (ls : Array Slot), lv_has ls 4 [(0, .ref (ad 0 0)), (2, .int (nI (sumTo (G 41) (20 * i)))), (3, .int (nI i))] → W p lh e r_X1_count s m args below meth cd s.heap [] 0 0 Q (F0 m 187 ls []) := by
      intro nn187
      induction nn187 with
      | zero => intro i i187_0 hm187; exact absurd hm187 (Nat.not_lt_zero _)
      | succ nn187 ih187 =>
        intro i i187_0 hm187 ls hl
        refine lv_iload_n hx hb dX1_count_187 rfl (lv_at hl 2 rfl) ?_
        refine lv_aload_n hx hb dX1_count_188 rfl (lv_at hl 0 rfl) ?_
        refine ko_get (C := RX1) (T := TX1) (N := 28) (ci := 1) (v := .ref (ad 4 3)) hx hb hts in_X1 hown hG.1 hH.o0 rfl 6 (by decide) q191 (fun _ h => h) (rfl) dX1_count_189 ?_
        refine vp_callSi (va_Run.call (va_runV (As := []) (rest := [.int (nI i)]) ⟨hx, hb, hml, hown, hts⟩ (c_J2_size lh D dA (ad 4 3) (Y 3 3 0) (elH K ad X 3) (N 40)) (w_J2_size hts q284 rfl rfl ⟨Nat.le_of_ble_eq_true rfl, Nat.le_of_ble_eq_true rfl⟩) ⟨PX.blind (Mv.and Mv.heap Mv.gk), (O_recv hG (hH.li 3 (by decide)) rfl), PX.pre (Mv.and Mv.heap Mv.gk) ⟨(hH.li 3 (by decide)), hG⟩⟩ rfl rfl hl.1 rfl (lv_room (Nat.le_of_ble_eq_true rfl)) dX1_count_192 ⟨Nat.le_of_ble_eq_true rfl, Nat.le_of_ble_eq_true rfl⟩)) (fun rr hrr => ?_)
        subst hrr
        refine kn_cge (tgt := 221) hx hb dX1_count_195 (by decide) (by omega) (by omega) (fun c_195 => ?_) (fun c_195 => ?_)
        · refine lv_iload_n hx hb dX1_count_221 rfl (lv_at hl 1 rfl) ?_
          subst hQ
          exact W.iret (v := nI (sumTo (G 41) (20 * i))) hx hb hrt (fun t ht _ => ⟨_, rfl, (show nI (sumTo (G 41) (20 * i)) = cntS N G w from by unfold cntS; rw [if_neg w3_0, if_neg w3_1, if_neg w3_2, if_neg w3_3, if_neg w3_4, if_neg w3_5, if_neg w3_6, if_neg w3_7, if_neg w3_8, if_neg w3_9, if_pos w3_10]; rw [show N 40 = i by omega]), ht⟩) t_nil dX1_count_222
        · refine lv_iload_n hx hb dX1_count_198 rfl (lv_at hl 1 rfl) ?_
          refine lv_aload_n hx hb dX1_count_199 rfl (lv_at hl 0 rfl) ?_
          refine ko_get (C := RX1) (T := TX1) (N := 28) (ci := 1) (v := .ref (ad 4 3)) hx hb hts in_X1 hown hG.1 hH.o0 rfl 6 (by decide) q191 (fun _ h => h) (rfl) dX1_count_200 ?_
          refine lv_iload_n hx hb dX1_count_203 rfl (lv_at hl 2 rfl) ?_
          refine va_csq (va_Run.call (va_runV (As := [.int (nI i)]) (rest := [.int (nI (sumTo (G 41) (20 * i)))]) ⟨hx, hb, hml, hown, hts⟩ (c_J2_get lh D dA (ad 4 3) (Y 3 3 0) (ad 5 3) (N 40) (X 0 3) (ltH ad 11 (N 40) 0) (i) (ad 11 i) (show i < N 40 from by omega) ((hX.1 3 (by decide)).1) ((hX.1 3 (by decide)).2) (ltH_0 (show i < N 40 from by omega))) (w_J2_get hts q292 rfl rfl ⟨Nat.le_of_ble_eq_true rfl, Nat.le_of_ble_eq_true rfl⟩) ⟨PX.blind (Mv.and Mv.heap (Mv.and Mv.heap Mv.gk)), (O_recv hG (hH.lo 3 (by decide) (by have hx0 : N 40 ≤ X 0 3 := (hX.1 3 (by decide)).1; omega)) rfl), PX.pre (Mv.and Mv.heap (Mv.and Mv.heap Mv.gk)) ⟨(hH.lo 3 (by decide) (by have hx0 : N 40 ≤ X 0 3 := (hX.1 3 (by decide)).1; omega)), (hH.la 3 (by decide) (by have hx0 : N 40 ≤ X 0 3 := (hX.1 3 (by decide)).1; omega)), hG⟩⟩ rfl rfl hl.1 rfl (lv_room (Nat.le_of_ble_eq_true rfl)) dX1_count_204 ⟨Nat.le_of_ble_eq_true rfl, Nat.le_of_ble_eq_true rfl⟩)) (fun rr hrr => ?_)
          subst hrr
          show W p lh e r_X1_count s m args below meth cd _ _ _ _ Q (F0 m _ ls (.ref (ad 11 i) :: _))
          refine va_castE hx hb hown (hts _ q1163) (O_recv hG (hH.ja (show i < N 40 from by omega)) rfl) dX1_count_207 ?_
          refine vp_callSi (va_Run.call (va_runU (As := []) (rest := [.int (nI (sumTo (G 41) (20 * i)))]) ⟨hx, hb, hml, hown, hts⟩ (c_X3_all_J lh A D dA K ad X Y N I G J i (show i < (N 40) from by first | omega | assumption)) (va_cwU 0 hts (lw_U q1222 q1223 q1224 q444 q72 q445) rfl rfl rfl rfl (by decide +kernel) ⟨Nat.le_of_ble_eq_true rfl, Nat.le_of_ble_eq_true rfl⟩) ⟨PX.blind (Mv.and Mv.heap Mv.gk), (O_recv hG (hH.ja (show i < N 40 from by omega)) rfl), PX.pre (Mv.and Mv.heap Mv.gk) ⟨hH, hG⟩⟩ rfl rfl hl.1 rfl (lv_room (Nat.le_of_ble_eq_true rfl)) dX1_count_210 ⟨Nat.le_of_ble_eq_true rfl, Nat.le_of_ble_eq_true rfl⟩)) (fun rr hrr => ?_)
          subst hrr
          refine kn_add hx hb dX1_count_213 ?_
          refine lv_istore_n (lv' := [(2, .int (nI (sumTo (G 41) (20 * i) + (sumTo (fun l => G 41 (20 * i + l)) 20)))), (0, .ref (ad 0 0)), (3, .int (nI i))]) hx hb dX1_count_214 rfl hl (by decide) rfl (fun ls hl => ?_)
          refine lv_iinc (v := nI (i + 1)) (lv' := [(3, .int (nI (i + 1))), (2, .int (nI (sumTo (G 41) (20 * i) + (sumTo (fun l => G 41 (20 * i + l)) 20)))), (0, .ref (ad 0 0))]) hx hb dX1_count_215 hl (k := 2) rfl (show nI i + Int32.ofInt 1 = nI (i + 1) from nI_add _ 1) (by decide) rfl (fun ls hl => ?_)
          refine lv_goto (tgt := 187) hx hb dX1_count_218 (by decide) ?_
          exact ih187 (i + 1) (by omega) (by omega) _ (lv_conv (show lv_has ls 4 [(0, .ref (ad 0 0)), (2, .int (nI (sumTo (G 41) (20 * i) + (sumTo (fun l => G 41 (20 * i + l)) 20)))), (3, .int (nI (i + 1)))] from (lv_sub hl [2, 1, 0] rfl)) (by rw [sum20]))
    exact L187 _ 0 (by omega) (Nat.lt_succ_self _) _ (lv_sub hl [2, 1, 0] rfl)
  by_cases w3_11 : w = nI 11
  · refine kx_int (y := nI 11) (w3_11) ?_
    refine lv_tableIn (tgt := 223) (off := 220) hx hb dX1_count_3 (by decide) (by decide) (by decide) (by decide) ?_
    refine lv_aload_n hx hb dX1_count_223 rfl (lv_at hl 1 rfl) ?_
    refine ko_get (C := RX1) (T := TX1) (N := 28) (ci := 1) (v := .int (nI (N 15))) hx hb hts in_X1 hown hG.1 hH.o0 rfl 12 (by decide) q197 (fun _ h => h) (rfl) dX1_count_224 ?_
    subst hQ
    exact W.iret (v := nI (N 15)) hx hb hrt (fun t ht _ => ⟨_, rfl, (show nI (N 15) = cntS N G w from by unfold cntS; rw [if_neg w3_0, if_neg w3_1, if_neg w3_2, if_neg w3_3, if_neg w3_4, if_neg w3_5, if_neg w3_6, if_neg w3_7, if_neg w3_8, if_neg w3_9, if_neg w3_10, if_pos w3_11]), ht⟩) t_nil dX1_count_227
  by_cases w3_12 : w = nI 12
  · refine kx_int (y := nI 12) (w3_12) ?_
    refine lv_tableIn (tgt := 228) (off := 225) hx hb dX1_count_3 (by decide) (by decide) (by decide) (by decide) ?_
    refine lv_aload_n hx hb dX1_count_228 rfl (lv_at hl 1 rfl) ?_
    refine va_csq (va_Run.call (va_runV (As := []) (rest := []) ⟨hx, hb, hml, hown, hts⟩ (c_X1_inForce lh A D dA K ad X Y N I G J (h1) (by omega) (by omega) (hX)) (w_X1_inForce hts q458 rfl rfl ⟨Nat.le_of_ble_eq_true rfl, Nat.le_of_ble_eq_true rfl⟩) ⟨PX.blind (Mv.and Mv.heap Mv.gk), (O_recv hG hH.o0 rfl), PX.pre (Mv.and Mv.heap Mv.gk) ⟨hH, hG⟩⟩ rfl rfl hl.1 rfl (lv_room (Nat.le_of_ble_eq_true rfl)) dX1_count_229 ⟨Nat.le_of_ble_eq_true rfl, Nat.le_of_ble_eq_true rfl⟩)) (fun rr hrr => ?_)
    subst hrr
    rcases hq229 : ifS G (N 14 / 24) (N 23) with _ | k229
    · show W p lh e r_X1_count s m args below meth cd _ _ _ _ Q (F0 m _ ls (.null :: _))
      refine lv_ifnonnullN hx hb dX1_count_232 ?_
      refine lv_iconst (v := -1) hx hb dX1_count_235 (by decide) ?_
      refine lv_goto (tgt := 250) hx hb dX1_count_236 (by decide) ?_
      subst hQ
      exact W.iret (v := (-1)) hx hb hrt (fun t ht _ => ⟨_, rfl, (show (-1) = cntS N G w from by unfold cntS; rw [if_neg w3_0, if_neg w3_1, if_neg w3_2, if_neg w3_3, if_neg w3_4, if_neg w3_5, if_neg w3_6, if_neg w3_7, if_neg w3_8, if_neg w3_9, if_neg w3_10, if_neg w3_11, if_pos w3_12]; rw [hq229]; rfl), ht⟩) t_nil dX1_count_250
    · show W p lh e r_X1_count s m args below meth cd _ _ _ _ Q (F0 m _ ls (.ref (ad 10 k229) :: _))
      have hk229 := ifS_lt hq229
      refine lv_ifnonnull (tgt := 239) hx hb dX1_count_232 (by decide) ?_
      refine lv_aload_n hx hb dX1_count_239 rfl (lv_at hl 1 rfl) ?_
      refine ko_get (C := RX1) (T := TX1) (N := 28) (ci := 1) (v := .ref (ad 4 2)) hx hb hts in_X1 hown hG.1 hH.o0 rfl 5 (by decide) q190 (fun _ h => h) (rfl) dX1_count_240 ?_
      refine lv_aload_n hx hb dX1_count_243 rfl (lv_at hl 1 rfl) ?_
      refine va_csq (va_Run.call (va_runV (As := []) (rest := [.ref (ad 4 2)]) ⟨hx, hb, hml, hown, hts⟩ (c_X1_inForce lh A D dA K ad X Y N I G J (h1) (by omega) (by omega) (hX)) (w_X1_inForce hts q458 rfl rfl ⟨Nat.le_of_ble_eq_true rfl, Nat.le_of_ble_eq_true rfl⟩) ⟨PX.blind (Mv.and Mv.heap Mv.gk), (O_recv hG hH.o0 rfl), PX.pre (Mv.and Mv.heap Mv.gk) ⟨hH, hG⟩⟩ rfl rfl hl.1 rfl (lv_room (Nat.le_of_ble_eq_true rfl)) dX1_count_244 ⟨Nat.le_of_ble_eq_true rfl, Nat.le_of_ble_eq_true rfl⟩)) (fun rr hrr => ?_)
      subst hrr
      rcases hq244 : ifS G (N 14 / 24) (N 23) with _ | k244
      · show W p lh e r_X1_count s m args below meth cd _ _ _ _ Q (F0 m _ ls (.null :: _))
        rw [hq229] at hq244; cases hq244
      · show W p lh e r_X1_count s m args below meth cd _ _ _ _ Q (F0 m _ ls (.ref (ad 10 k244) :: _))
        have ekk : k244 = k229 := Option.some.inj (hq244.symm.trans hq229)
        subst ekk
        have hk229 := ifS_lt hq244
        have hx0 : X 0 2 ≠ 0 := (by have := (hX.1 2 (by decide)).1; have h9 : szH N 2 = N 23 := rfl; omega)
        have hli : va_at D CL (ad 4 2, .inr (15, [.int (Y 3 2 0), .ref (ad 5 2), .int (nI (N 23))])) s.heap := hH.lo 2 (by decide) hx0
        have hla : va_at D CL (ad 5 2, .inl (dA 4, X 0 2, rfA (ltH ad 10 (N 23) 0))) s.heap := hH.la 2 (by decide) hx0
        have hre : va_at D CL (ad 10 k244, .inr (5, [.int (nI (G 24 k244)), .ref (ad 13 k244)])) s.heap := hH.re (show k244 < N 23 by omega)
        refine vp_callSi (va_Run.call (va_runV (As := [.ref (ad 10 k244)]) (rest := []) ⟨hx, hb, hml, hown, hts⟩ (c_J2_indexOf lh D dA (ad 4 2) (Y 3 2 0) (ad 5 2) (N 23) (X 0 2) (ltH ad 10 (N 23) 0) (ad 10 k244) (nI (G 24 k244)) (ad 13 k244) (ad 10) k244 (hX.1 2 (by decide)).1 (hX.1 2 (by decide)).2 (fun j hj => ltH_0 hj) (by omega) rfl (fun j hj e => absurd (hH.inj 10 (show j < N 23 by omega) (show k244 < N 23 by omega) e) (by omega))) (w_J2_indexOf hts q1225 rfl rfl ⟨Nat.le_of_ble_eq_true rfl, Nat.le_of_ble_eq_true rfl⟩) ⟨PX.blind (Mv.and Mv.heap Mv.gk), (O_recv hG hli rfl), PX.pre (Mv.and Mv.heap Mv.gk) ⟨((ka_one hli).app (ka_one hla)).app (ka_one hre), hG⟩⟩ rfl rfl hl.1 rfl (lv_room (Nat.le_of_ble_eq_true rfl)) dX1_count_247 ⟨Nat.le_of_ble_eq_true rfl, Nat.le_of_ble_eq_true rfl⟩)) (fun rr hrr => ?_)
        subst hrr
        subst hQ
        exact W.iret (v := nI k244) hx hb hrt (fun t ht _ => ⟨_, rfl, (show nI k244 = cntS N G w from by unfold cntS; rw [if_neg w3_0, if_neg w3_1, if_neg w3_2, if_neg w3_3, if_neg w3_4, if_neg w3_5, if_neg w3_6, if_neg w3_7, if_neg w3_8, if_neg w3_9, if_neg w3_10, if_neg w3_11, if_pos w3_12]; rw [hq229]; rfl), ht⟩) t_nil dX1_count_250
  refine lv_tableOut (tgt := 251) hx hb dX1_count_3 (sw_out 12 (lt_s (lt_s (lt_s (lt_s (lt_s (lt_s (lt_s (lt_s (lt_s (lt_s (lt_s (lt_s (lt_s lt_0 w3_0) w3_1) w3_2) w3_3) w3_4) w3_5) w3_6) w3_7) w3_8) w3_9) w3_10) w3_11) w3_12)) (by decide) ?_
  refine lv_iconst (v := -1) hx hb dX1_count_251 (by decide) ?_
  subst hQ
  exact W.iret (v := (-1)) hx hb hrt (fun t ht _ => ⟨_, rfl, (show (-1) = cntS N G w from by unfold cntS; rw [if_neg w3_0, if_neg w3_1, if_neg w3_2, if_neg w3_3, if_neg w3_4, if_neg w3_5, if_neg w3_6, if_neg w3_7, if_neg w3_8, if_neg w3_9, if_neg w3_10, if_neg w3_11, if_neg w3_12]), ht⟩) t_nil dX1_count_252
theorem w_X1_count {R : Room} {s : State} {args : Array Value} {own : String} {idx : Nat} (hts : ∀ w ∈ lw_all, w.before args s = true) (h1 : Cond.methodLink own idx yX1_count ∈ lw_all) {rm : Room} {mc ms : Nat} (hrc : rm.cells = mc) (hrs : rm.slots = ms) (hR : rm.frames + 1 ≤ R.frames ∧ 8 + (4 + 11) + rm.locals ≤ R.locals) : CallW R s args own RX1 idx yX1_count cX1_count 4 (some .int) (ws_ yX1_count cX1_count 4 (some .int)) rm mc ms 1 := cwV 1 hts (lw_V h1 q1219 q1220 q62 q1221) rfl hrc hrs (by decide +kernel) hR
