set_option maxRecDepth 100000
abbrev r_X2_within : Room := { frames := 0, cells := 0, slots := 0, locals := 0 }
set_option maxHeartbeats 400000 in
theorem c_X2_within (lh : Launch) (v : Int32) (lo : Int32) (hi : Int32) : Met lh yX2_within (ws_ yX2_within cX2_within 3 (some .boolean)) r_X2_within (P0 [.int v, .int lo, .int hi]) (vp_Si (fun rv => rv = bI (wi v lo hi))) 0 0 (fun _ => False) := by
  refine Met.ofW (cc := cX2_within) (maxL := 3) (ret := (some .boolean)) (by decide) rfl ?_
  intro p e s m args below meth cd s₁ B hml hv
  obtain ⟨hargs, -⟩ := hv
  have hx := B.exec
  have hb := B.bytes
  have hrt := B.returns
  have hts := atoms_spec (ws := (ws_ yX2_within cX2_within 3 (some .boolean))) B.pre
  have hts : ∀ w ∈ lw_all, w.before _ s = true := fun w h => hts w (List.mem_cons_of_mem _ h)
  have hown : s.vm.findClass RX2 = some m.cls := findClass_of_methodNamed B.named
  have hlocks := B.notSynchronized
  have hE : entryFrame m args 3 = F0 m 0 ((lg_sl ([.int v, .int lo, .int hi]) ++ List.replicate (3 - (lg_sl ([.int v, .int lo, .int hi])).length) Slot.unset).toArray) [] := by rw [hargs]; exact lg_entry_eq m _ 3
  have hl := lv_entry ([.int v, .int lo, .int hi]) (n := 3) (Nat.le_of_ble_eq_true rfl)
  rw [hE]
  clear hE
  generalize (lg_sl ([.int v, .int lo, .int hi]) ++ List.replicate (3 - (lg_sl ([.int v, .int lo, .int hi])).length) Slot.unset).toArray = ls at hl ⊢
  have hl : lv_has ls 3 [(0, .int v), (1, .int lo), (2, .int hi)] := hl
  generalize hQ : MQ _ _ _ _ _ _ _ = Q
  refine lv_iload_n hx hb dX2_within_0 rfl (lv_at hl 0 rfl) ?_
  refine lv_iload_n hx hb dX2_within_1 rfl (lv_at hl 1 rfl) ?_
  refine lv_icmp_lt (tgt := 14) hx hb dX2_within_2 (by decide) (fun c_2 => ?_) (fun c_2 => ?_)
  · refine lv_iconst (v := nI 0) hx hb dX2_within_14 (by decide) ?_
    subst hQ
    exact W.zret (v := nI 0) hx hb hrt rfl (fun t ht _ => ⟨_, rfl, (show nI 0 = bI (wi v lo hi) from retB0 (by first | rfl | simp [wi, c_2])), ht⟩) t_nil dX2_within_15
  · refine lv_iload_n hx hb dX2_within_5 rfl (lv_at hl 0 rfl) ?_
    refine lv_iload_n hx hb dX2_within_6 rfl (lv_at hl 2 rfl) ?_
    refine lv_icmp_gt (tgt := 14) hx hb dX2_within_7 (by decide) (fun c_7 => ?_) (fun c_7 => ?_)
    · refine lv_iconst (v := nI 0) hx hb dX2_within_14 (by decide) ?_
      subst hQ
      exact W.zret (v := nI 0) hx hb hrt rfl (fun t ht _ => ⟨_, rfl, (show nI 0 = bI (wi v lo hi) from retB0 (by first | rfl | simp [wi, c_2, c_7])), ht⟩) t_nil dX2_within_15
    · refine lv_iconst (v := nI 1) hx hb dX2_within_10 (by decide) ?_
      refine lv_goto (tgt := 15) hx hb dX2_within_11 (by decide) ?_
      subst hQ
      exact W.zret (v := nI 1) hx hb hrt rfl (fun t ht _ => ⟨_, rfl, (show nI 1 = bI (wi v lo hi) from retB1 (by first | rfl | simp [wi, c_2, c_7])), ht⟩) t_nil dX2_within_15
theorem w_X2_within {R : Room} {s : State} {args : Array Value} {own : String} {idx : Nat} (hts : ∀ w ∈ lw_all, w.before args s = true) (h1 : Cond.methodLink own idx yX2_within ∈ lw_all) {rm : Room} {mc ms : Nat} (hrc : rm.cells = mc) (hrs : rm.slots = ms) (hR : rm.frames + 1 ≤ R.frames ∧ 8 + (3 + 11) + rm.locals ≤ R.locals) : CallB R s args own idx yX2_within cX2_within 3 (some .boolean) (ws_ yX2_within cX2_within 3 (some .boolean)) rm mc ms 3 ∧ (Cond.static yX2_within).before args s = true := va_cwS 3 hts (lw_S h1 q1465 q70 q1466) rfl hrc hrs (by decide +kernel) hR

abbrev r_X2_isCrock : Room := { frames := 1, cells := 0, slots := 0, locals := 22 }
set_option maxHeartbeats 400000 in
theorem c_X2_isCrock (lh : Launch) (D : va_G) (dA : Nat → ClassId) (a0 : Nat) (ad : Nat → Nat) (N : Nat → Nat) (I : Nat → Int32) (G : Nat → Nat → Nat) (J : Nat → Nat → Int32) (c : Int32) : Met lh yX2_isCrock (ws_ yX2_isCrock cX2_isCrock 2 (some .boolean)) r_X2_isCrock (PqM D dA a0 ad N I G J [.ref a0, .int c]) (vp_Si (fun rv => rv = bI (wi c (nI 0) (nI (N 3) - nI 1)))) 0 0 (fun _ => False) := by
  refine Met.ofW (cc := cX2_isCrock) (maxL := 2) (ret := (some .boolean)) (by decide) rfl ?_
  intro p e s m args below meth cd s₁ B hml hv
  obtain ⟨hargs, hM, hG⟩ := hv
  have hx := B.exec
  have hb := B.bytes
  have hrt := B.returns
  have hts := atoms_spec (ws := (ws_ yX2_isCrock cX2_isCrock 2 (some .boolean))) B.pre
  have hts : ∀ w ∈ lw_all, w.before _ s = true := fun w h => hts w (List.mem_cons_of_mem _ h)
  have hown : s.vm.findClass RX2 = some m.cls := findClass_of_methodNamed B.named
  have hlocks := B.notSynchronized
  have hE : entryFrame m args 2 = F0 m 0 ((lg_sl ([.ref a0, .int c]) ++ List.replicate (2 - (lg_sl ([.ref a0, .int c])).length) Slot.unset).toArray) [] := by rw [hargs]; exact lg_entry_eq m _ 2
  have hl := lv_entry ([.ref a0, .int c]) (n := 2) (Nat.le_of_ble_eq_true rfl)
  rw [hE]
  clear hE
  generalize (lg_sl ([.ref a0, .int c]) ++ List.replicate (2 - (lg_sl ([.ref a0, .int c])).length) Slot.unset).toArray = ls at hl ⊢
  have hl : lv_has ls 2 [(0, .ref a0), (1, .int c)] := hl
  generalize hQ : MQ _ _ _ _ _ _ _ = Q
  refine lv_iload_n hx hb dX2_isCrock_0 rfl (lv_at hl 1 rfl) ?_
  refine lv_iconst (v := nI 0) hx hb dX2_isCrock_1 (by decide) ?_
  refine lv_aload_n hx hb dX2_isCrock_2 rfl (lv_at hl 0 rfl) ?_
  refine M_get (v := .int (nI (N 3))) hx hb hts hown hG hM 3 (by decide) q1295 rfl rfl dX2_isCrock_3 ?_
  refine lv_iconst (v := nI 1) hx hb dX2_isCrock_6 (by decide) ?_
  refine lv_isub hx hb dX2_isCrock_7 ?_
  refine vp_callSi (W.runS (As := [.int c, .int (nI 0), .int (nI (N 3) - (nI 1))]) (rest := []) ⟨hx, hb, hml, hown, hts⟩ (c_X2_within lh c (nI 0) (nI (N 3) - (nI 1))) (w_X2_within hts q1464 rfl rfl ⟨Nat.le_of_ble_eq_true rfl, Nat.le_of_ble_eq_true rfl⟩) ⟨P0.blind, P0.pre⟩ rfl rfl hl.1 rfl (lv_room (Nat.le_of_ble_eq_true rfl)) dX2_isCrock_8 ⟨Nat.le_of_ble_eq_true rfl, Nat.le_of_ble_eq_true rfl⟩) (fun rr hrr => ?_)
  subst hrr
  subst hQ
  exact W.zret (v := bI (wi c (nI 0) (nI (N 3) - (nI 1)))) hx hb hrt (narB _) (fun t ht _ => ⟨_, rfl, (show bI (wi c (nI 0) (nI (N 3) - (nI 1))) = bI (wi c (nI 0) (nI (N 3) - nI 1)) from by first | rfl | simp []), ht⟩) t_nil dX2_isCrock_11
theorem w_X2_isCrock {R : Room} {s : State} {args : Array Value} {own : String} {idx : Nat} (hts : ∀ w ∈ lw_all, w.before args s = true) (h1 : Cond.methodLink own idx yX2_isCrock ∈ lw_all) {rm : Room} {mc ms : Nat} (hrc : rm.cells = mc) (hrs : rm.slots = ms) (hR : rm.frames + 1 ≤ R.frames ∧ 8 + (2 + 11) + rm.locals ≤ R.locals) : CallW R s args own RX2 idx yX2_isCrock cX2_isCrock 2 (some .boolean) (ws_ yX2_isCrock cX2_isCrock 2 (some .boolean)) rm mc ms 1 := cwV 1 hts (lw_V h1 q1485 qs32 q70 q1486) rfl hrc hrs (by decide +kernel) hR

abbrev r_X2_grams : Room := { frames := 0, cells := 0, slots := 0, locals := 0 }
set_option maxHeartbeats 400000 in
theorem c_X2_grams (lh : Launch) (D : va_G) (dA : Nat → ClassId) (a0 : Nat) (ad : Nat → Nat) (N : Nat → Nat) (I : Nat → Int32) (G : Nat → Nat → Nat) (J : Nat → Nat → Int32) (c : Nat) (h1 : c < 10) : Met lh yX2_grams (ws_ yX2_grams cX2_grams 4 (some .int)) r_X2_grams (PqM D dA a0 ad N I G J [.ref a0, .int (nI c)]) (vp_Si (fun rv => rv = nI (gr G c))) 0 0 (fun _ => False) := by
  refine Met.ofW (cc := cX2_grams) (maxL := 4) (ret := (some .int)) (by decide) rfl ?_
  intro p e s m args below meth cd s₁ B hml hv
  obtain ⟨hargs, hM, hG⟩ := hv
  have hx := B.exec
  have hb := B.bytes
  have hrt := B.returns
  have hts := atoms_spec (ws := (ws_ yX2_grams cX2_grams 4 (some .int))) B.pre
  have hts : ∀ w ∈ lw_all, w.before _ s = true := fun w h => hts w (List.mem_cons_of_mem _ h)
  have hown : s.vm.findClass RX2 = some m.cls := findClass_of_methodNamed B.named
  have hlocks := B.notSynchronized
  have hE : entryFrame m args 4 = F0 m 0 ((lg_sl ([.ref a0, .int (nI c)]) ++ List.replicate (4 - (lg_sl ([.ref a0, .int (nI c)])).length) Slot.unset).toArray) [] := by rw [hargs]; exact lg_entry_eq m _ 4
  have hl := lv_entry ([.ref a0, .int (nI c)]) (n := 4) (Nat.le_of_ble_eq_true rfl)
  rw [hE]
  clear hE
  generalize (lg_sl ([.ref a0, .int (nI c)]) ++ List.replicate (4 - (lg_sl ([.ref a0, .int (nI c)])).length) Slot.unset).toArray = ls at hl ⊢
  have hl : lv_has ls 4 [(0, .ref a0), (1, .int (nI c))] := hl
  generalize hQ : MQ _ _ _ _ _ _ _ = Q
  refine lv_iconst (v := nI 0) hx hb dX2_grams_0 (by decide) ?_
  refine lv_istore_n (lv' := [(2, .int (nI 0)), (0, .ref a0), (1, .int (nI c))]) hx hb dX2_grams_1 rfl hl (by decide) rfl (fun ls hl => ?_)
  refine lv_iconst (v := nI 0) hx hb dX2_grams_2 (by decide) ?_
  refine lv_istore_n (lv' := [(3, .int (nI 0)), (2, .int (nI 0)), (0, .ref a0), (1, .int (nI c))]) hx hb dX2_grams_3 rfl hl (by decide) rfl (fun ls hl => ?_)
  have L4 : ∀ (nn4 : Nat) (l : Nat), (l ≤ 20) → 20 - l < nn4 → ∀ (ls : Array Slot), lv_has ls 4 [(0, .ref a0), (1, .int (nI c)), (2, .int (nI (grT G c l))), (3, .int (nI l))] → W p lh e r_X2_grams s m args below meth cd s.heap [] 0 0 Q (F0 m 4 ls []) := by
    intro nn4
    induction nn4 with
    | zero => intro l i4_0 hm4; exact absurd hm4 (Nat.not_lt_zero _)
    | succ nn4 ih4 =>
      intro l i4_0 hm4 ls hl
      refine lv_iload_n hx hb dX2_grams_4 rfl (lv_at hl 3 rfl) ?_
      refine lv_bipush (v := nI 20) hx hb dX2_grams_5 (by decide) ?_
      refine kn_cge (tgt := 30) hx hb dX2_grams_7 (by decide) (by omega) (by omega) (fun c_7 => ?_) (fun c_7 => ?_)
      · refine lv_iload_n hx hb dX2_grams_30 rfl (lv_at hl 2 rfl) ?_
        subst hQ
        exact W.iret (v := nI (grT G c l)) hx hb hrt (fun t ht _ => ⟨_, rfl, (show nI (grT G c l) = nI (gr G c) from by rw [show l = 20 by omega]; rfl), ht⟩) t_nil dX2_grams_31
      · refine lv_iload_n hx hb dX2_grams_10 rfl (lv_at hl 2 rfl) ?_
        refine lv_aload_n hx hb dX2_grams_11 rfl (lv_at hl 0 rfl) ?_
        refine M_get (v := .ref (ad 4)) hx hb hts hown hG hM 4 (by decide) q1296 rfl rfl dX2_grams_12 ?_
        refine lv_bipush (v := nI 20) hx hb dX2_grams_15 (by decide) ?_
        refine lv_iload_n hx hb dX2_grams_17 rfl (lv_at hl 1 rfl) ?_
        refine kn_mul hx hb dX2_grams_18 ?_
        refine lv_iload_n hx hb dX2_grams_19 rfl (lv_at hl 3 rfl) ?_
        refine kn_add hx hb dX2_grams_20 ?_
        refine M_iald (v := nI (G 4 (20 * c + l))) hx hb hG hM 4 rfl rfl (show 20 * c + l < 200 from by omega) (rfl) dX2_grams_21 ?_
        refine kn_add hx hb dX2_grams_22 ?_
        refine lv_istore_n (lv' := [(2, .int (nI (grT G c l + (G 4 (20 * c + l))))), (0, .ref a0), (1, .int (nI c)), (3, .int (nI l))]) hx hb dX2_grams_23 rfl hl (by decide) rfl (fun ls hl => ?_)
        refine lv_iinc (v := nI (l + 1)) (lv' := [(3, .int (nI (l + 1))), (2, .int (nI (grT G c l + (G 4 (20 * c + l))))), (0, .ref a0), (1, .int (nI c))]) hx hb dX2_grams_24 hl (k := 3) rfl (show nI l + Int32.ofInt 1 = nI (l + 1) from nI_add _ 1) (by decide) rfl (fun ls hl => ?_)
        refine lv_goto (tgt := 4) hx hb dX2_grams_27 (by decide) ?_
        exact ih4 (l + 1) (by omega) (by omega) _ (lv_sub hl [2, 3, 1, 0] rfl)
  exact L4 _ 0 (by omega) (Nat.lt_succ_self _) _ (lv_sub hl [2, 3, 1, 0] rfl)
theorem w_X2_grams {R : Room} {s : State} {args : Array Value} {own : String} {idx : Nat} (hts : ∀ w ∈ lw_all, w.before args s = true) (h1 : Cond.methodLink own idx yX2_grams ∈ lw_all) {rm : Room} {mc ms : Nat} (hrc : rm.cells = mc) (hrs : rm.slots = ms) (hR : rm.frames + 1 ≤ R.frames ∧ 8 + (4 + 11) + rm.locals ≤ R.locals) : CallW R s args own RX2 idx yX2_grams cX2_grams 4 (some .int) (ws_ yX2_grams cX2_grams 4 (some .int)) rm mc ms 1 := cwV 1 hts (lw_V h1 q1489 qs33 q70 q1490) rfl hrc hrs (by decide +kernel) hR

abbrev r_X2_lives : Room := { frames := 2, cells := 0, slots := 0, locals := 43 }
set_option maxHeartbeats 400000 in
theorem c_X2_lives (lh : Launch) (D : va_G) (dA : Nat → ClassId) (a0 : Nat) (ad : Nat → Nat) (N : Nat → Nat) (I : Nat → Int32) (G : Nat → Nat → Nat) (J : Nat → Nat → Int32) (c : Int32) (h1 : ∀ a b, G a b < 2 ^ 31) (h2 : N 3 ≤ 10) : Met lh yX2_lives (ws_ yX2_lives cX2_lives 2 (some .boolean)) r_X2_lives (PqM D dA a0 ad N I G J [.ref a0, .int c]) (vp_Si (fun rv => rv = bI (lvI (N 3) G c))) 0 0 (fun _ => False) := by
  refine Met.ofW (cc := cX2_lives) (maxL := 2) (ret := (some .boolean)) (by decide) rfl ?_
  intro p e s m args below meth cd s₁ B hml hv
  obtain ⟨hargs, hM, hG⟩ := hv
  have hx := B.exec
  have hb := B.bytes
  have hrt := B.returns
  have hts := atoms_spec (ws := (ws_ yX2_lives cX2_lives 2 (some .boolean))) B.pre
  have hts : ∀ w ∈ lw_all, w.before _ s = true := fun w h => hts w (List.mem_cons_of_mem _ h)
  have hown : s.vm.findClass RX2 = some m.cls := findClass_of_methodNamed B.named
  have hlocks := B.notSynchronized
  have hE : entryFrame m args 2 = F0 m 0 ((lg_sl ([.ref a0, .int c]) ++ List.replicate (2 - (lg_sl ([.ref a0, .int c])).length) Slot.unset).toArray) [] := by rw [hargs]; exact lg_entry_eq m _ 2
  have hl := lv_entry ([.ref a0, .int c]) (n := 2) (Nat.le_of_ble_eq_true rfl)
  rw [hE]
  clear hE
  generalize (lg_sl ([.ref a0, .int c]) ++ List.replicate (2 - (lg_sl ([.ref a0, .int c])).length) Slot.unset).toArray = ls at hl ⊢
  have hl : lv_has ls 2 [(0, .ref a0), (1, .int c)] := hl
  generalize hQ : MQ _ _ _ _ _ _ _ = Q
  refine lv_aload_n hx hb dX2_lives_0 rfl (lv_at hl 0 rfl) ?_
  refine lv_iload_n hx hb dX2_lives_1 rfl (lv_at hl 1 rfl) ?_
  refine vp_callSi (W.runV (As := [.int c]) (rest := []) ⟨hx, hb, hml, hown, hts⟩ (c_X2_isCrock lh D dA a0 ad N I G J c) (w_X2_isCrock hts q1483 rfl rfl ⟨Nat.le_of_ble_eq_true rfl, Nat.le_of_ble_eq_true rfl⟩) ⟨PqM.blind, M_recv hG hM, PqM.pre hG hM⟩ rfl rfl hl.1 rfl (lv_room (Nat.le_of_ble_eq_true rfl)) dX2_lives_2 ⟨Nat.le_of_ble_eq_true rfl, Nat.le_of_ble_eq_true rfl⟩) (fun rr hrr => ?_)
  subst hrr
  refine kb_eq (tgt := 22) hx hb dX2_lives_5 (by decide) (fun c_5 => ?_) (fun c_5 => ?_)
  · refine lv_iconst (v := nI 0) hx hb dX2_lives_22 (by decide) ?_
    subst hQ
    exact W.zret (v := nI 0) hx hb hrt rfl (fun t ht _ => ⟨_, rfl, (show nI 0 = bI (lvI (N 3) G c) from retB0 (by unfold lvI; rw [c_5]; rfl)), ht⟩) t_nil dX2_lives_23
  · obtain ⟨j, hj, rfl⟩ := wi_cnt (by omega) c_5
    refine lv_aload_n hx hb dX2_lives_8 rfl (lv_at hl 0 rfl) ?_
    refine M_get (v := .ref (ad 6)) hx hb hts hown hG hM 6 (by decide) q1298 rfl rfl dX2_lives_9 ?_
    refine lv_iload_n hx hb dX2_lives_12 rfl (lv_at hl 1 rfl) ?_
    refine M_iald (v := nI (G 6 j)) hx hb hG hM 6 rfl rfl (show j < 10 from by omega) (rfl) dX2_lives_13 ?_
    refine lv_iconst (v := nI 1) hx hb dX2_lives_14 (by decide) ?_
    refine kn_cgt (tgt := 22) hx hb dX2_lives_15 (by decide) (h1 _ _) (by omega) (fun c_15 => ?_) (fun c_15 => ?_)
    · refine lv_iconst (v := nI 0) hx hb dX2_lives_22 (by decide) ?_
      subst hQ
      exact W.zret (v := nI 0) hx hb hrt rfl (fun t ht _ => ⟨_, rfl, (show nI 0 = bI (lvI (N 3) G (nI j)) from retB0 (by unfold lvI; rw [c_5]; simp [nI_clamp (show j < 2 ^ 31 by omega), lv, c_15])), ht⟩) t_nil dX2_lives_23
    · refine lv_iconst (v := nI 1) hx hb dX2_lives_18 (by decide) ?_
      refine lv_goto (tgt := 23) hx hb dX2_lives_19 (by decide) ?_
      subst hQ
      exact W.zret (v := nI 1) hx hb hrt rfl (fun t ht _ => ⟨_, rfl, (show nI 1 = bI (lvI (N 3) G (nI j)) from retB1 (by unfold lvI; rw [c_5]; simp [nI_clamp (show j < 2 ^ 31 by omega), lv, c_15])), ht⟩) t_nil dX2_lives_23
theorem w_X2_lives {R : Room} {s : State} {args : Array Value} {own : String} {idx : Nat} (hts : ∀ w ∈ lw_all, w.before args s = true) (h1 : Cond.methodLink own idx yX2_lives ∈ lw_all) {rm : Room} {mc ms : Nat} (hrc : rm.cells = mc) (hrs : rm.slots = ms) (hR : rm.frames + 1 ≤ R.frames ∧ 8 + (2 + 11) + rm.locals ≤ R.locals) : CallW R s args own RX2 idx yX2_lives cX2_lives 2 (some .boolean) (ws_ yX2_lives cX2_lives 2 (some .boolean)) rm mc ms 1 := cwV 1 hts (lw_V h1 q1481 qs31 q70 q1482) rfl hrc hrs (by decide +kernel) hR

abbrev r_X2_isFree : Room := { frames := 0, cells := 0, slots := 0, locals := 0 }
set_option maxHeartbeats 400000 in
theorem c_X2_isFree (lh : Launch) (D : va_G) (dA : Nat → ClassId) (a0 : Nat) (ad : Nat → Nat) (N : Nat → Nat) (I : Nat → Int32) (G : Nat → Nat → Nat) (J : Nat → Nat → Int32) (q : Nat) (h1 : ∀ a b, G a b < 2 ^ 31) (h2 : N 3 ≤ 10) (h3 : q < 2 ^ 31) : Met lh yX2_isFree (ws_ yX2_isFree cX2_isFree 3 (some .boolean)) r_X2_isFree (PqM D dA a0 ad N I G J [.ref a0, .int (nI q)]) (vp_Si (fun rv => rv = bI (frS G q (N 3)))) 0 0 (fun _ => False) := by
  refine Met.ofW (cc := cX2_isFree) (maxL := 3) (ret := (some .boolean)) (by decide) rfl ?_
  intro p e s m args below meth cd s₁ B hml hv
  obtain ⟨hargs, hM, hG⟩ := hv
  have hx := B.exec
  have hb := B.bytes
  have hrt := B.returns
  have hts := atoms_spec (ws := (ws_ yX2_isFree cX2_isFree 3 (some .boolean))) B.pre
  have hts : ∀ w ∈ lw_all, w.before _ s = true := fun w h => hts w (List.mem_cons_of_mem _ h)
  have hown : s.vm.findClass RX2 = some m.cls := findClass_of_methodNamed B.named
  have hlocks := B.notSynchronized
  have hE : entryFrame m args 3 = F0 m 0 ((lg_sl ([.ref a0, .int (nI q)]) ++ List.replicate (3 - (lg_sl ([.ref a0, .int (nI q)])).length) Slot.unset).toArray) [] := by rw [hargs]; exact lg_entry_eq m _ 3
  have hl := lv_entry ([.ref a0, .int (nI q)]) (n := 3) (Nat.le_of_ble_eq_true rfl)
  rw [hE]
  clear hE
  generalize (lg_sl ([.ref a0, .int (nI q)]) ++ List.replicate (3 - (lg_sl ([.ref a0, .int (nI q)])).length) Slot.unset).toArray = ls at hl ⊢
  have hl : lv_has ls 3 [(0, .ref a0), (1, .int (nI q))] := hl
  generalize hQ : MQ _ _ _ _ _ _ _ = Q
  refine lv_iconst (v := nI 0) hx hb dX2_isFree_0 (by decide) ?_
  refine lv_istore_n (lv' := [(2, .int (nI 0)), (0, .ref a0), (1, .int (nI q))]) hx hb dX2_isFree_1 rfl hl (by decide) rfl (fun ls hl => ?_)
  have L2 : ∀ (nn2 : Nat) (c : Nat), (c ≤ N 3) → (frS G q c = true) → N 3 - c < nn2 → ∀ (ls : Array Slot), lv_has ls 3 [(0, .ref a0), (1, .int (nI q)), (2, .int (nI c))] → W p lh e r_X2_isFree s m args below meth cd s.heap [] 0 0 Q (F0 m 2 ls []) := by
    intro nn2
    induction nn2 with
    | zero => intro c i2_0 i2_1 hm2; exact absurd hm2 (Nat.not_lt_zero _)
    | succ nn2 ih2 =>
      intro c i2_0 i2_1 hm2 ls hl
      refine lv_iload_n hx hb dX2_isFree_2 rfl (lv_at hl 2 rfl) ?_
      refine lv_aload_n hx hb dX2_isFree_3 rfl (lv_at hl 0 rfl) ?_
      refine M_get (v := .int (nI (N 3))) hx hb hts hown hG hM 3 (by decide) q1295 rfl rfl dX2_isFree_4 ?_
      refine kn_cge (tgt := 38) hx hb dX2_isFree_7 (by decide) (by omega) (by omega) (fun c_7 => ?_) (fun c_7 => ?_)
      · refine lv_iconst (v := nI 1) hx hb dX2_isFree_38 (by decide) ?_
        subst hQ
        exact W.zret (v := nI 1) hx hb hrt rfl (fun t ht _ => ⟨_, rfl, (show nI 1 = bI (frS G q (N 3)) from retB1 (by rw [show N 3 = c by omega]; exact i2_1)), ht⟩) t_nil dX2_isFree_39
      · refine lv_aload_n hx hb dX2_isFree_10 rfl (lv_at hl 0 rfl) ?_
        refine M_get (v := .ref (ad 6)) hx hb hts hown hG hM 6 (by decide) q1298 rfl rfl dX2_isFree_11 ?_
        refine lv_iload_n hx hb dX2_isFree_14 rfl (lv_at hl 2 rfl) ?_
        refine M_iald (v := nI (G 6 c)) hx hb hG hM 6 rfl rfl (show c < 10 from by omega) (rfl) dX2_isFree_15 ?_
        refine lv_iconst (v := nI 1) hx hb dX2_isFree_16 (by decide) ?_
        refine kn_cgt (tgt := 32) hx hb dX2_isFree_17 (by decide) (h1 _ _) (by omega) (fun c_17 => ?_) (fun c_17 => ?_)
        · refine lv_iinc (v := nI (c + 1)) (lv' := [(2, .int (nI (c + 1))), (0, .ref a0), (1, .int (nI q))]) hx hb dX2_isFree_32 hl (k := 2) rfl (show nI c + Int32.ofInt 1 = nI (c + 1) from nI_add _ 1) (by decide) rfl (fun ls hl => ?_)
          refine lv_goto (tgt := 2) hx hb dX2_isFree_35 (by decide) ?_
          exact ih2 (c + 1) (by omega) (by simp [frS, i2_1, lv, *]) (by omega) _ (lv_sub hl [1, 2, 0] rfl)
        · refine lv_aload_n hx hb dX2_isFree_20 rfl (lv_at hl 0 rfl) ?_
          refine M_get (v := .ref (ad 5)) hx hb hts hown hG hM 5 (by decide) q1297 rfl rfl dX2_isFree_21 ?_
          refine lv_iload_n hx hb dX2_isFree_24 rfl (lv_at hl 2 rfl) ?_
          refine M_iald (v := nI (G 5 c)) hx hb hG hM 5 rfl rfl (show c < 10 from by omega) (rfl) dX2_isFree_25 ?_
          refine lv_iload_n hx hb dX2_isFree_26 rfl (lv_at hl 1 rfl) ?_
          refine kn_cne (tgt := 32) hx hb dX2_isFree_27 (by decide) (h1 _ _) (by omega) (fun c_27 => ?_) (fun c_27 => ?_)
          · refine lv_iinc (v := nI (c + 1)) (lv' := [(2, .int (nI (c + 1))), (0, .ref a0), (1, .int (nI q))]) hx hb dX2_isFree_32 hl (k := 2) rfl (show nI c + Int32.ofInt 1 = nI (c + 1) from nI_add _ 1) (by decide) rfl (fun ls hl => ?_)
            refine lv_goto (tgt := 2) hx hb dX2_isFree_35 (by decide) ?_
            exact ih2 (c + 1) (by omega) (by simp [frS, i2_1, lv, *]) (by omega) _ (lv_sub hl [1, 2, 0] rfl)
          · refine lv_iconst (v := nI 0) hx hb dX2_isFree_30 (by decide) ?_
            subst hQ
            exact W.zret (v := nI 0) hx hb hrt rfl (fun t ht _ => ⟨_, rfl, (show nI 0 = bI (frS G q (N 3)) from retB0 (frS_no c_7 (by simp [lv, c_17, c_27]))), ht⟩) t_nil dX2_isFree_31
  exact L2 _ 0 (by omega) (rfl) (Nat.lt_succ_self _) _ (lv_sub hl [1, 2, 0] rfl)
theorem w_X2_isFree {R : Room} {s : State} {args : Array Value} {own : String} {idx : Nat} (hts : ∀ w ∈ lw_all, w.before args s = true) (h1 : Cond.methodLink own idx yX2_isFree ∈ lw_all) {rm : Room} {mc ms : Nat} (hrc : rm.cells = mc) (hrs : rm.slots = ms) (hR : rm.frames + 1 ≤ R.frames ∧ 8 + (3 + 11) + rm.locals ≤ R.locals) : CallW R s args own RX2 idx yX2_isFree cX2_isFree 3 (some .boolean) (ws_ yX2_isFree cX2_isFree 3 (some .boolean)) rm mc ms 1 := cwV 1 hts (lw_V h1 q1473 qs30 q70 q1474) rfl hrc hrs (by decide +kernel) hR
