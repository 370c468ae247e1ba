set_option maxRecDepth 100000
abbrev r_J4_equals : Room := { frames := 0, cells := 0, slots := 0, locals := 0 }
set_option maxHeartbeats 400000 in
theorem c_J4_equals (lh : Launch) (b : Nat) (n : Nat) (f : Nat → Nat) (c : Nat) (k : Nat) (h : Nat → Nat) : Met lh yJ4_equals (ws_ yJ4_equals cJ4_equals 3 (some .boolean)) r_J4_equals (PX (fun U H => KC nA U H ∧ TB nA b n f U H ∧ TB nA c k h U H) [.ref b, .ref c]) (vp_Si (fun rv => rv = bI (decide (n = k) && eqT f 0 h 0 n))) 0 0 (fun _ => False) := by
  refine Met.ofW (cc := cJ4_equals) (maxL := 3) (ret := (some .boolean)) (by decide) rfl ?_
  intro p e s m args below meth cd s₁ B hml hv
  obtain ⟨hargs, hKC, h_b, h_c⟩ := hv
  have hS : va_S nA s.heap s.heap [] := va_S.rf
  have hx := B.exec
  have hb := B.bytes
  have hrt := B.returns
  have hts := atoms_spec (ws := (ws_ yJ4_equals cJ4_equals 3 (some .boolean))) B.pre
  have hts : ∀ w ∈ lw_all, w.before _ s = true := fun w h => hts w (List.mem_cons_of_mem _ h)
  have hown : s.vm.findClass RJ4 = some m.cls := findClass_of_methodNamed B.named
  have hlocks := B.notSynchronized
  have hE : entryFrame m args 3 = F0 m 0 ((lg_sl ([.ref b, .ref c]) ++ List.replicate (3 - (lg_sl ([.ref b, .ref c])).length) Slot.unset).toArray) [] := by rw [hargs]; exact lg_entry_eq m _ 3
  have hl := lv_entry ([.ref b, .ref c]) (n := 3) (Nat.le_of_ble_eq_true rfl)
  rw [hE]
  clear hE
  generalize (lg_sl ([.ref b, .ref c]) ++ List.replicate (3 - (lg_sl ([.ref b, .ref c])).length) Slot.unset).toArray = ls at hl ⊢
  have hl : lv_has ls 3 [(0, .ref b), (1, .ref c)] := hl
  generalize hQ : MQ _ _ _ _ _ _ _ = Q
  have hn := h_b.2.1
  have hk := h_c.2.1
  refine lv_aload_n hx hb dJ4_equals_0 rfl (lv_at hl 0 rfl) ?_
  refine T_len hx hb h_b dJ4_equals_1 ?_
  refine lv_aload_n hx hb dJ4_equals_2 rfl (lv_at hl 1 rfl) ?_
  refine T_len hx hb h_c dJ4_equals_3 ?_
  refine kn_cne (tgt := 34) hx hb dJ4_equals_4 (by decide) (by omega) (by omega) (fun c_4 => ?_) (fun c_4 => ?_)
  · refine lv_iconst (v := nI 0) hx hb dJ4_equals_34 (by decide) ?_
    subst hQ
    exact W.zret (v := nI 0) hx hb hrt rfl (fun t ht _ => ⟨_, rfl, (show nI 0 = bI (decide (n = k) && eqT f 0 h 0 n) from by rw [decide_eq_false c_4]; rfl), ht⟩) t_nil dJ4_equals_35
  · refine lv_iconst (v := nI 0) hx hb dJ4_equals_7 (by decide) ?_
    refine lv_istore_n (lv' := [(2, .int (nI 0)), (0, .ref b), (1, .ref c)]) hx hb dJ4_equals_8 rfl hl (by decide) rfl (fun ls hl => ?_)
    have L9 : ∀ (nn9 : Nat) (j : Nat), (j ≤ n) → (eqT f 0 h 0 j = true) → n - j < nn9 → ∀ (ls : Array Slot), lv_has ls 3 [(0, .ref b), (1, .ref c), (2, .int (nI j))] → W p lh e r_J4_equals s m args below meth cd s.heap [] 0 0 Q (F0 m 9 ls []) := by
      intro nn9
      induction nn9 with
      | zero => intro j i9_0 i9_1 hm9; exact absurd hm9 (Nat.not_lt_zero _)
      | succ nn9 ih9 =>
        intro j i9_0 i9_1 hm9 ls hl
        refine lv_iload_n hx hb dJ4_equals_9 rfl (lv_at hl 2 rfl) ?_
        refine lv_aload_n hx hb dJ4_equals_10 rfl (lv_at hl 0 rfl) ?_
        refine T_len hx hb h_b dJ4_equals_11 ?_
        refine kn_cge (tgt := 32) hx hb dJ4_equals_12 (by decide) (by omega) (by omega) (fun c_12 => ?_) (fun c_12 => ?_)
        · refine lv_iconst (v := nI 1) hx hb dJ4_equals_32 (by decide) ?_
          subst hQ
          exact W.zret (v := nI 1) hx hb hrt rfl (fun t ht _ => ⟨_, rfl, (show nI 1 = bI (decide (n = k) && eqT f 0 h 0 n) from by rw [show n = j by omega, i9_1, decide_eq_true (show j = k by omega)]; rfl), ht⟩) t_nil dJ4_equals_33
        · refine lv_aload_n hx hb dJ4_equals_15 rfl (lv_at hl 0 rfl) ?_
          refine lv_iload_n hx hb dJ4_equals_16 rfl (lv_at hl 2 rfl) ?_
          refine T_bald hx hb h_b (show j < n from by omega) dJ4_equals_17 ?_
          refine lv_aload_n hx hb dJ4_equals_18 rfl (lv_at hl 1 rfl) ?_
          refine lv_iload_n hx hb dJ4_equals_19 rfl (lv_at hl 2 rfl) ?_
          refine T_bald hx hb h_c (show j < k from by omega) dJ4_equals_20 ?_
          refine kn_ceq (tgt := 26) hx hb dJ4_equals_21 (by decide) (by have := h_b.2.2 (j) (by omega); omega) (by have := h_c.2.2 (j) (by omega); omega) (fun c_21 => ?_) (fun c_21 => ?_)
          · refine lv_iinc (v := nI (j + 1)) (lv' := [(2, .int (nI (j + 1))), (0, .ref b), (1, .ref c)]) hx hb dJ4_equals_26 hl (k := 2) rfl (show nI j + Int32.ofInt 1 = nI (j + 1) from nI_add _ 1) (by decide) rfl (fun ls hl => ?_)
            refine lv_goto (tgt := 9) hx hb dJ4_equals_29 (by decide) ?_
            exact ih9 (j + 1) (by omega) (eqT_s i9_1 (by rw [Nat.zero_add]; exact c_21)) (by omega) _ (lv_sub hl [1, 2, 0] rfl)
          · refine lv_iconst (v := nI 0) hx hb dJ4_equals_24 (by decide) ?_
            subst hQ
            exact W.zret (v := nI 0) hx hb hrt rfl (fun t ht _ => ⟨_, rfl, (show nI 0 = bI (decide (n = k) && eqT f 0 h 0 n) from by rw [eqT_fj (j := j) (by omega) (by rw [Nat.zero_add]; exact c_21), Bool.and_false]; rfl), ht⟩) t_nil dJ4_equals_25
    exact L9 _ 0 (by omega) (rfl) (Nat.lt_succ_self _) _ (lv_sub hl [1, 2, 0] rfl)
theorem w_J4_equals {R : Room} {s : State} {args : Array Value} {own : String} {idx : Nat} (hts : ∀ w ∈ lw_all, w.before args s = true) (h1 : Cond.methodLink own idx yJ4_equals ∈ lw_all) {rm : Room} {mc ms : Nat} (hrc : rm.cells = mc) (hrs : rm.slots = ms) (hR : rm.frames + 1 ≤ R.frames ∧ 8 + (3 + 11) + rm.locals ≤ R.locals) : CallB R s args own idx yJ4_equals cJ4_equals 3 (some .boolean) (ws_ yJ4_equals cJ4_equals 3 (some .boolean)) rm mc ms 2 ∧ (Cond.static yJ4_equals).before args s = true := va_cwS 2 hts (lw_S h1 q821 q67 q822) rfl hrc hrs (by decide +kernel) hR

abbrev r_J3_equals : Room := { frames := 1, cells := 0, slots := 0, locals := 22 }
set_option maxHeartbeats 400000 in
theorem c_J3_equals (lh : Launch) (a : Nat) (b : Nat) (n : Nat) (f : Nat → Nat) (a2 : Nat) (c : Nat) (k : Nat) (h : Nat → Nat) (h1 : a ≠ a2) : Met lh yJ3_equals (ws_ yJ3_equals cJ3_equals 3 (some .boolean)) r_J3_equals (PX (fun U H => KC nA U H ∧ SA nA a b n f U H ∧ SA nA a2 c k h U H) [.ref a, .ref a2]) (vp_Si (fun rv => rv = bI (decide (n = k) && eqT f 0 h 0 n))) 0 0 (fun _ => False) := by
  refine Met.ofW (cc := cJ3_equals) (maxL := 3) (ret := (some .boolean)) (by decide) rfl ?_
  intro p e s m args below meth cd s₁ B hml hv
  obtain ⟨hargs, hKC, h_a, h_a2⟩ := hv
  have hS : va_S nA s.heap s.heap [] := va_S.rf
  have hx := B.exec
  have hb := B.bytes
  have hrt := B.returns
  have hts := atoms_spec (ws := (ws_ yJ3_equals cJ3_equals 3 (some .boolean))) B.pre
  have hts : ∀ w ∈ lw_all, w.before _ s = true := fun w h => hts w (List.mem_cons_of_mem _ h)
  have hown : s.vm.findClass RJ3 = some m.cls := findClass_of_methodNamed B.named
  have hlocks := B.notSynchronized
  have hE : entryFrame m args 3 = F0 m 0 ((lg_sl ([.ref a, .ref a2]) ++ List.replicate (3 - (lg_sl ([.ref a, .ref a2])).length) Slot.unset).toArray) [] := by rw [hargs]; exact lg_entry_eq m _ 3
  have hl := lv_entry ([.ref a, .ref a2]) (n := 3) (Nat.le_of_ble_eq_true rfl)
  rw [hE]
  clear hE
  generalize (lg_sl ([.ref a, .ref a2]) ++ List.replicate (3 - (lg_sl ([.ref a, .ref a2])).length) Slot.unset).toArray = ls at hl ⊢
  have hl : lv_has ls 3 [(0, .ref a), (1, .ref a2)] := hl
  generalize hQ : MQ _ _ _ _ _ _ _ = Q
  refine lv_aload_n hx hb dJ3_equals_0 rfl (lv_at hl 0 rfl) ?_
  refine lv_aload_n hx hb dJ3_equals_1 rfl (lv_at hl 1 rfl) ?_
  refine lv_acmp_ne (rx := some (a)) (ry := some (a2)) (tgt := 7) hx hb dJ3_equals_2 (by decide) (fun c_2 => ?_) (fun c_2 => ?_)
  · refine lv_aload_n hx hb dJ3_equals_7 rfl (lv_at hl 1 rfl) ?_
    refine va_instE hx hb hown (hts _ q819) (SA.recv h_a2) dJ3_equals_8 ?_
    refine kx_int (y := nI 1) rfl ?_
    refine kn_zeq (tgt := 54) hx hb dJ3_equals_11 (by decide) (by decide) (fun c => absurd c (by decide)) (fun _ => ?_)
    refine lv_aload_n hx hb dJ3_equals_14 rfl (lv_at hl 1 rfl) ?_
    refine va_castE hx hb hown (hts _ q819) (SA.recv h_a2) dJ3_equals_15 ?_
    refine lv_astore_n (lv' := [(2, .ref a2), (0, .ref a), (1, .ref a2)]) hx hb dJ3_equals_18 rfl hl (by decide) rfl (fun ls hl => ?_)
    refine K_getz hx hb hKC hown (hts _ q145) dJ3_equals_19 ?_
    refine kn_zeq (tgt := 36) hx hb dJ3_equals_22 (by decide) (by decide) (fun c => absurd c (by decide)) (fun _ => ?_)
    refine lv_aload_n hx hb dJ3_equals_25 rfl (lv_at hl 1 rfl) ?_
    refine S_getc hx hb h_a hown (hts _ q765) dJ3_equals_26 ?_
    refine lv_aload_n hx hb dJ3_equals_29 rfl (lv_at hl 0 rfl) ?_
    refine S_getc hx hb h_a2 hown (hts _ q765) dJ3_equals_30 ?_
    refine kn_cne (tgt := 54) hx hb dJ3_equals_33 (by decide) (by decide) (by decide) (fun c => absurd c (by decide)) (fun _ => ?_)
    refine lv_aload_n hx hb dJ3_equals_36 rfl (lv_at hl 1 rfl) ?_
    refine S_getv hx hb h_a hown (hts _ q764) dJ3_equals_37 ?_
    refine lv_aload_n hx hb dJ3_equals_40 rfl (lv_at hl 0 rfl) ?_
    refine S_getv hx hb h_a2 hown (hts _ q764) dJ3_equals_41 ?_
    refine vp_callSi (W.runS (As := [.ref b, .ref c]) (rest := []) ⟨hx, hb, hml, hown, hts⟩ (c_J4_equals lh b n f c k h) (w_J4_equals hts q820 rfl rfl ⟨Nat.le_of_ble_eq_true rfl, Nat.le_of_ble_eq_true rfl⟩) ⟨PX.blind (Mv.and KC.mv (Mv.and TB.mv TB.mv)), PX.pre (Mv.and KC.mv (Mv.and TB.mv TB.mv)) ⟨hKC, h_a.2.2.2, h_a2.2.2.2⟩⟩ rfl rfl hl.1 rfl (lv_room (Nat.le_of_ble_eq_true rfl)) dJ3_equals_44 ⟨Nat.le_of_ble_eq_true rfl, Nat.le_of_ble_eq_true rfl⟩) (fun rr hrr => ?_)
    subst hrr
    refine kb_eq (tgt := 54) hx hb dJ3_equals_47 (by decide) (fun c_47 => ?_) (fun c_47 => ?_)
    · refine lv_iconst (v := nI 0) hx hb dJ3_equals_54 (by decide) ?_
      subst hQ
      exact W.zret (v := nI 0) hx hb hrt rfl (fun t ht _ => ⟨_, rfl, (show nI 0 = bI (decide (n = k) && eqT f 0 h 0 n) from by rw [c_47]; rfl), ht⟩) t_nil dJ3_equals_55
    · refine lv_iconst (v := nI 1) hx hb dJ3_equals_50 (by decide) ?_
      refine lv_goto (tgt := 55) hx hb dJ3_equals_51 (by decide) ?_
      subst hQ
      exact W.zret (v := nI 1) hx hb hrt rfl (fun t ht _ => ⟨_, rfl, (show nI 1 = bI (decide (n = k) && eqT f 0 h 0 n) from by rw [c_47]; rfl), ht⟩) t_nil dJ3_equals_55
  · exact absurd (Option.some.inj c_2) h1
theorem w_J3_equals {R : Room} {s : State} {args : Array Value} {own : String} {idx : Nat} (hts : ∀ w ∈ lw_all, w.before args s = true) (h1 : Cond.methodLink own idx yJ3_equals ∈ lw_all) {rm : Room} {mc ms : Nat} (hrc : rm.cells = mc) (hrs : rm.slots = ms) (hR : rm.frames + 1 ≤ R.frames ∧ 8 + (3 + 11) + rm.locals ≤ R.locals) : CallW R s args own RJ3 idx yJ3_equals cJ3_equals 3 (some .boolean) (ws_ yJ3_equals cJ3_equals 3 (some .boolean)) rm mc ms 1 := cwV 1 hts (lw_V h1 q816 q817 q66 q818) rfl hrc hrs (by decide +kernel) hR

abbrev r_J4_indexOf_2 : Room := { frames := 0, cells := 0, slots := 0, locals := 0 }
set_option maxHeartbeats 400000 in
theorem c_J4_indexOf_2 (lh : Launch) (b : Nat) (n : Nat) (f : Nat → Nat) (c : Nat) (k : Nat) (h : Nat → Nat) (n2 : Nat) (k2 : Nat) (h1 : n = n2) (h2 : k = k2) (h3 : 1 ≤ k) (h4 : k ≤ n) (h5 : n < 2 ^ 20) : Met lh yJ4_indexOf_2 (ws_ yJ4_indexOf_2 cJ4_indexOf_2 11 (some .int)) r_J4_indexOf_2 (PX (fun U H => KC nA U H ∧ TB nA b n f U H ∧ TB nA c k h U H) [.ref b, .int (nI n2), .ref c, .int (nI k2), .int (nI 0)]) (vp_Si (fun rv => rv = oI (ixT f h k (n - k + 1) 0))) 0 0 (fun _ => False) := by
  refine Met.ofW (cc := cJ4_indexOf_2) (maxL := 11) (ret := (some .int)) (by decide) rfl ?_
  intro p e s m args below meth cd s₁ B hml hv
  obtain ⟨hargs, hKC, h_b, h_c⟩ := hv
  have hS : va_S nA s.heap s.heap [] := va_S.rf
  have hx := B.exec
  have hb := B.bytes
  have hrt := B.returns
  have hts := atoms_spec (ws := (ws_ yJ4_indexOf_2 cJ4_indexOf_2 11 (some .int))) B.pre
  have hts : ∀ w ∈ lw_all, w.before _ s = true := fun w h => hts w (List.mem_cons_of_mem _ h)
  have hown : s.vm.findClass RJ4 = some m.cls := findClass_of_methodNamed B.named
  have hlocks := B.notSynchronized
  have hE : entryFrame m args 11 = F0 m 0 ((lg_sl ([.ref b, .int (nI n2), .ref c, .int (nI k2), .int (nI 0)]) ++ List.replicate (11 - (lg_sl ([.ref b, .int (nI n2), .ref c, .int (nI k2), .int (nI 0)])).length) Slot.unset).toArray) [] := by rw [hargs]; exact lg_entry_eq m _ 11
  have hl := lv_entry ([.ref b, .int (nI n2), .ref c, .int (nI k2), .int (nI 0)]) (n := 11) (Nat.le_of_ble_eq_true rfl)
  rw [hE]
  clear hE
  generalize (lg_sl ([.ref b, .int (nI n2), .ref c, .int (nI k2), .int (nI 0)]) ++ List.replicate (11 - (lg_sl ([.ref b, .int (nI n2), .ref c, .int (nI k2), .int (nI 0)])).length) Slot.unset).toArray = ls at hl ⊢
  have hl : lv_has ls 11 [(0, .ref b), (1, .int (nI n2)), (2, .ref c), (3, .int (nI k2)), (4, .int (nI 0))] := hl
  generalize hQ : MQ _ _ _ _ _ _ _ = Q
  have hn := h_b.2.1
  have hk := h_c.2.1
  subst h1 h2
  refine lv_aload_n hx hb dJ4_indexOf_2_0 rfl (lv_at hl 2 rfl) ?_
  refine lv_iconst (v := nI 0) hx hb dJ4_indexOf_2_1 (by decide) ?_
  refine T_bald hx hb h_c (show 0 < k from by omega) dJ4_indexOf_2_2 ?_
  refine lv_istore (lv' := [(5, .int (nI (h 0))), (0, .ref b), (1, .int (nI n)), (2, .ref c), (3, .int (nI k)), (4, .int (nI 0))]) hx hb dJ4_indexOf_2_3 hl (by decide) rfl (fun ls hl => ?_)
  refine lv_iload_n hx hb dJ4_indexOf_2_5 rfl (lv_at hl 2 rfl) ?_
  refine lv_iload_n hx hb dJ4_indexOf_2_6 rfl (lv_at hl 4 rfl) ?_
  refine kn_sub hx hb dJ4_indexOf_2_7 (by omega) ?_
  refine lv_istore (lv' := [(6, .int (nI (n - k))), (5, .int (nI (h 0))), (0, .ref b), (1, .int (nI n)), (2, .ref c), (3, .int (nI k)), (4, .int (nI 0))]) hx hb dJ4_indexOf_2_8 hl (by decide) rfl (fun ls hl => ?_)
  refine lv_iload hx hb dJ4_indexOf_2_10 (lv_at hl 6 rfl) ?_
  refine lv_istore (lv' := [(7, .int (nI 0)), (6, .int (nI (n - k))), (5, .int (nI (h 0))), (0, .ref b), (1, .int (nI n)), (2, .ref c), (3, .int (nI k)), (4, .int (nI 0))]) hx hb dJ4_indexOf_2_12 hl (by decide) rfl (fun ls hl => ?_)
  have L14 : ∀ (nn14 : Nat) (i : Nat), (i ≤ n - k + 2) → (ixT f h k (n - k + 1) 0 = ixT f h k (n - k + 1 - i) i) → n - k + 2 - i < nn14 → ∀ (ls : Array Slot), lv_has ls 11 [(0, .ref b), (1, .int (nI n)), (2, .ref c), (3, .int (nI k)), (4, .int (nI 0)), (5, .int (nI (h 0))), (6, .int (nI (n - k))), (7, .int (nI i))] → W p lh e r_J4_indexOf_2 s m args below meth cd s.heap [] 0 0 Q (F0 m 14 ls []) := by
    intro nn14
    induction nn14 with
    | zero => intro i i14_0 i14_1 hm14; exact absurd hm14 (Nat.not_lt_zero _)
    | succ nn14 ih14 =>
      intro i i14_0 i14_1 hm14 ls hl
      refine lv_iload hx hb dJ4_indexOf_2_14 (lv_at hl 7 rfl) ?_
      refine lv_iload hx hb dJ4_indexOf_2_16 (lv_at hl 6 rfl) ?_
      refine kn_cgt (tgt := 119) hx hb dJ4_indexOf_2_18 (by decide) (by omega) (by omega) (fun c_18 => ?_) (fun c_18 => ?_)
      · refine lv_iconst (v := -1) hx hb dJ4_indexOf_2_119 (by decide) ?_
        subst hQ
        exact W.iret (v := (-1)) hx hb hrt (fun t ht _ => ⟨_, rfl, (show (-1) = oI (ixT f h k (n - k + 1) 0) from by rw [i14_1, show n - k + 1 - i = 0 by omega]; rfl), ht⟩) t_nil dJ4_indexOf_2_120
      · refine lv_aload_n hx hb dJ4_indexOf_2_21 rfl (lv_at hl 0 rfl) ?_
        refine lv_iload hx hb dJ4_indexOf_2_22 (lv_at hl 7 rfl) ?_
        refine T_bald hx hb h_b (show i < n from by omega) dJ4_indexOf_2_24 ?_
        refine lv_iload hx hb dJ4_indexOf_2_25 (lv_at hl 5 rfl) ?_
        refine kn_ceq (tgt := 52) hx hb dJ4_indexOf_2_27 (by decide) (by have := h_b.2.2 (i) (by omega); omega) (by have := h_c.2.2 (0) (by omega); omega) (fun c_27 => ?_) (fun c_27 => ?_)
        · have hpre : ixT f h k (n - k + 1) 0 = ixT f h k (n - k + 1 - (i)) (i) := i14_1
          have hle : i ≤ n - k + 1 := by omega
          refine lv_iload hx hb dJ4_indexOf_2_52 (lv_at hl 7 rfl) ?_
          refine lv_iload hx hb dJ4_indexOf_2_54 (lv_at hl 6 rfl) ?_
          refine kn_cgt (tgt := 113) hx hb dJ4_indexOf_2_56 (by decide) (by omega) (by omega) (fun c_56 => ?_) (fun c_56 => ?_)
          · refine lv_iinc (v := nI (i + 1)) (lv' := [(7, .int (nI (i + 1))), (0, .ref b), (1, .int (nI n)), (2, .ref c), (3, .int (nI k)), (4, .int (nI 0)), (5, .int (nI (h 0))), (6, .int (nI (n - k)))]) hx hb dJ4_indexOf_2_113 hl (k := 7) rfl (show nI i + Int32.ofInt 1 = nI (i + 1) from nI_add _ 1) (by decide) rfl (fun ls hl => ?_)
            refine lv_goto (tgt := 14) hx hb dJ4_indexOf_2_116 (by decide) ?_
            exact ih14 (i + 1) (by omega) (hpre.trans (by rw [show n - k + 1 - (i) = 0 by omega, show n - k + 1 - (i + 1) = 0 by omega]; rfl)) (by omega) _ (lv_sub hl [1, 2, 3, 4, 5, 6, 7, 0] rfl)
          · refine lv_iload hx hb dJ4_indexOf_2_59 (lv_at hl 7 rfl) ?_
            refine lv_iconst (v := nI 1) hx hb dJ4_indexOf_2_61 (by decide) ?_
            refine kn_add hx hb dJ4_indexOf_2_62 ?_
            refine lv_istore (lv' := [(8, .int (nI (i + 1))), (0, .ref b), (1, .int (nI n)), (2, .ref c), (3, .int (nI k)), (4, .int (nI 0)), (5, .int (nI (h 0))), (6, .int (nI (n - k))), (7, .int (nI i))]) hx hb dJ4_indexOf_2_63 hl (by decide) rfl (fun ls hl => ?_)
            refine lv_iload hx hb dJ4_indexOf_2_65 (lv_at hl 0 rfl) ?_
            refine lv_iload_n hx hb dJ4_indexOf_2_67 rfl (lv_at hl 4 rfl) ?_
            refine kn_add hx hb dJ4_indexOf_2_68 ?_
            refine lv_iconst (v := nI 1) hx hb dJ4_indexOf_2_69 (by decide) ?_
            refine kn_sub hx hb dJ4_indexOf_2_70 (by omega) ?_
            refine kx_int (y := nI (i + k)) (congrArg nI (by omega)) ?_
            refine lv_istore (lv' := [(9, .int (nI (i + k))), (8, .int (nI (i + 1))), (0, .ref b), (1, .int (nI n)), (2, .ref c), (3, .int (nI k)), (4, .int (nI 0)), (5, .int (nI (h 0))), (6, .int (nI (n - k))), (7, .int (nI i))]) hx hb dJ4_indexOf_2_71 hl (by decide) rfl (fun ls hl => ?_)
            refine lv_iconst (v := nI 1) hx hb dJ4_indexOf_2_73 (by decide) ?_
            refine lv_istore (lv' := [(10, .int (nI 1)), (9, .int (nI (i + k))), (8, .int (nI (i + 1))), (0, .ref b), (1, .int (nI n)), (2, .ref c), (3, .int (nI k)), (4, .int (nI 0)), (5, .int (nI (h 0))), (6, .int (nI (n - k))), (7, .int (nI i))]) hx hb dJ4_indexOf_2_74 hl (by decide) rfl (fun ls hl => ?_)
            have L76 : ∀ (nn76 : Nat) (tt : Nat), (1 ≤ tt) → (tt ≤ k) → (eqT f (i) h 0 tt = true) → k - tt < nn76 → ∀ (ls : Array Slot), lv_has ls 11 [(0, .ref b), (1, .int (nI n)), (2, .ref c), (3, .int (nI k)), (4, .int (nI 0)), (5, .int (nI (h 0))), (6, .int (nI (n - k))), (7, .int (nI i)), (8, .int (nI (i + tt))), (9, .int (nI (i + k))), (10, .int (nI tt))] → W p lh e r_J4_indexOf_2 s m args below meth cd s.heap [] 0 0 Q (F0 m 76 ls []) := by
              intro nn76
              induction nn76 with
              | zero => intro tt i76_0 i76_1 i76_2 hm76; exact absurd hm76 (Nat.not_lt_zero _)
              | succ nn76 ih76 =>
                intro tt i76_0 i76_1 i76_2 hm76 ls hl
                refine lv_iload hx hb dJ4_indexOf_2_76 (lv_at hl 8 rfl) ?_
                refine lv_iload hx hb dJ4_indexOf_2_78 (lv_at hl 9 rfl) ?_
                refine kn_cge (tgt := 103) hx hb dJ4_indexOf_2_80 (by decide) (by omega) (by omega) (fun c_80 => ?_) (fun c_80 => ?_)
                · refine lv_iload hx hb dJ4_indexOf_2_103 (lv_at hl 8 rfl) ?_
                  refine lv_iload hx hb dJ4_indexOf_2_105 (lv_at hl 9 rfl) ?_
                  refine kn_cne (tgt := 113) hx hb dJ4_indexOf_2_107 (by decide) (by omega) (by omega) (fun c_107 => ?_) (fun c_107 => ?_)
                  · omega
                  · refine lv_iload hx hb dJ4_indexOf_2_110 (lv_at hl 7 rfl) ?_
                    subst hQ
                    exact W.iret (v := nI i) hx hb hrt (fun t ht _ => ⟨_, rfl, (show nI i = oI (ixT f h k (n - k + 1) 0) from by rw [hpre, show n - k + 1 - (i) = (n - k - (i)) + 1 by omega, ixT_y (show eqT f (i) h 0 k = true from (show tt = k by omega) ▸ i76_2)]; rfl), ht⟩) t_nil dJ4_indexOf_2_112
                · refine lv_aload_n hx hb dJ4_indexOf_2_83 rfl (lv_at hl 0 rfl) ?_
                  refine lv_iload hx hb dJ4_indexOf_2_84 (lv_at hl 8 rfl) ?_
                  refine T_bald hx hb h_b (show i + tt < n from by omega) dJ4_indexOf_2_86 ?_
                  refine lv_aload_n hx hb dJ4_indexOf_2_87 rfl (lv_at hl 2 rfl) ?_
                  refine lv_iload hx hb dJ4_indexOf_2_88 (lv_at hl 10 rfl) ?_
                  refine T_bald hx hb h_c (show tt < k from by omega) dJ4_indexOf_2_90 ?_
                  refine kn_cne (tgt := 103) hx hb dJ4_indexOf_2_91 (by decide) (by first | (have := h_b.2.2 (i + tt) (by omega); omega) | (have := h_b.2.2 (ii + 1 + tt) (by omega); omega)) (by have := h_c.2.2 (tt) (by omega); omega) (fun c_91 => ?_) (fun c_91 => ?_)
                  · refine lv_iload hx hb dJ4_indexOf_2_103 (lv_at hl 8 rfl) ?_
                    refine lv_iload hx hb dJ4_indexOf_2_105 (lv_at hl 9 rfl) ?_
                    refine kn_cne (tgt := 113) hx hb dJ4_indexOf_2_107 (by decide) (by omega) (by omega) (fun c_107 => ?_) (fun c_107 => ?_)
                    · refine lv_iinc (v := nI (i + 1)) (lv' := [(7, .int (nI (i + 1))), (0, .ref b), (1, .int (nI n)), (2, .ref c), (3, .int (nI k)), (4, .int (nI 0)), (5, .int (nI (h 0))), (6, .int (nI (n - k))), (8, .int (nI (i + tt))), (9, .int (nI (i + k))), (10, .int (nI tt))]) hx hb dJ4_indexOf_2_113 hl (k := 7) rfl (show nI i + Int32.ofInt 1 = nI (i + 1) from nI_add _ 1) (by decide) rfl (fun ls hl => ?_)
                      refine lv_goto (tgt := 14) hx hb dJ4_indexOf_2_116 (by decide) ?_
                      exact ih14 (i + 1) (by omega) (hpre.trans (by rw [show n - k + 1 - (i) = (n - k + 1 - (i + 1)) + 1 by omega, ixT_n (eqT_fj (j := tt) (by omega) (by rw [Nat.zero_add]; exact c_91))])) (by omega) _ (lv_sub hl [1, 2, 3, 4, 5, 6, 7, 0] rfl)
                    · omega
                  · refine lv_iinc (v := nI (i + tt + 1)) (lv' := [(8, .int (nI (i + tt + 1))), (0, .ref b), (1, .int (nI n)), (2, .ref c), (3, .int (nI k)), (4, .int (nI 0)), (5, .int (nI (h 0))), (6, .int (nI (n - k))), (7, .int (nI i)), (9, .int (nI (i + k))), (10, .int (nI tt))]) hx hb dJ4_indexOf_2_94 hl (k := 8) rfl (show nI (i + tt) + Int32.ofInt 1 = nI (i + tt + 1) from nI_add _ 1) (by decide) rfl (fun ls hl => ?_)
                    refine lv_iinc (v := nI (tt + 1)) (lv' := [(10, .int (nI (tt + 1))), (8, .int (nI (i + tt + 1))), (0, .ref b), (1, .int (nI n)), (2, .ref c), (3, .int (nI k)), (4, .int (nI 0)), (5, .int (nI (h 0))), (6, .int (nI (n - k))), (7, .int (nI i)), (9, .int (nI (i + k)))]) hx hb dJ4_indexOf_2_97 hl (k := 10) rfl (show nI tt + Int32.ofInt 1 = nI (tt + 1) from nI_add _ 1) (by decide) rfl (fun ls hl => ?_)
                    refine lv_goto (tgt := 76) hx hb dJ4_indexOf_2_100 (by decide) ?_
                    exact ih76 (tt + 1) (by omega) (by omega) (eqT_s i76_2 (by rw [Nat.zero_add]; exact c_91)) (by omega) _ (lv_sub hl [2, 3, 4, 5, 6, 7, 8, 9, 1, 10, 0] rfl)
            exact L76 _ 1 (by omega) (by omega) (eqT_s (j := 0) rfl (by rw [Nat.add_zero, Nat.add_zero]; exact c_27)) (Nat.lt_succ_self _) _ (lv_sub hl [3, 4, 5, 6, 7, 8, 9, 10, 2, 1, 0] rfl)
        · have L30 : ∀ (nn30 : Nat) (ii : Nat), (ii ≤ n - k ∧ i ≤ ii) → (ixT f h k (n - k + 1) 0 = ixT f h k (n - k + 1 - ii) ii) → (¬ f ii = h 0) → n - k - ii < nn30 → ∀ (ls : Array Slot), lv_has ls 11 [(0, .ref b), (1, .int (nI n)), (2, .ref c), (3, .int (nI k)), (4, .int (nI 0)), (5, .int (nI (h 0))), (6, .int (nI (n - k))), (7, .int (nI ii))] → W p lh e r_J4_indexOf_2 s m args below meth cd s.heap [] 0 0 Q (F0 m 30 ls []) := by
            intro nn30
            induction nn30 with
            | zero => intro ii i30_0 i30_1 i30_2 hm30; exact absurd hm30 (Nat.not_lt_zero _)
            | succ nn30 ih30 =>
              intro ii i30_0 i30_1 i30_2 hm30 ls hl
              refine lv_iinc (v := nI (ii + 1)) (lv' := [(7, .int (nI (ii + 1))), (0, .ref b), (1, .int (nI n)), (2, .ref c), (3, .int (nI k)), (4, .int (nI 0)), (5, .int (nI (h 0))), (6, .int (nI (n - k)))]) hx hb dJ4_indexOf_2_30 hl (k := 7) rfl (show nI ii + Int32.ofInt 1 = nI (ii + 1) from nI_add _ 1) (by decide) rfl (fun ls hl => ?_)
              refine lv_iload hx hb dJ4_indexOf_2_33 (lv_at hl 0 rfl) ?_
              refine lv_iload hx hb dJ4_indexOf_2_35 (lv_at hl 7 rfl) ?_
              refine kn_cgt (tgt := 52) hx hb dJ4_indexOf_2_37 (by decide) (by omega) (by omega) (fun c_37 => ?_) (fun c_37 => ?_)
              · have hpre : ixT f h k (n - k + 1) 0 = ixT f h k (n - k + 1 - (ii + 1)) (ii + 1) := i30_1.trans (by rw [show n - k + 1 - ii = (n - k + 1 - (ii + 1)) + 1 by omega, ixT_n (eqT_f0 h3 i30_2)])
                have hle : ii + 1 ≤ n - k + 1 := by omega
                refine lv_iload hx hb dJ4_indexOf_2_52 (lv_at hl 0 rfl) ?_
                refine lv_iload hx hb dJ4_indexOf_2_54 (lv_at hl 7 rfl) ?_
                refine kn_cgt (tgt := 113) hx hb dJ4_indexOf_2_56 (by decide) (by omega) (by omega) (fun c_56 => ?_) (fun c_56 => ?_)
                · refine lv_iinc (v := nI (ii + 1 + 1)) (lv' := [(7, .int (nI (ii + 1 + 1))), (0, .ref b), (1, .int (nI n)), (2, .ref c), (3, .int (nI k)), (4, .int (nI 0)), (5, .int (nI (h 0))), (6, .int (nI (n - k)))]) hx hb dJ4_indexOf_2_113 hl (k := 0) rfl (show nI (ii + 1) + Int32.ofInt 1 = nI (ii + 1 + 1) from nI_add _ 1) (by decide) rfl (fun ls hl => ?_)
                  refine lv_goto (tgt := 14) hx hb dJ4_indexOf_2_116 (by decide) ?_
                  exact ih14 (ii + 1 + 1) (by omega) (hpre.trans (by rw [show n - k + 1 - (ii + 1) = 0 by omega, show n - k + 1 - (ii + 1 + 1) = 0 by omega]; rfl)) (by omega) _ (lv_sub hl [1, 2, 3, 4, 5, 6, 7, 0] rfl)
                · omega
              · refine lv_aload_n hx hb dJ4_indexOf_2_40 rfl (lv_at hl 1 rfl) ?_
                refine lv_iload hx hb dJ4_indexOf_2_41 (lv_at hl 0 rfl) ?_
                refine T_bald hx hb h_b (show ii + 1 < n from by omega) dJ4_indexOf_2_43 ?_
                refine lv_iload hx hb dJ4_indexOf_2_44 (lv_at hl 6 rfl) ?_
                refine kn_ceq (tgt := 52) hx hb dJ4_indexOf_2_46 (by decide) (by have := h_b.2.2 (ii + 1) (by omega); omega) (by have := h_c.2.2 (0) (by omega); omega) (fun c_46 => ?_) (fun c_46 => ?_)
                · have hpre : ixT f h k (n - k + 1) 0 = ixT f h k (n - k + 1 - (ii + 1)) (ii + 1) := i30_1.trans (by rw [show n - k + 1 - ii = (n - k + 1 - (ii + 1)) + 1 by omega, ixT_n (eqT_f0 h3 i30_2)])
                  have hle : ii + 1 ≤ n - k + 1 := by omega
                  refine lv_iload hx hb dJ4_indexOf_2_52 (lv_at hl 0 rfl) ?_
                  refine lv_iload hx hb dJ4_indexOf_2_54 (lv_at hl 7 rfl) ?_
                  refine kn_cgt (tgt := 113) hx hb dJ4_indexOf_2_56 (by decide) (by omega) (by omega) (fun c_56 => ?_) (fun c_56 => ?_)
                  · refine lv_iinc (v := nI (ii + 1 + 1)) (lv' := [(7, .int (nI (ii + 1 + 1))), (0, .ref b), (1, .int (nI n)), (2, .ref c), (3, .int (nI k)), (4, .int (nI 0)), (5, .int (nI (h 0))), (6, .int (nI (n - k)))]) hx hb dJ4_indexOf_2_113 hl (k := 0) rfl (show nI (ii + 1) + Int32.ofInt 1 = nI (ii + 1 + 1) from nI_add _ 1) (by decide) rfl (fun ls hl => ?_)
                    refine lv_goto (tgt := 14) hx hb dJ4_indexOf_2_116 (by decide) ?_
                    exact ih14 (ii + 1 + 1) (by omega) (hpre.trans (by rw [show n - k + 1 - (ii + 1) = 0 by omega, show n - k + 1 - (ii + 1 + 1) = 0 by omega]; rfl)) (by omega) _ (lv_sub hl [1, 2, 3, 4, 5, 6, 7, 0] rfl)
                  · refine lv_iload hx hb dJ4_indexOf_2_59 (lv_at hl 0 rfl) ?_
                    refine lv_iconst (v := nI 1) hx hb dJ4_indexOf_2_61 (by decide) ?_
                    refine kn_add hx hb dJ4_indexOf_2_62 ?_
                    refine lv_istore (lv' := [(8, .int (nI (ii + 1 + 1))), (7, .int (nI (ii + 1))), (0, .ref b), (1, .int (nI n)), (2, .ref c), (3, .int (nI k)), (4, .int (nI 0)), (5, .int (nI (h 0))), (6, .int (nI (n - k)))]) hx hb dJ4_indexOf_2_63 hl (by decide) rfl (fun ls hl => ?_)
                    refine lv_iload hx hb dJ4_indexOf_2_65 (lv_at hl 0 rfl) ?_
                    refine lv_iload_n hx hb dJ4_indexOf_2_67 rfl (lv_at hl 5 rfl) ?_
                    refine kn_add hx hb dJ4_indexOf_2_68 ?_
                    refine lv_iconst (v := nI 1) hx hb dJ4_indexOf_2_69 (by decide) ?_
                    refine kn_sub hx hb dJ4_indexOf_2_70 (by omega) ?_
                    refine kx_int (y := nI (ii + 1 + k)) (congrArg nI (by omega)) ?_
                    refine lv_istore (lv' := [(9, .int (nI (ii + 1 + k))), (8, .int (nI (ii + 1 + 1))), (7, .int (nI (ii + 1))), (0, .ref b), (1, .int (nI n)), (2, .ref c), (3, .int (nI k)), (4, .int (nI 0)), (5, .int (nI (h 0))), (6, .int (nI (n - k)))]) hx hb dJ4_indexOf_2_71 hl (by decide) rfl (fun ls hl => ?_)
                    refine lv_iconst (v := nI 1) hx hb dJ4_indexOf_2_73 (by decide) ?_
                    refine lv_istore (lv' := [(10, .int (nI 1)), (9, .int (nI (ii + 1 + k))), (8, .int (nI (ii + 1 + 1))), (7, .int (nI (ii + 1))), (0, .ref b), (1, .int (nI n)), (2, .ref c), (3, .int (nI k)), (4, .int (nI 0)), (5, .int (nI (h 0))), (6, .int (nI (n - k)))]) hx hb dJ4_indexOf_2_74 hl (by decide) rfl (fun ls hl => ?_)
                    have L76 : ∀ (nn76 : Nat) (tt : Nat), (1 ≤ tt) → (tt ≤ k) → (eqT f (ii + 1) h 0 tt = true) → k - tt < nn76 → ∀ (ls : Array Slot), lv_has ls 11 [(0, .ref b), (1, .int (nI n)), (2, .ref c), (3, .int (nI k)), (4, .int (nI 0)), (5, .int (nI (h 0))), (6, .int (nI (n - k))), (7, .int (nI (ii + 1))), (8, .int (nI (ii + 1 + tt))), (9, .int (nI (ii + 1 + k))), (10, .int (nI tt))] → W p lh e r_J4_indexOf_2 s m args below meth cd s.heap [] 0 0 Q (F0 m 76 ls []) := by
                      intro nn76
                      induction nn76 with
                      | zero => intro tt i76_0 i76_1 i76_2 hm76; exact absurd hm76 (Nat.not_lt_zero _)
                      | succ nn76 ih76 =>
                        intro tt i76_0 i76_1 i76_2 hm76 ls hl
                        refine lv_iload hx hb dJ4_indexOf_2_76 (lv_at hl 8 rfl) ?_
                        refine lv_iload hx hb dJ4_indexOf_2_78 (lv_at hl 9 rfl) ?_
                        refine kn_cge (tgt := 103) hx hb dJ4_indexOf_2_80 (by decide) (by omega) (by omega) (fun c_80 => ?_) (fun c_80 => ?_)
                        · refine lv_iload hx hb dJ4_indexOf_2_103 (lv_at hl 8 rfl) ?_
                          refine lv_iload hx hb dJ4_indexOf_2_105 (lv_at hl 9 rfl) ?_
                          refine kn_cne (tgt := 113) hx hb dJ4_indexOf_2_107 (by decide) (by omega) (by omega) (fun c_107 => ?_) (fun c_107 => ?_)
                          · omega
                          · refine lv_iload hx hb dJ4_indexOf_2_110 (lv_at hl 7 rfl) ?_
                            subst hQ
                            exact W.iret (v := nI (ii + 1)) hx hb hrt (fun t ht _ => ⟨_, rfl, (show nI (ii + 1) = oI (ixT f h k (n - k + 1) 0) from by rw [hpre, show n - k + 1 - (ii + 1) = (n - k - (ii + 1)) + 1 by omega, ixT_y (show eqT f (ii + 1) h 0 k = true from (show tt = k by omega) ▸ i76_2)]; rfl), ht⟩) t_nil dJ4_indexOf_2_112
                        · refine lv_aload_n hx hb dJ4_indexOf_2_83 rfl (lv_at hl 0 rfl) ?_
                          refine lv_iload hx hb dJ4_indexOf_2_84 (lv_at hl 8 rfl) ?_
                          refine T_bald hx hb h_b (show ii + 1 + tt < n from by omega) dJ4_indexOf_2_86 ?_
                          refine lv_aload_n hx hb dJ4_indexOf_2_87 rfl (lv_at hl 2 rfl) ?_
                          refine lv_iload hx hb dJ4_indexOf_2_88 (lv_at hl 10 rfl) ?_
                          refine T_bald hx hb h_c (show tt < k from by omega) dJ4_indexOf_2_90 ?_
                          refine kn_cne (tgt := 103) hx hb dJ4_indexOf_2_91 (by decide) (by first | (have := h_b.2.2 (i + tt) (by omega); omega) | (have := h_b.2.2 (ii + 1 + tt) (by omega); omega)) (by have := h_c.2.2 (tt) (by omega); omega) (fun c_91 => ?_) (fun c_91 => ?_)
                          · refine lv_iload hx hb dJ4_indexOf_2_103 (lv_at hl 8 rfl) ?_
                            refine lv_iload hx hb dJ4_indexOf_2_105 (lv_at hl 9 rfl) ?_
                            refine kn_cne (tgt := 113) hx hb dJ4_indexOf_2_107 (by decide) (by omega) (by omega) (fun c_107 => ?_) (fun c_107 => ?_)
                            · refine lv_iinc (v := nI (ii + 1 + 1)) (lv' := [(7, .int (nI (ii + 1 + 1))), (0, .ref b), (1, .int (nI n)), (2, .ref c), (3, .int (nI k)), (4, .int (nI 0)), (5, .int (nI (h 0))), (6, .int (nI (n - k))), (8, .int (nI (ii + 1 + tt))), (9, .int (nI (ii + 1 + k))), (10, .int (nI tt))]) hx hb dJ4_indexOf_2_113 hl (k := 7) rfl (show nI (ii + 1) + Int32.ofInt 1 = nI (ii + 1 + 1) from nI_add _ 1) (by decide) rfl (fun ls hl => ?_)
                              refine lv_goto (tgt := 14) hx hb dJ4_indexOf_2_116 (by decide) ?_
                              exact ih14 (ii + 1 + 1) (by omega) (hpre.trans (by rw [show n - k + 1 - (ii + 1) = (n - k + 1 - (ii + 1 + 1)) + 1 by omega, ixT_n (eqT_fj (j := tt) (by omega) (by rw [Nat.zero_add]; exact c_91))])) (by omega) _ (lv_sub hl [1, 2, 3, 4, 5, 6, 7, 0] rfl)
                            · omega
                          · refine lv_iinc (v := nI (ii + 1 + tt + 1)) (lv' := [(8, .int (nI (ii + 1 + tt + 1))), (0, .ref b), (1, .int (nI n)), (2, .ref c), (3, .int (nI k)), (4, .int (nI 0)), (5, .int (nI (h 0))), (6, .int (nI (n - k))), (7, .int (nI (ii + 1))), (9, .int (nI (ii + 1 + k))), (10, .int (nI tt))]) hx hb dJ4_indexOf_2_94 hl (k := 8) rfl (show nI (ii + 1 + tt) + Int32.ofInt 1 = nI (ii + 1 + tt + 1) from nI_add _ 1) (by decide) rfl (fun ls hl => ?_)
                            refine lv_iinc (v := nI (tt + 1)) (lv' := [(10, .int (nI (tt + 1))), (8, .int (nI (ii + 1 + tt + 1))), (0, .ref b), (1, .int (nI n)), (2, .ref c), (3, .int (nI k)), (4, .int (nI 0)), (5, .int (nI (h 0))), (6, .int (nI (n - k))), (7, .int (nI (ii + 1))), (9, .int (nI (ii + 1 + k)))]) hx hb dJ4_indexOf_2_97 hl (k := 10) rfl (show nI tt + Int32.ofInt 1 = nI (tt + 1) from nI_add _ 1) (by decide) rfl (fun ls hl => ?_)
                            refine lv_goto (tgt := 76) hx hb dJ4_indexOf_2_100 (by decide) ?_
                            exact ih76 (tt + 1) (by omega) (by omega) (eqT_s i76_2 (by rw [Nat.zero_add]; exact c_91)) (by omega) _ (lv_sub hl [2, 3, 4, 5, 6, 7, 8, 9, 1, 10, 0] rfl)
                    exact L76 _ 1 (by omega) (by omega) (eqT_s (j := 0) rfl (by rw [Nat.add_zero, Nat.add_zero]; exact c_46)) (Nat.lt_succ_self _) _ (lv_sub hl [4, 5, 6, 7, 8, 9, 10, 3, 2, 1, 0] rfl)
                · refine lv_goto (tgt := 30) hx hb dJ4_indexOf_2_49 (by decide) ?_
                  exact ih30 (ii + 1) (by omega) (i30_1.trans (by rw [show n - k + 1 - ii = (n - k + 1 - (ii + 1)) + 1 by omega, ixT_n (eqT_f0 h3 i30_2)])) (c_46) (by omega) _ (lv_sub hl [1, 2, 3, 4, 5, 6, 7, 0] rfl)
          exact L30 _ i (by omega) (i14_1) (c_27) (Nat.lt_succ_self _) _ (lv_sub hl [0, 1, 2, 3, 4, 5, 6, 7] rfl)
  exact L14 _ 0 (by omega) (rfl) (Nat.lt_succ_self _) _ (lv_sub hl [3, 4, 5, 6, 7, 2, 1, 0] rfl)
theorem w_J4_indexOf_2 {R : Room} {s : State} {args : Array Value} {own : String} {idx : Nat} (hts : ∀ w ∈ lw_all, w.before args s = true) (h1 : Cond.methodLink own idx yJ4_indexOf_2 ∈ lw_all) {rm : Room} {mc ms : Nat} (hrc : rm.cells = mc) (hrs : rm.slots = ms) (hR : rm.frames + 1 ≤ R.frames ∧ 8 + (11 + 11) + rm.locals ≤ R.locals) : CallB R s args own idx yJ4_indexOf_2 cJ4_indexOf_2 11 (some .int) (ws_ yJ4_indexOf_2 cJ4_indexOf_2 11 (some .int)) rm mc ms 5 ∧ (Cond.static yJ4_indexOf_2).before args s = true := va_cwS 5 hts (lw_S h1 q876 q67 q877) rfl hrc hrs (by decide +kernel) hR

abbrev r_J4_indexOf : Room := { frames := 1, cells := 0, slots := 0, locals := 30 }
set_option maxHeartbeats 400000 in
theorem c_J4_indexOf (lh : Launch) (b : Nat) (n : Nat) (f : Nat → Nat) (c : Nat) (k : Nat) (h : Nat → Nat) (h1 : 1 ≤ k) (h2 : k ≤ n) (h3 : n < 2 ^ 20) : Met lh yJ4_indexOf (ws_ yJ4_indexOf cJ4_indexOf 2 (some .int)) r_J4_indexOf (PX (fun U H => KC nA U H ∧ TB nA b n f U H ∧ TB nA c k h U H) [.ref b, .ref c]) (vp_Si (fun rv => rv = oI (ixT f h k (n - k + 1) 0))) 0 0 (fun _ => False) := by
  refine Met.ofW (cc := cJ4_indexOf) (maxL := 2) (ret := (some .int)) (by decide) rfl ?_
  intro p e s m args below meth cd s₁ B hml hv
  obtain ⟨hargs, hKC, h_b, h_c⟩ := hv
  have hS : va_S nA s.heap s.heap [] := va_S.rf
  have hx := B.exec
  have hb := B.bytes
  have hrt := B.returns
  have hts := atoms_spec (ws := (ws_ yJ4_indexOf cJ4_indexOf 2 (some .int))) B.pre
  have hts : ∀ w ∈ lw_all, w.before _ s = true := fun w h => hts w (List.mem_cons_of_mem _ h)
  have hown : s.vm.findClass RJ4 = some m.cls := findClass_of_methodNamed B.named
  have hlocks := B.notSynchronized
  have hE : entryFrame m args 2 = F0 m 0 ((lg_sl ([.ref b, .ref c]) ++ List.replicate (2 - (lg_sl ([.ref b, .ref c])).length) Slot.unset).toArray) [] := by rw [hargs]; exact lg_entry_eq m _ 2
  have hl := lv_entry ([.ref b, .ref c]) (n := 2) (Nat.le_of_ble_eq_true rfl)
  rw [hE]
  clear hE
  generalize (lg_sl ([.ref b, .ref c]) ++ List.replicate (2 - (lg_sl ([.ref b, .ref c])).length) Slot.unset).toArray = ls at hl ⊢
  have hl : lv_has ls 2 [(0, .ref b), (1, .ref c)] := hl
  generalize hQ : MQ _ _ _ _ _ _ _ = Q
  have hn := h_b.2.1
  have hk := h_c.2.1
  refine lv_aload_n hx hb dJ4_indexOf_0 rfl (lv_at hl 1 rfl) ?_
  refine T_len hx hb h_c dJ4_indexOf_1 ?_
  refine kn_zne (tgt := 7) hx hb dJ4_indexOf_2 (by decide) (by omega) (fun c_2 => ?_) (fun c_2 => ?_)
  · refine lv_aload_n hx hb dJ4_indexOf_7 rfl (lv_at hl 0 rfl) ?_
    refine T_len hx hb h_b dJ4_indexOf_8 ?_
    refine kn_zne (tgt := 14) hx hb dJ4_indexOf_9 (by decide) (by omega) (fun c_9 => ?_) (fun c_9 => ?_)
    · refine lv_aload_n hx hb dJ4_indexOf_14 rfl (lv_at hl 0 rfl) ?_
      refine lv_aload_n hx hb dJ4_indexOf_15 rfl (lv_at hl 0 rfl) ?_
      refine T_len hx hb h_b dJ4_indexOf_16 ?_
      refine lv_aload_n hx hb dJ4_indexOf_17 rfl (lv_at hl 1 rfl) ?_
      refine lv_aload_n hx hb dJ4_indexOf_18 rfl (lv_at hl 1 rfl) ?_
      refine T_len hx hb h_c dJ4_indexOf_19 ?_
      refine lv_iconst (v := nI 0) hx hb dJ4_indexOf_20 (by decide) ?_
      refine vp_callSi (W.runS (As := [.ref b, .int (nI n), .ref c, .int (nI k), .int (nI 0)]) (rest := []) ⟨hx, hb, hml, hown, hts⟩ (c_J4_indexOf_2 lh b n f c k h n k (rfl) (rfl) (h1) (h2) (h3)) (w_J4_indexOf_2 hts q875 rfl rfl ⟨Nat.le_of_ble_eq_true rfl, Nat.le_of_ble_eq_true rfl⟩) ⟨PX.blind (Mv.and KC.mv (Mv.and TB.mv TB.mv)), PX.pre (Mv.and KC.mv (Mv.and TB.mv TB.mv)) ⟨hKC, h_b, h_c⟩⟩ rfl rfl hl.1 rfl (lv_room (Nat.le_of_ble_eq_true rfl)) dJ4_indexOf_21 ⟨Nat.le_of_ble_eq_true rfl, Nat.le_of_ble_eq_true rfl⟩) (fun rr hrr => ?_)
      subst hrr
      rcases ho21 : ixT f h k (n - k + 1) 0 with _ | k21
      · show W p lh e r_J4_indexOf s m args below meth cd _ _ _ _ Q (F0 m _ ls (.int (-1) :: _))
        subst hQ
        exact W.iret (v := (-1)) hx hb hrt (fun t ht _ => ⟨_, rfl, (show (-1) = oI (ixT f h k (n - k + 1) 0) from by rw [ho21]; rfl), ht⟩) t_nil dJ4_indexOf_24
      · show W p lh e r_J4_indexOf s m args below meth cd _ _ _ _ Q (F0 m _ ls (.int (nI k21) :: _))
        subst hQ
        exact W.iret (v := nI k21) hx hb hrt (fun t ht _ => ⟨_, rfl, (show nI k21 = oI (ixT f h k (n - k + 1) 0) from by rw [ho21]; rfl), ht⟩) t_nil dJ4_indexOf_24
    · omega
  · omega
theorem w_J4_indexOf {R : Room} {s : State} {args : Array Value} {own : String} {idx : Nat} (hts : ∀ w ∈ lw_all, w.before args s = true) (h1 : Cond.methodLink own idx yJ4_indexOf ∈ lw_all) {rm : Room} {mc ms : Nat} (hrc : rm.cells = mc) (hrs : rm.slots = ms) (hR : rm.frames + 1 ≤ R.frames ∧ 8 + (2 + 11) + rm.locals ≤ R.locals) : CallB R s args own idx yJ4_indexOf cJ4_indexOf 2 (some .int) (ws_ yJ4_indexOf cJ4_indexOf 2 (some .int)) rm mc ms 2 ∧ (Cond.static yJ4_indexOf).before args s = true := va_cwS 2 hts (lw_S h1 q873 q67 q874) rfl hrc hrs (by decide +kernel) hR

abbrev r_J3_indexOf : Room := { frames := 2, cells := 0, slots := 0, locals := 51 }
set_option maxHeartbeats 400000 in
theorem c_J3_indexOf (lh : Launch) (a : Nat) (b : Nat) (n : Nat) (f : Nat → Nat) (a2 : Nat) (c : Nat) (k : Nat) (h : Nat → Nat) (h1 : 1 ≤ k) (h2 : k ≤ n) (h3 : n < 2 ^ 20) : Met lh yJ3_indexOf (ws_ yJ3_indexOf cJ3_indexOf 3 (some .int)) r_J3_indexOf (PX (fun U H => KC nA U H ∧ SA nA a b n f U H ∧ SA nA a2 c k h U H) [.ref a, .ref a2]) (vp_Si (fun rv => rv = oI (ixT f h k (n - k + 1) 0))) 0 0 (fun _ => False) := by
  refine Met.ofW (cc := cJ3_indexOf) (maxL := 3) (ret := (some .int)) (by decide) rfl ?_
  intro p e s m args below meth cd s₁ B hml hv
  obtain ⟨hargs, hKC, h_a, h_a2⟩ := hv
  have hS : va_S nA s.heap s.heap [] := va_S.rf
  have hx := B.exec
  have hb := B.bytes
  have hrt := B.returns
  have hts := atoms_spec (ws := (ws_ yJ3_indexOf cJ3_indexOf 3 (some .int))) B.pre
  have hts : ∀ w ∈ lw_all, w.before _ s = true := fun w h => hts w (List.mem_cons_of_mem _ h)
  have hown : s.vm.findClass RJ3 = some m.cls := findClass_of_methodNamed B.named
  have hlocks := B.notSynchronized
  have hE : entryFrame m args 3 = F0 m 0 ((lg_sl ([.ref a, .ref a2]) ++ List.replicate (3 - (lg_sl ([.ref a, .ref a2])).length) Slot.unset).toArray) [] := by rw [hargs]; exact lg_entry_eq m _ 3
  have hl := lv_entry ([.ref a, .ref a2]) (n := 3) (Nat.le_of_ble_eq_true rfl)
  rw [hE]
  clear hE
  generalize (lg_sl ([.ref a, .ref a2]) ++ List.replicate (3 - (lg_sl ([.ref a, .ref a2])).length) Slot.unset).toArray = ls at hl ⊢
  have hl : lv_has ls 3 [(0, .ref a), (1, .ref a2)] := hl
  generalize hQ : MQ _ _ _ _ _ _ _ = Q
  refine lv_aload_n hx hb dJ3_indexOf_0 rfl (lv_at hl 0 rfl) ?_
  refine vp_callSi (W.runV (As := []) (rest := []) ⟨hx, hb, hml, hown, hts⟩ (c_J3_coder lh a b n f) (w_J3_coder hts q141 rfl rfl ⟨Nat.le_of_ble_eq_true rfl, Nat.le_of_ble_eq_true rfl⟩) ⟨PX.blind (Mv.and KC.mv SA.mv), (SA.recv h_a), PX.pre (Mv.and KC.mv SA.mv) ⟨hKC, h_a⟩⟩ rfl rfl hl.1 rfl (lv_room (Nat.le_of_ble_eq_true rfl)) dJ3_indexOf_1 ⟨Nat.le_of_ble_eq_true rfl, Nat.le_of_ble_eq_true rfl⟩) (fun rr hrr => ?_)
  subst hrr
  refine lv_istore_n (lv' := [(2, .int (nI 0)), (0, .ref a), (1, .ref a2)]) hx hb dJ3_indexOf_4 rfl hl (by decide) rfl (fun ls hl => ?_)
  refine lv_iload_n hx hb dJ3_indexOf_5 rfl (lv_at hl 0 rfl) ?_
  refine lv_aload_n hx hb dJ3_indexOf_6 rfl (lv_at hl 2 rfl) ?_
  refine vp_callSi (W.runV (As := []) (rest := [.int (nI 0)]) ⟨hx, hb, hml, hown, hts⟩ (c_J3_coder lh a2 c k h) (w_J3_coder hts q141 rfl rfl ⟨Nat.le_of_ble_eq_true rfl, Nat.le_of_ble_eq_true rfl⟩) ⟨PX.blind (Mv.and KC.mv SA.mv), (SA.recv h_a2), PX.pre (Mv.and KC.mv SA.mv) ⟨hKC, h_a2⟩⟩ rfl rfl hl.1 rfl (lv_room (Nat.le_of_ble_eq_true rfl)) dJ3_indexOf_7 ⟨Nat.le_of_ble_eq_true rfl, Nat.le_of_ble_eq_true rfl⟩) (fun rr hrr => ?_)
  subst hrr
  refine kn_cne (tgt := 46) hx hb dJ3_indexOf_10 (by decide) (by decide) (by decide) (fun c => absurd c (by decide)) (fun _ => ?_)
  refine lv_aload_n hx hb dJ3_indexOf_13 rfl (lv_at hl 1 rfl) ?_
  refine vp_callSi (W.runV (As := []) (rest := []) ⟨hx, hb, hml, hown, hts⟩ (c_J3_isLatin1 lh a b n f) (w_J3_isLatin1 hts q151 rfl rfl ⟨Nat.le_of_ble_eq_true rfl, Nat.le_of_ble_eq_true rfl⟩) ⟨PX.blind (Mv.and KC.mv SA.mv), (SA.recv h_a), PX.pre (Mv.and KC.mv SA.mv) ⟨hKC, h_a⟩⟩ rfl rfl hl.1 rfl (lv_room (Nat.le_of_ble_eq_true rfl)) dJ3_indexOf_14 ⟨Nat.le_of_ble_eq_true rfl, Nat.le_of_ble_eq_true rfl⟩) (fun rr hrr => ?_)
  subst hrr
  refine kn_zeq (tgt := 34) hx hb dJ3_indexOf_17 (by decide) (by decide) (fun c => absurd c (by decide)) (fun _ => ?_)
  refine lv_aload_n hx hb dJ3_indexOf_20 rfl (lv_at hl 1 rfl) ?_
  refine S_getv hx hb h_a hown (hts _ q764) dJ3_indexOf_21 ?_
  refine lv_aload_n hx hb dJ3_indexOf_24 rfl (lv_at hl 2 rfl) ?_
  refine S_getv hx hb h_a2 hown (hts _ q764) dJ3_indexOf_25 ?_
  refine vp_callSi (W.runS (As := [.ref b, .ref c]) (rest := []) ⟨hx, hb, hml, hown, hts⟩ (c_J4_indexOf lh b n f c k h (h1) (h2) (h3)) (w_J4_indexOf hts q872 rfl rfl ⟨Nat.le_of_ble_eq_true rfl, Nat.le_of_ble_eq_true rfl⟩) ⟨PX.blind (Mv.and KC.mv (Mv.and TB.mv TB.mv)), PX.pre (Mv.and KC.mv (Mv.and TB.mv TB.mv)) ⟨hKC, h_a.2.2.2, h_a2.2.2.2⟩⟩ rfl rfl hl.1 rfl (lv_room (Nat.le_of_ble_eq_true rfl)) dJ3_indexOf_28 ⟨Nat.le_of_ble_eq_true rfl, Nat.le_of_ble_eq_true rfl⟩) (fun rr hrr => ?_)
  subst hrr
  rcases ho28 : ixT f h k (n - k + 1) 0 with _ | k28
  · show W p lh e r_J3_indexOf s m args below meth cd _ _ _ _ Q (F0 m _ ls (.int (-1) :: _))
    refine lv_goto (tgt := 45) hx hb dJ3_indexOf_31 (by decide) ?_
    subst hQ
    exact W.iret (v := (-1)) hx hb hrt (fun t ht _ => ⟨_, rfl, (show (-1) = oI (ixT f h k (n - k + 1) 0) from by rw [ho28]; rfl), ht⟩) t_nil dJ3_indexOf_45
  · show W p lh e r_J3_indexOf s m args below meth cd _ _ _ _ Q (F0 m _ ls (.int (nI k28) :: _))
    refine lv_goto (tgt := 45) hx hb dJ3_indexOf_31 (by decide) ?_
    subst hQ
    exact W.iret (v := nI k28) hx hb hrt (fun t ht _ => ⟨_, rfl, (show nI k28 = oI (ixT f h k (n - k + 1) 0) from by rw [ho28]; rfl), ht⟩) t_nil dJ3_indexOf_45
theorem w_J3_indexOf {R : Room} {s : State} {args : Array Value} {own : String} {idx : Nat} (hts : ∀ w ∈ lw_all, w.before args s = true) (h1 : Cond.methodLink own idx yJ3_indexOf ∈ lw_all) {rm : Room} {mc ms : Nat} (hrc : rm.cells = mc) (hrs : rm.slots = ms) (hR : rm.frames + 1 ≤ R.frames ∧ 8 + (3 + 11) + rm.locals ≤ R.locals) : CallW R s args own RJ3 idx yJ3_indexOf cJ3_indexOf 3 (some .int) (ws_ yJ3_indexOf cJ3_indexOf 3 (some .int)) rm mc ms 1 := cwV 1 hts (lw_V h1 q869 q870 q66 q871) rfl hrc hrs (by decide +kernel) hR
