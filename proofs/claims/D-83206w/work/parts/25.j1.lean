set_option maxRecDepth 100000
theorem chr_b {x : Nat} (h : x < 128) : ((nI x &&& nI 255).toUInt32 % 65536).toInt32 = nI x := by
  have h1 : ∀ x, x < 128 → ((nI x &&& nI 255).toUInt32 % 65536).toInt32 = nI x := by decide +kernel
  exact h1 x h
theorem chr_n {x : Nat} (h : x < 65536) : narrow .char (.int (nI x)) = .int (nI x) := (pk_charN h).1

theorem sh0_nI {n : Nat} (h : n < 2 ^ 31) : nI n >>> (nI 0 &&& 31) = nI n := by
  rw [show (nI 0 &&& 31 : Int32) = ((0 : Int32) &&& 31) from rfl]; exact sc_shr0 h

abbrev r_J3_coder : Room := { frames := 0, cells := 0, slots := 0, locals := 0 }
set_option maxHeartbeats 400000 in
theorem c_J3_coder (lh : Launch) (a : Nat) (b : Nat) (n : Nat) (f : Nat → Nat) : Met lh yJ3_coder (ws_ yJ3_coder cJ3_coder 1 (some .byte)) r_J3_coder (PX (fun U H => KC nA U H ∧ SA nA a b n f U H) [.ref a]) (vp_Si (fun rv => rv = nI 0)) 0 0 (fun _ => False) := by
  refine Met.ofW (cc := cJ3_coder) (maxL := 1) (ret := (some .byte)) (by decide) rfl ?_
  intro p e s m args below meth cd s₁ B hml hv
  obtain ⟨hargs, hKC, h_a⟩ := hv
  have hS : va_S nA s.heap s.heap [] := va_S.rf
  have hx := B.exec
  have hb := B.bytes
  have hrt := B.returns
  have hts := atoms_spec (ws := (ws_ yJ3_coder cJ3_coder 1 (some .byte))) B.pre
  have hts : ∀ w ∈ lw_all, w.before _ s = true := fun w h => hts w (List.mem_cons_of_mem _ h)
  have hown : s.vm.findClass RJ3 = some m.cls := findClass_of_methodNamed B.named
  have hlocks := B.notSynchronized
  have hE : entryFrame m args 1 = F0 m 0 ((lg_sl ([.ref a]) ++ List.replicate (1 - (lg_sl ([.ref a])).length) Slot.unset).toArray) [] := by rw [hargs]; exact lg_entry_eq m _ 1
  have hl := lv_entry ([.ref a]) (n := 1) (Nat.le_of_ble_eq_true rfl)
  rw [hE]
  clear hE
  generalize (lg_sl ([.ref a]) ++ List.replicate (1 - (lg_sl ([.ref a])).length) Slot.unset).toArray = ls at hl ⊢
  have hl : lv_has ls 1 [(0, .ref a)] := hl
  generalize hQ : MQ _ _ _ _ _ _ _ = Q
  refine K_getz hx hb hKC hown (hts _ q145) dJ3_coder_0 ?_
  refine kn_zeq (tgt := 13) hx hb dJ3_coder_3 (by decide) (by decide) (fun c => absurd c (by decide)) (fun _ => ?_)
  refine lv_aload_n hx hb dJ3_coder_6 rfl (lv_at hl 0 rfl) ?_
  refine S_getc hx hb h_a hown (hts _ q765) dJ3_coder_7 ?_
  refine lv_goto (tgt := 14) hx hb dJ3_coder_10 (by decide) ?_
  subst hQ
  exact W.zret (v := nI 0) hx hb hrt rfl (fun t ht _ => ⟨_, rfl, (show nI 0 = nI 0 from rfl), ht⟩) t_nil dJ3_coder_14
theorem w_J3_coder {R : Room} {s : State} {args : Array Value} {own : String} {idx : Nat} (hts : ∀ w ∈ lw_all, w.before args s = true) (h1 : Cond.methodLink own idx yJ3_coder ∈ lw_all) {rm : Room} {mc ms : Nat} (hrc : rm.cells = mc) (hrs : rm.slots = ms) (hR : rm.frames + 1 ≤ R.frames ∧ 8 + (1 + 11) + rm.locals ≤ R.locals) : CallW R s args own RJ3 idx yJ3_coder cJ3_coder 1 (some .byte) (ws_ yJ3_coder cJ3_coder 1 (some .byte)) rm mc ms 0 := cwV 0 hts (lw_V h1 q142 q143 q66 q144) rfl hrc hrs (by decide +kernel) hR

abbrev r_J3_isLatin1 : Room := { frames := 0, cells := 0, slots := 0, locals := 0 }
set_option maxHeartbeats 400000 in
theorem c_J3_isLatin1 (lh : Launch) (a : Nat) (b : Nat) (n : Nat) (f : Nat → Nat) : Met lh yJ3_isLatin1 (ws_ yJ3_isLatin1 cJ3_isLatin1 1 (some .boolean)) r_J3_isLatin1 (PX (fun U H => KC nA U H ∧ SA nA a b n f U H) [.ref a]) (vp_Si (fun rv => rv = nI 1)) 0 0 (fun _ => False) := by
  refine Met.ofW (cc := cJ3_isLatin1) (maxL := 1) (ret := (some .boolean)) (by decide) rfl ?_
  intro p e s m args below meth cd s₁ B hml hv
  obtain ⟨hargs, hKC, h_a⟩ := hv
  have hS : va_S nA s.heap s.heap [] := va_S.rf
  have hx := B.exec
  have hb := B.bytes
  have hrt := B.returns
  have hts := atoms_spec (ws := (ws_ yJ3_isLatin1 cJ3_isLatin1 1 (some .boolean))) B.pre
  have hts : ∀ w ∈ lw_all, w.before _ s = true := fun w h => hts w (List.mem_cons_of_mem _ h)
  have hown : s.vm.findClass RJ3 = some m.cls := findClass_of_methodNamed B.named
  have hlocks := B.notSynchronized
  have hE : entryFrame m args 1 = F0 m 0 ((lg_sl ([.ref a]) ++ List.replicate (1 - (lg_sl ([.ref a])).length) Slot.unset).toArray) [] := by rw [hargs]; exact lg_entry_eq m _ 1
  have hl := lv_entry ([.ref a]) (n := 1) (Nat.le_of_ble_eq_true rfl)
  rw [hE]
  clear hE
  generalize (lg_sl ([.ref a]) ++ List.replicate (1 - (lg_sl ([.ref a])).length) Slot.unset).toArray = ls at hl ⊢
  have hl : lv_has ls 1 [(0, .ref a)] := hl
  generalize hQ : MQ _ _ _ _ _ _ _ = Q
  refine K_getz hx hb hKC hown (hts _ q145) dJ3_isLatin1_0 ?_
  refine kn_zeq (tgt := 17) hx hb dJ3_isLatin1_3 (by decide) (by decide) (fun c => absurd c (by decide)) (fun _ => ?_)
  refine lv_aload_n hx hb dJ3_isLatin1_6 rfl (lv_at hl 0 rfl) ?_
  refine S_getc hx hb h_a hown (hts _ q765) dJ3_isLatin1_7 ?_
  refine kn_zne (tgt := 17) hx hb dJ3_isLatin1_10 (by decide) (by decide) (fun c => absurd c (by decide)) (fun _ => ?_)
  refine lv_iconst (v := nI 1) hx hb dJ3_isLatin1_13 (by decide) ?_
  refine lv_goto (tgt := 18) hx hb dJ3_isLatin1_14 (by decide) ?_
  subst hQ
  exact W.zret (v := nI 1) hx hb hrt rfl (fun t ht _ => ⟨_, rfl, (show nI 1 = nI 1 from rfl), ht⟩) t_nil dJ3_isLatin1_18
theorem w_J3_isLatin1 {R : Room} {s : State} {args : Array Value} {own : String} {idx : Nat} (hts : ∀ w ∈ lw_all, w.before args s = true) (h1 : Cond.methodLink own idx yJ3_isLatin1 ∈ lw_all) {rm : Room} {mc ms : Nat} (hrc : rm.cells = mc) (hrs : rm.slots = ms) (hR : rm.frames + 1 ≤ R.frames ∧ 8 + (1 + 11) + rm.locals ≤ R.locals) : CallW R s args own RJ3 idx yJ3_isLatin1 cJ3_isLatin1 1 (some .boolean) (ws_ yJ3_isLatin1 cJ3_isLatin1 1 (some .boolean)) rm mc ms 0 := cwV 0 hts (lw_V h1 q152 q153 q66 q154) rfl hrc hrs (by decide +kernel) hR

abbrev r_J3_length : Room := { frames := 1, cells := 0, slots := 0, locals := 20 }
set_option maxHeartbeats 400000 in
theorem c_J3_length (lh : Launch) (a : Nat) (b : Nat) (n : Nat) (f : Nat → Nat) : Met lh yJ3_length (ws_ yJ3_length cJ3_length 1 (some .int)) r_J3_length (PX (fun U H => KC nA U H ∧ SA nA a b n f U H) [.ref a]) (vp_Si (fun rv => rv = nI n)) 0 0 (fun _ => False) := by
  refine Met.ofW (cc := cJ3_length) (maxL := 1) (ret := (some .int)) (by decide) rfl ?_
  intro p e s m args below meth cd s₁ B hml hv
  obtain ⟨hargs, hKC, h_a⟩ := hv
  have hS : va_S nA s.heap s.heap [] := va_S.rf
  have hx := B.exec
  have hb := B.bytes
  have hrt := B.returns
  have hts := atoms_spec (ws := (ws_ yJ3_length cJ3_length 1 (some .int))) B.pre
  have hts : ∀ w ∈ lw_all, w.before _ s = true := fun w h => hts w (List.mem_cons_of_mem _ h)
  have hown : s.vm.findClass RJ3 = some m.cls := findClass_of_methodNamed B.named
  have hlocks := B.notSynchronized
  have hE : entryFrame m args 1 = F0 m 0 ((lg_sl ([.ref a]) ++ List.replicate (1 - (lg_sl ([.ref a])).length) Slot.unset).toArray) [] := by rw [hargs]; exact lg_entry_eq m _ 1
  have hl := lv_entry ([.ref a]) (n := 1) (Nat.le_of_ble_eq_true rfl)
  rw [hE]
  clear hE
  generalize (lg_sl ([.ref a]) ++ List.replicate (1 - (lg_sl ([.ref a])).length) Slot.unset).toArray = ls at hl ⊢
  have hl : lv_has ls 1 [(0, .ref a)] := hl
  generalize hQ : MQ _ _ _ _ _ _ _ = Q
  refine lv_aload_n hx hb dJ3_length_0 rfl (lv_at hl 0 rfl) ?_
  refine S_getv hx hb h_a hown (hts _ q764) dJ3_length_1 ?_
  refine T_len hx hb h_a.2.2.2 dJ3_length_4 ?_
  refine lv_aload_n hx hb dJ3_length_5 rfl (lv_at hl 0 rfl) ?_
  refine vp_callSi (W.runV (As := []) (rest := [.int (nI n)]) ⟨hx, hb, hml, hown, hts⟩ (c_J3_coder lh a b n f) (w_J3_coder hts q141 rfl rfl ⟨Nat.le_of_ble_eq_true rfl, Nat.le_of_ble_eq_true rfl⟩) ⟨PX.blind (Mv.and KC.mv SA.mv), (SA.recv h_a), PX.pre (Mv.and KC.mv SA.mv) ⟨hKC, h_a⟩⟩ rfl rfl hl.1 rfl (lv_room (Nat.le_of_ble_eq_true rfl)) dJ3_length_6 ⟨Nat.le_of_ble_eq_true rfl, Nat.le_of_ble_eq_true rfl⟩) (fun rr hrr => ?_)
  subst hrr
  refine lv_ishr hx hb dJ3_length_9 ?_
  refine kx_int (y := nI n) (sh0_nI h_a.2.2.2.2.1) ?_
  subst hQ
  exact W.iret (v := nI n) hx hb hrt (fun t ht _ => ⟨_, rfl, (show nI n = nI n from rfl), ht⟩) t_nil dJ3_length_10
theorem w_J3_length {R : Room} {s : State} {args : Array Value} {own : String} {idx : Nat} (hts : ∀ w ∈ lw_all, w.before args s = true) (h1 : Cond.methodLink own idx yJ3_length ∈ lw_all) {rm : Room} {mc ms : Nat} (hrc : rm.cells = mc) (hrs : rm.slots = ms) (hR : rm.frames + 1 ≤ R.frames ∧ 8 + (1 + 11) + rm.locals ≤ R.locals) : CallW R s args own RJ3 idx yJ3_length cJ3_length 1 (some .int) (ws_ yJ3_length cJ3_length 1 (some .int)) rm mc ms 0 := cwV 0 hts (lw_V h1 q138 q139 q66 q140) rfl hrc hrs (by decide +kernel) hR

abbrev r_J5_checkIndex : Room := { frames := 0, cells := 0, slots := 0, locals := 0 }
set_option maxHeartbeats 400000 in
theorem c_J5_checkIndexZ (lh : Launch) (i : Nat) (n : Nat) (h1 : i < n) (h2 : n < 2 ^ 31) : Met lh yJ5_checkIndex (ws_ yJ5_checkIndex cJ5_checkIndex 3 (some .int)) r_J5_checkIndex (P0 [.int (nI i), .int (nI n), .null]) (vp_Si (fun rv => rv = nI i)) 0 0 (fun _ => False) := by
  refine Met.ofW (cc := cJ5_checkIndex) (maxL := 3) (ret := (some .int)) (by decide) rfl ?_
  intro p e s m args below meth cd s₁ B hml hv
  obtain ⟨hargs, -⟩ := hv
  have hx := B.exec
  have hb := B.bytes
  have hrt := B.returns
  have hts := atoms_spec (ws := (ws_ yJ5_checkIndex cJ5_checkIndex 3 (some .int))) B.pre
  have hts : ∀ w ∈ lw_all, w.before _ s = true := fun w h => hts w (List.mem_cons_of_mem _ h)
  have hown : s.vm.findClass RJ5 = some m.cls := findClass_of_methodNamed B.named
  have hlocks := B.notSynchronized
  have hE : entryFrame m args 3 = F0 m 0 ((lg_sl ([.int (nI i), .int (nI n), .null]) ++ List.replicate (3 - (lg_sl ([.int (nI i), .int (nI n), .null])).length) Slot.unset).toArray) [] := by rw [hargs]; exact lg_entry_eq m _ 3
  have hl := lv_entry ([.int (nI i), .int (nI n), .null]) (n := 3) (Nat.le_of_ble_eq_true rfl)
  rw [hE]
  clear hE
  generalize (lg_sl ([.int (nI i), .int (nI n), .null]) ++ List.replicate (3 - (lg_sl ([.int (nI i), .int (nI n), .null])).length) Slot.unset).toArray = ls at hl ⊢
  have hl : lv_has ls 3 [(0, .int (nI i)), (1, .int (nI n)), (2, .null)] := hl
  generalize hQ : MQ _ _ _ _ _ _ _ = Q
  refine lv_iload_n hx hb dJ5_checkIndex_0 rfl (lv_at hl 0 rfl) ?_
  refine kn_zlt hx hb dJ5_checkIndex_1 (tgt := 9) (by decide) (by omega) ?_
  refine lv_iload_n hx hb dJ5_checkIndex_4 rfl (lv_at hl 0 rfl) ?_
  refine lv_iload_n hx hb dJ5_checkIndex_5 rfl (lv_at hl 1 rfl) ?_
  refine kn_clt (tgt := 16) hx hb dJ5_checkIndex_6 (by decide) (by omega) (by omega) (fun c_6 => ?_) (fun c_6 => ?_)
  · refine lv_iload_n hx hb dJ5_checkIndex_16 rfl (lv_at hl 0 rfl) ?_
    subst hQ
    exact W.iret (v := nI i) hx hb hrt (fun t ht _ => ⟨_, rfl, (show nI i = nI i from rfl), ht⟩) t_nil dJ5_checkIndex_17
  · exact absurd h1 (by omega)
theorem w_J5_checkIndex {R : Room} {s : State} {args : Array Value} {own : String} {idx : Nat} (hts : ∀ w ∈ lw_all, w.before args s = true) (h1 : Cond.methodLink own idx yJ5_checkIndex ∈ lw_all) {rm : Room} {mc ms : Nat} (hrc : rm.cells = mc) (hrs : rm.slots = ms) (hR : rm.frames + 1 ≤ R.frames ∧ 8 + (3 + 11) + rm.locals ≤ R.locals) : CallB R s args own idx yJ5_checkIndex cJ5_checkIndex 3 (some .int) (ws_ yJ5_checkIndex cJ5_checkIndex 3 (some .int)) rm mc ms 3 ∧ (Cond.static yJ5_checkIndex).before args s = true := va_cwS 3 hts (lw_S h1 q164 q68 q165) rfl hrc hrs (by decide +kernel) hR

set_option maxHeartbeats 400000 in
theorem c_J5_checkIndex (lh : Launch) (i : Nat) (n : Nat) (t : Nat) (h1 : i < n) (h2 : n < 2 ^ 31) : Met lh yJ5_checkIndex (ws_ yJ5_checkIndex cJ5_checkIndex 3 (some .int)) r_J5_checkIndex (P0 [.int (nI i), .int (nI n), .ref t]) (vp_Si (fun rv => rv = nI i)) 0 0 (fun _ => False) := by
  refine Met.ofW (cc := cJ5_checkIndex) (maxL := 3) (ret := (some .int)) (by decide) rfl ?_
  intro p e s m args below meth cd s₁ B hml hv
  obtain ⟨hargs, -⟩ := hv
  have hx := B.exec
  have hb := B.bytes
  have hrt := B.returns
  have hts := atoms_spec (ws := (ws_ yJ5_checkIndex cJ5_checkIndex 3 (some .int))) B.pre
  have hts : ∀ w ∈ lw_all, w.before _ s = true := fun w h => hts w (List.mem_cons_of_mem _ h)
  have hown : s.vm.findClass RJ5 = some m.cls := findClass_of_methodNamed B.named
  have hlocks := B.notSynchronized
  have hE : entryFrame m args 3 = F0 m 0 ((lg_sl ([.int (nI i), .int (nI n), .ref t]) ++ List.replicate (3 - (lg_sl ([.int (nI i), .int (nI n), .ref t])).length) Slot.unset).toArray) [] := by rw [hargs]; exact lg_entry_eq m _ 3
  have hl := lv_entry ([.int (nI i), .int (nI n), .ref t]) (n := 3) (Nat.le_of_ble_eq_true rfl)
  rw [hE]
  clear hE
  generalize (lg_sl ([.int (nI i), .int (nI n), .ref t]) ++ List.replicate (3 - (lg_sl ([.int (nI i), .int (nI n), .ref t])).length) Slot.unset).toArray = ls at hl ⊢
  have hl : lv_has ls 3 [(0, .int (nI i)), (1, .int (nI n)), (2, .ref t)] := hl
  generalize hQ : MQ _ _ _ _ _ _ _ = Q
  refine lv_iload_n hx hb dJ5_checkIndex_0 rfl (lv_at hl 0 rfl) ?_
  refine kn_zlt hx hb dJ5_checkIndex_1 (tgt := 9) (by decide) (by omega) ?_
  refine lv_iload_n hx hb dJ5_checkIndex_4 rfl (lv_at hl 0 rfl) ?_
  refine lv_iload_n hx hb dJ5_checkIndex_5 rfl (lv_at hl 1 rfl) ?_
  refine kn_clt (tgt := 16) hx hb dJ5_checkIndex_6 (by decide) (by omega) (by omega) (fun c_6 => ?_) (fun c_6 => ?_)
  · refine lv_iload_n hx hb dJ5_checkIndex_16 rfl (lv_at hl 0 rfl) ?_
    subst hQ
    exact W.iret (v := nI i) hx hb hrt (fun t ht _ => ⟨_, rfl, (show nI i = nI i from rfl), ht⟩) t_nil dJ5_checkIndex_17
  · exact absurd h1 (by omega)

abbrev r_J3_checkIndex : Room := { frames := 1, cells := 0, slots := 0, locals := 22 }
set_option maxHeartbeats 400000 in
theorem c_J3_checkIndex (lh : Launch) (i : Nat) (n : Nat) (h1 : i < n) (h2 : n < 2 ^ 31) : Met lh yJ3_checkIndex (ws_ yJ3_checkIndex cJ3_checkIndex 2 none) r_J3_checkIndex (PX (fun U H => KC nA U H) [.int (nI i), .int (nI n)]) (va_Sv (fun _ => True)) 0 0 (fun _ => False) := by
  refine Met.ofW (cc := cJ3_checkIndex) (maxL := 2) (ret := none) (by decide) rfl ?_
  intro p e s m args below meth cd s₁ B hml hv
  obtain ⟨hargs, hKC⟩ := hv
  have hS : va_S nA s.heap s.heap [] := va_S.rf
  have hx := B.exec
  have hb := B.bytes
  have hrt := B.returns
  have hts := atoms_spec (ws := (ws_ yJ3_checkIndex cJ3_checkIndex 2 none)) B.pre
  have hts : ∀ w ∈ lw_all, w.before _ s = true := fun w h => hts w (List.mem_cons_of_mem _ h)
  have hown : s.vm.findClass RJ3 = some m.cls := findClass_of_methodNamed B.named
  have hlocks := B.notSynchronized
  have hE : entryFrame m args 2 = F0 m 0 ((lg_sl ([.int (nI i), .int (nI n)]) ++ List.replicate (2 - (lg_sl ([.int (nI i), .int (nI n)])).length) Slot.unset).toArray) [] := by rw [hargs]; exact lg_entry_eq m _ 2
  have hl := lv_entry ([.int (nI i), .int (nI n)]) (n := 2) (Nat.le_of_ble_eq_true rfl)
  rw [hE]
  clear hE
  generalize (lg_sl ([.int (nI i), .int (nI n)]) ++ List.replicate (2 - (lg_sl ([.int (nI i), .int (nI n)])).length) Slot.unset).toArray = ls at hl ⊢
  have hl : lv_has ls 2 [(0, .int (nI i)), (1, .int (nI n))] := hl
  generalize hQ : MQ _ _ _ _ _ _ _ = Q
  refine lv_iload_n hx hb dJ3_checkIndex_0 rfl (lv_at hl 0 rfl) ?_
  refine lv_iload_n hx hb dJ3_checkIndex_1 rfl (lv_at hl 1 rfl) ?_
  refine K_getq hx hb hKC hown (hts _ q161) dJ3_checkIndex_2 (fun z2 => ?_)
  cases z2 with
  | none =>
    show W p lh e r_J3_checkIndex s m args below meth cd _ _ _ _ Q (F0 m _ ls (.null :: _))
    refine vp_callSi (W.runS (As := [.int (nI i), .int (nI n), .null]) (rest := []) ⟨hx, hb, hml, hown, hts⟩ (c_J5_checkIndexZ lh i n (show i < n from by first | omega | assumption | exact hB_up (by assumption) (by omega)) (show n < 2 ^ 31 from by first | omega | assumption | exact hB_up (by assumption) (by omega))) (w_J5_checkIndex hts q163 rfl rfl ⟨Nat.le_of_ble_eq_true rfl, Nat.le_of_ble_eq_true rfl⟩) ⟨P0.blind, P0.pre⟩ rfl rfl hl.1 rfl (lv_room (Nat.le_of_ble_eq_true rfl)) dJ3_checkIndex_5 ⟨Nat.le_of_ble_eq_true rfl, Nat.le_of_ble_eq_true rfl⟩) (fun rr hrr => ?_)
    subst hrr
    refine lv_pop hx hb dJ3_checkIndex_8 rfl ?_
    subst hQ
    exact W.vret hx hb hrt (fun t ht _ => ⟨rfl, trivial, ht⟩) t_nil dJ3_checkIndex_9
  | some t2 =>
    show W p lh e r_J3_checkIndex s m args below meth cd _ _ _ _ Q (F0 m _ ls (.ref t2 :: _))
    refine vp_callSi (W.runS (As := [.int (nI i), .int (nI n), .ref t2]) (rest := []) ⟨hx, hb, hml, hown, hts⟩ (c_J5_checkIndex lh i n t2 (show i < n from by first | omega | assumption | exact hB_up (by assumption) (by omega)) (show n < 2 ^ 31 from by first | omega | assumption | exact hB_up (by assumption) (by omega))) (w_J5_checkIndex hts q163 rfl rfl ⟨Nat.le_of_ble_eq_true rfl, Nat.le_of_ble_eq_true rfl⟩) ⟨P0.blind, P0.pre⟩ rfl rfl hl.1 rfl (lv_room (Nat.le_of_ble_eq_true rfl)) dJ3_checkIndex_5 ⟨Nat.le_of_ble_eq_true rfl, Nat.le_of_ble_eq_true rfl⟩) (fun rr hrr => ?_)
    subst hrr
    refine lv_pop hx hb dJ3_checkIndex_8 rfl ?_
    subst hQ
    exact W.vret hx hb hrt (fun t ht _ => ⟨rfl, trivial, ht⟩) t_nil dJ3_checkIndex_9
theorem w_J3_checkIndex {R : Room} {s : State} {args : Array Value} {own : String} {idx : Nat} (hts : ∀ w ∈ lw_all, w.before args s = true) (h1 : Cond.methodLink own idx yJ3_checkIndex ∈ lw_all) {rm : Room} {mc ms : Nat} (hrc : rm.cells = mc) (hrs : rm.slots = ms) (hR : rm.frames + 1 ≤ R.frames ∧ 8 + (2 + 11) + rm.locals ≤ R.locals) : CallB R s args own idx yJ3_checkIndex cJ3_checkIndex 2 none (ws_ yJ3_checkIndex cJ3_checkIndex 2 none) rm mc ms 2 ∧ (Cond.static yJ3_checkIndex).before args s = true := va_cwS 2 hts (lw_S h1 q159 q66 q160) rfl hrc hrs (by decide +kernel) hR

abbrev r_J4_charAt : Room := { frames := 2, cells := 0, slots := 0, locals := 43 }
set_option maxHeartbeats 400000 in
theorem c_J4_charAt (lh : Launch) (b : Nat) (n : Nat) (f : Nat → Nat) (i : Nat) (h1 : i < n) : Met lh yJ4_charAt (ws_ yJ4_charAt cJ4_charAt 2 (some .char)) r_J4_charAt (PX (fun U H => KC nA U H ∧ TB nA b n f U H) [.ref b, .int (nI i)]) (vp_Si (fun rv => rv = nI (f i))) 0 0 (fun _ => False) := by
  refine Met.ofW (cc := cJ4_charAt) (maxL := 2) (ret := (some .char)) (by decide) rfl ?_
  intro p e s m args below meth cd s₁ B hml hv
  obtain ⟨hargs, hKC, h_b⟩ := hv
  have hS : va_S nA s.heap s.heap [] := va_S.rf
  have hx := B.exec
  have hb := B.bytes
  have hrt := B.returns
  have hts := atoms_spec (ws := (ws_ yJ4_charAt cJ4_charAt 2 (some .char))) B.pre
  have hts : ∀ w ∈ lw_all, w.before _ s = true := fun w h => hts w (List.mem_cons_of_mem _ h)
  have hown : s.vm.findClass RJ4 = some m.cls := findClass_of_methodNamed B.named
  have hlocks := B.notSynchronized
  have hE : entryFrame m args 2 = F0 m 0 ((lg_sl ([.ref b, .int (nI i)]) ++ List.replicate (2 - (lg_sl ([.ref b, .int (nI i)])).length) Slot.unset).toArray) [] := by rw [hargs]; exact lg_entry_eq m _ 2
  have hl := lv_entry ([.ref b, .int (nI i)]) (n := 2) (Nat.le_of_ble_eq_true rfl)
  rw [hE]
  clear hE
  generalize (lg_sl ([.ref b, .int (nI i)]) ++ List.replicate (2 - (lg_sl ([.ref b, .int (nI i)])).length) Slot.unset).toArray = ls at hl ⊢
  have hl : lv_has ls 2 [(0, .ref b), (1, .int (nI i))] := hl
  generalize hQ : MQ _ _ _ _ _ _ _ = Q
  have hfb := h_b.2.2 i h1
  have hn := h_b.2.1
  refine lv_iload_n hx hb dJ4_charAt_0 rfl (lv_at hl 1 rfl) ?_
  refine lv_aload_n hx hb dJ4_charAt_1 rfl (lv_at hl 0 rfl) ?_
  refine T_len hx hb h_b dJ4_charAt_2 ?_
  refine va_csv (W.runS (As := [.int (nI i), .int (nI n)]) (rest := []) ⟨hx, hb, hml, hown, hts⟩ (c_J3_checkIndex lh i n (show i < n from by first | omega | assumption | exact hB_up (by assumption) (by omega)) (show n < 2 ^ 31 from by first | omega | assumption | exact hB_up (by assumption) (by omega))) (w_J3_checkIndex hts q158 rfl rfl ⟨Nat.le_of_ble_eq_true rfl, Nat.le_of_ble_eq_true rfl⟩) ⟨PX.blind KC.mv, PX.pre KC.mv hKC⟩ rfl rfl hl.1 rfl (lv_room (Nat.le_of_ble_eq_true rfl)) dJ4_charAt_3 ⟨Nat.le_of_ble_eq_true rfl, Nat.le_of_ble_eq_true rfl⟩) (fun _ => ?_)
  refine lv_aload_n hx hb dJ4_charAt_6 rfl (lv_at hl 0 rfl) ?_
  refine lv_iload_n hx hb dJ4_charAt_7 rfl (lv_at hl 1 rfl) ?_
  refine T_bald hx hb h_b (show i < n from by omega) dJ4_charAt_8 ?_
  refine lv_sipush (v := nI 255) hx hb dJ4_charAt_9 (by decide) ?_
  refine lv_iand hx hb dJ4_charAt_12 ?_
  refine lv_i2c (v := (((nI (f i)) &&& (nI 255)).toUInt32 % 65536).toInt32) hx hb dJ4_charAt_13 rfl ?_
  refine kx_int (y := nI (f i)) (chr_b hfb) ?_
  subst hQ
  exact W.zret (v := nI (f i)) hx hb hrt (chr_n (by omega)) (fun t ht _ => ⟨_, rfl, (show nI (f i) = nI (f i) from rfl), ht⟩) t_nil dJ4_charAt_14
theorem w_J4_charAt {R : Room} {s : State} {args : Array Value} {own : String} {idx : Nat} (hts : ∀ w ∈ lw_all, w.before args s = true) (h1 : Cond.methodLink own idx yJ4_charAt ∈ lw_all) {rm : Room} {mc ms : Nat} (hrc : rm.cells = mc) (hrs : rm.slots = ms) (hR : rm.frames + 1 ≤ R.frames ∧ 8 + (2 + 11) + rm.locals ≤ R.locals) : CallB R s args own idx yJ4_charAt cJ4_charAt 2 (some .char) (ws_ yJ4_charAt cJ4_charAt 2 (some .char)) rm mc ms 2 ∧ (Cond.static yJ4_charAt).before args s = true := va_cwS 2 hts (lw_S h1 q156 q67 q157) rfl hrc hrs (by decide +kernel) hR

abbrev r_J3_charAt : Room := { frames := 3, cells := 0, slots := 0, locals := 64 }
set_option maxHeartbeats 400000 in
theorem c_J3_charAt (lh : Launch) (a : Nat) (b : Nat) (n : Nat) (f : Nat → Nat) (i : Nat) (h1 : i < n) : Met lh yJ3_charAt (ws_ yJ3_charAt cJ3_charAt 2 (some .char)) r_J3_charAt (PX (fun U H => KC nA U H ∧ SA nA a b n f U H) [.ref a, .int (nI i)]) (vp_Si (fun rv => rv = nI (f i))) 0 0 (fun _ => False) := by
  refine Met.ofW (cc := cJ3_charAt) (maxL := 2) (ret := (some .char)) (by decide) rfl ?_
  intro p e s m args below meth cd s₁ B hml hv
  obtain ⟨hargs, hKC, h_a⟩ := hv
  have hS : va_S nA s.heap s.heap [] := va_S.rf
  have hx := B.exec
  have hb := B.bytes
  have hrt := B.returns
  have hts := atoms_spec (ws := (ws_ yJ3_charAt cJ3_charAt 2 (some .char))) B.pre
  have hts : ∀ w ∈ lw_all, w.before _ s = true := fun w h => hts w (List.mem_cons_of_mem _ h)
  have hown : s.vm.findClass RJ3 = some m.cls := findClass_of_methodNamed B.named
  have hlocks := B.notSynchronized
  have hE : entryFrame m args 2 = F0 m 0 ((lg_sl ([.ref a, .int (nI i)]) ++ List.replicate (2 - (lg_sl ([.ref a, .int (nI i)])).length) Slot.unset).toArray) [] := by rw [hargs]; exact lg_entry_eq m _ 2
  have hl := lv_entry ([.ref a, .int (nI i)]) (n := 2) (Nat.le_of_ble_eq_true rfl)
  rw [hE]
  clear hE
  generalize (lg_sl ([.ref a, .int (nI i)]) ++ List.replicate (2 - (lg_sl ([.ref a, .int (nI i)])).length) Slot.unset).toArray = ls at hl ⊢
  have hl : lv_has ls 2 [(0, .ref a), (1, .int (nI i))] := hl
  generalize hQ : MQ _ _ _ _ _ _ _ = Q
  have hfb := h_a.2.2.2.2.2 i h1
  refine lv_aload_n hx hb dJ3_charAt_0 rfl (lv_at hl 0 rfl) ?_
  refine vp_callSi (W.runV (As := []) (rest := []) ⟨hx, hb, hml, hown, hts⟩ (c_J3_isLatin1 lh a b n f) (w_J3_isLatin1 hts q151 rfl rfl ⟨Nat.le_of_ble_eq_true rfl, Nat.le_of_ble_eq_true rfl⟩) ⟨PX.blind (Mv.and KC.mv SA.mv), (SA.recv h_a), PX.pre (Mv.and KC.mv SA.mv) ⟨hKC, h_a⟩⟩ rfl rfl hl.1 rfl (lv_room (Nat.le_of_ble_eq_true rfl)) dJ3_charAt_1 ⟨Nat.le_of_ble_eq_true rfl, Nat.le_of_ble_eq_true rfl⟩) (fun rr hrr => ?_)
  subst hrr
  refine kn_zeq (tgt := 16) hx hb dJ3_charAt_4 (by decide) (by decide) (fun c => absurd c (by decide)) (fun _ => ?_)
  refine lv_aload_n hx hb dJ3_charAt_7 rfl (lv_at hl 0 rfl) ?_
  refine S_getv hx hb h_a hown (hts _ q764) dJ3_charAt_8 ?_
  refine lv_iload_n hx hb dJ3_charAt_11 rfl (lv_at hl 1 rfl) ?_
  refine vp_callSi (W.runS (As := [.ref b, .int (nI i)]) (rest := []) ⟨hx, hb, hml, hown, hts⟩ (c_J4_charAt lh b n f i (show i < n from by first | omega | assumption | exact hB_up (by assumption) (by omega))) (w_J4_charAt hts q155 rfl rfl ⟨Nat.le_of_ble_eq_true rfl, Nat.le_of_ble_eq_true rfl⟩) ⟨PX.blind (Mv.and KC.mv TB.mv), PX.pre (Mv.and KC.mv TB.mv) ⟨hKC, h_a.2.2.2⟩⟩ rfl rfl hl.1 rfl (lv_room (Nat.le_of_ble_eq_true rfl)) dJ3_charAt_12 ⟨Nat.le_of_ble_eq_true rfl, Nat.le_of_ble_eq_true rfl⟩) (fun rr hrr => ?_)
  subst hrr
  subst hQ
  exact W.zret (v := nI (f i)) hx hb hrt (chr_n (by omega)) (fun t ht _ => ⟨_, rfl, (show nI (f i) = nI (f i) from rfl), ht⟩) t_nil dJ3_charAt_15
theorem w_J3_charAt {R : Room} {s : State} {args : Array Value} {own : String} {idx : Nat} (hts : ∀ w ∈ lw_all, w.before args s = true) (h1 : Cond.methodLink own idx yJ3_charAt ∈ lw_all) {rm : Room} {mc ms : Nat} (hrc : rm.cells = mc) (hrs : rm.slots = ms) (hR : rm.frames + 1 ≤ R.frames ∧ 8 + (2 + 11) + rm.locals ≤ R.locals) : CallW R s args own RJ3 idx yJ3_charAt cJ3_charAt 2 (some .char) (ws_ yJ3_charAt cJ3_charAt 2 (some .char)) rm mc ms 1 := cwV 1 hts (lw_V h1 q148 q149 q66 q150) rfl hrc hrs (by decide +kernel) hR
