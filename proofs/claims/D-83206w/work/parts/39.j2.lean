set_option maxRecDepth 100000
abbrev r_J7_checkIndex : Room := { frames := 1, cells := 0, slots := 0, locals := 22 }
set_option maxHeartbeats 400000 in
theorem c_J7_checkIndex (lh : Launch) (i : Nat) (n : Nat) (h1 : i < n) (h2 : n < 2 ^ 31) : Met lh yJ7_checkIndex (ws_ yJ7_checkIndex cJ7_checkIndex 2 (some .int)) r_J7_checkIndex (P0 [.int (nI i), .int (nI n)]) (vp_Si (fun rv => rv = nI i)) 0 0 (fun _ => False) := by
  refine Met.ofW (cc := cJ7_checkIndex) (maxL := 2) (ret := (some .int)) (by decide) rfl ?_
  intro p e s m args below meth cd s₁ B hml hv
  obtain ⟨hargs, -⟩ := hv
  have hx := B.exec
  have hb := B.bytes
  have hrt := B.returns
  have hts := atoms_spec (ws := (ws_ yJ7_checkIndex cJ7_checkIndex 2 (some .int))) B.pre
  have hts : ∀ w ∈ lw_all, w.before _ s = true := fun w h => hts w (List.mem_cons_of_mem _ h)
  have hown : s.vm.findClass RJ7 = some m.cls := findClass_of_methodNamed B.named
  have hlocks := B.notSynchronized
  have hE : entryFrame m args 2 = F0 m 0 ((lg_sl ([.int (nI i), .int (nI n)]) ++ List.replicate (2 - (lg_sl ([.int (nI i), .int (nI n)])).length) Slot.unset).toArray) [] := by rw [hargs]; exact lg_entry_eq m _ 2
  have hl := lv_entry ([.int (nI i), .int (nI n)]) (n := 2) (Nat.le_of_ble_eq_true rfl)
  rw [hE]
  clear hE
  generalize (lg_sl ([.int (nI i), .int (nI n)]) ++ List.replicate (2 - (lg_sl ([.int (nI i), .int (nI n)])).length) Slot.unset).toArray = ls at hl ⊢
  have hl : lv_has ls 2 [(0, .int (nI i)), (1, .int (nI n))] := hl
  generalize hQ : MQ _ _ _ _ _ _ _ = Q
  refine lv_iload_n hx hb dJ7_checkIndex_0 rfl (lv_at hl 0 rfl) ?_
  refine lv_iload_n hx hb dJ7_checkIndex_1 rfl (lv_at hl 1 rfl) ?_
  refine lv_null hx hb dJ7_checkIndex_2 ?_
  refine vp_callSi (W.runS (As := [.int (nI i), .int (nI n), .null]) (rest := []) ⟨hx, hb, hml, hown, hts⟩ (c_J5_checkIndexZ lh i n (show i < n from by first | omega | assumption | exact hB_up (by assumption) (by omega)) (show n < 2 ^ 31 from by first | omega | assumption | exact hB_up (by assumption) (by omega))) (w_J5_checkIndex hts q299 rfl rfl ⟨Nat.le_of_ble_eq_true rfl, Nat.le_of_ble_eq_true rfl⟩) ⟨P0.blind, P0.pre⟩ rfl rfl hl.1 rfl (lv_room (Nat.le_of_ble_eq_true rfl)) dJ7_checkIndex_3 ⟨Nat.le_of_ble_eq_true rfl, Nat.le_of_ble_eq_true rfl⟩) (fun rr hrr => ?_)
  subst hrr
  subst hQ
  exact W.iret (v := nI i) hx hb hrt (fun t ht _ => ⟨_, rfl, (show nI i = nI i from rfl), ht⟩) t_nil dJ7_checkIndex_6
theorem w_J7_checkIndex {R : Room} {s : State} {args : Array Value} {own : String} {idx : Nat} (hts : ∀ w ∈ lw_all, w.before args s = true) (h1 : Cond.methodLink own idx yJ7_checkIndex ∈ lw_all) {rm : Room} {mc ms : Nat} (hrc : rm.cells = mc) (hrs : rm.slots = ms) (hR : rm.frames + 1 ≤ R.frames ∧ 8 + (2 + 11) + rm.locals ≤ R.locals) : CallB R s args own idx yJ7_checkIndex cJ7_checkIndex 2 (some .int) (ws_ yJ7_checkIndex cJ7_checkIndex 2 (some .int)) rm mc ms 2 ∧ (Cond.static yJ7_checkIndex).before args s = true := va_cwS 2 hts (lw_S h1 q297 q71 q298) rfl hrc hrs (by decide +kernel) hR

abbrev r_J2_size : Room := { frames := 0, cells := 0, slots := 0, locals := 0 }
set_option maxHeartbeats 400000 in
theorem c_J2_size (lh : Launch) (D : va_G) (dA : Nat → ClassId) (la : Nat) (mc : Int32) (ea : Nat) (n : Nat) : Met lh yJ2_size (ws_ yJ2_size cJ2_size 1 (some .int)) r_J2_size (PX (fun U H => va_at D CL (la, .inr (15, [.int mc, .ref ea, .int (nI n)])) H ∧ GK D dA U) [.ref la]) (vp_Si (fun rv => rv = nI n)) 0 0 (fun _ => False) := by
  refine Met.ofW (cc := cJ2_size) (maxL := 1) (ret := (some .int)) (by decide) rfl ?_
  intro p e s m args below meth cd s₁ B hml hv
  obtain ⟨hargs, hO, hG⟩ := hv
  have hS : va_S nA s.heap s.heap [] := va_S.rf
  have hx := B.exec
  have hb := B.bytes
  have hrt := B.returns
  have hts := atoms_spec (ws := (ws_ yJ2_size cJ2_size 1 (some .int))) B.pre
  have hts : ∀ w ∈ lw_all, w.before _ s = true := fun w h => hts w (List.mem_cons_of_mem _ h)
  have hown : s.vm.findClass RJ2 = some m.cls := findClass_of_methodNamed B.named
  have hlocks := B.notSynchronized
  have hE : entryFrame m args 1 = F0 m 0 ((lg_sl ([.ref la]) ++ List.replicate (1 - (lg_sl ([.ref la])).length) Slot.unset).toArray) [] := by rw [hargs]; exact lg_entry_eq m _ 1
  have hl := lv_entry ([.ref la]) (n := 1) (Nat.le_of_ble_eq_true rfl)
  rw [hE]
  clear hE
  generalize (lg_sl ([.ref la]) ++ List.replicate (1 - (lg_sl ([.ref la])).length) Slot.unset).toArray = ls at hl ⊢
  have hl : lv_has ls 1 [(0, .ref la)] := hl
  generalize hQ : MQ _ _ _ _ _ _ _ = Q
  refine lv_aload_n hx hb dJ2_size_0 rfl (lv_at hl 0 rfl) ?_
  refine ko_get (C := RJ2) (T := TJ2) (N := 3) (ci := 15) (v := .int (nI n)) hx hb hts in_J2 hown hG.1 hO rfl 2 (by decide) q124 (fun _ h => h) rfl dJ2_size_1 ?_
  subst hQ
  exact W.iret (v := nI n) hx hb hrt (fun t ht _ => ⟨_, rfl, (show nI n = nI n from rfl), ht⟩) t_nil dJ2_size_4
theorem w_J2_size {R : Room} {s : State} {args : Array Value} {own : String} {idx : Nat} (hts : ∀ w ∈ lw_all, w.before args s = true) (h1 : Cond.methodLink own idx yJ2_size ∈ lw_all) {rm : Room} {mc ms : Nat} (hrc : rm.cells = mc) (hrs : rm.slots = ms) (hR : rm.frames + 1 ≤ R.frames ∧ 8 + (1 + 11) + rm.locals ≤ R.locals) : CallW R s args own RJ2 idx yJ2_size cJ2_size 1 (some .int) (ws_ yJ2_size cJ2_size 1 (some .int)) rm mc ms 0 := cwV 0 hts (lw_V h1 q285 q286 q65 q287) rfl hrc hrs (by decide +kernel) hR

abbrev r_J2_elementData : Room := { frames := 0, cells := 0, slots := 0, locals := 0 }
set_option maxHeartbeats 400000 in
theorem c_J2_elementData (lh : Launch) (D : va_G) (dA : Nat → ClassId) (la : Nat) (mc : Int32) (ea : Nat) (n : Nat) (cap : Nat) (f : Nat → Option Nat) (i : Nat) (q : Nat) (h1 : i < n) (h2 : n ≤ cap) (h3 : cap < 2 ^ 31) (h4 : f i = some q) : Met lh yJ2_elementData (ws_ yJ2_elementData cJ2_elementData 2 (some (.object "java/lang/Object"))) r_J2_elementData (PX (fun U H => va_at D CL (la, .inr (15, [.int mc, .ref ea, .int (nI n)])) H ∧ va_at D CL (ea, .inl (dA 4, cap, rfA f)) H ∧ GK D dA U) [.ref la, .int (nI i)]) (va_Sq (fun rv => rv = some q)) 0 0 (fun _ => False) := by
  refine Met.ofW (cc := cJ2_elementData) (maxL := 2) (ret := (some (.object "java/lang/Object"))) (by decide) rfl ?_
  intro p e s m args below meth cd s₁ B hml hv
  obtain ⟨hargs, hO, hAr, hG⟩ := hv
  have hS : va_S nA s.heap s.heap [] := va_S.rf
  have hx := B.exec
  have hb := B.bytes
  have hrt := B.returns
  have hts := atoms_spec (ws := (ws_ yJ2_elementData cJ2_elementData 2 (some (.object "java/lang/Object")))) B.pre
  have hts : ∀ w ∈ lw_all, w.before _ s = true := fun w h => hts w (List.mem_cons_of_mem _ h)
  have hown : s.vm.findClass RJ2 = some m.cls := findClass_of_methodNamed B.named
  have hlocks := B.notSynchronized
  have hE : entryFrame m args 2 = F0 m 0 ((lg_sl ([.ref la, .int (nI i)]) ++ List.replicate (2 - (lg_sl ([.ref la, .int (nI i)])).length) Slot.unset).toArray) [] := by rw [hargs]; exact lg_entry_eq m _ 2
  have hl := lv_entry ([.ref la, .int (nI i)]) (n := 2) (Nat.le_of_ble_eq_true rfl)
  rw [hE]
  clear hE
  generalize (lg_sl ([.ref la, .int (nI i)]) ++ List.replicate (2 - (lg_sl ([.ref la, .int (nI i)])).length) Slot.unset).toArray = ls at hl ⊢
  have hl : lv_has ls 2 [(0, .ref la), (1, .int (nI i))] := hl
  generalize hQ : MQ _ _ _ _ _ _ _ = Q
  refine lv_aload_n hx hb dJ2_elementData_0 rfl (lv_at hl 0 rfl) ?_
  refine ko_get (C := RJ2) (T := TJ2) (N := 3) (ci := 15) (v := .ref ea) hx hb hts in_J2 hown hG.1 hO rfl 1 (by decide) q123 (fun _ h => h) rfl dJ2_elementData_1 ?_
  refine lv_iload_n hx hb dJ2_elementData_4 rfl (lv_at hl 1 rfl) ?_
  refine ka_aald (q := some q) hx hb hG.1 hAr 4 rfl (show i < cap from by omega) h3 h4 dJ2_elementData_5 ?_
  show W p lh e r_J2_elementData s m args below meth cd _ _ _ _ Q (F0 m _ ls (.ref q :: _))
  subst hQ
  exact W.aret (v := va_rf (some q)) hx hb hrt (Or.inl ⟨_, rfl⟩) (va_rf_or _) (fun t ht _ => ⟨some q, rfl, rfl, ht⟩) t_nil dJ2_elementData_6
theorem w_J2_elementData {R : Room} {s : State} {args : Array Value} {own : String} {idx : Nat} (hts : ∀ w ∈ lw_all, w.before args s = true) (h1 : Cond.methodLink own idx yJ2_elementData ∈ lw_all) {rm : Room} {mc ms : Nat} (hrc : rm.cells = mc) (hrs : rm.slots = ms) (hR : rm.frames + 1 ≤ R.frames ∧ 8 + (2 + 11) + rm.locals ≤ R.locals) : CallW R s args own RJ2 idx yJ2_elementData cJ2_elementData 2 (some (.object "java/lang/Object")) (ws_ yJ2_elementData cJ2_elementData 2 (some (.object "java/lang/Object"))) rm mc ms 1 := cwV 1 hts (lw_V h1 q301 q302 q65 q303) rfl hrc hrs (by decide +kernel) hR

abbrev r_J2_get : Room := { frames := 2, cells := 0, slots := 0, locals := 43 }
set_option maxHeartbeats 400000 in
theorem c_J2_get (lh : Launch) (D : va_G) (dA : Nat → ClassId) (la : Nat) (mc : Int32) (ea : Nat) (n : Nat) (cap : Nat) (f : Nat → Option Nat) (i : Nat) (q : Nat) (h1 : i < n) (h2 : n ≤ cap) (h3 : cap < 2 ^ 31) (h4 : f i = some q) : Met lh yJ2_get (ws_ yJ2_get cJ2_get 2 (some (.object "java/lang/Object"))) r_J2_get (PX (fun U H => va_at D CL (la, .inr (15, [.int mc, .ref ea, .int (nI n)])) H ∧ va_at D CL (ea, .inl (dA 4, cap, rfA f)) H ∧ GK D dA U) [.ref la, .int (nI i)]) (va_Sq (fun rv => rv = some q)) 0 0 (fun _ => False) := by
  refine Met.ofW (cc := cJ2_get) (maxL := 2) (ret := (some (.object "java/lang/Object"))) (by decide) rfl ?_
  intro p e s m args below meth cd s₁ B hml hv
  obtain ⟨hargs, hO, hAr, hG⟩ := hv
  have hS : va_S nA s.heap s.heap [] := va_S.rf
  have hx := B.exec
  have hb := B.bytes
  have hrt := B.returns
  have hts := atoms_spec (ws := (ws_ yJ2_get cJ2_get 2 (some (.object "java/lang/Object")))) B.pre
  have hts : ∀ w ∈ lw_all, w.before _ s = true := fun w h => hts w (List.mem_cons_of_mem _ h)
  have hown : s.vm.findClass RJ2 = some m.cls := findClass_of_methodNamed B.named
  have hlocks := B.notSynchronized
  have hE : entryFrame m args 2 = F0 m 0 ((lg_sl ([.ref la, .int (nI i)]) ++ List.replicate (2 - (lg_sl ([.ref la, .int (nI i)])).length) Slot.unset).toArray) [] := by rw [hargs]; exact lg_entry_eq m _ 2
  have hl := lv_entry ([.ref la, .int (nI i)]) (n := 2) (Nat.le_of_ble_eq_true rfl)
  rw [hE]
  clear hE
  generalize (lg_sl ([.ref la, .int (nI i)]) ++ List.replicate (2 - (lg_sl ([.ref la, .int (nI i)])).length) Slot.unset).toArray = ls at hl ⊢
  have hl : lv_has ls 2 [(0, .ref la), (1, .int (nI i))] := hl
  generalize hQ : MQ _ _ _ _ _ _ _ = Q
  refine lv_iload_n hx hb dJ2_get_0 rfl (lv_at hl 1 rfl) ?_
  refine lv_aload_n hx hb dJ2_get_1 rfl (lv_at hl 0 rfl) ?_
  refine ko_get (C := RJ2) (T := TJ2) (N := 3) (ci := 15) (v := .int (nI n)) hx hb hts in_J2 hown hG.1 hO rfl 2 (by decide) q124 (fun _ h => h) rfl dJ2_get_2 ?_
  refine vp_callSi (W.runS (As := [.int (nI i), .int (nI n)]) (rest := []) ⟨hx, hb, hml, hown, hts⟩ (c_J7_checkIndex lh i n (h1) (by omega)) (w_J7_checkIndex hts q296 rfl rfl ⟨Nat.le_of_ble_eq_true rfl, Nat.le_of_ble_eq_true rfl⟩) ⟨P0.blind, P0.pre⟩ rfl rfl hl.1 rfl (lv_room (Nat.le_of_ble_eq_true rfl)) dJ2_get_5 ⟨Nat.le_of_ble_eq_true rfl, Nat.le_of_ble_eq_true rfl⟩) (fun rr hrr => ?_)
  subst hrr
  refine lv_pop hx hb dJ2_get_8 rfl ?_
  refine lv_aload_n hx hb dJ2_get_9 rfl (lv_at hl 0 rfl) ?_
  refine lv_iload_n hx hb dJ2_get_10 rfl (lv_at hl 1 rfl) ?_
  refine va_csq (W.runV (As := [.int (nI i)]) (rest := []) ⟨hx, hb, hml, hown, hts⟩ (c_J2_elementData lh D dA la mc ea n cap f i q h1 h2 h3 h4) (w_J2_elementData hts q300 rfl rfl ⟨Nat.le_of_ble_eq_true rfl, Nat.le_of_ble_eq_true rfl⟩) ⟨PX.blind (Mv.and Mv.heap (Mv.and Mv.heap Mv.gk)), (O_recv hG hO rfl), PX.pre (Mv.and Mv.heap (Mv.and Mv.heap Mv.gk)) ⟨hO, hAr, hG⟩⟩ rfl rfl hl.1 rfl (lv_room (Nat.le_of_ble_eq_true rfl)) dJ2_get_11 ⟨Nat.le_of_ble_eq_true rfl, Nat.le_of_ble_eq_true rfl⟩) (fun rr hrr => ?_)
  subst hrr
  show W p lh e r_J2_get s m args below meth cd _ _ _ _ Q (F0 m _ ls (.ref q :: _))
  subst hQ
  exact W.aret (v := va_rf (some q)) hx hb hrt (Or.inl ⟨_, rfl⟩) (va_rf_or _) (fun t ht _ => ⟨some q, rfl, rfl, ht⟩) t_nil dJ2_get_14
theorem w_J2_get {R : Room} {s : State} {args : Array Value} {own : String} {idx : Nat} (hts : ∀ w ∈ lw_all, w.before args s = true) (h1 : Cond.methodLink own idx yJ2_get ∈ lw_all) {rm : Room} {mc ms : Nat} (hrc : rm.cells = mc) (hrs : rm.slots = ms) (hR : rm.frames + 1 ≤ R.frames ∧ 8 + (2 + 11) + rm.locals ≤ R.locals) : CallW R s args own RJ2 idx yJ2_get cJ2_get 2 (some (.object "java/lang/Object")) (ws_ yJ2_get cJ2_get 2 (some (.object "java/lang/Object"))) rm mc ms 1 := cwV 1 hts (lw_V h1 q293 q294 q65 q295) rfl hrc hrs (by decide +kernel) hR

theorem ltH_0 {ad : Nat → Nat → Nat} {k n i : Nat} (h : i < n) : ltH ad k n 0 i = some (ad k i) := by
  unfold ltH
  rw [if_pos h, Nat.zero_add]
theorem ltH_b {ad : Nat → Nat → Nat} {k n b i : Nat} (h : i < n) : ltH ad k n b i = some (ad k (b + i)) := if_pos h
