set_option maxRecDepth 100000
abbrev r_J2_indexOfRange : Room := { frames := 1, cells := 0, slots := 0, locals := 40 }
set_option maxHeartbeats 1000000 in
theorem c_J2_indexOfRange (lh : Launch) (D : va_G) (dA : Nat → ClassId) (a : Nat) (m0 : Int32) (ea : Nat) (n : Nat) (cap : Nat) (f : Nat → Option Nat) (o : Nat) (x1 : Int32) (x2 : Nat) (g : Nat → Nat) (k : Nat) (h1 : n ≤ cap) (h2 : cap < 2 ^ 31) (h3 : ∀ j, j < n → f j = some (g j)) (h4 : k < n) (h5 : g k = o) (h6 : ∀ j, j < k → g j ≠ o) : Met lh yJ2_indexOfRange (ws_ yJ2_indexOfRange cJ2_indexOfRange 6 (some .int)) r_J2_indexOfRange (PX (fun U H => va_P D CL [(a, .inr (15, [.int m0, .ref ea, .int (nI n)])), (ea, .inl (dA 4, cap, rfA f)), (o, .inr (5, [.int x1, .ref x2]))] H ∧ GK D dA U) [.ref a, .ref o, .int (nI 0), .int (nI n)]) (vp_Si (fun rv => rv = nI k)) 0 0 (fun _ => False) := by
  refine Met.ofW (cc := cJ2_indexOfRange) (maxL := 6) (ret := (some .int)) (by decide) rfl ?_
  intro p e s m args below meth cd s₁ B hml hv
  obtain ⟨hargs, hP, hG⟩ := hv
  have hx := B.exec
  have hb := B.bytes
  have hrt := B.returns
  have hts := atoms_spec (ws := (ws_ yJ2_indexOfRange cJ2_indexOfRange 6 (some .int))) B.pre
  have hts : ∀ w ∈ lw_all, w.before _ s = true := fun w h => hts w (List.mem_cons_of_mem _ h)
  have hown : s.vm.findClass RJ2 = some m.cls := findClass_of_methodNamed B.named
  have hlocks := B.notSynchronized
  have hS : va_S nA s.heap s.heap [] := va_S.rf
  have hE : entryFrame m args 6 = F0 m 0 ((lg_sl ([.ref a, .ref o, .int (nI 0), .int (nI n)]) ++ List.replicate (6 - (lg_sl ([.ref a, .ref o, .int (nI 0), .int (nI n)])).length) Slot.unset).toArray) [] := by rw [hargs]; exact lg_entry_eq m _ 6
  have hl := lv_entry ([.ref a, .ref o, .int (nI 0), .int (nI n)]) (n := 6) (Nat.le_of_ble_eq_true rfl)
  rw [hE]
  clear hE
  generalize (lg_sl ([.ref a, .ref o, .int (nI 0), .int (nI n)]) ++ List.replicate (6 - (lg_sl ([.ref a, .ref o, .int (nI 0), .int (nI n)])).length) Slot.unset).toArray = ls at hl ⊢
  have hl : lv_has ls 6 [(0, .ref a), (1, .ref o), (2, .int (nI 0)), (3, .int (nI n))] := hl
  generalize hQ : MQ _ _ _ _ _ _ _ = Q
  refine lv_aload_n hx hb dJ2_indexOfRange_0 rfl (lv_at hl 0 rfl) ?_
  refine va_get (D := D) (ci := 15) (v := .ref ea) (C := RJ2) (T := TJ2) (N := 3) hx hb hts in_J2 hown hG.1 hP 0 rfl rfl 1 (by decide) (hts _ q123) (fun _ h => h) rfl dJ2_indexOfRange_1 ?_
  refine lv_astore (lv' := [(4, .ref ea), (0, .ref a), (1, .ref o), (2, .int (nI 0)), (3, .int (nI n))]) hx hb dJ2_indexOfRange_4 hl (by decide) rfl (fun ls hl => ?_)
  refine lv_aload_n hx hb dJ2_indexOfRange_6 rfl (lv_at hl 2 rfl) ?_
  refine lv_ifnonnull (tgt := 39) hx hb dJ2_indexOfRange_7 (by decide) ?_
  refine lv_iload_n hx hb dJ2_indexOfRange_39 rfl (lv_at hl 3 rfl) ?_
  refine lv_istore (lv' := [(5, .int (nI 0)), (4, .ref ea), (0, .ref a), (1, .ref o), (2, .int (nI 0)), (3, .int (nI n))]) hx hb dJ2_indexOfRange_40 hl (by decide) rfl (fun ls hl => ?_)
  have L42 : ∀ (nn42 : Nat) (j : Nat), (j ≤ k) → k - j < nn42 → ∀ (ls : Array Slot), lv_has ls 6 [(0, .ref a), (1, .ref o), (3, .int (nI n)), (4, .ref ea), (5, .int (nI j))] → W p lh e r_J2_indexOfRange s m args below meth cd s.heap [] 0 0 Q (F0 m 42 ls []) := by
    intro nn42
    induction nn42 with
    | zero => intro j i42_0 hm42; exact absurd hm42 (Nat.not_lt_zero _)
    | succ nn42 ih42 =>
      intro j i42_0 hm42 ls hl
      refine lv_iload hx hb dJ2_indexOfRange_42 (lv_at hl 4 rfl) ?_
      refine lv_iload_n hx hb dJ2_indexOfRange_44 rfl (lv_at hl 2 rfl) ?_
      refine kn_cge (tgt := 69) hx hb dJ2_indexOfRange_45 (by decide) (by omega) (by omega) (fun c_45 => ?_) (fun c_45 => ?_)
      · omega
      · refine lv_aload_n hx hb dJ2_indexOfRange_48 rfl (lv_at hl 1 rfl) ?_
        refine lv_aload hx hb dJ2_indexOfRange_49 (lv_at hl 3 rfl) ?_
        refine lv_iload hx hb dJ2_indexOfRange_51 (lv_at hl 4 rfl) ?_
        refine va_aldq hx hb hG.1 hP 1 4 rfl rfl (vp_in_nI (show j < cap from by omega) (h2)) dJ2_indexOfRange_53 ?_
        rw [nI_clamp (show j < 2 ^ 31 from by omega), show f j = (some (g j)) from h3 j (by omega)]
        show W p lh e r_J2_indexOfRange s m args below meth cd _ _ _ _ Q (F0 m _ ls (.ref (g j) :: _))
        obtain ⟨cell9, h91, h92, h93⟩ := (va_recv hG.1 hP (ci := 5) (q0 := 2) rfl rfl)
        refine W.objEq (C := RX6) (b := o) (v := (g j)) (rest := []) hx hb hown (hts _ q1234) (hts _ q1235) (hts _ q1244) (hts _ q1254) h91 h92 h93 (hl.1.trans hml.symm) (Nat.le_of_ble_eq_true rfl) (Nat.le_of_ble_eq_true rfl) ⟨Nat.le_of_ble_eq_true rfl, Nat.le_of_ble_eq_true rfl⟩ dJ2_indexOfRange_54 ?_
        refine kb_eq (tgt := 63) hx hb dJ2_indexOfRange_57 (by decide) (fun c_57 => ?_) (fun c_57 => ?_)
        · refine lv_iinc (v := nI (j + 1)) (lv' := [(5, .int (nI (j + 1))), (0, .ref a), (1, .ref o), (3, .int (nI n)), (4, .ref ea)]) hx hb dJ2_indexOfRange_63 hl (k := 4) rfl (show nI j + Int32.ofInt 1 = nI (j + 1) from nI_add _ 1) (by decide) rfl (fun ls hl => ?_)
          refine lv_goto (tgt := 42) hx hb dJ2_indexOfRange_66 (by decide) ?_
          exact ih42 (j + 1) (by have h9 : j ≠ k := (fun e => of_decide_eq_false c_57 (by rw [e, h5])); exact Nat.lt_of_le_of_ne i42_0 h9) (by have h9 : j ≠ k := (fun e => of_decide_eq_false c_57 (by rw [e, h5])); omega) _ (lv_sub hl [1, 2, 3, 4, 0] rfl)
        · refine lv_iload hx hb dJ2_indexOfRange_60 (lv_at hl 4 rfl) ?_
          subst hQ
          exact W.iret (v := nI j) hx hb hrt (fun t ht _ => ⟨_, rfl, (show nI j = nI k from by rw [show j = k from Classical.byContradiction (fun e => h6 j (by omega) (of_decide_eq_true c_57).symm)]), ht⟩) t_nil dJ2_indexOfRange_62
  exact L42 _ 0 (by omega) (Nat.lt_succ_self _) _ (lv_sub hl [2, 3, 5, 1, 0] rfl)
theorem w_J2_indexOfRange {R : Room} {s : State} {args : Array Value} {own : String} {idx : Nat} (hts : ∀ w ∈ lw_all, w.before args s = true) (h1 : Cond.methodLink own idx yJ2_indexOfRange ∈ lw_all) {rm : Room} {mc ms : Nat} (hrc : rm.cells = mc) (hrs : rm.slots = ms) (hR : rm.frames + 1 ≤ R.frames ∧ 8 + (6 + 11) + rm.locals ≤ R.locals) : CallW R s args own RJ2 idx yJ2_indexOfRange cJ2_indexOfRange 6 (some .int) (ws_ yJ2_indexOfRange cJ2_indexOfRange 6 (some .int)) rm mc ms 3 := cwV 3 hts (lw_V h1 q1230 q1231 q65 q1232) rfl hrc hrs (by decide +kernel) hR

abbrev r_J2_indexOf : Room := { frames := 2, cells := 0, slots := 0, locals := 65 }
set_option maxHeartbeats 1000000 in
theorem c_J2_indexOf (lh : Launch) (D : va_G) (dA : Nat → ClassId) (a : Nat) (m0 : Int32) (ea : Nat) (n : Nat) (cap : Nat) (f : Nat → Option Nat) (o : Nat) (x1 : Int32) (x2 : Nat) (g : Nat → Nat) (k : Nat) (h1 : n ≤ cap) (h2 : cap < 2 ^ 31) (h3 : ∀ j, j < n → f j = some (g j)) (h4 : k < n) (h5 : g k = o) (h6 : ∀ j, j < k → g j ≠ o) : Met lh yJ2_indexOf (ws_ yJ2_indexOf cJ2_indexOf 2 (some .int)) r_J2_indexOf (PX (fun U H => va_P D CL [(a, .inr (15, [.int m0, .ref ea, .int (nI n)])), (ea, .inl (dA 4, cap, rfA f)), (o, .inr (5, [.int x1, .ref x2]))] H ∧ GK D dA U) [.ref a, .ref o]) (vp_Si (fun rv => rv = nI k)) 0 0 (fun _ => False) := by
  refine Met.ofW (cc := cJ2_indexOf) (maxL := 2) (ret := (some .int)) (by decide) rfl ?_
  intro p e s m args below meth cd s₁ B hml hv
  obtain ⟨hargs, hP, hG⟩ := hv
  have hx := B.exec
  have hb := B.bytes
  have hrt := B.returns
  have hts := atoms_spec (ws := (ws_ yJ2_indexOf cJ2_indexOf 2 (some .int))) B.pre
  have hts : ∀ w ∈ lw_all, w.before _ s = true := fun w h => hts w (List.mem_cons_of_mem _ h)
  have hown : s.vm.findClass RJ2 = some m.cls := findClass_of_methodNamed B.named
  have hlocks := B.notSynchronized
  have hS : va_S nA s.heap s.heap [] := va_S.rf
  have hE : entryFrame m args 2 = F0 m 0 ((lg_sl ([.ref a, .ref o]) ++ List.replicate (2 - (lg_sl ([.ref a, .ref o])).length) Slot.unset).toArray) [] := by rw [hargs]; exact lg_entry_eq m _ 2
  have hl := lv_entry ([.ref a, .ref o]) (n := 2) (Nat.le_of_ble_eq_true rfl)
  rw [hE]
  clear hE
  generalize (lg_sl ([.ref a, .ref o]) ++ List.replicate (2 - (lg_sl ([.ref a, .ref o])).length) Slot.unset).toArray = ls at hl ⊢
  have hl : lv_has ls 2 [(0, .ref a), (1, .ref o)] := hl
  generalize hQ : MQ _ _ _ _ _ _ _ = Q
  refine lv_aload_n hx hb dJ2_indexOf_0 rfl (lv_at hl 0 rfl) ?_
  refine lv_aload_n hx hb dJ2_indexOf_1 rfl (lv_at hl 1 rfl) ?_
  refine lv_iconst (v := nI 0) hx hb dJ2_indexOf_2 (by decide) ?_
  refine lv_aload_n hx hb dJ2_indexOf_3 rfl (lv_at hl 0 rfl) ?_
  refine va_get (D := D) (ci := 15) (v := .int (nI n)) (C := RJ2) (T := TJ2) (N := 3) hx hb hts in_J2 hown hG.1 hP 0 rfl rfl 2 (by decide) (hts _ q124) (fun _ h => h) rfl dJ2_indexOf_4 ?_
  have hPs : va_P D CL ([(a, .inr (15, [.int m0, .ref ea, .int (nI n)])), (ea, .inl (dA 4, cap, rfA f)), (o, .inr (5, [.int x1, .ref x2]))] ++ []) s.heap := hP.sub [0, 1, 2] rfl
  refine vp_callSi (va_Run.call (va_runV (As := [.ref o, .int (nI 0), .int (nI n)]) (rest := []) ⟨hx, hb, hml, hown, hts⟩ (c_J2_indexOfRange lh D dA a m0 ea n cap f o x1 x2 g k (h1) (h2) (h3) (h4) (h5) (h6)) (w_J2_indexOfRange hts q1229 rfl rfl ⟨Nat.le_of_ble_eq_true rfl, Nat.le_of_ble_eq_true rfl⟩) ⟨PX.blind (Mv.and Mv.heap Mv.gk), (va_recv hG.1 hP (ci := 15) (q0 := 0) rfl rfl), PX.pre (Mv.and Mv.heap Mv.gk) ⟨(va_P_left hPs), hG⟩⟩ rfl rfl hl.1 rfl (lv_room (Nat.le_of_ble_eq_true rfl)) dJ2_indexOf_7 ⟨Nat.le_of_ble_eq_true rfl, Nat.le_of_ble_eq_true rfl⟩)) (fun rr hrr => ?_)
  subst hrr
  refine kx_int (y := nI k) (rfl) ?_
  subst hQ
  exact W.iret (v := nI k) hx hb hrt (fun t ht _ => ⟨_, rfl, (show nI k = nI k from rfl), ht⟩) t_nil dJ2_indexOf_10
theorem w_J2_indexOf {R : Room} {s : State} {args : Array Value} {own : String} {idx : Nat} (hts : ∀ w ∈ lw_all, w.before args s = true) (h1 : Cond.methodLink own idx yJ2_indexOf ∈ lw_all) {rm : Room} {mc ms : Nat} (hrc : rm.cells = mc) (hrs : rm.slots = ms) (hR : rm.frames + 1 ≤ R.frames ∧ 8 + (2 + 11) + rm.locals ≤ R.locals) : CallW R s args own RJ2 idx yJ2_indexOf cJ2_indexOf 2 (some .int) (ws_ yJ2_indexOf cJ2_indexOf 2 (some .int)) rm mc ms 1 := cwV 1 hts (lw_V h1 q1226 q1227 q65 q1228) rfl hrc hrs (by decide +kernel) hR
