set_option maxRecDepth 100000
abbrev r_X7_see_I : Room := { frames := 0, cells := 0, slots := 0, locals := 0 }
set_option maxHeartbeats 1000000 in
theorem c_X7_see_I (lh : Launch) (D : va_G) (dA : Nat → ClassId) (r : Nat) (tx : Nat) (tz : Nat) (tf : Nat → Int32) (a : Nat) (p0 : Nat) (s0 : Nat) (v : Nat) (w : Nat) (h1 : a < tz) (h2 : tz ≤ 300) : Met lh yX7_see (ws_ yX7_see cX7_see 1 (some .int)) r_X7_see_I (PX (fun U H => va_P D CL [(r, .inr (6, [.ref tx, .int (nI tz), .int (nI a), .int (nI p0), .int (nI s0), .int (nI v), .ref w])), (tx, .inl (dA 1, 300, .inl tf))] H ∧ GK D dA U) [.ref r]) (vp_Si (fun rv => rv = nI (byS tz tf a))) 0 0 (fun _ => False) := by
  refine Met.ofW (cc := cX7_see) (maxL := 1) (ret := (some .int)) (by decide) rfl ?_
  intro p e s m args below meth cd s₁ B hml hv
  obtain ⟨hargs, hP, hG⟩ := hv
  have hx := B.exec
  have hb := B.bytes
  have hrt := B.returns
  have hts := atoms_spec (ws := (ws_ yX7_see cX7_see 1 (some .int))) B.pre
  have hts : ∀ w ∈ lw_all, w.before _ s = true := fun w h => hts w (List.mem_cons_of_mem _ h)
  have hown : s.vm.findClass RX7 = some m.cls := findClass_of_methodNamed B.named
  have hlocks := B.notSynchronized
  have hS : va_S nA s.heap s.heap [] := va_S.rf
  have hE : entryFrame m args 1 = F0 m 0 ((lg_sl ([.ref r]) ++ List.replicate (1 - (lg_sl ([.ref r])).length) Slot.unset).toArray) [] := by rw [hargs]; exact lg_entry_eq m _ 1
  have hl := lv_entry ([.ref r]) (n := 1) (Nat.le_of_ble_eq_true rfl)
  rw [hE]
  clear hE
  generalize (lg_sl ([.ref r]) ++ List.replicate (1 - (lg_sl ([.ref r])).length) Slot.unset).toArray = ls at hl ⊢
  have hl : lv_has ls 1 [(0, .ref r)] := hl
  generalize hQ : MQ _ _ _ _ _ _ _ = Q
  refine lv_aload_n hx hb dX7_see_0 rfl (lv_at hl 0 rfl) ?_
  refine va_get (D := D) (ci := 6) (v := .int (nI a)) (C := RX7) (T := TX7) (N := 7) hx hb hts in_X7 hown hG.1 hP 0 rfl rfl 2 (by decide) (hts _ q780) (fun _ h => h) rfl dX7_see_1 ?_
  refine lv_aload_n hx hb dX7_see_4 rfl (lv_at hl 0 rfl) ?_
  refine va_get (D := D) (ci := 6) (v := .int (nI tz)) (C := RX7) (T := TX7) (N := 7) hx hb hts in_X7 hown hG.1 hP 0 rfl rfl 1 (by decide) (hts _ q779) (fun _ h => h) rfl dX7_see_5 ?_
  refine kn_cge (tgt := 27) hx hb dX7_see_8 (by decide) (by omega) (by omega) (fun c_8 => ?_) (fun c_8 => ?_)
  · omega
  · refine lv_aload_n hx hb dX7_see_11 rfl (lv_at hl 0 rfl) ?_
    refine va_get (D := D) (ci := 6) (v := .ref tx) (C := RX7) (T := TX7) (N := 7) hx hb hts in_X7 hown hG.1 hP 0 rfl rfl 0 (by decide) (hts _ q778) (fun _ h => h) rfl dX7_see_12 ?_
    refine lv_aload_n hx hb dX7_see_15 rfl (lv_at hl 0 rfl) ?_
    refine va_get (D := D) (ci := 6) (v := .int (nI a)) (C := RX7) (T := TX7) (N := 7) hx hb hts in_X7 hown hG.1 hP 0 rfl rfl 2 (by decide) (hts _ q780) (fun _ h => h) rfl dX7_see_16 ?_
    refine va_bald hx hb hG.1 hP 1 1 rfl rfl (vp_in_nI (show a < 300 from by omega) (by omega)) dX7_see_19 ?_
    refine kx_int (y := tf a) (by rw [nI_clamp (by omega)]) ?_
    refine lv_sipush (v := nI 255) hx hb dX7_see_20 (by decide) ?_
    refine lv_iand hx hb dX7_see_23 ?_
    refine lv_goto (tgt := 28) hx hb dX7_see_24 (by decide) ?_
    subst hQ
    exact W.iret (v := (tf a) &&& (nI 255)) hx hb hrt (fun t ht _ => ⟨_, rfl, (show (tf a) &&& (nI 255) = nI (byS tz tf a) from by rw [byS, if_pos h1]; exact bv_eq _), ht⟩) t_nil dX7_see_28

abbrev r_X7_see_E : Room := { frames := 0, cells := 0, slots := 0, locals := 0 }
set_option maxHeartbeats 1000000 in
theorem c_X7_see_E (lh : Launch) (D : va_G) (dA : Nat → ClassId) (r : Nat) (tx : Nat) (tz : Nat) (tf : Nat → Int32) (a : Nat) (p0 : Nat) (s0 : Nat) (v : Nat) (w : Nat) (h1 : ¬ a < tz) (h2 : a < 2 ^ 31) (h3 : tz < 2 ^ 31) : Met lh yX7_see (ws_ yX7_see cX7_see 1 (some .int)) r_X7_see_E (PX (fun U H => va_P D CL [(r, .inr (6, [.ref tx, .int (nI tz), .int (nI a), .int (nI p0), .int (nI s0), .int (nI v), .ref w])), (tx, .inl (dA 1, 300, .inl tf))] H ∧ GK D dA U) [.ref r]) (vp_Si (fun rv => rv = (-1))) 0 0 (fun _ => False) := by
  refine Met.ofW (cc := cX7_see) (maxL := 1) (ret := (some .int)) (by decide) rfl ?_
  intro p e s m args below meth cd s₁ B hml hv
  obtain ⟨hargs, hP, hG⟩ := hv
  have hx := B.exec
  have hb := B.bytes
  have hrt := B.returns
  have hts := atoms_spec (ws := (ws_ yX7_see cX7_see 1 (some .int))) B.pre
  have hts : ∀ w ∈ lw_all, w.before _ s = true := fun w h => hts w (List.mem_cons_of_mem _ h)
  have hown : s.vm.findClass RX7 = some m.cls := findClass_of_methodNamed B.named
  have hlocks := B.notSynchronized
  have hS : va_S nA s.heap s.heap [] := va_S.rf
  have hE : entryFrame m args 1 = F0 m 0 ((lg_sl ([.ref r]) ++ List.replicate (1 - (lg_sl ([.ref r])).length) Slot.unset).toArray) [] := by rw [hargs]; exact lg_entry_eq m _ 1
  have hl := lv_entry ([.ref r]) (n := 1) (Nat.le_of_ble_eq_true rfl)
  rw [hE]
  clear hE
  generalize (lg_sl ([.ref r]) ++ List.replicate (1 - (lg_sl ([.ref r])).length) Slot.unset).toArray = ls at hl ⊢
  have hl : lv_has ls 1 [(0, .ref r)] := hl
  generalize hQ : MQ _ _ _ _ _ _ _ = Q
  refine lv_aload_n hx hb dX7_see_0 rfl (lv_at hl 0 rfl) ?_
  refine va_get (D := D) (ci := 6) (v := .int (nI a)) (C := RX7) (T := TX7) (N := 7) hx hb hts in_X7 hown hG.1 hP 0 rfl rfl 2 (by decide) (hts _ q780) (fun _ h => h) rfl dX7_see_1 ?_
  refine lv_aload_n hx hb dX7_see_4 rfl (lv_at hl 0 rfl) ?_
  refine va_get (D := D) (ci := 6) (v := .int (nI tz)) (C := RX7) (T := TX7) (N := 7) hx hb hts in_X7 hown hG.1 hP 0 rfl rfl 1 (by decide) (hts _ q779) (fun _ h => h) rfl dX7_see_5 ?_
  refine kn_cge (tgt := 27) hx hb dX7_see_8 (by decide) (by omega) (by omega) (fun c_8 => ?_) (fun c_8 => ?_)
  · refine lv_iconst (v := -1) hx hb dX7_see_27 (by decide) ?_
    subst hQ
    exact W.iret (v := (-1)) hx hb hrt (fun t ht _ => ⟨_, rfl, (show (-1) = (-1) from rfl), ht⟩) t_nil dX7_see_28
  · omega

theorem w_X7_see {R : Room} {s : State} {args : Array Value} {own : String} {idx : Nat} (hts : ∀ w ∈ lw_all, w.before args s = true) (h1 : Cond.methodLink own idx yX7_see ∈ lw_all) {rm : Room} {mc ms : Nat} (hrc : rm.cells = mc) (hrs : rm.slots = ms) (hR : rm.frames + 1 ≤ R.frames ∧ 8 + (1 + 11) + rm.locals ≤ R.locals) : CallW R s args own RX7 idx yX7_see cX7_see 1 (some .int) (ws_ yX7_see cX7_see 1 (some .int)) rm mc ms 0 := cwV 0 hts (lw_V h1 q626 qs17 q84 q627) rfl hrc hrs (by decide +kernel) hR

abbrev r_X7_next (L : Nat) : Room := { frames := 6, cells := (4 + L), slots := (40 + 5 * L), locals := 151 }
set_option maxHeartbeats 1000000 in
theorem c_X7_next (lh : Launch) (D : va_G) (dA : Nat → ClassId) (sz : Nat) (r : Nat) (tx : Nat) (tz : Nat) (tf : Nat → Int32) (a : Nat) (p0 : Nat) (s0 : Nat) (v : Nat) (w : Nat) (h1 : tz ≤ 300) (h2 : a ≤ tz) (h3 : v < 2 ^ 31) : Met lh yX7_next (ws_ yX7_next cX7_next 3 none) (r_X7_next (nxL tz (byS tz tf) a)) (PX (fun U H => H.size = sz ∧ va_P D CL [(r, .inr (6, [.ref tx, .int (nI tz), .int (nI a), .int (nI p0), .int (nI s0), .int (nI v), .ref w])), (tx, .inl (dA 1, 300, .inl tf))] H ∧ va_D nT [(r, .inr (6, [.ref tx, .int (nI tz), .int (nI a), .int (nI p0), .int (nI s0), .int (nI v), .ref w])), (tx, .inl (dA 1, 300, .inl tf))] ∧ GK D dA U ∧ KC (va_A [(r, .inr (6, [.ref tx, .int (nI tz), .int (nI a), .int (nI p0), .int (nI s0), .int (nI v), .ref w])), (tx, .inl (dA 1, 300, .inl tf))] sz) U H ∧ PV U) [.ref r]) (va_Qv (fun u : Nat × Nat => True) (fun (u : Nat × Nat) t => va_P D CL (rdW dA r tx tz tf (nxT tz (byS tz tf) a v) u.1 u.2) t.heap ∧ va_D (va_A [(r, .inr (6, [.ref tx, .int (nI tz), .int (nI a), .int (nI p0), .int (nI s0), .int (nI v), .ref w])), (tx, .inl (dA 1, 300, .inl tf))] sz) (rdW dA r tx tz tf (nxT tz (byS tz tf) a v) u.1 u.2) ∧ GK D dA t) (va_A [(r, .inr (6, [.ref tx, .int (nI tz), .int (nI a), .int (nI p0), .int (nI s0), .int (nI v), .ref w])), (tx, .inl (dA 1, 300, .inl tf))] sz)) (4 + (nxL tz (byS tz tf) a)) (40 + 5 * (nxL tz (byS tz tf) a)) (va_A [(r, .inr (6, [.ref tx, .int (nI tz), .int (nI a), .int (nI p0), .int (nI s0), .int (nI v), .ref w])), (tx, .inl (dA 1, 300, .inl tf))] sz) := by
  refine Met.ofW (cc := cX7_next) (maxL := 3) (ret := none) (by decide) rfl ?_
  intro p e s m args below meth cd s₁ B hml hv
  obtain ⟨hargs, hsz, hP, hD, hG, hKC, hPV⟩ := hv
  have hx := B.exec
  have hb := B.bytes
  have hrt := B.returns
  have hts := atoms_spec (ws := (ws_ yX7_next cX7_next 3 none)) B.pre
  have hts : ∀ w ∈ lw_all, w.before _ s = true := fun w h => hts w (List.mem_cons_of_mem _ h)
  have hown : s.vm.findClass RX7 = some m.cls := findClass_of_methodNamed B.named
  have hlocks := B.notSynchronized
  subst hsz
  have hD := hD.self (sz := s.heap.size)
  have hA : ∀ q : Nat, s.heap.size ≤ q → va_A [(r, .inr (6, [.ref tx, .int (nI tz), .int (nI a), .int (nI p0), .int (nI s0), .int (nI v), .ref w])), (tx, .inl (dA 1, 300, .inl tf))] s.heap.size q := fun q h => Or.inr h
  generalize va_A [(r, .inr (6, [.ref tx, .int (nI tz), .int (nI a), .int (nI p0), .int (nI s0), .int (nI v), .ref w])), (tx, .inl (dA 1, 300, .inl tf))] s.heap.size = A at hD hA hKC ⊢
  have hS : va_S A s.heap s.heap [] := va_S.rf
  have hE : entryFrame m args 3 = F0 m 0 ((lg_sl ([.ref r]) ++ List.replicate (3 - (lg_sl ([.ref r])).length) Slot.unset).toArray) [] := by rw [hargs]; exact lg_entry_eq m _ 3
  have hl := lv_entry ([.ref r]) (n := 3) (Nat.le_of_ble_eq_true rfl)
  rw [hE]
  clear hE
  generalize (lg_sl ([.ref r]) ++ List.replicate (3 - (lg_sl ([.ref r])).length) Slot.unset).toArray = ls at hl ⊢
  have hl : lv_has ls 3 [(0, .ref r)] := hl
  generalize hQ : MQ _ _ _ _ _ _ _ = Q
  have L0 : ∀ (nn0 : Nat) (q : Nat), (skW (byS tz tf) (tz - a) a = skW (byS tz tf) (tz - q) q) → (q ≤ tz) → tz - q < nn0 → ∀ (H : Heap) (locs : List Loc), va_P D CL [(r, .inr (6, [.ref tx, .int (nI tz), .int (nI q), .int (nI p0), .int (nI s0), .int (nI v), .ref w])), (tx, .inl (dA 1, 300, .inl tf))] H → va_D A [(r, .inr (6, [.ref tx, .int (nI tz), .int (nI q), .int (nI p0), .int (nI s0), .int (nI v), .ref w])), (tx, .inl (dA 1, 300, .inl tf))] → va_S A s.heap H locs → ∀ (ls : Array Slot), lv_has ls 3 [(0, .ref r)] → W p lh e (r_X7_next (nxL tz (byS tz tf) a)) s m args below meth cd H locs 0 0 Q (F0 m 0 ls []) := by
    intro nn0
    induction nn0 with
    | zero => intro q i0_0 i0_1 hm0; exact absurd hm0 (Nat.not_lt_zero _)
    | succ nn0 ih0 =>
      intro q i0_0 i0_1 hm0 H locs hP hD hS ls hl
      refine lv_aload_n hx hb dX7_next_0 rfl (lv_at hl 0 rfl) ?_
      by_cases hq : q < tz
      · have hPs : va_P D CL ([(r, .inr (6, [.ref tx, .int (nI tz), .int (nI q), .int (nI p0), .int (nI s0), .int (nI v), .ref w])), (tx, .inl (dA 1, 300, .inl tf))] ++ []) H := hP.sub [0, 1] rfl
        refine vp_callSi (va_Run.call (va_runV (As := []) (rest := []) ⟨hx, hb, hml, hown, hts⟩ (c_X7_see_I lh D dA r tx tz tf q p0 s0 v w (hq) (h1)) (w_X7_see hts q624 rfl rfl ⟨Nat.le_of_ble_eq_true rfl, Nat.le_of_ble_eq_true rfl⟩) ⟨PX.blind (Mv.and Mv.heap Mv.gk), (va_recv hG.1 hP (ci := 6) (q0 := 0) rfl rfl), PX.pre (Mv.and Mv.heap Mv.gk) ⟨(va_P_left hPs), hG⟩⟩ rfl rfl hl.1 rfl (lv_room (Nat.le_of_ble_eq_true rfl)) dX7_next_1 ⟨Nat.le_of_ble_eq_true rfl, by show _ ≤ (40 + 5 * (nxL tz (byS tz tf) a)); omega⟩)) (fun rr hrr => ?_)
        subst hrr
        refine kx_int (y := nI (byS tz tf q)) (rfl) ?_
        refine lv_bipush (v := nI 32) hx hb dX7_next_4 (by decide) ?_
        refine kn_ceq (tgt := 18) hx hb dX7_next_6 (by decide) (by have := byS_lt tz tf q; omega) (by omega) (fun c_6 => ?_) (fun c_6 => ?_)
        · have hsp : byS tz tf q = 32 ∨ byS tz tf q = 10 := by first | exact Or.inl c_6 | exact Or.inr c_15
          refine lv_aload_n hx hb dX7_next_18 rfl (lv_at hl 0 rfl) ?_
          refine lv_dup hx hb dX7_next_19 rfl ?_
          refine va_get (D := D) (ci := 6) (v := .int (nI q)) (C := RX7) (T := TX7) (N := 7) hx hb hts in_X7 hown hG.1 hP 0 rfl rfl 2 (by decide) (hts _ q780) (fun _ h => h) rfl dX7_next_20 ?_
          refine lv_iconst (v := nI 1) hx hb dX7_next_23 (by decide) ?_
          refine kn_add hx hb dX7_next_24 ?_
          refine va_put (D := D) (ci := 6) (v := .int (nI (q + 1))) (C := RX7) (T := TX7) (N := 7) hx hb hts in_X7 tyX7 tyX7_ok nmX7 hown hG.1 hP hD hS 0 rfl rfl 2 (by decide) (hts _ q780) (fun _ h => h) rfl rfl (rfl) (rfl) (Nat.le_of_ble_eq_true rfl) dX7_next_25 (fun H locs hP hD hS => ?_)
          have hP : va_P D CL [(r, .inr (6, [.ref tx, .int (nI tz), .int (nI (q + 1)), .int (nI p0), .int (nI s0), .int (nI v), .ref w])), (tx, .inl (dA 1, 300, .inl tf))] H := hP
          have hD : va_D A [(r, .inr (6, [.ref tx, .int (nI tz), .int (nI (q + 1)), .int (nI p0), .int (nI s0), .int (nI v), .ref w])), (tx, .inl (dA 1, 300, .inl tf))] := hD
          refine lv_goto (tgt := 0) hx hb dX7_next_28 (by decide) ?_
          exact ih0 (q + 1) (by rw [i0_0]; exact skW_go (by omega) hsp) (by omega) (by omega) _ _ hP hD hS _ (lv_sub hl [0] rfl)
        · refine lv_aload_n hx hb dX7_next_9 rfl (lv_at hl 0 rfl) ?_
          have hPs : va_P D CL ([(r, .inr (6, [.ref tx, .int (nI tz), .int (nI q), .int (nI p0), .int (nI s0), .int (nI v), .ref w])), (tx, .inl (dA 1, 300, .inl tf))] ++ []) H := hP.sub [0, 1] rfl
          refine vp_callSi (va_Run.call (va_runV (As := []) (rest := []) ⟨hx, hb, hml, hown, hts⟩ (c_X7_see_I lh D dA r tx tz tf q p0 s0 v w (hq) (h1)) (w_X7_see hts q624 rfl rfl ⟨Nat.le_of_ble_eq_true rfl, Nat.le_of_ble_eq_true rfl⟩) ⟨PX.blind (Mv.and Mv.heap Mv.gk), (va_recv hG.1 hP (ci := 6) (q0 := 0) rfl rfl), PX.pre (Mv.and Mv.heap Mv.gk) ⟨(va_P_left hPs), hG⟩⟩ rfl rfl hl.1 rfl (lv_room (Nat.le_of_ble_eq_true rfl)) dX7_next_10 ⟨Nat.le_of_ble_eq_true rfl, by show _ ≤ (40 + 5 * (nxL tz (byS tz tf) a)); omega⟩)) (fun rr hrr => ?_)
          subst hrr
          refine kx_int (y := nI (byS tz tf q)) (rfl) ?_
          refine lv_bipush (v := nI 10) hx hb dX7_next_13 (by decide) ?_
          refine kn_cne (tgt := 31) hx hb dX7_next_15 (by decide) (by have := byS_lt tz tf q; omega) (by omega) (fun c_15 => ?_) (fun c_15 => ?_)
          · have hf : skW (byS tz tf) (tz - a) a = q := by rw [i0_0]; exact skW_stop c_6 c_15
            refine lv_aload_n hx hb dX7_next_31 rfl (lv_at hl 0 rfl) ?_
            refine lv_aload_n hx hb dX7_next_32 rfl (lv_at hl 0 rfl) ?_
            refine va_get (D := D) (ci := 6) (v := .int (nI q)) (C := RX7) (T := TX7) (N := 7) hx hb hts in_X7 hown hG.1 hP 0 rfl rfl 2 (by decide) (hts _ q780) (fun _ h => h) rfl dX7_next_33 ?_
            refine va_put (D := D) (ci := 6) (v := .int (nI q)) (C := RX7) (T := TX7) (N := 7) hx hb hts in_X7 tyX7 tyX7_ok nmX7 hown hG.1 hP hD hS 0 rfl rfl 3 (by decide) (hts _ q781) (fun _ h => h) rfl rfl (rfl) (rfl) (Nat.le_of_ble_eq_true rfl) dX7_next_36 (fun H locs hP hD hS => ?_)
            have hP : va_P D CL [(r, .inr (6, [.ref tx, .int (nI tz), .int (nI q), .int (nI q), .int (nI s0), .int (nI v), .ref w])), (tx, .inl (dA 1, 300, .inl tf))] H := hP
            have hD : va_D A [(r, .inr (6, [.ref tx, .int (nI tz), .int (nI q), .int (nI q), .int (nI s0), .int (nI v), .ref w])), (tx, .inl (dA 1, 300, .inl tf))] := hD
            refine lv_aload_n hx hb dX7_next_39 rfl (lv_at hl 0 rfl) ?_
            have hPs : va_P D CL ([(r, .inr (6, [.ref tx, .int (nI tz), .int (nI q), .int (nI q), .int (nI s0), .int (nI v), .ref w])), (tx, .inl (dA 1, 300, .inl tf))] ++ []) H := hP.sub [0, 1] rfl
            refine vp_callSi (va_Run.call (va_runV (As := []) (rest := []) ⟨hx, hb, hml, hown, hts⟩ (c_X7_see_I lh D dA r tx tz tf q q s0 v w (hq) (h1)) (w_X7_see hts q624 rfl rfl ⟨Nat.le_of_ble_eq_true rfl, Nat.le_of_ble_eq_true rfl⟩) ⟨PX.blind (Mv.and Mv.heap Mv.gk), (va_recv hG.1 hP (ci := 6) (q0 := 0) rfl rfl), PX.pre (Mv.and Mv.heap Mv.gk) ⟨(va_P_left hPs), hG⟩⟩ rfl rfl hl.1 rfl (lv_room (Nat.le_of_ble_eq_true rfl)) dX7_next_40 ⟨Nat.le_of_ble_eq_true rfl, by show _ ≤ (40 + 5 * (nxL tz (byS tz tf) a)); omega⟩)) (fun rr hrr => ?_)
            subst hrr
            refine kx_int (y := nI (byS tz tf q)) (rfl) ?_
            refine lv_istore_n (lv' := [(1, .int (nI (byS tz tf q))), (0, .ref r)]) hx hb dX7_next_43 rfl hl (by decide) rfl (fun ls hl => ?_)
            refine lv_iload_n hx hb dX7_next_44 rfl (lv_at hl 0 rfl) ?_
            refine lv_iconst (v := -1) hx hb dX7_next_45 (by decide) ?_
            refine lv_icmp_ne (tgt := 57) hx hb dX7_next_46 (by decide) (fun _ => ?_) (fun c => absurd c (nI_nm1 (by have := byS_lt tz tf q; omega)))
            refine lv_iload_n hx hb dX7_next_57 rfl (lv_at hl 0 rfl) ?_
            refine lv_bipush (v := nI 97) hx hb dX7_next_58 (by decide) ?_
            refine kn_clt (tgt := 150) hx hb dX7_next_60 (by decide) (by have := byS_lt tz tf q; omega) (by omega) (fun c_60 => ?_) (fun c_60 => ?_)
            · have ha : ¬ (97 ≤ byS tz tf q ∧ byS tz tf q ≤ 122) := by omega
              refine lv_iload_n hx hb dX7_next_150 rfl (lv_at hl 0 rfl) ?_
              refine lv_bipush (v := nI 48) hx hb dX7_next_151 (by decide) ?_
              refine kn_clt (tgt := 244) hx hb dX7_next_153 (by decide) (by have := byS_lt tz tf q; omega) (by omega) (fun c_153 => ?_) (fun c_153 => ?_)
              · have hd : ¬ (48 ≤ byS tz tf q ∧ byS tz tf q ≤ 57) := by omega
                refine lv_aload_n hx hb dX7_next_244 rfl (lv_at hl 1 rfl) ?_
                refine lv_dup hx hb dX7_next_245 rfl ?_
                refine va_get (D := D) (ci := 6) (v := .int (nI q)) (C := RX7) (T := TX7) (N := 7) hx hb hts in_X7 hown hG.1 hP 0 rfl rfl 2 (by decide) (hts _ q780) (fun _ h => h) rfl dX7_next_246 ?_
                refine lv_iconst (v := nI 1) hx hb dX7_next_249 (by decide) ?_
                refine kn_add hx hb dX7_next_250 ?_
                refine va_put (D := D) (ci := 6) (v := .int (nI (q + 1))) (C := RX7) (T := TX7) (N := 7) hx hb hts in_X7 tyX7 tyX7_ok nmX7 hown hG.1 hP hD hS 0 rfl rfl 2 (by decide) (hts _ q780) (fun _ h => h) rfl rfl (rfl) (rfl) (Nat.le_of_ble_eq_true rfl) dX7_next_251 (fun H locs hP hD hS => ?_)
                have hP : va_P D CL [(r, .inr (6, [.ref tx, .int (nI tz), .int (nI (q + 1)), .int (nI q), .int (nI s0), .int (nI v), .ref w])), (tx, .inl (dA 1, 300, .inl tf))] H := hP
                have hD : va_D A [(r, .inr (6, [.ref tx, .int (nI tz), .int (nI (q + 1)), .int (nI q), .int (nI s0), .int (nI v), .ref w])), (tx, .inl (dA 1, 300, .inl tf))] := hD
                refine lv_aload_n hx hb dX7_next_254 rfl (lv_at hl 1 rfl) ?_
                refine lv_iload_n hx hb dX7_next_255 rfl (lv_at hl 0 rfl) ?_
                refine va_put (D := D) (ci := 6) (v := .int (nI (byS tz tf q))) (C := RX7) (T := TX7) (N := 7) hx hb hts in_X7 tyX7 tyX7_ok nmX7 hown hG.1 hP hD hS 0 rfl rfl 5 (by decide) (hts _ q783) (fun _ h => h) rfl rfl (rfl) (rfl) (Nat.le_of_ble_eq_true rfl) dX7_next_256 (fun H locs hP hD hS => ?_)
                have hP : va_P D CL [(r, .inr (6, [.ref tx, .int (nI tz), .int (nI (q + 1)), .int (nI q), .int (nI s0), .int (nI (byS tz tf q)), .ref w])), (tx, .inl (dA 1, 300, .inl tf))] H := hP
                have hD : va_D A [(r, .inr (6, [.ref tx, .int (nI tz), .int (nI (q + 1)), .int (nI q), .int (nI s0), .int (nI (byS tz tf q)), .ref w])), (tx, .inl (dA 1, 300, .inl tf))] := hD
                refine lv_aload_n hx hb dX7_next_259 rfl (lv_at hl 1 rfl) ?_
                refine lv_iload_n hx hb dX7_next_260 rfl (lv_at hl 0 rfl) ?_
                refine lv_bipush (v := nI 60) hx hb dX7_next_261 (by decide) ?_
                refine kn_ceq (tgt := 290) hx hb dX7_next_263 (by decide) (by have := byS_lt tz tf q; omega) (by omega) (fun c_263 => ?_) (fun c_263 => ?_)
                · refine lv_iconst (v := nI 3) hx hb dX7_next_290 (by decide) ?_
                  refine lv_goto (tgt := 295) hx hb dX7_next_291 (by decide) ?_
                  refine va_put (D := D) (ci := 6) (v := .int (nI 3)) (C := RX7) (T := TX7) (N := 7) hx hb hts in_X7 tyX7 tyX7_ok nmX7 hown hG.1 hP hD hS 0 rfl rfl 4 (by decide) (hts _ q782) (fun _ h => h) rfl rfl (rfl) (rfl) (Nat.le_of_ble_eq_true rfl) dX7_next_295 (fun H locs hP hD hS => ?_)
                  have hP : va_P D CL [(r, .inr (6, [.ref tx, .int (nI tz), .int (nI (q + 1)), .int (nI q), .int (nI 3), .int (nI (byS tz tf q)), .ref w])), (tx, .inl (dA 1, 300, .inl tf))] H := hP
                  have hD : va_D A [(r, .inr (6, [.ref tx, .int (nI tz), .int (nI (q + 1)), .int (nI q), .int (nI 3), .int (nI (byS tz tf q)), .ref w])), (tx, .inl (dA 1, 300, .inl tf))] := hD
                  subst hQ
                  have e9 : nxT tz (byS tz tf) a v = (3, q, q + 1, byS tz tf q) := by simp only [nxT, hf]; rw [if_neg (by omega), if_neg ha, if_neg hd, if_pos (show sgnB (byS tz tf q) = true by simp [sgnB, c_263])]
                  have hL9 := nxL_eq tz (byS tz tf) a v
                  rw [e9] at hL9
                  dsimp only at hL9
                  refine W.widen (k := (4 + (nxL tz (byS tz tf) a))) (n := (40 + 5 * (nxL tz (byS tz tf) a))) (by omega) (by omega) ?_
                  have hP9 : va_P D CL (rdW dA r tx tz tf (nxT tz (byS tz tf) a v) w 0) H := by rw [e9, rdW_0 (show (3 : Nat) ≠ 1 by decide)]; exact hP.sub [0, 1] rfl
                  have hD9 : va_D A (rdW dA r tx tz tf (nxT tz (byS tz tf) a v) w 0) := by rw [e9, rdW_0 (show (3 : Nat) ≠ 1 by decide)]; exact hD.sub [0, 1] (by decide) rfl
                  exact W.vret hx hb hrt (fun t ht hW => ⟨⟨(w, 0), rfl, trivial, by rw [ht]; exact hP9, hD9, GK.warm hW hG⟩, hS.F ht⟩) hS.2.2 dX7_next_298
                · refine lv_iload_n hx hb dX7_next_266 rfl (lv_at hl 0 rfl) ?_
                  refine lv_bipush (v := nI 61) hx hb dX7_next_267 (by decide) ?_
                  refine kn_ceq (tgt := 290) hx hb dX7_next_269 (by decide) (by have := byS_lt tz tf q; omega) (by omega) (fun c_269 => ?_) (fun c_269 => ?_)
                  · refine lv_iconst (v := nI 3) hx hb dX7_next_290 (by decide) ?_
                    refine lv_goto (tgt := 295) hx hb dX7_next_291 (by decide) ?_
                    refine va_put (D := D) (ci := 6) (v := .int (nI 3)) (C := RX7) (T := TX7) (N := 7) hx hb hts in_X7 tyX7 tyX7_ok nmX7 hown hG.1 hP hD hS 0 rfl rfl 4 (by decide) (hts _ q782) (fun _ h => h) rfl rfl (rfl) (rfl) (Nat.le_of_ble_eq_true rfl) dX7_next_295 (fun H locs hP hD hS => ?_)
                    have hP : va_P D CL [(r, .inr (6, [.ref tx, .int (nI tz), .int (nI (q + 1)), .int (nI q), .int (nI 3), .int (nI (byS tz tf q)), .ref w])), (tx, .inl (dA 1, 300, .inl tf))] H := hP
                    have hD : va_D A [(r, .inr (6, [.ref tx, .int (nI tz), .int (nI (q + 1)), .int (nI q), .int (nI 3), .int (nI (byS tz tf q)), .ref w])), (tx, .inl (dA 1, 300, .inl tf))] := hD
                    subst hQ
                    have e9 : nxT tz (byS tz tf) a v = (3, q, q + 1, byS tz tf q) := by simp only [nxT, hf]; rw [if_neg (by omega), if_neg ha, if_neg hd, if_pos (show sgnB (byS tz tf q) = true by simp [sgnB, c_263, c_269])]
                    have hL9 := nxL_eq tz (byS tz tf) a v
                    rw [e9] at hL9
                    dsimp only at hL9
                    refine W.widen (k := (4 + (nxL tz (byS tz tf) a))) (n := (40 + 5 * (nxL tz (byS tz tf) a))) (by omega) (by omega) ?_
                    have hP9 : va_P D CL (rdW dA r tx tz tf (nxT tz (byS tz tf) a v) w 0) H := by rw [e9, rdW_0 (show (3 : Nat) ≠ 1 by decide)]; exact hP.sub [0, 1] rfl
                    have hD9 : va_D A (rdW dA r tx tz tf (nxT tz (byS tz tf) a v) w 0) := by rw [e9, rdW_0 (show (3 : Nat) ≠ 1 by decide)]; exact hD.sub [0, 1] (by decide) rfl
                    exact W.vret hx hb hrt (fun t ht hW => ⟨⟨(w, 0), rfl, trivial, by rw [ht]; exact hP9, hD9, GK.warm hW hG⟩, hS.F ht⟩) hS.2.2 dX7_next_298
                  · refine lv_iload_n hx hb dX7_next_272 rfl (lv_at hl 0 rfl) ?_
                    refine lv_bipush (v := nI 62) hx hb dX7_next_273 (by decide) ?_
                    refine kn_ceq (tgt := 290) hx hb dX7_next_275 (by decide) (by have := byS_lt tz tf q; omega) (by omega) (fun c_275 => ?_) (fun c_275 => ?_)
                    · refine lv_iconst (v := nI 3) hx hb dX7_next_290 (by decide) ?_
                      refine lv_goto (tgt := 295) hx hb dX7_next_291 (by decide) ?_
                      refine va_put (D := D) (ci := 6) (v := .int (nI 3)) (C := RX7) (T := TX7) (N := 7) hx hb hts in_X7 tyX7 tyX7_ok nmX7 hown hG.1 hP hD hS 0 rfl rfl 4 (by decide) (hts _ q782) (fun _ h => h) rfl rfl (rfl) (rfl) (Nat.le_of_ble_eq_true rfl) dX7_next_295 (fun H locs hP hD hS => ?_)
                      have hP : va_P D CL [(r, .inr (6, [.ref tx, .int (nI tz), .int (nI (q + 1)), .int (nI q), .int (nI 3), .int (nI (byS tz tf q)), .ref w])), (tx, .inl (dA 1, 300, .inl tf))] H := hP
                      have hD : va_D A [(r, .inr (6, [.ref tx, .int (nI tz), .int (nI (q + 1)), .int (nI q), .int (nI 3), .int (nI (byS tz tf q)), .ref w])), (tx, .inl (dA 1, 300, .inl tf))] := hD
                      subst hQ
                      have e9 : nxT tz (byS tz tf) a v = (3, q, q + 1, byS tz tf q) := by simp only [nxT, hf]; rw [if_neg (by omega), if_neg ha, if_neg hd, if_pos (show sgnB (byS tz tf q) = true by simp [sgnB, c_263, c_269, c_275])]
                      have hL9 := nxL_eq tz (byS tz tf) a v
                      rw [e9] at hL9
                      dsimp only at hL9
                      refine W.widen (k := (4 + (nxL tz (byS tz tf) a))) (n := (40 + 5 * (nxL tz (byS tz tf) a))) (by omega) (by omega) ?_
                      have hP9 : va_P D CL (rdW dA r tx tz tf (nxT tz (byS tz tf) a v) w 0) H := by rw [e9, rdW_0 (show (3 : Nat) ≠ 1 by decide)]; exact hP.sub [0, 1] rfl
                      have hD9 : va_D A (rdW dA r tx tz tf (nxT tz (byS tz tf) a v) w 0) := by rw [e9, rdW_0 (show (3 : Nat) ≠ 1 by decide)]; exact hD.sub [0, 1] (by decide) rfl
                      exact W.vret hx hb hrt (fun t ht hW => ⟨⟨(w, 0), rfl, trivial, by rw [ht]; exact hP9, hD9, GK.warm hW hG⟩, hS.F ht⟩) hS.2.2 dX7_next_298
                    · refine lv_iload_n hx hb dX7_next_278 rfl (lv_at hl 0 rfl) ?_
                      refine lv_bipush (v := nI 58) hx hb dX7_next_279 (by decide) ?_
                      refine kn_ceq (tgt := 290) hx hb dX7_next_281 (by decide) (by have := byS_lt tz tf q; omega) (by omega) (fun c_281 => ?_) (fun c_281 => ?_)
                      · refine lv_iconst (v := nI 3) hx hb dX7_next_290 (by decide) ?_
                        refine lv_goto (tgt := 295) hx hb dX7_next_291 (by decide) ?_
                        refine va_put (D := D) (ci := 6) (v := .int (nI 3)) (C := RX7) (T := TX7) (N := 7) hx hb hts in_X7 tyX7 tyX7_ok nmX7 hown hG.1 hP hD hS 0 rfl rfl 4 (by decide) (hts _ q782) (fun _ h => h) rfl rfl (rfl) (rfl) (Nat.le_of_ble_eq_true rfl) dX7_next_295 (fun H locs hP hD hS => ?_)
                        have hP : va_P D CL [(r, .inr (6, [.ref tx, .int (nI tz), .int (nI (q + 1)), .int (nI q), .int (nI 3), .int (nI (byS tz tf q)), .ref w])), (tx, .inl (dA 1, 300, .inl tf))] H := hP
                        have hD : va_D A [(r, .inr (6, [.ref tx, .int (nI tz), .int (nI (q + 1)), .int (nI q), .int (nI 3), .int (nI (byS tz tf q)), .ref w])), (tx, .inl (dA 1, 300, .inl tf))] := hD
                        subst hQ
                        have e9 : nxT tz (byS tz tf) a v = (3, q, q + 1, byS tz tf q) := by simp only [nxT, hf]; rw [if_neg (by omega), if_neg ha, if_neg hd, if_pos (show sgnB (byS tz tf q) = true by simp [sgnB, c_263, c_269, c_275, c_281])]
                        have hL9 := nxL_eq tz (byS tz tf) a v
                        rw [e9] at hL9
                        dsimp only at hL9
                        refine W.widen (k := (4 + (nxL tz (byS tz tf) a))) (n := (40 + 5 * (nxL tz (byS tz tf) a))) (by omega) (by omega) ?_
                        have hP9 : va_P D CL (rdW dA r tx tz tf (nxT tz (byS tz tf) a v) w 0) H := by rw [e9, rdW_0 (show (3 : Nat) ≠ 1 by decide)]; exact hP.sub [0, 1] rfl
                        have hD9 : va_D A (rdW dA r tx tz tf (nxT tz (byS tz tf) a v) w 0) := by rw [e9, rdW_0 (show (3 : Nat) ≠ 1 by decide)]; exact hD.sub [0, 1] (by decide) rfl
                        exact W.vret hx hb hrt (fun t ht hW => ⟨⟨(w, 0), rfl, trivial, by rw [ht]; exact hP9, hD9, GK.warm hW hG⟩, hS.F ht⟩) hS.2.2 dX7_next_298
                      · refine lv_iload_n hx hb dX7_next_284 rfl (lv_at hl 0 rfl) ?_
                        refine lv_bipush (v := nI 59) hx hb dX7_next_285 (by decide) ?_
                        refine kn_cne (tgt := 294) hx hb dX7_next_287 (by decide) (by have := byS_lt tz tf q; omega) (by omega) (fun c_287 => ?_) (fun c_287 => ?_)
                        · refine lv_iconst (v := nI 4) hx hb dX7_next_294 (by decide) ?_
                          refine va_put (D := D) (ci := 6) (v := .int (nI 4)) (C := RX7) (T := TX7) (N := 7) hx hb hts in_X7 tyX7 tyX7_ok nmX7 hown hG.1 hP hD hS 0 rfl rfl 4 (by decide) (hts _ q782) (fun _ h => h) rfl rfl (rfl) (rfl) (Nat.le_of_ble_eq_true rfl) dX7_next_295 (fun H locs hP hD hS => ?_)
                          have hP : va_P D CL [(r, .inr (6, [.ref tx, .int (nI tz), .int (nI (q + 1)), .int (nI q), .int (nI 4), .int (nI (byS tz tf q)), .ref w])), (tx, .inl (dA 1, 300, .inl tf))] H := hP
                          have hD : va_D A [(r, .inr (6, [.ref tx, .int (nI tz), .int (nI (q + 1)), .int (nI q), .int (nI 4), .int (nI (byS tz tf q)), .ref w])), (tx, .inl (dA 1, 300, .inl tf))] := hD
                          subst hQ
                          have e9 : nxT tz (byS tz tf) a v = (4, q, q + 1, byS tz tf q) := by simp only [nxT, hf]; rw [if_neg (by omega), if_neg ha, if_neg hd, if_neg (show ¬ sgnB (byS tz tf q) = true by simp [sgnB, c_263, c_269, c_275, c_281, c_287])]
                          have hL9 := nxL_eq tz (byS tz tf) a v
                          rw [e9] at hL9
                          dsimp only at hL9
                          refine W.widen (k := (4 + (nxL tz (byS tz tf) a))) (n := (40 + 5 * (nxL tz (byS tz tf) a))) (by omega) (by omega) ?_
                          have hP9 : va_P D CL (rdW dA r tx tz tf (nxT tz (byS tz tf) a v) w 0) H := by rw [e9, rdW_0 (show (4 : Nat) ≠ 1 by decide)]; exact hP.sub [0, 1] rfl
                          have hD9 : va_D A (rdW dA r tx tz tf (nxT tz (byS tz tf) a v) w 0) := by rw [e9, rdW_0 (show (4 : Nat) ≠ 1 by decide)]; exact hD.sub [0, 1] (by decide) rfl
                          exact W.vret hx hb hrt (fun t ht hW => ⟨⟨(w, 0), rfl, trivial, by rw [ht]; exact hP9, hD9, GK.warm hW hG⟩, hS.F ht⟩) hS.2.2 dX7_next_298
                        · refine lv_iconst (v := nI 3) hx hb dX7_next_290 (by decide) ?_
                          refine lv_goto (tgt := 295) hx hb dX7_next_291 (by decide) ?_
                          refine va_put (D := D) (ci := 6) (v := .int (nI 3)) (C := RX7) (T := TX7) (N := 7) hx hb hts in_X7 tyX7 tyX7_ok nmX7 hown hG.1 hP hD hS 0 rfl rfl 4 (by decide) (hts _ q782) (fun _ h => h) rfl rfl (rfl) (rfl) (Nat.le_of_ble_eq_true rfl) dX7_next_295 (fun H locs hP hD hS => ?_)
                          have hP : va_P D CL [(r, .inr (6, [.ref tx, .int (nI tz), .int (nI (q + 1)), .int (nI q), .int (nI 3), .int (nI (byS tz tf q)), .ref w])), (tx, .inl (dA 1, 300, .inl tf))] H := hP
                          have hD : va_D A [(r, .inr (6, [.ref tx, .int (nI tz), .int (nI (q + 1)), .int (nI q), .int (nI 3), .int (nI (byS tz tf q)), .ref w])), (tx, .inl (dA 1, 300, .inl tf))] := hD
                          subst hQ
                          have e9 : nxT tz (byS tz tf) a v = (3, q, q + 1, byS tz tf q) := by simp only [nxT, hf]; rw [if_neg (by omega), if_neg ha, if_neg hd, if_pos (show sgnB (byS tz tf q) = true by simp [sgnB, c_263, c_269, c_275, c_281, c_287])]
                          have hL9 := nxL_eq tz (byS tz tf) a v
                          rw [e9] at hL9
                          dsimp only at hL9
                          refine W.widen (k := (4 + (nxL tz (byS tz tf) a))) (n := (40 + 5 * (nxL tz (byS tz tf) a))) (by omega) (by omega) ?_
                          have hP9 : va_P D CL (rdW dA r tx tz tf (nxT tz (byS tz tf) a v) w 0) H := by rw [e9, rdW_0 (show (3 : Nat) ≠ 1 by decide)]; exact hP.sub [0, 1] rfl
                          have hD9 : va_D A (rdW dA r tx tz tf (nxT tz (byS tz tf) a v) w 0) := by rw [e9, rdW_0 (show (3 : Nat) ≠ 1 by decide)]; exact hD.sub [0, 1] (by decide) rfl
                          exact W.vret hx hb hrt (fun t ht hW => ⟨⟨(w, 0), rfl, trivial, by rw [ht]; exact hP9, hD9, GK.warm hW hG⟩, hS.F ht⟩) hS.2.2 dX7_next_298
              · refine lv_iload_n hx hb dX7_next_156 rfl (lv_at hl 0 rfl) ?_
                refine lv_bipush (v := nI 57) hx hb dX7_next_157 (by decide) ?_
                refine kn_cgt (tgt := 244) hx hb dX7_next_159 (by decide) (by have := byS_lt tz tf q; omega) (by omega) (fun c_159 => ?_) (fun c_159 => ?_)
                · have hd : ¬ (48 ≤ byS tz tf q ∧ byS tz tf q ≤ 57) := by omega
                  refine lv_aload_n hx hb dX7_next_244 rfl (lv_at hl 1 rfl) ?_
                  refine lv_dup hx hb dX7_next_245 rfl ?_
                  refine va_get (D := D) (ci := 6) (v := .int (nI q)) (C := RX7) (T := TX7) (N := 7) hx hb hts in_X7 hown hG.1 hP 0 rfl rfl 2 (by decide) (hts _ q780) (fun _ h => h) rfl dX7_next_246 ?_
                  refine lv_iconst (v := nI 1) hx hb dX7_next_249 (by decide) ?_
                  refine kn_add hx hb dX7_next_250 ?_
                  refine va_put (D := D) (ci := 6) (v := .int (nI (q + 1))) (C := RX7) (T := TX7) (N := 7) hx hb hts in_X7 tyX7 tyX7_ok nmX7 hown hG.1 hP hD hS 0 rfl rfl 2 (by decide) (hts _ q780) (fun _ h => h) rfl rfl (rfl) (rfl) (Nat.le_of_ble_eq_true rfl) dX7_next_251 (fun H locs hP hD hS => ?_)
                  have hP : va_P D CL [(r, .inr (6, [.ref tx, .int (nI tz), .int (nI (q + 1)), .int (nI q), .int (nI s0), .int (nI v), .ref w])), (tx, .inl (dA 1, 300, .inl tf))] H := hP
                  have hD : va_D A [(r, .inr (6, [.ref tx, .int (nI tz), .int (nI (q + 1)), .int (nI q), .int (nI s0), .int (nI v), .ref w])), (tx, .inl (dA 1, 300, .inl tf))] := hD
                  refine lv_aload_n hx hb dX7_next_254 rfl (lv_at hl 1 rfl) ?_
                  refine lv_iload_n hx hb dX7_next_255 rfl (lv_at hl 0 rfl) ?_
                  refine va_put (D := D) (ci := 6) (v := .int (nI (byS tz tf q))) (C := RX7) (T := TX7) (N := 7) hx hb hts in_X7 tyX7 tyX7_ok nmX7 hown hG.1 hP hD hS 0 rfl rfl 5 (by decide) (hts _ q783) (fun _ h => h) rfl rfl (rfl) (rfl) (Nat.le_of_ble_eq_true rfl) dX7_next_256 (fun H locs hP hD hS => ?_)
                  have hP : va_P D CL [(r, .inr (6, [.ref tx, .int (nI tz), .int (nI (q + 1)), .int (nI q), .int (nI s0), .int (nI (byS tz tf q)), .ref w])), (tx, .inl (dA 1, 300, .inl tf))] H := hP
                  have hD : va_D A [(r, .inr (6, [.ref tx, .int (nI tz), .int (nI (q + 1)), .int (nI q), .int (nI s0), .int (nI (byS tz tf q)), .ref w])), (tx, .inl (dA 1, 300, .inl tf))] := hD
                  refine lv_aload_n hx hb dX7_next_259 rfl (lv_at hl 1 rfl) ?_
                  refine lv_iload_n hx hb dX7_next_260 rfl (lv_at hl 0 rfl) ?_
                  refine lv_bipush (v := nI 60) hx hb dX7_next_261 (by decide) ?_
                  refine kn_ceq (tgt := 290) hx hb dX7_next_263 (by decide) (by have := byS_lt tz tf q; omega) (by omega) (fun c_263 => ?_) (fun c_263 => ?_)
                  · refine lv_iconst (v := nI 3) hx hb dX7_next_290 (by decide) ?_
                    refine lv_goto (tgt := 295) hx hb dX7_next_291 (by decide) ?_
                    refine va_put (D := D) (ci := 6) (v := .int (nI 3)) (C := RX7) (T := TX7) (N := 7) hx hb hts in_X7 tyX7 tyX7_ok nmX7 hown hG.1 hP hD hS 0 rfl rfl 4 (by decide) (hts _ q782) (fun _ h => h) rfl rfl (rfl) (rfl) (Nat.le_of_ble_eq_true rfl) dX7_next_295 (fun H locs hP hD hS => ?_)
                    have hP : va_P D CL [(r, .inr (6, [.ref tx, .int (nI tz), .int (nI (q + 1)), .int (nI q), .int (nI 3), .int (nI (byS tz tf q)), .ref w])), (tx, .inl (dA 1, 300, .inl tf))] H := hP
                    have hD : va_D A [(r, .inr (6, [.ref tx, .int (nI tz), .int (nI (q + 1)), .int (nI q), .int (nI 3), .int (nI (byS tz tf q)), .ref w])), (tx, .inl (dA 1, 300, .inl tf))] := hD
                    subst hQ
                    have e9 : nxT tz (byS tz tf) a v = (3, q, q + 1, byS tz tf q) := by simp only [nxT, hf]; rw [if_neg (by omega), if_neg ha, if_neg hd, if_pos (show sgnB (byS tz tf q) = true by simp [sgnB, c_263])]
                    have hL9 := nxL_eq tz (byS tz tf) a v
                    rw [e9] at hL9
                    dsimp only at hL9
                    refine W.widen (k := (4 + (nxL tz (byS tz tf) a))) (n := (40 + 5 * (nxL tz (byS tz tf) a))) (by omega) (by omega) ?_
                    have hP9 : va_P D CL (rdW dA r tx tz tf (nxT tz (byS tz tf) a v) w 0) H := by rw [e9, rdW_0 (show (3 : Nat) ≠ 1 by decide)]; exact hP.sub [0, 1] rfl
                    have hD9 : va_D A (rdW dA r tx tz tf (nxT tz (byS tz tf) a v) w 0) := by rw [e9, rdW_0 (show (3 : Nat) ≠ 1 by decide)]; exact hD.sub [0, 1] (by decide) rfl
                    exact W.vret hx hb hrt (fun t ht hW => ⟨⟨(w, 0), rfl, trivial, by rw [ht]; exact hP9, hD9, GK.warm hW hG⟩, hS.F ht⟩) hS.2.2 dX7_next_298
                  · refine lv_iload_n hx hb dX7_next_266 rfl (lv_at hl 0 rfl) ?_
                    refine lv_bipush (v := nI 61) hx hb dX7_next_267 (by decide) ?_
                    refine kn_ceq (tgt := 290) hx hb dX7_next_269 (by decide) (by have := byS_lt tz tf q; omega) (by omega) (fun c_269 => ?_) (fun c_269 => ?_)
                    · refine lv_iconst (v := nI 3) hx hb dX7_next_290 (by decide) ?_
                      refine lv_goto (tgt := 295) hx hb dX7_next_291 (by decide) ?_
                      refine va_put (D := D) (ci := 6) (v := .int (nI 3)) (C := RX7) (T := TX7) (N := 7) hx hb hts in_X7 tyX7 tyX7_ok nmX7 hown hG.1 hP hD hS 0 rfl rfl 4 (by decide) (hts _ q782) (fun _ h => h) rfl rfl (rfl) (rfl) (Nat.le_of_ble_eq_true rfl) dX7_next_295 (fun H locs hP hD hS => ?_)
                      have hP : va_P D CL [(r, .inr (6, [.ref tx, .int (nI tz), .int (nI (q + 1)), .int (nI q), .int (nI 3), .int (nI (byS tz tf q)), .ref w])), (tx, .inl (dA 1, 300, .inl tf))] H := hP
                      have hD : va_D A [(r, .inr (6, [.ref tx, .int (nI tz), .int (nI (q + 1)), .int (nI q), .int (nI 3), .int (nI (byS tz tf q)), .ref w])), (tx, .inl (dA 1, 300, .inl tf))] := hD
                      subst hQ
                      have e9 : nxT tz (byS tz tf) a v = (3, q, q + 1, byS tz tf q) := by simp only [nxT, hf]; rw [if_neg (by omega), if_neg ha, if_neg hd, if_pos (show sgnB (byS tz tf q) = true by simp [sgnB, c_263, c_269])]
                      have hL9 := nxL_eq tz (byS tz tf) a v
                      rw [e9] at hL9
                      dsimp only at hL9
                      refine W.widen (k := (4 + (nxL tz (byS tz tf) a))) (n := (40 + 5 * (nxL tz (byS tz tf) a))) (by omega) (by omega) ?_
                      have hP9 : va_P D CL (rdW dA r tx tz tf (nxT tz (byS tz tf) a v) w 0) H := by rw [e9, rdW_0 (show (3 : Nat) ≠ 1 by decide)]; exact hP.sub [0, 1] rfl
                      have hD9 : va_D A (rdW dA r tx tz tf (nxT tz (byS tz tf) a v) w 0) := by rw [e9, rdW_0 (show (3 : Nat) ≠ 1 by decide)]; exact hD.sub [0, 1] (by decide) rfl
                      exact W.vret hx hb hrt (fun t ht hW => ⟨⟨(w, 0), rfl, trivial, by rw [ht]; exact hP9, hD9, GK.warm hW hG⟩, hS.F ht⟩) hS.2.2 dX7_next_298
                    · refine lv_iload_n hx hb dX7_next_272 rfl (lv_at hl 0 rfl) ?_
                      refine lv_bipush (v := nI 62) hx hb dX7_next_273 (by decide) ?_
                      refine kn_ceq (tgt := 290) hx hb dX7_next_275 (by decide) (by have := byS_lt tz tf q; omega) (by omega) (fun c_275 => ?_) (fun c_275 => ?_)
                      · refine lv_iconst (v := nI 3) hx hb dX7_next_290 (by decide) ?_
                        refine lv_goto (tgt := 295) hx hb dX7_next_291 (by decide) ?_
                        refine va_put (D := D) (ci := 6) (v := .int (nI 3)) (C := RX7) (T := TX7) (N := 7) hx hb hts in_X7 tyX7 tyX7_ok nmX7 hown hG.1 hP hD hS 0 rfl rfl 4 (by decide) (hts _ q782) (fun _ h => h) rfl rfl (rfl) (rfl) (Nat.le_of_ble_eq_true rfl) dX7_next_295 (fun H locs hP hD hS => ?_)
                        have hP : va_P D CL [(r, .inr (6, [.ref tx, .int (nI tz), .int (nI (q + 1)), .int (nI q), .int (nI 3), .int (nI (byS tz tf q)), .ref w])), (tx, .inl (dA 1, 300, .inl tf))] H := hP
                        have hD : va_D A [(r, .inr (6, [.ref tx, .int (nI tz), .int (nI (q + 1)), .int (nI q), .int (nI 3), .int (nI (byS tz tf q)), .ref w])), (tx, .inl (dA 1, 300, .inl tf))] := hD
                        subst hQ
                        have e9 : nxT tz (byS tz tf) a v = (3, q, q + 1, byS tz tf q) := by simp only [nxT, hf]; rw [if_neg (by omega), if_neg ha, if_neg hd, if_pos (show sgnB (byS tz tf q) = true by simp [sgnB, c_263, c_269, c_275])]
                        have hL9 := nxL_eq tz (byS tz tf) a v
                        rw [e9] at hL9
                        dsimp only at hL9
                        refine W.widen (k := (4 + (nxL tz (byS tz tf) a))) (n := (40 + 5 * (nxL tz (byS tz tf) a))) (by omega) (by omega) ?_
                        have hP9 : va_P D CL (rdW dA r tx tz tf (nxT tz (byS tz tf) a v) w 0) H := by rw [e9, rdW_0 (show (3 : Nat) ≠ 1 by decide)]; exact hP.sub [0, 1] rfl
                        have hD9 : va_D A (rdW dA r tx tz tf (nxT tz (byS tz tf) a v) w 0) := by rw [e9, rdW_0 (show (3 : Nat) ≠ 1 by decide)]; exact hD.sub [0, 1] (by decide) rfl
                        exact W.vret hx hb hrt (fun t ht hW => ⟨⟨(w, 0), rfl, trivial, by rw [ht]; exact hP9, hD9, GK.warm hW hG⟩, hS.F ht⟩) hS.2.2 dX7_next_298
                      · refine lv_iload_n hx hb dX7_next_278 rfl (lv_at hl 0 rfl) ?_
                        refine lv_bipush (v := nI 58) hx hb dX7_next_279 (by decide) ?_
                        refine kn_ceq (tgt := 290) hx hb dX7_next_281 (by decide) (by have := byS_lt tz tf q; omega) (by omega) (fun c_281 => ?_) (fun c_281 => ?_)
                        · refine lv_iconst (v := nI 3) hx hb dX7_next_290 (by decide) ?_
                          refine lv_goto (tgt := 295) hx hb dX7_next_291 (by decide) ?_
                          refine va_put (D := D) (ci := 6) (v := .int (nI 3)) (C := RX7) (T := TX7) (N := 7) hx hb hts in_X7 tyX7 tyX7_ok nmX7 hown hG.1 hP hD hS 0 rfl rfl 4 (by decide) (hts _ q782) (fun _ h => h) rfl rfl (rfl) (rfl) (Nat.le_of_ble_eq_true rfl) dX7_next_295 (fun H locs hP hD hS => ?_)
                          have hP : va_P D CL [(r, .inr (6, [.ref tx, .int (nI tz), .int (nI (q + 1)), .int (nI q), .int (nI 3), .int (nI (byS tz tf q)), .ref w])), (tx, .inl (dA 1, 300, .inl tf))] H := hP
                          have hD : va_D A [(r, .inr (6, [.ref tx, .int (nI tz), .int (nI (q + 1)), .int (nI q), .int (nI 3), .int (nI (byS tz tf q)), .ref w])), (tx, .inl (dA 1, 300, .inl tf))] := hD
                          subst hQ
                          have e9 : nxT tz (byS tz tf) a v = (3, q, q + 1, byS tz tf q) := by simp only [nxT, hf]; rw [if_neg (by omega), if_neg ha, if_neg hd, if_pos (show sgnB (byS tz tf q) = true by simp [sgnB, c_263, c_269, c_275, c_281])]
                          have hL9 := nxL_eq tz (byS tz tf) a v
                          rw [e9] at hL9
                          dsimp only at hL9
                          refine W.widen (k := (4 + (nxL tz (byS tz tf) a))) (n := (40 + 5 * (nxL tz (byS tz tf) a))) (by omega) (by omega) ?_
                          have hP9 : va_P D CL (rdW dA r tx tz tf (nxT tz (byS tz tf) a v) w 0) H := by rw [e9, rdW_0 (show (3 : Nat) ≠ 1 by decide)]; exact hP.sub [0, 1] rfl
                          have hD9 : va_D A (rdW dA r tx tz tf (nxT tz (byS tz tf) a v) w 0) := by rw [e9, rdW_0 (show (3 : Nat) ≠ 1 by decide)]; exact hD.sub [0, 1] (by decide) rfl
                          exact W.vret hx hb hrt (fun t ht hW => ⟨⟨(w, 0), rfl, trivial, by rw [ht]; exact hP9, hD9, GK.warm hW hG⟩, hS.F ht⟩) hS.2.2 dX7_next_298
                        · refine lv_iload_n hx hb dX7_next_284 rfl (lv_at hl 0 rfl) ?_
                          refine lv_bipush (v := nI 59) hx hb dX7_next_285 (by decide) ?_
                          refine kn_cne (tgt := 294) hx hb dX7_next_287 (by decide) (by have := byS_lt tz tf q; omega) (by omega) (fun c_287 => ?_) (fun c_287 => ?_)
                          · refine lv_iconst (v := nI 4) hx hb dX7_next_294 (by decide) ?_
                            refine va_put (D := D) (ci := 6) (v := .int (nI 4)) (C := RX7) (T := TX7) (N := 7) hx hb hts in_X7 tyX7 tyX7_ok nmX7 hown hG.1 hP hD hS 0 rfl rfl 4 (by decide) (hts _ q782) (fun _ h => h) rfl rfl (rfl) (rfl) (Nat.le_of_ble_eq_true rfl) dX7_next_295 (fun H locs hP hD hS => ?_)
                            have hP : va_P D CL [(r, .inr (6, [.ref tx, .int (nI tz), .int (nI (q + 1)), .int (nI q), .int (nI 4), .int (nI (byS tz tf q)), .ref w])), (tx, .inl (dA 1, 300, .inl tf))] H := hP
                            have hD : va_D A [(r, .inr (6, [.ref tx, .int (nI tz), .int (nI (q + 1)), .int (nI q), .int (nI 4), .int (nI (byS tz tf q)), .ref w])), (tx, .inl (dA 1, 300, .inl tf))] := hD
                            subst hQ
                            have e9 : nxT tz (byS tz tf) a v = (4, q, q + 1, byS tz tf q) := by simp only [nxT, hf]; rw [if_neg (by omega), if_neg ha, if_neg hd, if_neg (show ¬ sgnB (byS tz tf q) = true by simp [sgnB, c_263, c_269, c_275, c_281, c_287])]
                            have hL9 := nxL_eq tz (byS tz tf) a v
                            rw [e9] at hL9
                            dsimp only at hL9
                            refine W.widen (k := (4 + (nxL tz (byS tz tf) a))) (n := (40 + 5 * (nxL tz (byS tz tf) a))) (by omega) (by omega) ?_
                            have hP9 : va_P D CL (rdW dA r tx tz tf (nxT tz (byS tz tf) a v) w 0) H := by rw [e9, rdW_0 (show (4 : Nat) ≠ 1 by decide)]; exact hP.sub [0, 1] rfl
                            have hD9 : va_D A (rdW dA r tx tz tf (nxT tz (byS tz tf) a v) w 0) := by rw [e9, rdW_0 (show (4 : Nat) ≠ 1 by decide)]; exact hD.sub [0, 1] (by decide) rfl
                            exact W.vret hx hb hrt (fun t ht hW => ⟨⟨(w, 0), rfl, trivial, by rw [ht]; exact hP9, hD9, GK.warm hW hG⟩, hS.F ht⟩) hS.2.2 dX7_next_298
                          · refine lv_iconst (v := nI 3) hx hb dX7_next_290 (by decide) ?_
                            refine lv_goto (tgt := 295) hx hb dX7_next_291 (by decide) ?_
                            refine va_put (D := D) (ci := 6) (v := .int (nI 3)) (C := RX7) (T := TX7) (N := 7) hx hb hts in_X7 tyX7 tyX7_ok nmX7 hown hG.1 hP hD hS 0 rfl rfl 4 (by decide) (hts _ q782) (fun _ h => h) rfl rfl (rfl) (rfl) (Nat.le_of_ble_eq_true rfl) dX7_next_295 (fun H locs hP hD hS => ?_)
                            have hP : va_P D CL [(r, .inr (6, [.ref tx, .int (nI tz), .int (nI (q + 1)), .int (nI q), .int (nI 3), .int (nI (byS tz tf q)), .ref w])), (tx, .inl (dA 1, 300, .inl tf))] H := hP
                            have hD : va_D A [(r, .inr (6, [.ref tx, .int (nI tz), .int (nI (q + 1)), .int (nI q), .int (nI 3), .int (nI (byS tz tf q)), .ref w])), (tx, .inl (dA 1, 300, .inl tf))] := hD
                            subst hQ
                            have e9 : nxT tz (byS tz tf) a v = (3, q, q + 1, byS tz tf q) := by simp only [nxT, hf]; rw [if_neg (by omega), if_neg ha, if_neg hd, if_pos (show sgnB (byS tz tf q) = true by simp [sgnB, c_263, c_269, c_275, c_281, c_287])]
                            have hL9 := nxL_eq tz (byS tz tf) a v
                            rw [e9] at hL9
                            dsimp only at hL9
                            refine W.widen (k := (4 + (nxL tz (byS tz tf) a))) (n := (40 + 5 * (nxL tz (byS tz tf) a))) (by omega) (by omega) ?_
                            have hP9 : va_P D CL (rdW dA r tx tz tf (nxT tz (byS tz tf) a v) w 0) H := by rw [e9, rdW_0 (show (3 : Nat) ≠ 1 by decide)]; exact hP.sub [0, 1] rfl
                            have hD9 : va_D A (rdW dA r tx tz tf (nxT tz (byS tz tf) a v) w 0) := by rw [e9, rdW_0 (show (3 : Nat) ≠ 1 by decide)]; exact hD.sub [0, 1] (by decide) rfl
                            exact W.vret hx hb hrt (fun t ht hW => ⟨⟨(w, 0), rfl, trivial, by rw [ht]; exact hP9, hD9, GK.warm hW hG⟩, hS.F ht⟩) hS.2.2 dX7_next_298
                · have hd : 48 ≤ byS tz tf q ∧ byS tz tf q ≤ 57 := by omega
                  refine lv_iconst (v := nI 0) hx hb dX7_next_162 (by decide) ?_
                  refine lv_istore_n (lv' := [(2, .int (nI 0)), (1, .int (nI (byS tz tf q))), (0, .ref r)]) hx hb dX7_next_163 rfl hl (by decide) rfl (fun ls hl => ?_)
                  refine lv_aload_n hx hb dX7_next_164 rfl (lv_at hl 2 rfl) ?_
                  refine lv_iconst (v := nI 0) hx hb dX7_next_165 (by decide) ?_
                  refine va_put (D := D) (ci := 6) (v := .int (nI 0)) (C := RX7) (T := TX7) (N := 7) hx hb hts in_X7 tyX7 tyX7_ok nmX7 hown hG.1 hP hD hS 0 rfl rfl 5 (by decide) (hts _ q783) (fun _ h => h) rfl rfl (rfl) (rfl) (Nat.le_of_ble_eq_true rfl) dX7_next_166 (fun H locs hP hD hS => ?_)
                  have hP : va_P D CL [(r, .inr (6, [.ref tx, .int (nI tz), .int (nI q), .int (nI q), .int (nI s0), .int (nI 0), .ref w])), (tx, .inl (dA 1, 300, .inl tf))] H := hP
                  have hD : va_D A [(r, .inr (6, [.ref tx, .int (nI tz), .int (nI q), .int (nI q), .int (nI s0), .int (nI 0), .ref w])), (tx, .inl (dA 1, 300, .inl tf))] := hD
                  have L169 : ∀ (nn169 : Nat) (k : Nat), (ruC (byS tz tf) 48 57 (tz - q) q = ruC (byS tz tf) 48 57 (tz - (q + k)) (q + k)) → (q + k ≤ tz) → (∀ j, j < k → 48 ≤ byS tz tf (q + j) ∧ byS tz tf (q + j) ≤ 57) → tz - (q + k) < nn169 → ∀ (H : Heap) (locs : List Loc), va_P D CL [(r, .inr (6, [.ref tx, .int (nI tz), .int (nI (q + k)), .int (nI q), .int (nI s0), .int (nI (vaC (byS tz tf) q k)), .ref w])), (tx, .inl (dA 1, 300, .inl tf))] H → va_D A [(r, .inr (6, [.ref tx, .int (nI tz), .int (nI (q + k)), .int (nI q), .int (nI s0), .int (nI (vaC (byS tz tf) q k)), .ref w])), (tx, .inl (dA 1, 300, .inl tf))] → va_S A s.heap H locs → ∀ (ls : Array Slot), lv_has ls 3 [(0, .ref r), (1, .int (nI (byS tz tf q))), (2, .int (nI k))] → W p lh e (r_X7_next (nxL tz (byS tz tf) a)) s m args below meth cd H locs 0 0 Q (F0 m 169 ls []) := by
                    intro nn169
                    induction nn169 with
                    | zero => intro k i169_0 i169_1 i169_2 hm169; exact absurd hm169 (Nat.not_lt_zero _)
                    | succ nn169 ih169 =>
                      intro k i169_0 i169_1 i169_2 hm169 H locs hP hD hS ls hl
                      refine lv_aload_n hx hb dX7_next_169 rfl (lv_at hl 0 rfl) ?_
                      by_cases hq3 : q + k < tz
                      · have hPs : va_P D CL ([(r, .inr (6, [.ref tx, .int (nI tz), .int (nI (q + k)), .int (nI q), .int (nI s0), .int (nI (vaC (byS tz tf) q k)), .ref w])), (tx, .inl (dA 1, 300, .inl tf))] ++ []) H := hP.sub [0, 1] rfl
                        refine vp_callSi (va_Run.call (va_runV (As := []) (rest := []) ⟨hx, hb, hml, hown, hts⟩ (c_X7_see_I lh D dA r tx tz tf (q + k) q s0 (vaC (byS tz tf) q k) w (hq3) (h1)) (w_X7_see hts q624 rfl rfl ⟨Nat.le_of_ble_eq_true rfl, Nat.le_of_ble_eq_true rfl⟩) ⟨PX.blind (Mv.and Mv.heap Mv.gk), (va_recv hG.1 hP (ci := 6) (q0 := 0) rfl rfl), PX.pre (Mv.and Mv.heap Mv.gk) ⟨(va_P_left hPs), hG⟩⟩ rfl rfl hl.1 rfl (lv_room (Nat.le_of_ble_eq_true rfl)) dX7_next_170 ⟨Nat.le_of_ble_eq_true rfl, by show _ ≤ (40 + 5 * (nxL tz (byS tz tf) a)); omega⟩)) (fun rr hrr => ?_)
                        subst hrr
                        refine kx_int (y := nI (byS tz tf (q + k))) (rfl) ?_
                        refine lv_bipush (v := nI 48) hx hb dX7_next_173 (by decide) ?_
                        refine kn_clt (tgt := 227) hx hb dX7_next_175 (by decide) (by have := byS_lt tz tf (q + k); omega) (by omega) (fun c_175 => ?_) (fun c_175 => ?_)
                        · have hnw : ¬ (48 ≤ byS tz tf (q + k) ∧ byS tz tf (q + k) ≤ 57) := by omega
                          have hro : ruC (byS tz tf) 48 57 (tz - q) q = q + k := by rw [i169_0]; exact ruC_stop hnw
                          refine lv_aload_n hx hb dX7_next_227 rfl (lv_at hl 0 rfl) ?_
                          refine lv_iload_n hx hb dX7_next_228 rfl (lv_at hl 2 rfl) ?_
                          refine lv_iconst (v := nI 4) hx hb dX7_next_229 (by decide) ?_
                          refine kn_cle (tgt := 237) hx hb dX7_next_230 (by decide) (by omega) (by omega) (fun c_230 => ?_) (fun c_230 => ?_)
                          · refine lv_iconst (v := nI 2) hx hb dX7_next_237 (by decide) ?_
                            refine va_put (D := D) (ci := 6) (v := .int (nI 2)) (C := RX7) (T := TX7) (N := 7) hx hb hts in_X7 tyX7 tyX7_ok nmX7 hown hG.1 hP hD hS 0 rfl rfl 4 (by decide) (hts _ q782) (fun _ h => h) rfl rfl (rfl) (rfl) (Nat.le_of_ble_eq_true rfl) dX7_next_238 (fun H locs hP hD hS => ?_)
                            have hP : va_P D CL [(r, .inr (6, [.ref tx, .int (nI tz), .int (nI (q + k)), .int (nI q), .int (nI 2), .int (nI (vaC (byS tz tf) q k)), .ref w])), (tx, .inl (dA 1, 300, .inl tf))] H := hP
                            have hD : va_D A [(r, .inr (6, [.ref tx, .int (nI tz), .int (nI (q + k)), .int (nI q), .int (nI 2), .int (nI (vaC (byS tz tf) q k)), .ref w])), (tx, .inl (dA 1, 300, .inl tf))] := hD
                            refine lv_goto (tgt := 298) hx hb dX7_next_241 (by decide) ?_
                            subst hQ
                            have e9 : nxT tz (byS tz tf) a v = (2, q, q + k, vaC (byS tz tf) q k) := by simp only [nxT, hf]; rw [if_neg (by omega), if_neg ha, if_pos hd]; simp only [hro]; rw [if_neg (by omega), show q + k - q = k by omega]
                            have hL9 := nxL_eq tz (byS tz tf) a v
                            rw [e9] at hL9
                            dsimp only at hL9
                            refine W.widen (k := (4 + (nxL tz (byS tz tf) a))) (n := (40 + 5 * (nxL tz (byS tz tf) a))) (by omega) (by omega) ?_
                            have hP9 : va_P D CL (rdW dA r tx tz tf (nxT tz (byS tz tf) a v) w 0) H := by rw [e9, rdW_0 (show (2 : Nat) ≠ 1 by decide)]; exact hP.sub [0, 1] rfl
                            have hD9 : va_D A (rdW dA r tx tz tf (nxT tz (byS tz tf) a v) w 0) := by rw [e9, rdW_0 (show (2 : Nat) ≠ 1 by decide)]; exact hD.sub [0, 1] (by decide) rfl
                            exact W.vret hx hb hrt (fun t ht hW => ⟨⟨(w, 0), rfl, trivial, by rw [ht]; exact hP9, hD9, GK.warm hW hG⟩, hS.F ht⟩) hS.2.2 dX7_next_298
                          · refine lv_iconst (v := nI 4) hx hb dX7_next_233 (by decide) ?_
                            refine lv_goto (tgt := 238) hx hb dX7_next_234 (by decide) ?_
                            refine va_put (D := D) (ci := 6) (v := .int (nI 4)) (C := RX7) (T := TX7) (N := 7) hx hb hts in_X7 tyX7 tyX7_ok nmX7 hown hG.1 hP hD hS 0 rfl rfl 4 (by decide) (hts _ q782) (fun _ h => h) rfl rfl (rfl) (rfl) (Nat.le_of_ble_eq_true rfl) dX7_next_238 (fun H locs hP hD hS => ?_)
                            have hP : va_P D CL [(r, .inr (6, [.ref tx, .int (nI tz), .int (nI (q + k)), .int (nI q), .int (nI 4), .int (nI (vaC (byS tz tf) q k)), .ref w])), (tx, .inl (dA 1, 300, .inl tf))] H := hP
                            have hD : va_D A [(r, .inr (6, [.ref tx, .int (nI tz), .int (nI (q + k)), .int (nI q), .int (nI 4), .int (nI (vaC (byS tz tf) q k)), .ref w])), (tx, .inl (dA 1, 300, .inl tf))] := hD
                            refine lv_goto (tgt := 298) hx hb dX7_next_241 (by decide) ?_
                            subst hQ
                            have e9 : nxT tz (byS tz tf) a v = (4, q, q + k, vaC (byS tz tf) q k) := by simp only [nxT, hf]; rw [if_neg (by omega), if_neg ha, if_pos hd]; simp only [hro]; rw [if_pos (by omega), show q + k - q = k by omega]
                            have hL9 := nxL_eq tz (byS tz tf) a v
                            rw [e9] at hL9
                            dsimp only at hL9
                            refine W.widen (k := (4 + (nxL tz (byS tz tf) a))) (n := (40 + 5 * (nxL tz (byS tz tf) a))) (by omega) (by omega) ?_
                            have hP9 : va_P D CL (rdW dA r tx tz tf (nxT tz (byS tz tf) a v) w 0) H := by rw [e9, rdW_0 (show (4 : Nat) ≠ 1 by decide)]; exact hP.sub [0, 1] rfl
                            have hD9 : va_D A (rdW dA r tx tz tf (nxT tz (byS tz tf) a v) w 0) := by rw [e9, rdW_0 (show (4 : Nat) ≠ 1 by decide)]; exact hD.sub [0, 1] (by decide) rfl
                            exact W.vret hx hb hrt (fun t ht hW => ⟨⟨(w, 0), rfl, trivial, by rw [ht]; exact hP9, hD9, GK.warm hW hG⟩, hS.F ht⟩) hS.2.2 dX7_next_298
                        · refine lv_aload_n hx hb dX7_next_178 rfl (lv_at hl 0 rfl) ?_
                          have hPs : va_P D CL ([(r, .inr (6, [.ref tx, .int (nI tz), .int (nI (q + k)), .int (nI q), .int (nI s0), .int (nI (vaC (byS tz tf) q k)), .ref w])), (tx, .inl (dA 1, 300, .inl tf))] ++ []) H := hP.sub [0, 1] rfl
                          refine vp_callSi (va_Run.call (va_runV (As := []) (rest := []) ⟨hx, hb, hml, hown, hts⟩ (c_X7_see_I lh D dA r tx tz tf (q + k) q s0 (vaC (byS tz tf) q k) w (hq3) (h1)) (w_X7_see hts q624 rfl rfl ⟨Nat.le_of_ble_eq_true rfl, Nat.le_of_ble_eq_true rfl⟩) ⟨PX.blind (Mv.and Mv.heap Mv.gk), (va_recv hG.1 hP (ci := 6) (q0 := 0) rfl rfl), PX.pre (Mv.and Mv.heap Mv.gk) ⟨(va_P_left hPs), hG⟩⟩ rfl rfl hl.1 rfl (lv_room (Nat.le_of_ble_eq_true rfl)) dX7_next_179 ⟨Nat.le_of_ble_eq_true rfl, by show _ ≤ (40 + 5 * (nxL tz (byS tz tf) a)); omega⟩)) (fun rr hrr => ?_)
                          subst hrr
                          refine kx_int (y := nI (byS tz tf (q + k))) (rfl) ?_
                          refine lv_bipush (v := nI 57) hx hb dX7_next_182 (by decide) ?_
                          refine kn_cgt (tgt := 227) hx hb dX7_next_184 (by decide) (by have := byS_lt tz tf (q + k); omega) (by omega) (fun c_184 => ?_) (fun c_184 => ?_)
                          · have hnw : ¬ (48 ≤ byS tz tf (q + k) ∧ byS tz tf (q + k) ≤ 57) := by omega
                            have hro : ruC (byS tz tf) 48 57 (tz - q) q = q + k := by rw [i169_0]; exact ruC_stop hnw
                            refine lv_aload_n hx hb dX7_next_227 rfl (lv_at hl 0 rfl) ?_
                            refine lv_iload_n hx hb dX7_next_228 rfl (lv_at hl 2 rfl) ?_
                            refine lv_iconst (v := nI 4) hx hb dX7_next_229 (by decide) ?_
                            refine kn_cle (tgt := 237) hx hb dX7_next_230 (by decide) (by omega) (by omega) (fun c_230 => ?_) (fun c_230 => ?_)
                            · refine lv_iconst (v := nI 2) hx hb dX7_next_237 (by decide) ?_
                              refine va_put (D := D) (ci := 6) (v := .int (nI 2)) (C := RX7) (T := TX7) (N := 7) hx hb hts in_X7 tyX7 tyX7_ok nmX7 hown hG.1 hP hD hS 0 rfl rfl 4 (by decide) (hts _ q782) (fun _ h => h) rfl rfl (rfl) (rfl) (Nat.le_of_ble_eq_true rfl) dX7_next_238 (fun H locs hP hD hS => ?_)
                              have hP : va_P D CL [(r, .inr (6, [.ref tx, .int (nI tz), .int (nI (q + k)), .int (nI q), .int (nI 2), .int (nI (vaC (byS tz tf) q k)), .ref w])), (tx, .inl (dA 1, 300, .inl tf))] H := hP
                              have hD : va_D A [(r, .inr (6, [.ref tx, .int (nI tz), .int (nI (q + k)), .int (nI q), .int (nI 2), .int (nI (vaC (byS tz tf) q k)), .ref w])), (tx, .inl (dA 1, 300, .inl tf))] := hD
                              refine lv_goto (tgt := 298) hx hb dX7_next_241 (by decide) ?_
                              subst hQ
                              have e9 : nxT tz (byS tz tf) a v = (2, q, q + k, vaC (byS tz tf) q k) := by simp only [nxT, hf]; rw [if_neg (by omega), if_neg ha, if_pos hd]; simp only [hro]; rw [if_neg (by omega), show q + k - q = k by omega]
                              have hL9 := nxL_eq tz (byS tz tf) a v
                              rw [e9] at hL9
                              dsimp only at hL9
                              refine W.widen (k := (4 + (nxL tz (byS tz tf) a))) (n := (40 + 5 * (nxL tz (byS tz tf) a))) (by omega) (by omega) ?_
                              have hP9 : va_P D CL (rdW dA r tx tz tf (nxT tz (byS tz tf) a v) w 0) H := by rw [e9, rdW_0 (show (2 : Nat) ≠ 1 by decide)]; exact hP.sub [0, 1] rfl
                              have hD9 : va_D A (rdW dA r tx tz tf (nxT tz (byS tz tf) a v) w 0) := by rw [e9, rdW_0 (show (2 : Nat) ≠ 1 by decide)]; exact hD.sub [0, 1] (by decide) rfl
                              exact W.vret hx hb hrt (fun t ht hW => ⟨⟨(w, 0), rfl, trivial, by rw [ht]; exact hP9, hD9, GK.warm hW hG⟩, hS.F ht⟩) hS.2.2 dX7_next_298
                            · refine lv_iconst (v := nI 4) hx hb dX7_next_233 (by decide) ?_
                              refine lv_goto (tgt := 238) hx hb dX7_next_234 (by decide) ?_
                              refine va_put (D := D) (ci := 6) (v := .int (nI 4)) (C := RX7) (T := TX7) (N := 7) hx hb hts in_X7 tyX7 tyX7_ok nmX7 hown hG.1 hP hD hS 0 rfl rfl 4 (by decide) (hts _ q782) (fun _ h => h) rfl rfl (rfl) (rfl) (Nat.le_of_ble_eq_true rfl) dX7_next_238 (fun H locs hP hD hS => ?_)
                              have hP : va_P D CL [(r, .inr (6, [.ref tx, .int (nI tz), .int (nI (q + k)), .int (nI q), .int (nI 4), .int (nI (vaC (byS tz tf) q k)), .ref w])), (tx, .inl (dA 1, 300, .inl tf))] H := hP
                              have hD : va_D A [(r, .inr (6, [.ref tx, .int (nI tz), .int (nI (q + k)), .int (nI q), .int (nI 4), .int (nI (vaC (byS tz tf) q k)), .ref w])), (tx, .inl (dA 1, 300, .inl tf))] := hD
                              refine lv_goto (tgt := 298) hx hb dX7_next_241 (by decide) ?_
                              subst hQ
                              have e9 : nxT tz (byS tz tf) a v = (4, q, q + k, vaC (byS tz tf) q k) := by simp only [nxT, hf]; rw [if_neg (by omega), if_neg ha, if_pos hd]; simp only [hro]; rw [if_pos (by omega), show q + k - q = k by omega]
                              have hL9 := nxL_eq tz (byS tz tf) a v
                              rw [e9] at hL9
                              dsimp only at hL9
                              refine W.widen (k := (4 + (nxL tz (byS tz tf) a))) (n := (40 + 5 * (nxL tz (byS tz tf) a))) (by omega) (by omega) ?_
                              have hP9 : va_P D CL (rdW dA r tx tz tf (nxT tz (byS tz tf) a v) w 0) H := by rw [e9, rdW_0 (show (4 : Nat) ≠ 1 by decide)]; exact hP.sub [0, 1] rfl
                              have hD9 : va_D A (rdW dA r tx tz tf (nxT tz (byS tz tf) a v) w 0) := by rw [e9, rdW_0 (show (4 : Nat) ≠ 1 by decide)]; exact hD.sub [0, 1] (by decide) rfl
                              exact W.vret hx hb hrt (fun t ht hW => ⟨⟨(w, 0), rfl, trivial, by rw [ht]; exact hP9, hD9, GK.warm hW hG⟩, hS.F ht⟩) hS.2.2 dX7_next_298
                          · have hw : 48 ≤ byS tz tf (q + k) ∧ byS tz tf (q + k) ≤ 57 := by omega
                            have hva := vaC_le (b := (byS tz tf)) (f := q) (n := k) i169_2
                            refine lv_iload_n hx hb dX7_next_187 rfl (lv_at hl 2 rfl) ?_
                            refine lv_iconst (v := nI 4) hx hb dX7_next_188 (by decide) ?_
                            refine kn_cge (tgt := 211) hx hb dX7_next_189 (by decide) (by omega) (by omega) (fun c_189 => ?_) (fun c_189 => ?_)
                            · have hP : va_P D CL [(r, .inr (6, [.ref tx, .int (nI tz), .int (nI (q + k)), .int (nI q), .int (nI s0), .int (nI (vaC (byS tz tf) q (k + 1))), .ref w])), (tx, .inl (dA 1, 300, .inl tf))] H := (show (vaC (byS tz tf) q k) = (vaC (byS tz tf) q (k + 1)) from by rw [vaC, if_neg (by omega)]) ▸ hP
                              have hD : va_D A [(r, .inr (6, [.ref tx, .int (nI tz), .int (nI (q + k)), .int (nI q), .int (nI s0), .int (nI (vaC (byS tz tf) q (k + 1))), .ref w])), (tx, .inl (dA 1, 300, .inl tf))] := (show (vaC (byS tz tf) q k) = (vaC (byS tz tf) q (k + 1)) from by rw [vaC, if_neg (by omega)]) ▸ hD
                              refine lv_iinc (v := nI (k + 1)) (lv' := [(2, .int (nI (k + 1))), (0, .ref r), (1, .int (nI (byS tz tf q)))]) hx hb dX7_next_211 hl (k := 2) rfl (show nI k + Int32.ofInt 1 = nI (k + 1) from nI_add _ 1) (by decide) rfl (fun ls hl => ?_)
                              refine lv_aload_n hx hb dX7_next_214 rfl (lv_at hl 1 rfl) ?_
                              refine lv_dup hx hb dX7_next_215 rfl ?_
                              refine va_get (D := D) (ci := 6) (v := .int (nI (q + k))) (C := RX7) (T := TX7) (N := 7) hx hb hts in_X7 hown hG.1 hP 0 rfl rfl 2 (by decide) (hts _ q780) (fun _ h => h) rfl dX7_next_216 ?_
                              refine lv_iconst (v := nI 1) hx hb dX7_next_219 (by decide) ?_
                              refine kn_add hx hb dX7_next_220 ?_
                              refine va_put (D := D) (ci := 6) (v := .int (nI (q + k + 1))) (C := RX7) (T := TX7) (N := 7) hx hb hts in_X7 tyX7 tyX7_ok nmX7 hown hG.1 hP hD hS 0 rfl rfl 2 (by decide) (hts _ q780) (fun _ h => h) rfl rfl (rfl) (rfl) (Nat.le_of_ble_eq_true rfl) dX7_next_221 (fun H locs hP hD hS => ?_)
                              have hP : va_P D CL [(r, .inr (6, [.ref tx, .int (nI tz), .int (nI (q + k + 1)), .int (nI q), .int (nI s0), .int (nI (vaC (byS tz tf) q (k + 1))), .ref w])), (tx, .inl (dA 1, 300, .inl tf))] H := hP
                              have hD : va_D A [(r, .inr (6, [.ref tx, .int (nI tz), .int (nI (q + k + 1)), .int (nI q), .int (nI s0), .int (nI (vaC (byS tz tf) q (k + 1))), .ref w])), (tx, .inl (dA 1, 300, .inl tf))] := hD
                              refine lv_goto (tgt := 169) hx hb dX7_next_224 (by decide) ?_
                              exact ih169 (k + 1) (by rw [i169_0]; exact ruC_go (by omega) hw) (by omega) (fun j hj => if e : j < k then i169_2 j e else (show j = k by omega) ▸ hw) (by omega) _ _ hP hD hS _ (lv_sub hl [1, 2, 0] rfl)
                            · refine lv_aload_n hx hb dX7_next_192 rfl (lv_at hl 0 rfl) ?_
                              refine lv_bipush (v := nI 10) hx hb dX7_next_193 (by decide) ?_
                              refine lv_aload_n hx hb dX7_next_195 rfl (lv_at hl 0 rfl) ?_
                              refine va_get (D := D) (ci := 6) (v := .int (nI (vaC (byS tz tf) q k))) (C := RX7) (T := TX7) (N := 7) hx hb hts in_X7 hown hG.1 hP 0 rfl rfl 5 (by decide) (hts _ q783) (fun _ h => h) rfl dX7_next_196 ?_
                              refine kn_mul hx hb dX7_next_199 ?_
                              refine lv_aload_n hx hb dX7_next_200 rfl (lv_at hl 0 rfl) ?_
                              have hPs : va_P D CL ([(r, .inr (6, [.ref tx, .int (nI tz), .int (nI (q + k)), .int (nI q), .int (nI s0), .int (nI (vaC (byS tz tf) q k)), .ref w])), (tx, .inl (dA 1, 300, .inl tf))] ++ []) H := hP.sub [0, 1] rfl
                              refine vp_callSi (va_Run.call (va_runV (As := []) (rest := [.int (nI (10 * (vaC (byS tz tf) q k))), .ref r]) ⟨hx, hb, hml, hown, hts⟩ (c_X7_see_I lh D dA r tx tz tf (q + k) q s0 (vaC (byS tz tf) q k) w (hq3) (h1)) (w_X7_see hts q624 rfl rfl ⟨Nat.le_of_ble_eq_true rfl, Nat.le_of_ble_eq_true rfl⟩) ⟨PX.blind (Mv.and Mv.heap Mv.gk), (va_recv hG.1 hP (ci := 6) (q0 := 0) rfl rfl), PX.pre (Mv.and Mv.heap Mv.gk) ⟨(va_P_left hPs), hG⟩⟩ rfl rfl hl.1 rfl (lv_room (Nat.le_of_ble_eq_true rfl)) dX7_next_201 ⟨Nat.le_of_ble_eq_true rfl, by show _ ≤ (40 + 5 * (nxL tz (byS tz tf) a)); omega⟩)) (fun rr hrr => ?_)
                              subst hrr
                              refine kx_int (y := nI (byS tz tf (q + k))) (rfl) ?_
                              refine kn_add hx hb dX7_next_204 ?_
                              refine lv_bipush (v := nI 48) hx hb dX7_next_205 (by decide) ?_
                              refine kn_sub hx hb dX7_next_207 (by omega) ?_
                              refine va_put (D := D) (ci := 6) (v := .int (nI (10 * (vaC (byS tz tf) q k) + (byS tz tf (q + k)) - 48))) (C := RX7) (T := TX7) (N := 7) hx hb hts in_X7 tyX7 tyX7_ok nmX7 hown hG.1 hP hD hS 0 rfl rfl 5 (by decide) (hts _ q783) (fun _ h => h) rfl rfl (rfl) (rfl) (Nat.le_of_ble_eq_true rfl) dX7_next_208 (fun H locs hP hD hS => ?_)
                              have hP : va_P D CL [(r, .inr (6, [.ref tx, .int (nI tz), .int (nI (q + k)), .int (nI q), .int (nI s0), .int (nI (10 * (vaC (byS tz tf) q k) + (byS tz tf (q + k)) - 48)), .ref w])), (tx, .inl (dA 1, 300, .inl tf))] H := hP
                              have hD : va_D A [(r, .inr (6, [.ref tx, .int (nI tz), .int (nI (q + k)), .int (nI q), .int (nI s0), .int (nI (10 * (vaC (byS tz tf) q k) + (byS tz tf (q + k)) - 48)), .ref w])), (tx, .inl (dA 1, 300, .inl tf))] := hD
                              have hP : va_P D CL [(r, .inr (6, [.ref tx, .int (nI tz), .int (nI (q + k)), .int (nI q), .int (nI s0), .int (nI (vaC (byS tz tf) q (k + 1))), .ref w])), (tx, .inl (dA 1, 300, .inl tf))] H := (show 10 * (vaC (byS tz tf) q k) + (byS tz tf (q + k)) - 48 = (vaC (byS tz tf) q (k + 1)) from by rw [vaC, if_pos (by omega)]) ▸ hP
                              have hD : va_D A [(r, .inr (6, [.ref tx, .int (nI tz), .int (nI (q + k)), .int (nI q), .int (nI s0), .int (nI (vaC (byS tz tf) q (k + 1))), .ref w])), (tx, .inl (dA 1, 300, .inl tf))] := (show 10 * (vaC (byS tz tf) q k) + (byS tz tf (q + k)) - 48 = (vaC (byS tz tf) q (k + 1)) from by rw [vaC, if_pos (by omega)]) ▸ hD
                              refine lv_iinc (v := nI (k + 1)) (lv' := [(2, .int (nI (k + 1))), (0, .ref r), (1, .int (nI (byS tz tf q)))]) hx hb dX7_next_211 hl (k := 2) rfl (show nI k + Int32.ofInt 1 = nI (k + 1) from nI_add _ 1) (by decide) rfl (fun ls hl => ?_)
                              refine lv_aload_n hx hb dX7_next_214 rfl (lv_at hl 1 rfl) ?_
                              refine lv_dup hx hb dX7_next_215 rfl ?_
                              refine va_get (D := D) (ci := 6) (v := .int (nI (q + k))) (C := RX7) (T := TX7) (N := 7) hx hb hts in_X7 hown hG.1 hP 0 rfl rfl 2 (by decide) (hts _ q780) (fun _ h => h) rfl dX7_next_216 ?_
                              refine lv_iconst (v := nI 1) hx hb dX7_next_219 (by decide) ?_
                              refine kn_add hx hb dX7_next_220 ?_
                              refine va_put (D := D) (ci := 6) (v := .int (nI (q + k + 1))) (C := RX7) (T := TX7) (N := 7) hx hb hts in_X7 tyX7 tyX7_ok nmX7 hown hG.1 hP hD hS 0 rfl rfl 2 (by decide) (hts _ q780) (fun _ h => h) rfl rfl (rfl) (rfl) (Nat.le_of_ble_eq_true rfl) dX7_next_221 (fun H locs hP hD hS => ?_)
                              have hP : va_P D CL [(r, .inr (6, [.ref tx, .int (nI tz), .int (nI (q + k + 1)), .int (nI q), .int (nI s0), .int (nI (vaC (byS tz tf) q (k + 1))), .ref w])), (tx, .inl (dA 1, 300, .inl tf))] H := hP
                              have hD : va_D A [(r, .inr (6, [.ref tx, .int (nI tz), .int (nI (q + k + 1)), .int (nI q), .int (nI s0), .int (nI (vaC (byS tz tf) q (k + 1))), .ref w])), (tx, .inl (dA 1, 300, .inl tf))] := hD
                              refine lv_goto (tgt := 169) hx hb dX7_next_224 (by decide) ?_
                              exact ih169 (k + 1) (by rw [i169_0]; exact ruC_go (by omega) hw) (by omega) (fun j hj => if e : j < k then i169_2 j e else (show j = k by omega) ▸ hw) (by omega) _ _ hP hD hS _ (lv_sub hl [1, 2, 0] rfl)
                      · have hPs : va_P D CL ([(r, .inr (6, [.ref tx, .int (nI tz), .int (nI (q + k)), .int (nI q), .int (nI s0), .int (nI (vaC (byS tz tf) q k)), .ref w])), (tx, .inl (dA 1, 300, .inl tf))] ++ []) H := hP.sub [0, 1] rfl
                        refine vp_callSi (va_Run.call (va_runV (As := []) (rest := []) ⟨hx, hb, hml, hown, hts⟩ (c_X7_see_E lh D dA r tx tz tf (q + k) q s0 (vaC (byS tz tf) q k) w (hq3) (by omega) (by omega)) (w_X7_see hts q624 rfl rfl ⟨Nat.le_of_ble_eq_true rfl, Nat.le_of_ble_eq_true rfl⟩) ⟨PX.blind (Mv.and Mv.heap Mv.gk), (va_recv hG.1 hP (ci := 6) (q0 := 0) rfl rfl), PX.pre (Mv.and Mv.heap Mv.gk) ⟨(va_P_left hPs), hG⟩⟩ rfl rfl hl.1 rfl (lv_room (Nat.le_of_ble_eq_true rfl)) dX7_next_170 ⟨Nat.le_of_ble_eq_true rfl, by show _ ≤ (40 + 5 * (nxL tz (byS tz tf) a)); omega⟩)) (fun rr hrr => ?_)
                        subst hrr
                        refine kx_int (y := (-1)) (rfl) ?_
                        refine lv_bipush (v := nI 48) hx hb dX7_next_173 (by decide) ?_
                        refine lv_icmp_lt (tgt := 227) hx hb dX7_next_175 (by decide) (fun c_175 => ?_) (fun c_175 => ?_)
                        · have hnw : ¬ (48 ≤ byS tz tf (q + k) ∧ byS tz tf (q + k) ≤ 57) := by rw [show byS tz tf (q + k) = 0 from if_neg hq3]; omega
                          have hro : ruC (byS tz tf) 48 57 (tz - q) q = q + k := by rw [i169_0]; exact ruC_stop hnw
                          refine lv_aload_n hx hb dX7_next_227 rfl (lv_at hl 0 rfl) ?_
                          refine lv_iload_n hx hb dX7_next_228 rfl (lv_at hl 2 rfl) ?_
                          refine lv_iconst (v := nI 4) hx hb dX7_next_229 (by decide) ?_
                          refine kn_cle (tgt := 237) hx hb dX7_next_230 (by decide) (by omega) (by omega) (fun c_230 => ?_) (fun c_230 => ?_)
                          · refine lv_iconst (v := nI 2) hx hb dX7_next_237 (by decide) ?_
                            refine va_put (D := D) (ci := 6) (v := .int (nI 2)) (C := RX7) (T := TX7) (N := 7) hx hb hts in_X7 tyX7 tyX7_ok nmX7 hown hG.1 hP hD hS 0 rfl rfl 4 (by decide) (hts _ q782) (fun _ h => h) rfl rfl (rfl) (rfl) (Nat.le_of_ble_eq_true rfl) dX7_next_238 (fun H locs hP hD hS => ?_)
                            have hP : va_P D CL [(r, .inr (6, [.ref tx, .int (nI tz), .int (nI (q + k)), .int (nI q), .int (nI 2), .int (nI (vaC (byS tz tf) q k)), .ref w])), (tx, .inl (dA 1, 300, .inl tf))] H := hP
                            have hD : va_D A [(r, .inr (6, [.ref tx, .int (nI tz), .int (nI (q + k)), .int (nI q), .int (nI 2), .int (nI (vaC (byS tz tf) q k)), .ref w])), (tx, .inl (dA 1, 300, .inl tf))] := hD
                            refine lv_goto (tgt := 298) hx hb dX7_next_241 (by decide) ?_
                            subst hQ
                            have e9 : nxT tz (byS tz tf) a v = (2, q, q + k, vaC (byS tz tf) q k) := by simp only [nxT, hf]; rw [if_neg (by omega), if_neg ha, if_pos hd]; simp only [hro]; rw [if_neg (by omega), show q + k - q = k by omega]
                            have hL9 := nxL_eq tz (byS tz tf) a v
                            rw [e9] at hL9
                            dsimp only at hL9
                            refine W.widen (k := (4 + (nxL tz (byS tz tf) a))) (n := (40 + 5 * (nxL tz (byS tz tf) a))) (by omega) (by omega) ?_
                            have hP9 : va_P D CL (rdW dA r tx tz tf (nxT tz (byS tz tf) a v) w 0) H := by rw [e9, rdW_0 (show (2 : Nat) ≠ 1 by decide)]; exact hP.sub [0, 1] rfl
                            have hD9 : va_D A (rdW dA r tx tz tf (nxT tz (byS tz tf) a v) w 0) := by rw [e9, rdW_0 (show (2 : Nat) ≠ 1 by decide)]; exact hD.sub [0, 1] (by decide) rfl
                            exact W.vret hx hb hrt (fun t ht hW => ⟨⟨(w, 0), rfl, trivial, by rw [ht]; exact hP9, hD9, GK.warm hW hG⟩, hS.F ht⟩) hS.2.2 dX7_next_298
                          · refine lv_iconst (v := nI 4) hx hb dX7_next_233 (by decide) ?_
                            refine lv_goto (tgt := 238) hx hb dX7_next_234 (by decide) ?_
                            refine va_put (D := D) (ci := 6) (v := .int (nI 4)) (C := RX7) (T := TX7) (N := 7) hx hb hts in_X7 tyX7 tyX7_ok nmX7 hown hG.1 hP hD hS 0 rfl rfl 4 (by decide) (hts _ q782) (fun _ h => h) rfl rfl (rfl) (rfl) (Nat.le_of_ble_eq_true rfl) dX7_next_238 (fun H locs hP hD hS => ?_)
                            have hP : va_P D CL [(r, .inr (6, [.ref tx, .int (nI tz), .int (nI (q + k)), .int (nI q), .int (nI 4), .int (nI (vaC (byS tz tf) q k)), .ref w])), (tx, .inl (dA 1, 300, .inl tf))] H := hP
                            have hD : va_D A [(r, .inr (6, [.ref tx, .int (nI tz), .int (nI (q + k)), .int (nI q), .int (nI 4), .int (nI (vaC (byS tz tf) q k)), .ref w])), (tx, .inl (dA 1, 300, .inl tf))] := hD
                            refine lv_goto (tgt := 298) hx hb dX7_next_241 (by decide) ?_
                            subst hQ
                            have e9 : nxT tz (byS tz tf) a v = (4, q, q + k, vaC (byS tz tf) q k) := by simp only [nxT, hf]; rw [if_neg (by omega), if_neg ha, if_pos hd]; simp only [hro]; rw [if_pos (by omega), show q + k - q = k by omega]
                            have hL9 := nxL_eq tz (byS tz tf) a v
                            rw [e9] at hL9
                            dsimp only at hL9
                            refine W.widen (k := (4 + (nxL tz (byS tz tf) a))) (n := (40 + 5 * (nxL tz (byS tz tf) a))) (by omega) (by omega) ?_
                            have hP9 : va_P D CL (rdW dA r tx tz tf (nxT tz (byS tz tf) a v) w 0) H := by rw [e9, rdW_0 (show (4 : Nat) ≠ 1 by decide)]; exact hP.sub [0, 1] rfl
                            have hD9 : va_D A (rdW dA r tx tz tf (nxT tz (byS tz tf) a v) w 0) := by rw [e9, rdW_0 (show (4 : Nat) ≠ 1 by decide)]; exact hD.sub [0, 1] (by decide) rfl
                            exact W.vret hx hb hrt (fun t ht hW => ⟨⟨(w, 0), rfl, trivial, by rw [ht]; exact hP9, hD9, GK.warm hW hG⟩, hS.F ht⟩) hS.2.2 dX7_next_298
                        · exact absurd (by decide) c_175
                  exact L169 _ 0 (rfl) (by omega) (fun j hj => absurd hj (Nat.not_lt_zero j)) (Nat.lt_succ_self _) _ _ hP hD hS _ (lv_sub hl [2, 1, 0] rfl)
            · refine lv_iload_n hx hb dX7_next_63 rfl (lv_at hl 0 rfl) ?_
              refine lv_bipush (v := nI 122) hx hb dX7_next_64 (by decide) ?_
              refine kn_cgt (tgt := 150) hx hb dX7_next_66 (by decide) (by have := byS_lt tz tf q; omega) (by omega) (fun c_66 => ?_) (fun c_66 => ?_)
              · have ha : ¬ (97 ≤ byS tz tf q ∧ byS tz tf q ≤ 122) := by omega
                refine lv_iload_n hx hb dX7_next_150 rfl (lv_at hl 0 rfl) ?_
                refine lv_bipush (v := nI 48) hx hb dX7_next_151 (by decide) ?_
                refine kn_clt (tgt := 244) hx hb dX7_next_153 (by decide) (by have := byS_lt tz tf q; omega) (by omega) (fun c_153 => ?_) (fun c_153 => ?_)
                · have hd : ¬ (48 ≤ byS tz tf q ∧ byS tz tf q ≤ 57) := by omega
                  refine lv_aload_n hx hb dX7_next_244 rfl (lv_at hl 1 rfl) ?_
                  refine lv_dup hx hb dX7_next_245 rfl ?_
                  refine va_get (D := D) (ci := 6) (v := .int (nI q)) (C := RX7) (T := TX7) (N := 7) hx hb hts in_X7 hown hG.1 hP 0 rfl rfl 2 (by decide) (hts _ q780) (fun _ h => h) rfl dX7_next_246 ?_
                  refine lv_iconst (v := nI 1) hx hb dX7_next_249 (by decide) ?_
                  refine kn_add hx hb dX7_next_250 ?_
                  refine va_put (D := D) (ci := 6) (v := .int (nI (q + 1))) (C := RX7) (T := TX7) (N := 7) hx hb hts in_X7 tyX7 tyX7_ok nmX7 hown hG.1 hP hD hS 0 rfl rfl 2 (by decide) (hts _ q780) (fun _ h => h) rfl rfl (rfl) (rfl) (Nat.le_of_ble_eq_true rfl) dX7_next_251 (fun H locs hP hD hS => ?_)
                  have hP : va_P D CL [(r, .inr (6, [.ref tx, .int (nI tz), .int (nI (q + 1)), .int (nI q), .int (nI s0), .int (nI v), .ref w])), (tx, .inl (dA 1, 300, .inl tf))] H := hP
                  have hD : va_D A [(r, .inr (6, [.ref tx, .int (nI tz), .int (nI (q + 1)), .int (nI q), .int (nI s0), .int (nI v), .ref w])), (tx, .inl (dA 1, 300, .inl tf))] := hD
                  refine lv_aload_n hx hb dX7_next_254 rfl (lv_at hl 1 rfl) ?_
                  refine lv_iload_n hx hb dX7_next_255 rfl (lv_at hl 0 rfl) ?_
                  refine va_put (D := D) (ci := 6) (v := .int (nI (byS tz tf q))) (C := RX7) (T := TX7) (N := 7) hx hb hts in_X7 tyX7 tyX7_ok nmX7 hown hG.1 hP hD hS 0 rfl rfl 5 (by decide) (hts _ q783) (fun _ h => h) rfl rfl (rfl) (rfl) (Nat.le_of_ble_eq_true rfl) dX7_next_256 (fun H locs hP hD hS => ?_)
                  have hP : va_P D CL [(r, .inr (6, [.ref tx, .int (nI tz), .int (nI (q + 1)), .int (nI q), .int (nI s0), .int (nI (byS tz tf q)), .ref w])), (tx, .inl (dA 1, 300, .inl tf))] H := hP
                  have hD : va_D A [(r, .inr (6, [.ref tx, .int (nI tz), .int (nI (q + 1)), .int (nI q), .int (nI s0), .int (nI (byS tz tf q)), .ref w])), (tx, .inl (dA 1, 300, .inl tf))] := hD
                  refine lv_aload_n hx hb dX7_next_259 rfl (lv_at hl 1 rfl) ?_
                  refine lv_iload_n hx hb dX7_next_260 rfl (lv_at hl 0 rfl) ?_
                  refine lv_bipush (v := nI 60) hx hb dX7_next_261 (by decide) ?_
                  refine kn_ceq (tgt := 290) hx hb dX7_next_263 (by decide) (by have := byS_lt tz tf q; omega) (by omega) (fun c_263 => ?_) (fun c_263 => ?_)
                  · refine lv_iconst (v := nI 3) hx hb dX7_next_290 (by decide) ?_
                    refine lv_goto (tgt := 295) hx hb dX7_next_291 (by decide) ?_
                    refine va_put (D := D) (ci := 6) (v := .int (nI 3)) (C := RX7) (T := TX7) (N := 7) hx hb hts in_X7 tyX7 tyX7_ok nmX7 hown hG.1 hP hD hS 0 rfl rfl 4 (by decide) (hts _ q782) (fun _ h => h) rfl rfl (rfl) (rfl) (Nat.le_of_ble_eq_true rfl) dX7_next_295 (fun H locs hP hD hS => ?_)
                    have hP : va_P D CL [(r, .inr (6, [.ref tx, .int (nI tz), .int (nI (q + 1)), .int (nI q), .int (nI 3), .int (nI (byS tz tf q)), .ref w])), (tx, .inl (dA 1, 300, .inl tf))] H := hP
                    have hD : va_D A [(r, .inr (6, [.ref tx, .int (nI tz), .int (nI (q + 1)), .int (nI q), .int (nI 3), .int (nI (byS tz tf q)), .ref w])), (tx, .inl (dA 1, 300, .inl tf))] := hD
                    subst hQ
                    have e9 : nxT tz (byS tz tf) a v = (3, q, q + 1, byS tz tf q) := by simp only [nxT, hf]; rw [if_neg (by omega), if_neg ha, if_neg hd, if_pos (show sgnB (byS tz tf q) = true by simp [sgnB, c_263])]
                    have hL9 := nxL_eq tz (byS tz tf) a v
                    rw [e9] at hL9
                    dsimp only at hL9
                    refine W.widen (k := (4 + (nxL tz (byS tz tf) a))) (n := (40 + 5 * (nxL tz (byS tz tf) a))) (by omega) (by omega) ?_
                    have hP9 : va_P D CL (rdW dA r tx tz tf (nxT tz (byS tz tf) a v) w 0) H := by rw [e9, rdW_0 (show (3 : Nat) ≠ 1 by decide)]; exact hP.sub [0, 1] rfl
                    have hD9 : va_D A (rdW dA r tx tz tf (nxT tz (byS tz tf) a v) w 0) := by rw [e9, rdW_0 (show (3 : Nat) ≠ 1 by decide)]; exact hD.sub [0, 1] (by decide) rfl
                    exact W.vret hx hb hrt (fun t ht hW => ⟨⟨(w, 0), rfl, trivial, by rw [ht]; exact hP9, hD9, GK.warm hW hG⟩, hS.F ht⟩) hS.2.2 dX7_next_298
                  · refine lv_iload_n hx hb dX7_next_266 rfl (lv_at hl 0 rfl) ?_
                    refine lv_bipush (v := nI 61) hx hb dX7_next_267 (by decide) ?_
                    refine kn_ceq (tgt := 290) hx hb dX7_next_269 (by decide) (by have := byS_lt tz tf q; omega) (by omega) (fun c_269 => ?_) (fun c_269 => ?_)
                    · refine lv_iconst (v := nI 3) hx hb dX7_next_290 (by decide) ?_
                      refine lv_goto (tgt := 295) hx hb dX7_next_291 (by decide) ?_
                      refine va_put (D := D) (ci := 6) (v := .int (nI 3)) (C := RX7) (T := TX7) (N := 7) hx hb hts in_X7 tyX7 tyX7_ok nmX7 hown hG.1 hP hD hS 0 rfl rfl 4 (by decide) (hts _ q782) (fun _ h => h) rfl rfl (rfl) (rfl) (Nat.le_of_ble_eq_true rfl) dX7_next_295 (fun H locs hP hD hS => ?_)
                      have hP : va_P D CL [(r, .inr (6, [.ref tx, .int (nI tz), .int (nI (q + 1)), .int (nI q), .int (nI 3), .int (nI (byS tz tf q)), .ref w])), (tx, .inl (dA 1, 300, .inl tf))] H := hP
                      have hD : va_D A [(r, .inr (6, [.ref tx, .int (nI tz), .int (nI (q + 1)), .int (nI q), .int (nI 3), .int (nI (byS tz tf q)), .ref w])), (tx, .inl (dA 1, 300, .inl tf))] := hD
                      subst hQ
                      have e9 : nxT tz (byS tz tf) a v = (3, q, q + 1, byS tz tf q) := by simp only [nxT, hf]; rw [if_neg (by omega), if_neg ha, if_neg hd, if_pos (show sgnB (byS tz tf q) = true by simp [sgnB, c_263, c_269])]
                      have hL9 := nxL_eq tz (byS tz tf) a v
                      rw [e9] at hL9
                      dsimp only at hL9
                      refine W.widen (k := (4 + (nxL tz (byS tz tf) a))) (n := (40 + 5 * (nxL tz (byS tz tf) a))) (by omega) (by omega) ?_
                      have hP9 : va_P D CL (rdW dA r tx tz tf (nxT tz (byS tz tf) a v) w 0) H := by rw [e9, rdW_0 (show (3 : Nat) ≠ 1 by decide)]; exact hP.sub [0, 1] rfl
                      have hD9 : va_D A (rdW dA r tx tz tf (nxT tz (byS tz tf) a v) w 0) := by rw [e9, rdW_0 (show (3 : Nat) ≠ 1 by decide)]; exact hD.sub [0, 1] (by decide) rfl
                      exact W.vret hx hb hrt (fun t ht hW => ⟨⟨(w, 0), rfl, trivial, by rw [ht]; exact hP9, hD9, GK.warm hW hG⟩, hS.F ht⟩) hS.2.2 dX7_next_298
                    · refine lv_iload_n hx hb dX7_next_272 rfl (lv_at hl 0 rfl) ?_
                      refine lv_bipush (v := nI 62) hx hb dX7_next_273 (by decide) ?_
                      refine kn_ceq (tgt := 290) hx hb dX7_next_275 (by decide) (by have := byS_lt tz tf q; omega) (by omega) (fun c_275 => ?_) (fun c_275 => ?_)
                      · refine lv_iconst (v := nI 3) hx hb dX7_next_290 (by decide) ?_
                        refine lv_goto (tgt := 295) hx hb dX7_next_291 (by decide) ?_
                        refine va_put (D := D) (ci := 6) (v := .int (nI 3)) (C := RX7) (T := TX7) (N := 7) hx hb hts in_X7 tyX7 tyX7_ok nmX7 hown hG.1 hP hD hS 0 rfl rfl 4 (by decide) (hts _ q782) (fun _ h => h) rfl rfl (rfl) (rfl) (Nat.le_of_ble_eq_true rfl) dX7_next_295 (fun H locs hP hD hS => ?_)
                        have hP : va_P D CL [(r, .inr (6, [.ref tx, .int (nI tz), .int (nI (q + 1)), .int (nI q), .int (nI 3), .int (nI (byS tz tf q)), .ref w])), (tx, .inl (dA 1, 300, .inl tf))] H := hP
                        have hD : va_D A [(r, .inr (6, [.ref tx, .int (nI tz), .int (nI (q + 1)), .int (nI q), .int (nI 3), .int (nI (byS tz tf q)), .ref w])), (tx, .inl (dA 1, 300, .inl tf))] := hD
                        subst hQ
                        have e9 : nxT tz (byS tz tf) a v = (3, q, q + 1, byS tz tf q) := by simp only [nxT, hf]; rw [if_neg (by omega), if_neg ha, if_neg hd, if_pos (show sgnB (byS tz tf q) = true by simp [sgnB, c_263, c_269, c_275])]
                        have hL9 := nxL_eq tz (byS tz tf) a v
                        rw [e9] at hL9
                        dsimp only at hL9
                        refine W.widen (k := (4 + (nxL tz (byS tz tf) a))) (n := (40 + 5 * (nxL tz (byS tz tf) a))) (by omega) (by omega) ?_
                        have hP9 : va_P D CL (rdW dA r tx tz tf (nxT tz (byS tz tf) a v) w 0) H := by rw [e9, rdW_0 (show (3 : Nat) ≠ 1 by decide)]; exact hP.sub [0, 1] rfl
                        have hD9 : va_D A (rdW dA r tx tz tf (nxT tz (byS tz tf) a v) w 0) := by rw [e9, rdW_0 (show (3 : Nat) ≠ 1 by decide)]; exact hD.sub [0, 1] (by decide) rfl
                        exact W.vret hx hb hrt (fun t ht hW => ⟨⟨(w, 0), rfl, trivial, by rw [ht]; exact hP9, hD9, GK.warm hW hG⟩, hS.F ht⟩) hS.2.2 dX7_next_298
                      · refine lv_iload_n hx hb dX7_next_278 rfl (lv_at hl 0 rfl) ?_
                        refine lv_bipush (v := nI 58) hx hb dX7_next_279 (by decide) ?_
                        refine kn_ceq (tgt := 290) hx hb dX7_next_281 (by decide) (by have := byS_lt tz tf q; omega) (by omega) (fun c_281 => ?_) (fun c_281 => ?_)
                        · refine lv_iconst (v := nI 3) hx hb dX7_next_290 (by decide) ?_
                          refine lv_goto (tgt := 295) hx hb dX7_next_291 (by decide) ?_
                          refine va_put (D := D) (ci := 6) (v := .int (nI 3)) (C := RX7) (T := TX7) (N := 7) hx hb hts in_X7 tyX7 tyX7_ok nmX7 hown hG.1 hP hD hS 0 rfl rfl 4 (by decide) (hts _ q782) (fun _ h => h) rfl rfl (rfl) (rfl) (Nat.le_of_ble_eq_true rfl) dX7_next_295 (fun H locs hP hD hS => ?_)
                          have hP : va_P D CL [(r, .inr (6, [.ref tx, .int (nI tz), .int (nI (q + 1)), .int (nI q), .int (nI 3), .int (nI (byS tz tf q)), .ref w])), (tx, .inl (dA 1, 300, .inl tf))] H := hP
                          have hD : va_D A [(r, .inr (6, [.ref tx, .int (nI tz), .int (nI (q + 1)), .int (nI q), .int (nI 3), .int (nI (byS tz tf q)), .ref w])), (tx, .inl (dA 1, 300, .inl tf))] := hD
                          subst hQ
                          have e9 : nxT tz (byS tz tf) a v = (3, q, q + 1, byS tz tf q) := by simp only [nxT, hf]; rw [if_neg (by omega), if_neg ha, if_neg hd, if_pos (show sgnB (byS tz tf q) = true by simp [sgnB, c_263, c_269, c_275, c_281])]
                          have hL9 := nxL_eq tz (byS tz tf) a v
                          rw [e9] at hL9
                          dsimp only at hL9
                          refine W.widen (k := (4 + (nxL tz (byS tz tf) a))) (n := (40 + 5 * (nxL tz (byS tz tf) a))) (by omega) (by omega) ?_
                          have hP9 : va_P D CL (rdW dA r tx tz tf (nxT tz (byS tz tf) a v) w 0) H := by rw [e9, rdW_0 (show (3 : Nat) ≠ 1 by decide)]; exact hP.sub [0, 1] rfl
                          have hD9 : va_D A (rdW dA r tx tz tf (nxT tz (byS tz tf) a v) w 0) := by rw [e9, rdW_0 (show (3 : Nat) ≠ 1 by decide)]; exact hD.sub [0, 1] (by decide) rfl
                          exact W.vret hx hb hrt (fun t ht hW => ⟨⟨(w, 0), rfl, trivial, by rw [ht]; exact hP9, hD9, GK.warm hW hG⟩, hS.F ht⟩) hS.2.2 dX7_next_298
                        · refine lv_iload_n hx hb dX7_next_284 rfl (lv_at hl 0 rfl) ?_
                          refine lv_bipush (v := nI 59) hx hb dX7_next_285 (by decide) ?_
                          refine kn_cne (tgt := 294) hx hb dX7_next_287 (by decide) (by have := byS_lt tz tf q; omega) (by omega) (fun c_287 => ?_) (fun c_287 => ?_)
                          · refine lv_iconst (v := nI 4) hx hb dX7_next_294 (by decide) ?_
                            refine va_put (D := D) (ci := 6) (v := .int (nI 4)) (C := RX7) (T := TX7) (N := 7) hx hb hts in_X7 tyX7 tyX7_ok nmX7 hown hG.1 hP hD hS 0 rfl rfl 4 (by decide) (hts _ q782) (fun _ h => h) rfl rfl (rfl) (rfl) (Nat.le_of_ble_eq_true rfl) dX7_next_295 (fun H locs hP hD hS => ?_)
                            have hP : va_P D CL [(r, .inr (6, [.ref tx, .int (nI tz), .int (nI (q + 1)), .int (nI q), .int (nI 4), .int (nI (byS tz tf q)), .ref w])), (tx, .inl (dA 1, 300, .inl tf))] H := hP
                            have hD : va_D A [(r, .inr (6, [.ref tx, .int (nI tz), .int (nI (q + 1)), .int (nI q), .int (nI 4), .int (nI (byS tz tf q)), .ref w])), (tx, .inl (dA 1, 300, .inl tf))] := hD
                            subst hQ
                            have e9 : nxT tz (byS tz tf) a v = (4, q, q + 1, byS tz tf q) := by simp only [nxT, hf]; rw [if_neg (by omega), if_neg ha, if_neg hd, if_neg (show ¬ sgnB (byS tz tf q) = true by simp [sgnB, c_263, c_269, c_275, c_281, c_287])]
                            have hL9 := nxL_eq tz (byS tz tf) a v
                            rw [e9] at hL9
                            dsimp only at hL9
                            refine W.widen (k := (4 + (nxL tz (byS tz tf) a))) (n := (40 + 5 * (nxL tz (byS tz tf) a))) (by omega) (by omega) ?_
                            have hP9 : va_P D CL (rdW dA r tx tz tf (nxT tz (byS tz tf) a v) w 0) H := by rw [e9, rdW_0 (show (4 : Nat) ≠ 1 by decide)]; exact hP.sub [0, 1] rfl
                            have hD9 : va_D A (rdW dA r tx tz tf (nxT tz (byS tz tf) a v) w 0) := by rw [e9, rdW_0 (show (4 : Nat) ≠ 1 by decide)]; exact hD.sub [0, 1] (by decide) rfl
                            exact W.vret hx hb hrt (fun t ht hW => ⟨⟨(w, 0), rfl, trivial, by rw [ht]; exact hP9, hD9, GK.warm hW hG⟩, hS.F ht⟩) hS.2.2 dX7_next_298
                          · refine lv_iconst (v := nI 3) hx hb dX7_next_290 (by decide) ?_
                            refine lv_goto (tgt := 295) hx hb dX7_next_291 (by decide) ?_
                            refine va_put (D := D) (ci := 6) (v := .int (nI 3)) (C := RX7) (T := TX7) (N := 7) hx hb hts in_X7 tyX7 tyX7_ok nmX7 hown hG.1 hP hD hS 0 rfl rfl 4 (by decide) (hts _ q782) (fun _ h => h) rfl rfl (rfl) (rfl) (Nat.le_of_ble_eq_true rfl) dX7_next_295 (fun H locs hP hD hS => ?_)
                            have hP : va_P D CL [(r, .inr (6, [.ref tx, .int (nI tz), .int (nI (q + 1)), .int (nI q), .int (nI 3), .int (nI (byS tz tf q)), .ref w])), (tx, .inl (dA 1, 300, .inl tf))] H := hP
                            have hD : va_D A [(r, .inr (6, [.ref tx, .int (nI tz), .int (nI (q + 1)), .int (nI q), .int (nI 3), .int (nI (byS tz tf q)), .ref w])), (tx, .inl (dA 1, 300, .inl tf))] := hD
                            subst hQ
                            have e9 : nxT tz (byS tz tf) a v = (3, q, q + 1, byS tz tf q) := by simp only [nxT, hf]; rw [if_neg (by omega), if_neg ha, if_neg hd, if_pos (show sgnB (byS tz tf q) = true by simp [sgnB, c_263, c_269, c_275, c_281, c_287])]
                            have hL9 := nxL_eq tz (byS tz tf) a v
                            rw [e9] at hL9
                            dsimp only at hL9
                            refine W.widen (k := (4 + (nxL tz (byS tz tf) a))) (n := (40 + 5 * (nxL tz (byS tz tf) a))) (by omega) (by omega) ?_
                            have hP9 : va_P D CL (rdW dA r tx tz tf (nxT tz (byS tz tf) a v) w 0) H := by rw [e9, rdW_0 (show (3 : Nat) ≠ 1 by decide)]; exact hP.sub [0, 1] rfl
                            have hD9 : va_D A (rdW dA r tx tz tf (nxT tz (byS tz tf) a v) w 0) := by rw [e9, rdW_0 (show (3 : Nat) ≠ 1 by decide)]; exact hD.sub [0, 1] (by decide) rfl
                            exact W.vret hx hb hrt (fun t ht hW => ⟨⟨(w, 0), rfl, trivial, by rw [ht]; exact hP9, hD9, GK.warm hW hG⟩, hS.F ht⟩) hS.2.2 dX7_next_298
                · refine lv_iload_n hx hb dX7_next_156 rfl (lv_at hl 0 rfl) ?_
                  refine lv_bipush (v := nI 57) hx hb dX7_next_157 (by decide) ?_
                  refine kn_cgt (tgt := 244) hx hb dX7_next_159 (by decide) (by have := byS_lt tz tf q; omega) (by omega) (fun c_159 => ?_) (fun c_159 => ?_)
                  · have hd : ¬ (48 ≤ byS tz tf q ∧ byS tz tf q ≤ 57) := by omega
                    refine lv_aload_n hx hb dX7_next_244 rfl (lv_at hl 1 rfl) ?_
                    refine lv_dup hx hb dX7_next_245 rfl ?_
                    refine va_get (D := D) (ci := 6) (v := .int (nI q)) (C := RX7) (T := TX7) (N := 7) hx hb hts in_X7 hown hG.1 hP 0 rfl rfl 2 (by decide) (hts _ q780) (fun _ h => h) rfl dX7_next_246 ?_
                    refine lv_iconst (v := nI 1) hx hb dX7_next_249 (by decide) ?_
                    refine kn_add hx hb dX7_next_250 ?_
                    refine va_put (D := D) (ci := 6) (v := .int (nI (q + 1))) (C := RX7) (T := TX7) (N := 7) hx hb hts in_X7 tyX7 tyX7_ok nmX7 hown hG.1 hP hD hS 0 rfl rfl 2 (by decide) (hts _ q780) (fun _ h => h) rfl rfl (rfl) (rfl) (Nat.le_of_ble_eq_true rfl) dX7_next_251 (fun H locs hP hD hS => ?_)
                    have hP : va_P D CL [(r, .inr (6, [.ref tx, .int (nI tz), .int (nI (q + 1)), .int (nI q), .int (nI s0), .int (nI v), .ref w])), (tx, .inl (dA 1, 300, .inl tf))] H := hP
                    have hD : va_D A [(r, .inr (6, [.ref tx, .int (nI tz), .int (nI (q + 1)), .int (nI q), .int (nI s0), .int (nI v), .ref w])), (tx, .inl (dA 1, 300, .inl tf))] := hD
                    refine lv_aload_n hx hb dX7_next_254 rfl (lv_at hl 1 rfl) ?_
                    refine lv_iload_n hx hb dX7_next_255 rfl (lv_at hl 0 rfl) ?_
                    refine va_put (D := D) (ci := 6) (v := .int (nI (byS tz tf q))) (C := RX7) (T := TX7) (N := 7) hx hb hts in_X7 tyX7 tyX7_ok nmX7 hown hG.1 hP hD hS 0 rfl rfl 5 (by decide) (hts _ q783) (fun _ h => h) rfl rfl (rfl) (rfl) (Nat.le_of_ble_eq_true rfl) dX7_next_256 (fun H locs hP hD hS => ?_)
                    have hP : va_P D CL [(r, .inr (6, [.ref tx, .int (nI tz), .int (nI (q + 1)), .int (nI q), .int (nI s0), .int (nI (byS tz tf q)), .ref w])), (tx, .inl (dA 1, 300, .inl tf))] H := hP
                    have hD : va_D A [(r, .inr (6, [.ref tx, .int (nI tz), .int (nI (q + 1)), .int (nI q), .int (nI s0), .int (nI (byS tz tf q)), .ref w])), (tx, .inl (dA 1, 300, .inl tf))] := hD
                    refine lv_aload_n hx hb dX7_next_259 rfl (lv_at hl 1 rfl) ?_
                    refine lv_iload_n hx hb dX7_next_260 rfl (lv_at hl 0 rfl) ?_
                    refine lv_bipush (v := nI 60) hx hb dX7_next_261 (by decide) ?_
                    refine kn_ceq (tgt := 290) hx hb dX7_next_263 (by decide) (by have := byS_lt tz tf q; omega) (by omega) (fun c_263 => ?_) (fun c_263 => ?_)
                    · refine lv_iconst (v := nI 3) hx hb dX7_next_290 (by decide) ?_
                      refine lv_goto (tgt := 295) hx hb dX7_next_291 (by decide) ?_
                      refine va_put (D := D) (ci := 6) (v := .int (nI 3)) (C := RX7) (T := TX7) (N := 7) hx hb hts in_X7 tyX7 tyX7_ok nmX7 hown hG.1 hP hD hS 0 rfl rfl 4 (by decide) (hts _ q782) (fun _ h => h) rfl rfl (rfl) (rfl) (Nat.le_of_ble_eq_true rfl) dX7_next_295 (fun H locs hP hD hS => ?_)
                      have hP : va_P D CL [(r, .inr (6, [.ref tx, .int (nI tz), .int (nI (q + 1)), .int (nI q), .int (nI 3), .int (nI (byS tz tf q)), .ref w])), (tx, .inl (dA 1, 300, .inl tf))] H := hP
                      have hD : va_D A [(r, .inr (6, [.ref tx, .int (nI tz), .int (nI (q + 1)), .int (nI q), .int (nI 3), .int (nI (byS tz tf q)), .ref w])), (tx, .inl (dA 1, 300, .inl tf))] := hD
                      subst hQ
                      have e9 : nxT tz (byS tz tf) a v = (3, q, q + 1, byS tz tf q) := by simp only [nxT, hf]; rw [if_neg (by omega), if_neg ha, if_neg hd, if_pos (show sgnB (byS tz tf q) = true by simp [sgnB, c_263])]
                      have hL9 := nxL_eq tz (byS tz tf) a v
                      rw [e9] at hL9
                      dsimp only at hL9
                      refine W.widen (k := (4 + (nxL tz (byS tz tf) a))) (n := (40 + 5 * (nxL tz (byS tz tf) a))) (by omega) (by omega) ?_
                      have hP9 : va_P D CL (rdW dA r tx tz tf (nxT tz (byS tz tf) a v) w 0) H := by rw [e9, rdW_0 (show (3 : Nat) ≠ 1 by decide)]; exact hP.sub [0, 1] rfl
                      have hD9 : va_D A (rdW dA r tx tz tf (nxT tz (byS tz tf) a v) w 0) := by rw [e9, rdW_0 (show (3 : Nat) ≠ 1 by decide)]; exact hD.sub [0, 1] (by decide) rfl
                      exact W.vret hx hb hrt (fun t ht hW => ⟨⟨(w, 0), rfl, trivial, by rw [ht]; exact hP9, hD9, GK.warm hW hG⟩, hS.F ht⟩) hS.2.2 dX7_next_298
                    · refine lv_iload_n hx hb dX7_next_266 rfl (lv_at hl 0 rfl) ?_
                      refine lv_bipush (v := nI 61) hx hb dX7_next_267 (by decide) ?_
                      refine kn_ceq (tgt := 290) hx hb dX7_next_269 (by decide) (by have := byS_lt tz tf q; omega) (by omega) (fun c_269 => ?_) (fun c_269 => ?_)
                      · refine lv_iconst (v := nI 3) hx hb dX7_next_290 (by decide) ?_
                        refine lv_goto (tgt := 295) hx hb dX7_next_291 (by decide) ?_
                        refine va_put (D := D) (ci := 6) (v := .int (nI 3)) (C := RX7) (T := TX7) (N := 7) hx hb hts in_X7 tyX7 tyX7_ok nmX7 hown hG.1 hP hD hS 0 rfl rfl 4 (by decide) (hts _ q782) (fun _ h => h) rfl rfl (rfl) (rfl) (Nat.le_of_ble_eq_true rfl) dX7_next_295 (fun H locs hP hD hS => ?_)
                        have hP : va_P D CL [(r, .inr (6, [.ref tx, .int (nI tz), .int (nI (q + 1)), .int (nI q), .int (nI 3), .int (nI (byS tz tf q)), .ref w])), (tx, .inl (dA 1, 300, .inl tf))] H := hP
                        have hD : va_D A [(r, .inr (6, [.ref tx, .int (nI tz), .int (nI (q + 1)), .int (nI q), .int (nI 3), .int (nI (byS tz tf q)), .ref w])), (tx, .inl (dA 1, 300, .inl tf))] := hD
                        subst hQ
                        have e9 : nxT tz (byS tz tf) a v = (3, q, q + 1, byS tz tf q) := by simp only [nxT, hf]; rw [if_neg (by omega), if_neg ha, if_neg hd, if_pos (show sgnB (byS tz tf q) = true by simp [sgnB, c_263, c_269])]
                        have hL9 := nxL_eq tz (byS tz tf) a v
                        rw [e9] at hL9
                        dsimp only at hL9
                        refine W.widen (k := (4 + (nxL tz (byS tz tf) a))) (n := (40 + 5 * (nxL tz (byS tz tf) a))) (by omega) (by omega) ?_
                        have hP9 : va_P D CL (rdW dA r tx tz tf (nxT tz (byS tz tf) a v) w 0) H := by rw [e9, rdW_0 (show (3 : Nat) ≠ 1 by decide)]; exact hP.sub [0, 1] rfl
                        have hD9 : va_D A (rdW dA r tx tz tf (nxT tz (byS tz tf) a v) w 0) := by rw [e9, rdW_0 (show (3 : Nat) ≠ 1 by decide)]; exact hD.sub [0, 1] (by decide) rfl
                        exact W.vret hx hb hrt (fun t ht hW => ⟨⟨(w, 0), rfl, trivial, by rw [ht]; exact hP9, hD9, GK.warm hW hG⟩, hS.F ht⟩) hS.2.2 dX7_next_298
                      · refine lv_iload_n hx hb dX7_next_272 rfl (lv_at hl 0 rfl) ?_
                        refine lv_bipush (v := nI 62) hx hb dX7_next_273 (by decide) ?_
                        refine kn_ceq (tgt := 290) hx hb dX7_next_275 (by decide) (by have := byS_lt tz tf q; omega) (by omega) (fun c_275 => ?_) (fun c_275 => ?_)
                        · refine lv_iconst (v := nI 3) hx hb dX7_next_290 (by decide) ?_
                          refine lv_goto (tgt := 295) hx hb dX7_next_291 (by decide) ?_
                          refine va_put (D := D) (ci := 6) (v := .int (nI 3)) (C := RX7) (T := TX7) (N := 7) hx hb hts in_X7 tyX7 tyX7_ok nmX7 hown hG.1 hP hD hS 0 rfl rfl 4 (by decide) (hts _ q782) (fun _ h => h) rfl rfl (rfl) (rfl) (Nat.le_of_ble_eq_true rfl) dX7_next_295 (fun H locs hP hD hS => ?_)
                          have hP : va_P D CL [(r, .inr (6, [.ref tx, .int (nI tz), .int (nI (q + 1)), .int (nI q), .int (nI 3), .int (nI (byS tz tf q)), .ref w])), (tx, .inl (dA 1, 300, .inl tf))] H := hP
                          have hD : va_D A [(r, .inr (6, [.ref tx, .int (nI tz), .int (nI (q + 1)), .int (nI q), .int (nI 3), .int (nI (byS tz tf q)), .ref w])), (tx, .inl (dA 1, 300, .inl tf))] := hD
                          subst hQ
                          have e9 : nxT tz (byS tz tf) a v = (3, q, q + 1, byS tz tf q) := by simp only [nxT, hf]; rw [if_neg (by omega), if_neg ha, if_neg hd, if_pos (show sgnB (byS tz tf q) = true by simp [sgnB, c_263, c_269, c_275])]
                          have hL9 := nxL_eq tz (byS tz tf) a v
                          rw [e9] at hL9
                          dsimp only at hL9
                          refine W.widen (k := (4 + (nxL tz (byS tz tf) a))) (n := (40 + 5 * (nxL tz (byS tz tf) a))) (by omega) (by omega) ?_
                          have hP9 : va_P D CL (rdW dA r tx tz tf (nxT tz (byS tz tf) a v) w 0) H := by rw [e9, rdW_0 (show (3 : Nat) ≠ 1 by decide)]; exact hP.sub [0, 1] rfl
                          have hD9 : va_D A (rdW dA r tx tz tf (nxT tz (byS tz tf) a v) w 0) := by rw [e9, rdW_0 (show (3 : Nat) ≠ 1 by decide)]; exact hD.sub [0, 1] (by decide) rfl
                          exact W.vret hx hb hrt (fun t ht hW => ⟨⟨(w, 0), rfl, trivial, by rw [ht]; exact hP9, hD9, GK.warm hW hG⟩, hS.F ht⟩) hS.2.2 dX7_next_298
                        · refine lv_iload_n hx hb dX7_next_278 rfl (lv_at hl 0 rfl) ?_
                          refine lv_bipush (v := nI 58) hx hb dX7_next_279 (by decide) ?_
                          refine kn_ceq (tgt := 290) hx hb dX7_next_281 (by decide) (by have := byS_lt tz tf q; omega) (by omega) (fun c_281 => ?_) (fun c_281 => ?_)
                          · refine lv_iconst (v := nI 3) hx hb dX7_next_290 (by decide) ?_
                            refine lv_goto (tgt := 295) hx hb dX7_next_291 (by decide) ?_
                            refine va_put (D := D) (ci := 6) (v := .int (nI 3)) (C := RX7) (T := TX7) (N := 7) hx hb hts in_X7 tyX7 tyX7_ok nmX7 hown hG.1 hP hD hS 0 rfl rfl 4 (by decide) (hts _ q782) (fun _ h => h) rfl rfl (rfl) (rfl) (Nat.le_of_ble_eq_true rfl) dX7_next_295 (fun H locs hP hD hS => ?_)
                            have hP : va_P D CL [(r, .inr (6, [.ref tx, .int (nI tz), .int (nI (q + 1)), .int (nI q), .int (nI 3), .int (nI (byS tz tf q)), .ref w])), (tx, .inl (dA 1, 300, .inl tf))] H := hP
                            have hD : va_D A [(r, .inr (6, [.ref tx, .int (nI tz), .int (nI (q + 1)), .int (nI q), .int (nI 3), .int (nI (byS tz tf q)), .ref w])), (tx, .inl (dA 1, 300, .inl tf))] := hD
                            subst hQ
                            have e9 : nxT tz (byS tz tf) a v = (3, q, q + 1, byS tz tf q) := by simp only [nxT, hf]; rw [if_neg (by omega), if_neg ha, if_neg hd, if_pos (show sgnB (byS tz tf q) = true by simp [sgnB, c_263, c_269, c_275, c_281])]
                            have hL9 := nxL_eq tz (byS tz tf) a v
                            rw [e9] at hL9
                            dsimp only at hL9
                            refine W.widen (k := (4 + (nxL tz (byS tz tf) a))) (n := (40 + 5 * (nxL tz (byS tz tf) a))) (by omega) (by omega) ?_
                            have hP9 : va_P D CL (rdW dA r tx tz tf (nxT tz (byS tz tf) a v) w 0) H := by rw [e9, rdW_0 (show (3 : Nat) ≠ 1 by decide)]; exact hP.sub [0, 1] rfl
                            have hD9 : va_D A (rdW dA r tx tz tf (nxT tz (byS tz tf) a v) w 0) := by rw [e9, rdW_0 (show (3 : Nat) ≠ 1 by decide)]; exact hD.sub [0, 1] (by decide) rfl
                            exact W.vret hx hb hrt (fun t ht hW => ⟨⟨(w, 0), rfl, trivial, by rw [ht]; exact hP9, hD9, GK.warm hW hG⟩, hS.F ht⟩) hS.2.2 dX7_next_298
                          · refine lv_iload_n hx hb dX7_next_284 rfl (lv_at hl 0 rfl) ?_
                            refine lv_bipush (v := nI 59) hx hb dX7_next_285 (by decide) ?_
                            refine kn_cne (tgt := 294) hx hb dX7_next_287 (by decide) (by have := byS_lt tz tf q; omega) (by omega) (fun c_287 => ?_) (fun c_287 => ?_)
                            · refine lv_iconst (v := nI 4) hx hb dX7_next_294 (by decide) ?_
                              refine va_put (D := D) (ci := 6) (v := .int (nI 4)) (C := RX7) (T := TX7) (N := 7) hx hb hts in_X7 tyX7 tyX7_ok nmX7 hown hG.1 hP hD hS 0 rfl rfl 4 (by decide) (hts _ q782) (fun _ h => h) rfl rfl (rfl) (rfl) (Nat.le_of_ble_eq_true rfl) dX7_next_295 (fun H locs hP hD hS => ?_)
                              have hP : va_P D CL [(r, .inr (6, [.ref tx, .int (nI tz), .int (nI (q + 1)), .int (nI q), .int (nI 4), .int (nI (byS tz tf q)), .ref w])), (tx, .inl (dA 1, 300, .inl tf))] H := hP
                              have hD : va_D A [(r, .inr (6, [.ref tx, .int (nI tz), .int (nI (q + 1)), .int (nI q), .int (nI 4), .int (nI (byS tz tf q)), .ref w])), (tx, .inl (dA 1, 300, .inl tf))] := hD
                              subst hQ
                              have e9 : nxT tz (byS tz tf) a v = (4, q, q + 1, byS tz tf q) := by simp only [nxT, hf]; rw [if_neg (by omega), if_neg ha, if_neg hd, if_neg (show ¬ sgnB (byS tz tf q) = true by simp [sgnB, c_263, c_269, c_275, c_281, c_287])]
                              have hL9 := nxL_eq tz (byS tz tf) a v
                              rw [e9] at hL9
                              dsimp only at hL9
                              refine W.widen (k := (4 + (nxL tz (byS tz tf) a))) (n := (40 + 5 * (nxL tz (byS tz tf) a))) (by omega) (by omega) ?_
                              have hP9 : va_P D CL (rdW dA r tx tz tf (nxT tz (byS tz tf) a v) w 0) H := by rw [e9, rdW_0 (show (4 : Nat) ≠ 1 by decide)]; exact hP.sub [0, 1] rfl
                              have hD9 : va_D A (rdW dA r tx tz tf (nxT tz (byS tz tf) a v) w 0) := by rw [e9, rdW_0 (show (4 : Nat) ≠ 1 by decide)]; exact hD.sub [0, 1] (by decide) rfl
                              exact W.vret hx hb hrt (fun t ht hW => ⟨⟨(w, 0), rfl, trivial, by rw [ht]; exact hP9, hD9, GK.warm hW hG⟩, hS.F ht⟩) hS.2.2 dX7_next_298
                            · refine lv_iconst (v := nI 3) hx hb dX7_next_290 (by decide) ?_
                              refine lv_goto (tgt := 295) hx hb dX7_next_291 (by decide) ?_
                              refine va_put (D := D) (ci := 6) (v := .int (nI 3)) (C := RX7) (T := TX7) (N := 7) hx hb hts in_X7 tyX7 tyX7_ok nmX7 hown hG.1 hP hD hS 0 rfl rfl 4 (by decide) (hts _ q782) (fun _ h => h) rfl rfl (rfl) (rfl) (Nat.le_of_ble_eq_true rfl) dX7_next_295 (fun H locs hP hD hS => ?_)
                              have hP : va_P D CL [(r, .inr (6, [.ref tx, .int (nI tz), .int (nI (q + 1)), .int (nI q), .int (nI 3), .int (nI (byS tz tf q)), .ref w])), (tx, .inl (dA 1, 300, .inl tf))] H := hP
                              have hD : va_D A [(r, .inr (6, [.ref tx, .int (nI tz), .int (nI (q + 1)), .int (nI q), .int (nI 3), .int (nI (byS tz tf q)), .ref w])), (tx, .inl (dA 1, 300, .inl tf))] := hD
                              subst hQ
                              have e9 : nxT tz (byS tz tf) a v = (3, q, q + 1, byS tz tf q) := by simp only [nxT, hf]; rw [if_neg (by omega), if_neg ha, if_neg hd, if_pos (show sgnB (byS tz tf q) = true by simp [sgnB, c_263, c_269, c_275, c_281, c_287])]
                              have hL9 := nxL_eq tz (byS tz tf) a v
                              rw [e9] at hL9
                              dsimp only at hL9
                              refine W.widen (k := (4 + (nxL tz (byS tz tf) a))) (n := (40 + 5 * (nxL tz (byS tz tf) a))) (by omega) (by omega) ?_
                              have hP9 : va_P D CL (rdW dA r tx tz tf (nxT tz (byS tz tf) a v) w 0) H := by rw [e9, rdW_0 (show (3 : Nat) ≠ 1 by decide)]; exact hP.sub [0, 1] rfl
                              have hD9 : va_D A (rdW dA r tx tz tf (nxT tz (byS tz tf) a v) w 0) := by rw [e9, rdW_0 (show (3 : Nat) ≠ 1 by decide)]; exact hD.sub [0, 1] (by decide) rfl
                              exact W.vret hx hb hrt (fun t ht hW => ⟨⟨(w, 0), rfl, trivial, by rw [ht]; exact hP9, hD9, GK.warm hW hG⟩, hS.F ht⟩) hS.2.2 dX7_next_298
                  · have hd : 48 ≤ byS tz tf q ∧ byS tz tf q ≤ 57 := by omega
                    refine lv_iconst (v := nI 0) hx hb dX7_next_162 (by decide) ?_
                    refine lv_istore_n (lv' := [(2, .int (nI 0)), (1, .int (nI (byS tz tf q))), (0, .ref r)]) hx hb dX7_next_163 rfl hl (by decide) rfl (fun ls hl => ?_)
                    refine lv_aload_n hx hb dX7_next_164 rfl (lv_at hl 2 rfl) ?_
                    refine lv_iconst (v := nI 0) hx hb dX7_next_165 (by decide) ?_
                    refine va_put (D := D) (ci := 6) (v := .int (nI 0)) (C := RX7) (T := TX7) (N := 7) hx hb hts in_X7 tyX7 tyX7_ok nmX7 hown hG.1 hP hD hS 0 rfl rfl 5 (by decide) (hts _ q783) (fun _ h => h) rfl rfl (rfl) (rfl) (Nat.le_of_ble_eq_true rfl) dX7_next_166 (fun H locs hP hD hS => ?_)
                    have hP : va_P D CL [(r, .inr (6, [.ref tx, .int (nI tz), .int (nI q), .int (nI q), .int (nI s0), .int (nI 0), .ref w])), (tx, .inl (dA 1, 300, .inl tf))] H := hP
                    have hD : va_D A [(r, .inr (6, [.ref tx, .int (nI tz), .int (nI q), .int (nI q), .int (nI s0), .int (nI 0), .ref w])), (tx, .inl (dA 1, 300, .inl tf))] := hD
                    have L169 : ∀ (nn169 : Nat) (k : Nat), (ruC (byS tz tf) 48 57 (tz - q) q = ruC (byS tz tf) 48 57 (tz - (q + k)) (q + k)) → (q + k ≤ tz) → (∀ j, j < k → 48 ≤ byS tz tf (q + j) ∧ byS tz tf (q + j) ≤ 57) → tz - (q + k) < nn169 → ∀ (H : Heap) (locs : List Loc), va_P D CL [(r, .inr (6, [.ref tx, .int (nI tz), .int (nI (q + k)), .int (nI q), .int (nI s0), .int (nI (vaC (byS tz tf) q k)), .ref w])), (tx, .inl (dA 1, 300, .inl tf))] H → va_D A [(r, .inr (6, [.ref tx, .int (nI tz), .int (nI (q + k)), .int (nI q), .int (nI s0), .int (nI (vaC (byS tz tf) q k)), .ref w])), (tx, .inl (dA 1, 300, .inl tf))] → va_S A s.heap H locs → ∀ (ls : Array Slot), lv_has ls 3 [(0, .ref r), (1, .int (nI (byS tz tf q))), (2, .int (nI k))] → W p lh e (r_X7_next (nxL tz (byS tz tf) a)) s m args below meth cd H locs 0 0 Q (F0 m 169 ls []) := by
                      intro nn169
                      induction nn169 with
                      | zero => intro k i169_0 i169_1 i169_2 hm169; exact absurd hm169 (Nat.not_lt_zero _)
                      | succ nn169 ih169 =>
                        intro k i169_0 i169_1 i169_2 hm169 H locs hP hD hS ls hl
                        refine lv_aload_n hx hb dX7_next_169 rfl (lv_at hl 0 rfl) ?_
                        by_cases hq3 : q + k < tz
                        · have hPs : va_P D CL ([(r, .inr (6, [.ref tx, .int (nI tz), .int (nI (q + k)), .int (nI q), .int (nI s0), .int (nI (vaC (byS tz tf) q k)), .ref w])), (tx, .inl (dA 1, 300, .inl tf))] ++ []) H := hP.sub [0, 1] rfl
                          refine vp_callSi (va_Run.call (va_runV (As := []) (rest := []) ⟨hx, hb, hml, hown, hts⟩ (c_X7_see_I lh D dA r tx tz tf (q + k) q s0 (vaC (byS tz tf) q k) w (hq3) (h1)) (w_X7_see hts q624 rfl rfl ⟨Nat.le_of_ble_eq_true rfl, Nat.le_of_ble_eq_true rfl⟩) ⟨PX.blind (Mv.and Mv.heap Mv.gk), (va_recv hG.1 hP (ci := 6) (q0 := 0) rfl rfl), PX.pre (Mv.and Mv.heap Mv.gk) ⟨(va_P_left hPs), hG⟩⟩ rfl rfl hl.1 rfl (lv_room (Nat.le_of_ble_eq_true rfl)) dX7_next_170 ⟨Nat.le_of_ble_eq_true rfl, by show _ ≤ (40 + 5 * (nxL tz (byS tz tf) a)); omega⟩)) (fun rr hrr => ?_)
                          subst hrr
                          refine kx_int (y := nI (byS tz tf (q + k))) (rfl) ?_
                          refine lv_bipush (v := nI 48) hx hb dX7_next_173 (by decide) ?_
                          refine kn_clt (tgt := 227) hx hb dX7_next_175 (by decide) (by have := byS_lt tz tf (q + k); omega) (by omega) (fun c_175 => ?_) (fun c_175 => ?_)
                          · have hnw : ¬ (48 ≤ byS tz tf (q + k) ∧ byS tz tf (q + k) ≤ 57) := by omega
                            have hro : ruC (byS tz tf) 48 57 (tz - q) q = q + k := by rw [i169_0]; exact ruC_stop hnw
                            refine lv_aload_n hx hb dX7_next_227 rfl (lv_at hl 0 rfl) ?_
                            refine lv_iload_n hx hb dX7_next_228 rfl (lv_at hl 2 rfl) ?_
                            refine lv_iconst (v := nI 4) hx hb dX7_next_229 (by decide) ?_
                            refine kn_cle (tgt := 237) hx hb dX7_next_230 (by decide) (by omega) (by omega) (fun c_230 => ?_) (fun c_230 => ?_)
                            · refine lv_iconst (v := nI 2) hx hb dX7_next_237 (by decide) ?_
                              refine va_put (D := D) (ci := 6) (v := .int (nI 2)) (C := RX7) (T := TX7) (N := 7) hx hb hts in_X7 tyX7 tyX7_ok nmX7 hown hG.1 hP hD hS 0 rfl rfl 4 (by decide) (hts _ q782) (fun _ h => h) rfl rfl (rfl) (rfl) (Nat.le_of_ble_eq_true rfl) dX7_next_238 (fun H locs hP hD hS => ?_)
                              have hP : va_P D CL [(r, .inr (6, [.ref tx, .int (nI tz), .int (nI (q + k)), .int (nI q), .int (nI 2), .int (nI (vaC (byS tz tf) q k)), .ref w])), (tx, .inl (dA 1, 300, .inl tf))] H := hP
                              have hD : va_D A [(r, .inr (6, [.ref tx, .int (nI tz), .int (nI (q + k)), .int (nI q), .int (nI 2), .int (nI (vaC (byS tz tf) q k)), .ref w])), (tx, .inl (dA 1, 300, .inl tf))] := hD
                              refine lv_goto (tgt := 298) hx hb dX7_next_241 (by decide) ?_
                              subst hQ
                              have e9 : nxT tz (byS tz tf) a v = (2, q, q + k, vaC (byS tz tf) q k) := by simp only [nxT, hf]; rw [if_neg (by omega), if_neg ha, if_pos hd]; simp only [hro]; rw [if_neg (by omega), show q + k - q = k by omega]
                              have hL9 := nxL_eq tz (byS tz tf) a v
                              rw [e9] at hL9
                              dsimp only at hL9
                              refine W.widen (k := (4 + (nxL tz (byS tz tf) a))) (n := (40 + 5 * (nxL tz (byS tz tf) a))) (by omega) (by omega) ?_
                              have hP9 : va_P D CL (rdW dA r tx tz tf (nxT tz (byS tz tf) a v) w 0) H := by rw [e9, rdW_0 (show (2 : Nat) ≠ 1 by decide)]; exact hP.sub [0, 1] rfl
                              have hD9 : va_D A (rdW dA r tx tz tf (nxT tz (byS tz tf) a v) w 0) := by rw [e9, rdW_0 (show (2 : Nat) ≠ 1 by decide)]; exact hD.sub [0, 1] (by decide) rfl
                              exact W.vret hx hb hrt (fun t ht hW => ⟨⟨(w, 0), rfl, trivial, by rw [ht]; exact hP9, hD9, GK.warm hW hG⟩, hS.F ht⟩) hS.2.2 dX7_next_298
                            · refine lv_iconst (v := nI 4) hx hb dX7_next_233 (by decide) ?_
                              refine lv_goto (tgt := 238) hx hb dX7_next_234 (by decide) ?_
                              refine va_put (D := D) (ci := 6) (v := .int (nI 4)) (C := RX7) (T := TX7) (N := 7) hx hb hts in_X7 tyX7 tyX7_ok nmX7 hown hG.1 hP hD hS 0 rfl rfl 4 (by decide) (hts _ q782) (fun _ h => h) rfl rfl (rfl) (rfl) (Nat.le_of_ble_eq_true rfl) dX7_next_238 (fun H locs hP hD hS => ?_)
                              have hP : va_P D CL [(r, .inr (6, [.ref tx, .int (nI tz), .int (nI (q + k)), .int (nI q), .int (nI 4), .int (nI (vaC (byS tz tf) q k)), .ref w])), (tx, .inl (dA 1, 300, .inl tf))] H := hP
                              have hD : va_D A [(r, .inr (6, [.ref tx, .int (nI tz), .int (nI (q + k)), .int (nI q), .int (nI 4), .int (nI (vaC (byS tz tf) q k)), .ref w])), (tx, .inl (dA 1, 300, .inl tf))] := hD
                              refine lv_goto (tgt := 298) hx hb dX7_next_241 (by decide) ?_
                              subst hQ
                              have e9 : nxT tz (byS tz tf) a v = (4, q, q + k, vaC (byS tz tf) q k) := by simp only [nxT, hf]; rw [if_neg (by omega), if_neg ha, if_pos hd]; simp only [hro]; rw [if_pos (by omega), show q + k - q = k by omega]
                              have hL9 := nxL_eq tz (byS tz tf) a v
                              rw [e9] at hL9
                              dsimp only at hL9
                              refine W.widen (k := (4 + (nxL tz (byS tz tf) a))) (n := (40 + 5 * (nxL tz (byS tz tf) a))) (by omega) (by omega) ?_
                              have hP9 : va_P D CL (rdW dA r tx tz tf (nxT tz (byS tz tf) a v) w 0) H := by rw [e9, rdW_0 (show (4 : Nat) ≠ 1 by decide)]; exact hP.sub [0, 1] rfl
                              have hD9 : va_D A (rdW dA r tx tz tf (nxT tz (byS tz tf) a v) w 0) := by rw [e9, rdW_0 (show (4 : Nat) ≠ 1 by decide)]; exact hD.sub [0, 1] (by decide) rfl
                              exact W.vret hx hb hrt (fun t ht hW => ⟨⟨(w, 0), rfl, trivial, by rw [ht]; exact hP9, hD9, GK.warm hW hG⟩, hS.F ht⟩) hS.2.2 dX7_next_298
                          · refine lv_aload_n hx hb dX7_next_178 rfl (lv_at hl 0 rfl) ?_
                            have hPs : va_P D CL ([(r, .inr (6, [.ref tx, .int (nI tz), .int (nI (q + k)), .int (nI q), .int (nI s0), .int (nI (vaC (byS tz tf) q k)), .ref w])), (tx, .inl (dA 1, 300, .inl tf))] ++ []) H := hP.sub [0, 1] rfl
                            refine vp_callSi (va_Run.call (va_runV (As := []) (rest := []) ⟨hx, hb, hml, hown, hts⟩ (c_X7_see_I lh D dA r tx tz tf (q + k) q s0 (vaC (byS tz tf) q k) w (hq3) (h1)) (w_X7_see hts q624 rfl rfl ⟨Nat.le_of_ble_eq_true rfl, Nat.le_of_ble_eq_true rfl⟩) ⟨PX.blind (Mv.and Mv.heap Mv.gk), (va_recv hG.1 hP (ci := 6) (q0 := 0) rfl rfl), PX.pre (Mv.and Mv.heap Mv.gk) ⟨(va_P_left hPs), hG⟩⟩ rfl rfl hl.1 rfl (lv_room (Nat.le_of_ble_eq_true rfl)) dX7_next_179 ⟨Nat.le_of_ble_eq_true rfl, by show _ ≤ (40 + 5 * (nxL tz (byS tz tf) a)); omega⟩)) (fun rr hrr => ?_)
                            subst hrr
                            refine kx_int (y := nI (byS tz tf (q + k))) (rfl) ?_
                            refine lv_bipush (v := nI 57) hx hb dX7_next_182 (by decide) ?_
                            refine kn_cgt (tgt := 227) hx hb dX7_next_184 (by decide) (by have := byS_lt tz tf (q + k); omega) (by omega) (fun c_184 => ?_) (fun c_184 => ?_)
                            · have hnw : ¬ (48 ≤ byS tz tf (q + k) ∧ byS tz tf (q + k) ≤ 57) := by omega
                              have hro : ruC (byS tz tf) 48 57 (tz - q) q = q + k := by rw [i169_0]; exact ruC_stop hnw
                              refine lv_aload_n hx hb dX7_next_227 rfl (lv_at hl 0 rfl) ?_
                              refine lv_iload_n hx hb dX7_next_228 rfl (lv_at hl 2 rfl) ?_
                              refine lv_iconst (v := nI 4) hx hb dX7_next_229 (by decide) ?_
                              refine kn_cle (tgt := 237) hx hb dX7_next_230 (by decide) (by omega) (by omega) (fun c_230 => ?_) (fun c_230 => ?_)
                              · refine lv_iconst (v := nI 2) hx hb dX7_next_237 (by decide) ?_
                                refine va_put (D := D) (ci := 6) (v := .int (nI 2)) (C := RX7) (T := TX7) (N := 7) hx hb hts in_X7 tyX7 tyX7_ok nmX7 hown hG.1 hP hD hS 0 rfl rfl 4 (by decide) (hts _ q782) (fun _ h => h) rfl rfl (rfl) (rfl) (Nat.le_of_ble_eq_true rfl) dX7_next_238 (fun H locs hP hD hS => ?_)
                                have hP : va_P D CL [(r, .inr (6, [.ref tx, .int (nI tz), .int (nI (q + k)), .int (nI q), .int (nI 2), .int (nI (vaC (byS tz tf) q k)), .ref w])), (tx, .inl (dA 1, 300, .inl tf))] H := hP
                                have hD : va_D A [(r, .inr (6, [.ref tx, .int (nI tz), .int (nI (q + k)), .int (nI q), .int (nI 2), .int (nI (vaC (byS tz tf) q k)), .ref w])), (tx, .inl (dA 1, 300, .inl tf))] := hD
                                refine lv_goto (tgt := 298) hx hb dX7_next_241 (by decide) ?_
                                subst hQ
                                have e9 : nxT tz (byS tz tf) a v = (2, q, q + k, vaC (byS tz tf) q k) := by simp only [nxT, hf]; rw [if_neg (by omega), if_neg ha, if_pos hd]; simp only [hro]; rw [if_neg (by omega), show q + k - q = k by omega]
                                have hL9 := nxL_eq tz (byS tz tf) a v
                                rw [e9] at hL9
                                dsimp only at hL9
                                refine W.widen (k := (4 + (nxL tz (byS tz tf) a))) (n := (40 + 5 * (nxL tz (byS tz tf) a))) (by omega) (by omega) ?_
                                have hP9 : va_P D CL (rdW dA r tx tz tf (nxT tz (byS tz tf) a v) w 0) H := by rw [e9, rdW_0 (show (2 : Nat) ≠ 1 by decide)]; exact hP.sub [0, 1] rfl
                                have hD9 : va_D A (rdW dA r tx tz tf (nxT tz (byS tz tf) a v) w 0) := by rw [e9, rdW_0 (show (2 : Nat) ≠ 1 by decide)]; exact hD.sub [0, 1] (by decide) rfl
                                exact W.vret hx hb hrt (fun t ht hW => ⟨⟨(w, 0), rfl, trivial, by rw [ht]; exact hP9, hD9, GK.warm hW hG⟩, hS.F ht⟩) hS.2.2 dX7_next_298
                              · refine lv_iconst (v := nI 4) hx hb dX7_next_233 (by decide) ?_
                                refine lv_goto (tgt := 238) hx hb dX7_next_234 (by decide) ?_
                                refine va_put (D := D) (ci := 6) (v := .int (nI 4)) (C := RX7) (T := TX7) (N := 7) hx hb hts in_X7 tyX7 tyX7_ok nmX7 hown hG.1 hP hD hS 0 rfl rfl 4 (by decide) (hts _ q782) (fun _ h => h) rfl rfl (rfl) (rfl) (Nat.le_of_ble_eq_true rfl) dX7_next_238 (fun H locs hP hD hS => ?_)
                                have hP : va_P D CL [(r, .inr (6, [.ref tx, .int (nI tz), .int (nI (q + k)), .int (nI q), .int (nI 4), .int (nI (vaC (byS tz tf) q k)), .ref w])), (tx, .inl (dA 1, 300, .inl tf))] H := hP
                                have hD : va_D A [(r, .inr (6, [.ref tx, .int (nI tz), .int (nI (q + k)), .int (nI q), .int (nI 4), .int (nI (vaC (byS tz tf) q k)), .ref w])), (tx, .inl (dA 1, 300, .inl tf))] := hD
                                refine lv_goto (tgt := 298) hx hb dX7_next_241 (by decide) ?_
                                subst hQ
                                have e9 : nxT tz (byS tz tf) a v = (4, q, q + k, vaC (byS tz tf) q k) := by simp only [nxT, hf]; rw [if_neg (by omega), if_neg ha, if_pos hd]; simp only [hro]; rw [if_pos (by omega), show q + k - q = k by omega]
                                have hL9 := nxL_eq tz (byS tz tf) a v
                                rw [e9] at hL9
                                dsimp only at hL9
                                refine W.widen (k := (4 + (nxL tz (byS tz tf) a))) (n := (40 + 5 * (nxL tz (byS tz tf) a))) (by omega) (by omega) ?_
                                have hP9 : va_P D CL (rdW dA r tx tz tf (nxT tz (byS tz tf) a v) w 0) H := by rw [e9, rdW_0 (show (4 : Nat) ≠ 1 by decide)]; exact hP.sub [0, 1] rfl
                                have hD9 : va_D A (rdW dA r tx tz tf (nxT tz (byS tz tf) a v) w 0) := by rw [e9, rdW_0 (show (4 : Nat) ≠ 1 by decide)]; exact hD.sub [0, 1] (by decide) rfl
                                exact W.vret hx hb hrt (fun t ht hW => ⟨⟨(w, 0), rfl, trivial, by rw [ht]; exact hP9, hD9, GK.warm hW hG⟩, hS.F ht⟩) hS.2.2 dX7_next_298
                            · have hw : 48 ≤ byS tz tf (q + k) ∧ byS tz tf (q + k) ≤ 57 := by omega
                              have hva := vaC_le (b := (byS tz tf)) (f := q) (n := k) i169_2
                              refine lv_iload_n hx hb dX7_next_187 rfl (lv_at hl 2 rfl) ?_
                              refine lv_iconst (v := nI 4) hx hb dX7_next_188 (by decide) ?_
                              refine kn_cge (tgt := 211) hx hb dX7_next_189 (by decide) (by omega) (by omega) (fun c_189 => ?_) (fun c_189 => ?_)
                              · have hP : va_P D CL [(r, .inr (6, [.ref tx, .int (nI tz), .int (nI (q + k)), .int (nI q), .int (nI s0), .int (nI (vaC (byS tz tf) q (k + 1))), .ref w])), (tx, .inl (dA 1, 300, .inl tf))] H := (show (vaC (byS tz tf) q k) = (vaC (byS tz tf) q (k + 1)) from by rw [vaC, if_neg (by omega)]) ▸ hP
                                have hD : va_D A [(r, .inr (6, [.ref tx, .int (nI tz), .int (nI (q + k)), .int (nI q), .int (nI s0), .int (nI (vaC (byS tz tf) q (k + 1))), .ref w])), (tx, .inl (dA 1, 300, .inl tf))] := (show (vaC (byS tz tf) q k) = (vaC (byS tz tf) q (k + 1)) from by rw [vaC, if_neg (by omega)]) ▸ hD
                                refine lv_iinc (v := nI (k + 1)) (lv' := [(2, .int (nI (k + 1))), (0, .ref r), (1, .int (nI (byS tz tf q)))]) hx hb dX7_next_211 hl (k := 2) rfl (show nI k + Int32.ofInt 1 = nI (k + 1) from nI_add _ 1) (by decide) rfl (fun ls hl => ?_)
                                refine lv_aload_n hx hb dX7_next_214 rfl (lv_at hl 1 rfl) ?_
                                refine lv_dup hx hb dX7_next_215 rfl ?_
                                refine va_get (D := D) (ci := 6) (v := .int (nI (q + k))) (C := RX7) (T := TX7) (N := 7) hx hb hts in_X7 hown hG.1 hP 0 rfl rfl 2 (by decide) (hts _ q780) (fun _ h => h) rfl dX7_next_216 ?_
                                refine lv_iconst (v := nI 1) hx hb dX7_next_219 (by decide) ?_
                                refine kn_add hx hb dX7_next_220 ?_
                                refine va_put (D := D) (ci := 6) (v := .int (nI (q + k + 1))) (C := RX7) (T := TX7) (N := 7) hx hb hts in_X7 tyX7 tyX7_ok nmX7 hown hG.1 hP hD hS 0 rfl rfl 2 (by decide) (hts _ q780) (fun _ h => h) rfl rfl (rfl) (rfl) (Nat.le_of_ble_eq_true rfl) dX7_next_221 (fun H locs hP hD hS => ?_)
                                have hP : va_P D CL [(r, .inr (6, [.ref tx, .int (nI tz), .int (nI (q + k + 1)), .int (nI q), .int (nI s0), .int (nI (vaC (byS tz tf) q (k + 1))), .ref w])), (tx, .inl (dA 1, 300, .inl tf))] H := hP
                                have hD : va_D A [(r, .inr (6, [.ref tx, .int (nI tz), .int (nI (q + k + 1)), .int (nI q), .int (nI s0), .int (nI (vaC (byS tz tf) q (k + 1))), .ref w])), (tx, .inl (dA 1, 300, .inl tf))] := hD
                                refine lv_goto (tgt := 169) hx hb dX7_next_224 (by decide) ?_
                                exact ih169 (k + 1) (by rw [i169_0]; exact ruC_go (by omega) hw) (by omega) (fun j hj => if e : j < k then i169_2 j e else (show j = k by omega) ▸ hw) (by omega) _ _ hP hD hS _ (lv_sub hl [1, 2, 0] rfl)
                              · refine lv_aload_n hx hb dX7_next_192 rfl (lv_at hl 0 rfl) ?_
                                refine lv_bipush (v := nI 10) hx hb dX7_next_193 (by decide) ?_
                                refine lv_aload_n hx hb dX7_next_195 rfl (lv_at hl 0 rfl) ?_
                                refine va_get (D := D) (ci := 6) (v := .int (nI (vaC (byS tz tf) q k))) (C := RX7) (T := TX7) (N := 7) hx hb hts in_X7 hown hG.1 hP 0 rfl rfl 5 (by decide) (hts _ q783) (fun _ h => h) rfl dX7_next_196 ?_
                                refine kn_mul hx hb dX7_next_199 ?_
                                refine lv_aload_n hx hb dX7_next_200 rfl (lv_at hl 0 rfl) ?_
                                have hPs : va_P D CL ([(r, .inr (6, [.ref tx, .int (nI tz), .int (nI (q + k)), .int (nI q), .int (nI s0), .int (nI (vaC (byS tz tf) q k)), .ref w])), (tx, .inl (dA 1, 300, .inl tf))] ++ []) H := hP.sub [0, 1] rfl
                                refine vp_callSi (va_Run.call (va_runV (As := []) (rest := [.int (nI (10 * (vaC (byS tz tf) q k))), .ref r]) ⟨hx, hb, hml, hown, hts⟩ (c_X7_see_I lh D dA r tx tz tf (q + k) q s0 (vaC (byS tz tf) q k) w (hq3) (h1)) (w_X7_see hts q624 rfl rfl ⟨Nat.le_of_ble_eq_true rfl, Nat.le_of_ble_eq_true rfl⟩) ⟨PX.blind (Mv.and Mv.heap Mv.gk), (va_recv hG.1 hP (ci := 6) (q0 := 0) rfl rfl), PX.pre (Mv.and Mv.heap Mv.gk) ⟨(va_P_left hPs), hG⟩⟩ rfl rfl hl.1 rfl (lv_room (Nat.le_of_ble_eq_true rfl)) dX7_next_201 ⟨Nat.le_of_ble_eq_true rfl, by show _ ≤ (40 + 5 * (nxL tz (byS tz tf) a)); omega⟩)) (fun rr hrr => ?_)
                                subst hrr
                                refine kx_int (y := nI (byS tz tf (q + k))) (rfl) ?_
                                refine kn_add hx hb dX7_next_204 ?_
                                refine lv_bipush (v := nI 48) hx hb dX7_next_205 (by decide) ?_
                                refine kn_sub hx hb dX7_next_207 (by omega) ?_
                                refine va_put (D := D) (ci := 6) (v := .int (nI (10 * (vaC (byS tz tf) q k) + (byS tz tf (q + k)) - 48))) (C := RX7) (T := TX7) (N := 7) hx hb hts in_X7 tyX7 tyX7_ok nmX7 hown hG.1 hP hD hS 0 rfl rfl 5 (by decide) (hts _ q783) (fun _ h => h) rfl rfl (rfl) (rfl) (Nat.le_of_ble_eq_true rfl) dX7_next_208 (fun H locs hP hD hS => ?_)
                                have hP : va_P D CL [(r, .inr (6, [.ref tx, .int (nI tz), .int (nI (q + k)), .int (nI q), .int (nI s0), .int (nI (10 * (vaC (byS tz tf) q k) + (byS tz tf (q + k)) - 48)), .ref w])), (tx, .inl (dA 1, 300, .inl tf))] H := hP
                                have hD : va_D A [(r, .inr (6, [.ref tx, .int (nI tz), .int (nI (q + k)), .int (nI q), .int (nI s0), .int (nI (10 * (vaC (byS tz tf) q k) + (byS tz tf (q + k)) - 48)), .ref w])), (tx, .inl (dA 1, 300, .inl tf))] := hD
                                have hP : va_P D CL [(r, .inr (6, [.ref tx, .int (nI tz), .int (nI (q + k)), .int (nI q), .int (nI s0), .int (nI (vaC (byS tz tf) q (k + 1))), .ref w])), (tx, .inl (dA 1, 300, .inl tf))] H := (show 10 * (vaC (byS tz tf) q k) + (byS tz tf (q + k)) - 48 = (vaC (byS tz tf) q (k + 1)) from by rw [vaC, if_pos (by omega)]) ▸ hP
                                have hD : va_D A [(r, .inr (6, [.ref tx, .int (nI tz), .int (nI (q + k)), .int (nI q), .int (nI s0), .int (nI (vaC (byS tz tf) q (k + 1))), .ref w])), (tx, .inl (dA 1, 300, .inl tf))] := (show 10 * (vaC (byS tz tf) q k) + (byS tz tf (q + k)) - 48 = (vaC (byS tz tf) q (k + 1)) from by rw [vaC, if_pos (by omega)]) ▸ hD
                                refine lv_iinc (v := nI (k + 1)) (lv' := [(2, .int (nI (k + 1))), (0, .ref r), (1, .int (nI (byS tz tf q)))]) hx hb dX7_next_211 hl (k := 2) rfl (show nI k + Int32.ofInt 1 = nI (k + 1) from nI_add _ 1) (by decide) rfl (fun ls hl => ?_)
                                refine lv_aload_n hx hb dX7_next_214 rfl (lv_at hl 1 rfl) ?_
                                refine lv_dup hx hb dX7_next_215 rfl ?_
                                refine va_get (D := D) (ci := 6) (v := .int (nI (q + k))) (C := RX7) (T := TX7) (N := 7) hx hb hts in_X7 hown hG.1 hP 0 rfl rfl 2 (by decide) (hts _ q780) (fun _ h => h) rfl dX7_next_216 ?_
                                refine lv_iconst (v := nI 1) hx hb dX7_next_219 (by decide) ?_
                                refine kn_add hx hb dX7_next_220 ?_
                                refine va_put (D := D) (ci := 6) (v := .int (nI (q + k + 1))) (C := RX7) (T := TX7) (N := 7) hx hb hts in_X7 tyX7 tyX7_ok nmX7 hown hG.1 hP hD hS 0 rfl rfl 2 (by decide) (hts _ q780) (fun _ h => h) rfl rfl (rfl) (rfl) (Nat.le_of_ble_eq_true rfl) dX7_next_221 (fun H locs hP hD hS => ?_)
                                have hP : va_P D CL [(r, .inr (6, [.ref tx, .int (nI tz), .int (nI (q + k + 1)), .int (nI q), .int (nI s0), .int (nI (vaC (byS tz tf) q (k + 1))), .ref w])), (tx, .inl (dA 1, 300, .inl tf))] H := hP
                                have hD : va_D A [(r, .inr (6, [.ref tx, .int (nI tz), .int (nI (q + k + 1)), .int (nI q), .int (nI s0), .int (nI (vaC (byS tz tf) q (k + 1))), .ref w])), (tx, .inl (dA 1, 300, .inl tf))] := hD
                                refine lv_goto (tgt := 169) hx hb dX7_next_224 (by decide) ?_
                                exact ih169 (k + 1) (by rw [i169_0]; exact ruC_go (by omega) hw) (by omega) (fun j hj => if e : j < k then i169_2 j e else (show j = k by omega) ▸ hw) (by omega) _ _ hP hD hS _ (lv_sub hl [1, 2, 0] rfl)
                        · have hPs : va_P D CL ([(r, .inr (6, [.ref tx, .int (nI tz), .int (nI (q + k)), .int (nI q), .int (nI s0), .int (nI (vaC (byS tz tf) q k)), .ref w])), (tx, .inl (dA 1, 300, .inl tf))] ++ []) H := hP.sub [0, 1] rfl
                          refine vp_callSi (va_Run.call (va_runV (As := []) (rest := []) ⟨hx, hb, hml, hown, hts⟩ (c_X7_see_E lh D dA r tx tz tf (q + k) q s0 (vaC (byS tz tf) q k) w (hq3) (by omega) (by omega)) (w_X7_see hts q624 rfl rfl ⟨Nat.le_of_ble_eq_true rfl, Nat.le_of_ble_eq_true rfl⟩) ⟨PX.blind (Mv.and Mv.heap Mv.gk), (va_recv hG.1 hP (ci := 6) (q0 := 0) rfl rfl), PX.pre (Mv.and Mv.heap Mv.gk) ⟨(va_P_left hPs), hG⟩⟩ rfl rfl hl.1 rfl (lv_room (Nat.le_of_ble_eq_true rfl)) dX7_next_170 ⟨Nat.le_of_ble_eq_true rfl, by show _ ≤ (40 + 5 * (nxL tz (byS tz tf) a)); omega⟩)) (fun rr hrr => ?_)
                          subst hrr
                          refine kx_int (y := (-1)) (rfl) ?_
                          refine lv_bipush (v := nI 48) hx hb dX7_next_173 (by decide) ?_
                          refine lv_icmp_lt (tgt := 227) hx hb dX7_next_175 (by decide) (fun c_175 => ?_) (fun c_175 => ?_)
                          · have hnw : ¬ (48 ≤ byS tz tf (q + k) ∧ byS tz tf (q + k) ≤ 57) := by rw [show byS tz tf (q + k) = 0 from if_neg hq3]; omega
                            have hro : ruC (byS tz tf) 48 57 (tz - q) q = q + k := by rw [i169_0]; exact ruC_stop hnw
                            refine lv_aload_n hx hb dX7_next_227 rfl (lv_at hl 0 rfl) ?_
                            refine lv_iload_n hx hb dX7_next_228 rfl (lv_at hl 2 rfl) ?_
                            refine lv_iconst (v := nI 4) hx hb dX7_next_229 (by decide) ?_
                            refine kn_cle (tgt := 237) hx hb dX7_next_230 (by decide) (by omega) (by omega) (fun c_230 => ?_) (fun c_230 => ?_)
                            · refine lv_iconst (v := nI 2) hx hb dX7_next_237 (by decide) ?_
                              refine va_put (D := D) (ci := 6) (v := .int (nI 2)) (C := RX7) (T := TX7) (N := 7) hx hb hts in_X7 tyX7 tyX7_ok nmX7 hown hG.1 hP hD hS 0 rfl rfl 4 (by decide) (hts _ q782) (fun _ h => h) rfl rfl (rfl) (rfl) (Nat.le_of_ble_eq_true rfl) dX7_next_238 (fun H locs hP hD hS => ?_)
                              have hP : va_P D CL [(r, .inr (6, [.ref tx, .int (nI tz), .int (nI (q + k)), .int (nI q), .int (nI 2), .int (nI (vaC (byS tz tf) q k)), .ref w])), (tx, .inl (dA 1, 300, .inl tf))] H := hP
                              have hD : va_D A [(r, .inr (6, [.ref tx, .int (nI tz), .int (nI (q + k)), .int (nI q), .int (nI 2), .int (nI (vaC (byS tz tf) q k)), .ref w])), (tx, .inl (dA 1, 300, .inl tf))] := hD
                              refine lv_goto (tgt := 298) hx hb dX7_next_241 (by decide) ?_
                              subst hQ
                              have e9 : nxT tz (byS tz tf) a v = (2, q, q + k, vaC (byS tz tf) q k) := by simp only [nxT, hf]; rw [if_neg (by omega), if_neg ha, if_pos hd]; simp only [hro]; rw [if_neg (by omega), show q + k - q = k by omega]
                              have hL9 := nxL_eq tz (byS tz tf) a v
                              rw [e9] at hL9
                              dsimp only at hL9
                              refine W.widen (k := (4 + (nxL tz (byS tz tf) a))) (n := (40 + 5 * (nxL tz (byS tz tf) a))) (by omega) (by omega) ?_
                              have hP9 : va_P D CL (rdW dA r tx tz tf (nxT tz (byS tz tf) a v) w 0) H := by rw [e9, rdW_0 (show (2 : Nat) ≠ 1 by decide)]; exact hP.sub [0, 1] rfl
                              have hD9 : va_D A (rdW dA r tx tz tf (nxT tz (byS tz tf) a v) w 0) := by rw [e9, rdW_0 (show (2 : Nat) ≠ 1 by decide)]; exact hD.sub [0, 1] (by decide) rfl
                              exact W.vret hx hb hrt (fun t ht hW => ⟨⟨(w, 0), rfl, trivial, by rw [ht]; exact hP9, hD9, GK.warm hW hG⟩, hS.F ht⟩) hS.2.2 dX7_next_298
                            · refine lv_iconst (v := nI 4) hx hb dX7_next_233 (by decide) ?_
                              refine lv_goto (tgt := 238) hx hb dX7_next_234 (by decide) ?_
                              refine va_put (D := D) (ci := 6) (v := .int (nI 4)) (C := RX7) (T := TX7) (N := 7) hx hb hts in_X7 tyX7 tyX7_ok nmX7 hown hG.1 hP hD hS 0 rfl rfl 4 (by decide) (hts _ q782) (fun _ h => h) rfl rfl (rfl) (rfl) (Nat.le_of_ble_eq_true rfl) dX7_next_238 (fun H locs hP hD hS => ?_)
                              have hP : va_P D CL [(r, .inr (6, [.ref tx, .int (nI tz), .int (nI (q + k)), .int (nI q), .int (nI 4), .int (nI (vaC (byS tz tf) q k)), .ref w])), (tx, .inl (dA 1, 300, .inl tf))] H := hP
                              have hD : va_D A [(r, .inr (6, [.ref tx, .int (nI tz), .int (nI (q + k)), .int (nI q), .int (nI 4), .int (nI (vaC (byS tz tf) q k)), .ref w])), (tx, .inl (dA 1, 300, .inl tf))] := hD
                              refine lv_goto (tgt := 298) hx hb dX7_next_241 (by decide) ?_
                              subst hQ
                              have e9 : nxT tz (byS tz tf) a v = (4, q, q + k, vaC (byS tz tf) q k) := by simp only [nxT, hf]; rw [if_neg (by omega), if_neg ha, if_pos hd]; simp only [hro]; rw [if_pos (by omega), show q + k - q = k by omega]
                              have hL9 := nxL_eq tz (byS tz tf) a v
                              rw [e9] at hL9
                              dsimp only at hL9
                              refine W.widen (k := (4 + (nxL tz (byS tz tf) a))) (n := (40 + 5 * (nxL tz (byS tz tf) a))) (by omega) (by omega) ?_
                              have hP9 : va_P D CL (rdW dA r tx tz tf (nxT tz (byS tz tf) a v) w 0) H := by rw [e9, rdW_0 (show (4 : Nat) ≠ 1 by decide)]; exact hP.sub [0, 1] rfl
                              have hD9 : va_D A (rdW dA r tx tz tf (nxT tz (byS tz tf) a v) w 0) := by rw [e9, rdW_0 (show (4 : Nat) ≠ 1 by decide)]; exact hD.sub [0, 1] (by decide) rfl
                              exact W.vret hx hb hrt (fun t ht hW => ⟨⟨(w, 0), rfl, trivial, by rw [ht]; exact hP9, hD9, GK.warm hW hG⟩, hS.F ht⟩) hS.2.2 dX7_next_298
                          · exact absurd (by decide) c_175
                    exact L169 _ 0 (rfl) (by omega) (fun j hj => absurd hj (Nat.not_lt_zero j)) (Nat.lt_succ_self _) _ _ hP hD hS _ (lv_sub hl [2, 1, 0] rfl)
              · have ha : 97 ≤ byS tz tf q ∧ byS tz tf q ≤ 122 := by omega
                have hLw : (nxL tz (byS tz tf) a) = ruC (byS tz tf) 97 122 (tz - q) q - a := by rw [nxL_eq tz (byS tz tf) a v]; simp only [nxT, hf]; rw [if_neg (by omega), if_pos ha]
                have hru0 := (ruC_go (b := (byS tz tf)) (lo := 97) (hi := 122) (t := tz) (p := q) (by omega) ha).symm ▸ (ruC_le (byS tz tf) 97 122 (tz - (q + 1)) (q + 1)).1
                have haq : a ≤ q := hf ▸ (skW_le (byS tz tf) (tz - a) a).1
                refine va_new (D := D) (ci := 17) (C := RJ16) (T := TJ16) (N := 4) hx hb hts in_J16 tyJ16 tyJ16_ok hown (hts _ q628) (hts _ q629) (hts _ q86) hG.1 hP hD hS hA rfl (fs := [.null, .int (nI 0), .int (nI 0), .int (nI 0)]) (by decide) (by show 0 + 1 ≤ 4 + _; omega) (by show 0 + 4 ≤ 40 + 5 * _; omega) dX7_next_69 (fun q69 H hP hD hS => ?_)
                have hP : va_P D CL [(r, .inr (6, [.ref tx, .int (nI tz), .int (nI q), .int (nI q), .int (nI s0), .int (nI v), .ref w])), (tx, .inl (dA 1, 300, .inl tf)), (q69, .inr (17, [.null, .int (nI 0), .int (nI 0), .int (nI 0)]))] H := hP
                have hD : va_D A [(r, .inr (6, [.ref tx, .int (nI tz), .int (nI q), .int (nI q), .int (nI s0), .int (nI v), .ref w])), (tx, .inl (dA 1, 300, .inl tf)), (q69, .inr (17, [.null, .int (nI 0), .int (nI 0), .int (nI 0)]))] := hD
                refine lv_dup hx hb dX7_next_72 rfl ?_
                have hPs : va_P D CL ([(q69, .inr (17, [.null, .int (nI 0), .int (nI 0), .int (nI 0)]))] ++ [(r, .inr (6, [.ref tx, .int (nI tz), .int (nI q), .int (nI q), .int (nI s0), .int (nI v), .ref w])), (tx, .inl (dA 1, 300, .inl tf))]) H := hP.sub [2, 0, 1] rfl
                have hDs : va_D A ([(q69, .inr (17, [.null, .int (nI 0), .int (nI 0), .int (nI 0)]))] ++ [(r, .inr (6, [.ref tx, .int (nI tz), .int (nI q), .int (nI q), .int (nI s0), .int (nI v), .ref w])), (tx, .inl (dA 1, 300, .inl tf))]) := hD.sub [2, 0, 1] (by decide) rfl
                have hz9 := hS.1
                refine va_callv (va_runI (As := []) (rest := [.ref q69]) ⟨hx, hb, hml, hown, hts⟩ (c_J16_init lh D dA H.size q69) (cwI 0 hts (lw_meth q632) rfl rfl rfl (hts _ q86) (hts _ q630) (hts _ q631) rfl (by decide +kernel) ⟨Nat.le_of_ble_eq_true rfl, Nat.le_of_ble_eq_true rfl⟩) ⟨PX.blind (Mv.and Mv.heap (Mv.and Mv.heap (Mv.and Mv.heap (Mv.and Mv.gk KC.mv)))), PX.pre (Mv.and Mv.heap (Mv.and Mv.heap (Mv.and Mv.heap (Mv.and Mv.gk KC.mv)))) ⟨rfl, (va_P_left hPs), (va_D_left hDs), hG, (KC.at hKC hS (va_A_up hDs hA hS.1))⟩⟩ rfl rfl hl.1 rfl (lv_room (Nat.le_of_ble_eq_true rfl)) dX7_next_73 ⟨by show 0 + 1 + 1 ≤ 4 + _; omega, by show 0 + 4 + 16 ≤ 40 + 5 * _; omega⟩) hS (fun q _ => (va_A_up hDs hA hS.1) q) ((va_A_up hDs hA hS.1)) (fun u t H1 locs ht hvm hp hB hz hk hS => ?_)
                generalize u = u73 at hp hB
                obtain ⟨hP1, hD1, -⟩ := hB
                rw [ht] at hP1
                obtain ⟨hP, hD⟩ := vp_join hPs hDs hP1 hD1 hk hA hz9
                clear ht hvm hz hk hP1 hD1 hPs hDs hz9
                generalize H1 = H at hP hS ⊢
                have hP : va_P D CL [(q69, .inr (17, [.ref u73, .int (nI 0), .int (nI 0), .int (nI 0)])), (u73, .inl (dA 1, 16, .inl (fun _ => 0))), (r, .inr (6, [.ref tx, .int (nI tz), .int (nI q), .int (nI q), .int (nI s0), .int (nI v), .ref w])), (tx, .inl (dA 1, 300, .inl tf))] H := hP
                have hD : va_D A [(q69, .inr (17, [.ref u73, .int (nI 0), .int (nI 0), .int (nI 0)])), (u73, .inl (dA 1, 16, .inl (fun _ => 0))), (r, .inr (6, [.ref tx, .int (nI tz), .int (nI q), .int (nI q), .int (nI s0), .int (nI v), .ref w])), (tx, .inl (dA 1, 300, .inl tf))] := hD
                rw [show (fun _ => 0) = (bw (fun j => byS tz tf (q + j)) 0) from bw_0 _] at hP hD
                have hP : va_P D CL [(q69, .inr (17, [.ref u73, .int (nI 0), .int (nI 0), .int (nI 0)])), (u73, .inl (dA 1, 16, .inl (bw (fun j => byS tz tf (q + j)) 0))), (r, .inr (6, [.ref tx, .int (nI tz), .int (nI q), .int (nI q), .int (nI s0), .int (nI v), .ref w])), (tx, .inl (dA 1, 300, .inl tf))] H := hP
                have hD : va_D A [(q69, .inr (17, [.ref u73, .int (nI 0), .int (nI 0), .int (nI 0)])), (u73, .inl (dA 1, 16, .inl (bw (fun j => byS tz tf (q + j)) 0))), (r, .inr (6, [.ref tx, .int (nI tz), .int (nI q), .int (nI q), .int (nI s0), .int (nI v), .ref w])), (tx, .inl (dA 1, 300, .inl tf))] := hD
                have hP : va_P D CL [(r, .inr (6, [.ref tx, .int (nI tz), .int (nI q), .int (nI q), .int (nI s0), .int (nI v), .ref w])), (tx, .inl (dA 1, 300, .inl tf)), (q69, .inr (17, [.ref u73, .int (nI 0), .int (nI 0), .int (nI 0)])), (u73, .inl (dA 1, 16, .inl (bw (fun j => byS tz tf (q + j)) 0)))] H := hP.sub [2, 3, 0, 1] rfl
                have hD : va_D A [(r, .inr (6, [.ref tx, .int (nI tz), .int (nI q), .int (nI q), .int (nI s0), .int (nI v), .ref w])), (tx, .inl (dA 1, 300, .inl tf)), (q69, .inr (17, [.ref u73, .int (nI 0), .int (nI 0), .int (nI 0)])), (u73, .inl (dA 1, 16, .inl (bw (fun j => byS tz tf (q + j)) 0)))] := hD.sub [2, 3, 0, 1] (by decide) rfl
                refine lv_astore_n (lv' := [(2, .ref q69), (1, .int (nI (byS tz tf q))), (0, .ref r)]) hx hb dX7_next_76 rfl hl (by decide) rfl (fun ls hl => ?_)
                have L77 : ∀ (nn77 : Nat) (k : Nat) (va : Nat), (ruC (byS tz tf) 97 122 (tz - q) q = ruC (byS tz tf) 97 122 (tz - (q + k)) (q + k)) → (q + k ≤ tz) → (∀ j, j < k → 97 ≤ byS tz tf (q + j) ∧ byS tz tf (q + j) ≤ 122) → tz - (q + k) < nn77 → ∀ (H : Heap) (locs : List Loc), va_P D CL [(r, .inr (6, [.ref tx, .int (nI tz), .int (nI (q + k)), .int (nI q), .int (nI s0), .int (nI v), .ref w])), (tx, .inl (dA 1, 300, .inl tf)), (q69, .inr (17, [.ref va, .int (nI 0), .int (nI 0), .int (nI k)])), (va, .inl (dA 1, (capS k), .inl (bw (fun j => byS tz tf (q + j)) k)))] H → va_D A [(r, .inr (6, [.ref tx, .int (nI tz), .int (nI (q + k)), .int (nI q), .int (nI s0), .int (nI v), .ref w])), (tx, .inl (dA 1, 300, .inl tf)), (q69, .inr (17, [.ref va, .int (nI 0), .int (nI 0), .int (nI k)])), (va, .inl (dA 1, (capS k), .inl (bw (fun j => byS tz tf (q + j)) k)))] → va_S A s.heap H locs → ∀ (ls : Array Slot), lv_has ls 3 [(0, .ref r), (1, .int (nI (byS tz tf q))), (2, .ref q69)] → W p lh e (r_X7_next (nxL tz (byS tz tf) a)) s m args below meth cd H locs (2 + gcS k) (20 + glS k) Q (F0 m 77 ls []) := by
                  intro nn77
                  induction nn77 with
                  | zero => intro k va i77_0 i77_1 i77_2 hm77; exact absurd hm77 (Nat.not_lt_zero _)
                  | succ nn77 ih77 =>
                    intro k va i77_0 i77_1 i77_2 hm77 H locs hP hD hS ls hl
                    refine lv_aload_n hx hb dX7_next_77 rfl (lv_at hl 0 rfl) ?_
                    have hruk : q + k ≤ ruC (byS tz tf) 97 122 (tz - q) q := by rw [i77_0]; exact (ruC_le _ _ _ _ _).1
                    have hgck := gcS_le k
                    have hglk := glS_le k
                    by_cases hq2 : q + k < tz
                    · have hPs : va_P D CL ([(r, .inr (6, [.ref tx, .int (nI tz), .int (nI (q + k)), .int (nI q), .int (nI s0), .int (nI v), .ref w])), (tx, .inl (dA 1, 300, .inl tf))] ++ [(q69, .inr (17, [.ref va, .int (nI 0), .int (nI 0), .int (nI k)])), (va, .inl (dA 1, (capS k), .inl (bw (fun j => byS tz tf (q + j)) k)))]) H := hP.sub [0, 1, 2, 3] rfl
                      refine vp_callSi (va_Run.call (va_runV (As := []) (rest := []) ⟨hx, hb, hml, hown, hts⟩ (c_X7_see_I lh D dA r tx tz tf (q + k) q s0 v w (hq2) (h1)) (w_X7_see hts q624 rfl rfl ⟨Nat.le_of_ble_eq_true rfl, Nat.le_of_ble_eq_true rfl⟩) ⟨PX.blind (Mv.and Mv.heap Mv.gk), (va_recv hG.1 hP (ci := 6) (q0 := 0) rfl rfl), PX.pre (Mv.and Mv.heap Mv.gk) ⟨(va_P_left hPs), hG⟩⟩ rfl rfl hl.1 rfl (lv_room (Nat.le_of_ble_eq_true rfl)) dX7_next_78 ⟨by show 2 + gcS k + 0 ≤ 4 + (nxL tz (byS tz tf) a); omega, by show 20 + glS k + 0 ≤ 40 + 5 * (nxL tz (byS tz tf) a); omega⟩)) (fun rr hrr => ?_)
                      subst hrr
                      refine kx_int (y := nI (byS tz tf (q + k))) (rfl) ?_
                      refine lv_bipush (v := nI 97) hx hb dX7_next_81 (by decide) ?_
                      refine kn_clt (tgt := 118) hx hb dX7_next_83 (by decide) (by have := byS_lt tz tf (q + k); omega) (by omega) (fun c_83 => ?_) (fun c_83 => ?_)
                      · have hnw : ¬ (97 ≤ byS tz tf (q + k) ∧ byS tz tf (q + k) ≤ 122) := by omega
                        have hro : ruC (byS tz tf) 97 122 (tz - q) q = q + k := by rw [i77_0]; exact ruC_stop hnw
                        refine lv_aload_n hx hb dX7_next_118 rfl (lv_at hl 0 rfl) ?_
                        refine lv_aload_n hx hb dX7_next_119 rfl (lv_at hl 2 rfl) ?_
                        have hPs : va_P D CL ([(q69, .inr (17, [.ref va, .int (nI 0), .int (nI 0), .int (nI k)])), (va, .inl (dA 1, (capS k), .inl (bw (fun j => byS tz tf (q + j)) k)))] ++ [(r, .inr (6, [.ref tx, .int (nI tz), .int (nI (q + k)), .int (nI q), .int (nI s0), .int (nI v), .ref w])), (tx, .inl (dA 1, 300, .inl tf))]) H := hP.sub [2, 3, 0, 1] rfl
                        have hDs : va_D A ([(q69, .inr (17, [.ref va, .int (nI 0), .int (nI 0), .int (nI k)])), (va, .inl (dA 1, (capS k), .inl (bw (fun j => byS tz tf (q + j)) k)))] ++ [(r, .inr (6, [.ref tx, .int (nI tz), .int (nI (q + k)), .int (nI q), .int (nI s0), .int (nI v), .ref w])), (tx, .inl (dA 1, 300, .inl tf))]) := hD.sub [2, 3, 0, 1] (by decide) rfl
                        have hz9 := hS.1
                        refine va_callq (va_runV (As := []) (rest := [.ref r]) ⟨hx, hb, hml, hown, hts⟩ (c_J16_toString lh D dA H.size q69 va k (capS k) (fun j => byS tz tf (q + j)) ((capS_ge k).1) (by have := glS_le k; omega) (fun j hj => by have := i77_2 j hj; omega)) (w_J16_toString hts q718 rfl rfl ⟨Nat.le_of_ble_eq_true rfl, Nat.le_of_ble_eq_true rfl⟩) ⟨PX.blind (Mv.and Mv.heap (Mv.and Mv.heap (Mv.and Mv.heap (Mv.and Mv.gk KC.mv)))), (va_recv hG.1 hP (ci := 17) (q0 := 2) rfl rfl), PX.pre (Mv.and Mv.heap (Mv.and Mv.heap (Mv.and Mv.heap (Mv.and Mv.gk KC.mv)))) ⟨rfl, (va_P_left hPs), (va_D_left hDs), hG, (KC.at hKC hS (va_A_up hDs hA hS.1))⟩⟩ rfl rfl hl.1 rfl (lv_room (Nat.le_of_ble_eq_true rfl)) dX7_next_120 ⟨by show 2 + gcS k + 2 ≤ 4 + (nxL tz (byS tz tf) a); have := gcS_le k; omega, by show 20 + glS k + (4 + k) ≤ 40 + 5 * (nxL tz (byS tz tf) a); have := glS_le k; omega⟩) hS (fun q _ => (va_A_up hDs hA hS.1) q) ((va_A_up hDs hA hS.1)) (fun rr u t H1 locs ht hvm hp hB hz hk hS => ?_)
                        obtain ⟨u120_0, u120_1⟩ := u
                        obtain ⟨hP1, hD1, -⟩ := hB
                        rw [ht] at hP1
                        obtain ⟨hP, hD⟩ := vp_join hPs hDs hP1 hD1 hk hA hz9
                        clear ht hvm hz hk hP1 hD1 hPs hDs hz9
                        generalize H1 = H at hP hS ⊢
                        have hP : va_P D CL [(q69, .inr (17, [.ref va, .int (nI 0), .int (nI 0), .int (nI k)])), (va, .inl (dA 1, (capS k), .inl (bw (fun j => byS tz tf (q + j)) k))), (u120_0, .inr (16, [.ref u120_1, .int (nI 0), .int (nI 0), .int (nI 0)])), (u120_1, .inl (dA 1, k, .inl (bw (fun j => byS tz tf (q + j)) k))), (r, .inr (6, [.ref tx, .int (nI tz), .int (nI (q + k)), .int (nI q), .int (nI s0), .int (nI v), .ref w])), (tx, .inl (dA 1, 300, .inl tf))] H := hP
                        have hD : va_D A [(q69, .inr (17, [.ref va, .int (nI 0), .int (nI 0), .int (nI k)])), (va, .inl (dA 1, (capS k), .inl (bw (fun j => byS tz tf (q + j)) k))), (u120_0, .inr (16, [.ref u120_1, .int (nI 0), .int (nI 0), .int (nI 0)])), (u120_1, .inl (dA 1, k, .inl (bw (fun j => byS tz tf (q + j)) k))), (r, .inr (6, [.ref tx, .int (nI tz), .int (nI (q + k)), .int (nI q), .int (nI s0), .int (nI v), .ref w])), (tx, .inl (dA 1, 300, .inl tf))] := hD
                        have hrr := hp
                        try dsimp only at hrr
                        subst hrr
                        show W p lh e (r_X7_next (nxL tz (byS tz tf) a)) s m args below meth cd _ _ _ _ Q (F0 m _ ls (.ref u120_0 :: _))
                        refine va_put (D := D) (ci := 6) (v := .ref u120_0) (C := RX7) (T := TX7) (N := 7) hx hb hts in_X7 tyX7 tyX7_ok nmX7 hown hG.1 hP hD hS 4 rfl rfl 6 (by decide) (hts _ q784) (fun _ h => h) rfl rfl (rfl) (rfl) (Nat.le_of_ble_eq_true rfl) dX7_next_123 (fun H locs hP hD hS => ?_)
                        have hP : va_P D CL [(q69, .inr (17, [.ref va, .int (nI 0), .int (nI 0), .int (nI k)])), (va, .inl (dA 1, (capS k), .inl (bw (fun j => byS tz tf (q + j)) k))), (u120_0, .inr (16, [.ref u120_1, .int (nI 0), .int (nI 0), .int (nI 0)])), (u120_1, .inl (dA 1, k, .inl (bw (fun j => byS tz tf (q + j)) k))), (r, .inr (6, [.ref tx, .int (nI tz), .int (nI (q + k)), .int (nI q), .int (nI s0), .int (nI v), .ref u120_0])), (tx, .inl (dA 1, 300, .inl tf))] H := hP
                        have hD : va_D A [(q69, .inr (17, [.ref va, .int (nI 0), .int (nI 0), .int (nI k)])), (va, .inl (dA 1, (capS k), .inl (bw (fun j => byS tz tf (q + j)) k))), (u120_0, .inr (16, [.ref u120_1, .int (nI 0), .int (nI 0), .int (nI 0)])), (u120_1, .inl (dA 1, k, .inl (bw (fun j => byS tz tf (q + j)) k))), (r, .inr (6, [.ref tx, .int (nI tz), .int (nI (q + k)), .int (nI q), .int (nI s0), .int (nI v), .ref u120_0])), (tx, .inl (dA 1, 300, .inl tf))] := hD
                        refine lv_aload_n hx hb dX7_next_126 rfl (lv_at hl 0 rfl) ?_
                        refine lv_aload_n hx hb dX7_next_127 rfl (lv_at hl 0 rfl) ?_
                        refine va_get (D := D) (ci := 6) (v := .ref u120_0) (C := RX7) (T := TX7) (N := 7) hx hb hts in_X7 hown hG.1 hP 4 rfl rfl 6 (by decide) (hts _ q784) (fun _ h => h) rfl dX7_next_128 ?_
                        refine vp_callSi (W.runV (As := []) (rest := [.ref r]) ⟨hx, hb, hml, hown, hts⟩ (c_J3_length lh u120_0 u120_1 k (fun j => byS tz tf (q + j))) (w_J3_length hts q777 rfl rfl ⟨Nat.le_of_ble_eq_true rfl, Nat.le_of_ble_eq_true rfl⟩) ⟨PX.blind (Mv.and KC.mv SA.mv), (SA.recv (SA.of (i := 2) (j := 3) (n := k) (f := (fun j => byS tz tf (q + j))) hts hG hP rfl rfl (by omega) (fun j hj => ⟨bw_in hj, by have := i77_2 j hj; show byS tz tf (q + j) < 128; omega⟩))), PX.pre (Mv.and KC.mv SA.mv) ⟨(KC.at hKC hS (fun _ q => q.elim)), (SA.of (i := 2) (j := 3) (n := k) (f := (fun j => byS tz tf (q + j))) hts hG hP rfl rfl (by omega) (fun j hj => ⟨bw_in hj, by have := i77_2 j hj; show byS tz tf (q + j) < 128; omega⟩))⟩⟩ rfl rfl hl.1 rfl (lv_room (Nat.le_of_ble_eq_true rfl)) dX7_next_131 ⟨by show 2 + gcS k + 2 + 0 ≤ 4 + (nxL tz (byS tz tf) a); have := gcS_le k; omega, by show 20 + glS k + (4 + k) + 0 ≤ 40 + 5 * (nxL tz (byS tz tf) a); have := glS_le k; omega⟩) (fun rr hrr => ?_)
                        subst hrr
                        refine lv_bipush (v := nI 8) hx hb dX7_next_134 (by decide) ?_
                        refine kn_cle (tgt := 143) hx hb dX7_next_136 (by decide) (by omega) (by omega) (fun c_136 => ?_) (fun c_136 => ?_)
                        · refine lv_iconst (v := nI 1) hx hb dX7_next_143 (by decide) ?_
                          refine va_put (D := D) (ci := 6) (v := .int (nI 1)) (C := RX7) (T := TX7) (N := 7) hx hb hts in_X7 tyX7 tyX7_ok nmX7 hown hG.1 hP hD hS 4 rfl rfl 4 (by decide) (hts _ q782) (fun _ h => h) rfl rfl (rfl) (rfl) (Nat.le_of_ble_eq_true rfl) dX7_next_144 (fun H locs hP hD hS => ?_)
                          have hP : va_P D CL [(q69, .inr (17, [.ref va, .int (nI 0), .int (nI 0), .int (nI k)])), (va, .inl (dA 1, (capS k), .inl (bw (fun j => byS tz tf (q + j)) k))), (u120_0, .inr (16, [.ref u120_1, .int (nI 0), .int (nI 0), .int (nI 0)])), (u120_1, .inl (dA 1, k, .inl (bw (fun j => byS tz tf (q + j)) k))), (r, .inr (6, [.ref tx, .int (nI tz), .int (nI (q + k)), .int (nI q), .int (nI 1), .int (nI v), .ref u120_0])), (tx, .inl (dA 1, 300, .inl tf))] H := hP
                          have hD : va_D A [(q69, .inr (17, [.ref va, .int (nI 0), .int (nI 0), .int (nI k)])), (va, .inl (dA 1, (capS k), .inl (bw (fun j => byS tz tf (q + j)) k))), (u120_0, .inr (16, [.ref u120_1, .int (nI 0), .int (nI 0), .int (nI 0)])), (u120_1, .inl (dA 1, k, .inl (bw (fun j => byS tz tf (q + j)) k))), (r, .inr (6, [.ref tx, .int (nI tz), .int (nI (q + k)), .int (nI q), .int (nI 1), .int (nI v), .ref u120_0])), (tx, .inl (dA 1, 300, .inl tf))] := hD
                          refine lv_goto (tgt := 298) hx hb dX7_next_147 (by decide) ?_
                          have hP : va_P D CL [(q69, .inr (17, [.ref va, .int (nI 0), .int (nI 0), .int (nI k)])), (va, .inl (dA 1, (capS k), .inl (bw (fun j => byS tz tf (q + j)) k))), (u120_0, .inr (16, [.ref u120_1, .int (nI 0), .int (nI 0), .int (nI 0)])), (u120_1, .inl (dA 1, (q + k - q), .inl (bw (fun j => byS tz tf (q + j)) (q + k - q)))), (r, .inr (6, [.ref tx, .int (nI tz), .int (nI (q + k)), .int (nI q), .int (nI 1), .int (nI v), .ref u120_0])), (tx, .inl (dA 1, 300, .inl tf))] H := by rw [show q + k - q = k by omega]; exact hP
                          have hD : va_D A [(q69, .inr (17, [.ref va, .int (nI 0), .int (nI 0), .int (nI k)])), (va, .inl (dA 1, (capS k), .inl (bw (fun j => byS tz tf (q + j)) k))), (u120_0, .inr (16, [.ref u120_1, .int (nI 0), .int (nI 0), .int (nI 0)])), (u120_1, .inl (dA 1, (q + k - q), .inl (bw (fun j => byS tz tf (q + j)) (q + k - q)))), (r, .inr (6, [.ref tx, .int (nI tz), .int (nI (q + k)), .int (nI q), .int (nI 1), .int (nI v), .ref u120_0])), (tx, .inl (dA 1, 300, .inl tf))] := by rw [show q + k - q = k by omega]; exact hD
                          subst hQ
                          have e9 : nxT tz (byS tz tf) a v = (1, q, q + k, v) := by simp only [nxT, hf]; rw [if_neg (by omega), if_pos ha]; simp only [hro]; rw [if_neg (by omega)]
                          have hL9 := nxL_eq tz (byS tz tf) a v
                          rw [e9] at hL9
                          dsimp only at hL9
                          have hgl := glS_le k
                          have hgc := gcS_le k
                          refine W.widen (k := (4 + (nxL tz (byS tz tf) a))) (n := (40 + 5 * (nxL tz (byS tz tf) a))) (by omega) (by omega) ?_
                          have hP9 : va_P D CL (rdW dA r tx tz tf (nxT tz (byS tz tf) a v) u120_0 u120_1) H := by rw [e9, rdW_1 rfl]; exact hP.sub [4, 5, 2, 3] rfl
                          have hD9 : va_D A (rdW dA r tx tz tf (nxT tz (byS tz tf) a v) u120_0 u120_1) := by rw [e9, rdW_1 rfl]; exact hD.sub [4, 5, 2, 3] (by decide) rfl
                          exact W.vret hx hb hrt (fun t ht hW => ⟨⟨(u120_0, u120_1), rfl, trivial, by rw [ht]; exact hP9, hD9, GK.warm hW hG⟩, hS.F ht⟩) hS.2.2 dX7_next_298
                        · refine lv_iconst (v := nI 4) hx hb dX7_next_139 (by decide) ?_
                          refine lv_goto (tgt := 144) hx hb dX7_next_140 (by decide) ?_
                          refine va_put (D := D) (ci := 6) (v := .int (nI 4)) (C := RX7) (T := TX7) (N := 7) hx hb hts in_X7 tyX7 tyX7_ok nmX7 hown hG.1 hP hD hS 4 rfl rfl 4 (by decide) (hts _ q782) (fun _ h => h) rfl rfl (rfl) (rfl) (Nat.le_of_ble_eq_true rfl) dX7_next_144 (fun H locs hP hD hS => ?_)
                          have hP : va_P D CL [(q69, .inr (17, [.ref va, .int (nI 0), .int (nI 0), .int (nI k)])), (va, .inl (dA 1, (capS k), .inl (bw (fun j => byS tz tf (q + j)) k))), (u120_0, .inr (16, [.ref u120_1, .int (nI 0), .int (nI 0), .int (nI 0)])), (u120_1, .inl (dA 1, k, .inl (bw (fun j => byS tz tf (q + j)) k))), (r, .inr (6, [.ref tx, .int (nI tz), .int (nI (q + k)), .int (nI q), .int (nI 4), .int (nI v), .ref u120_0])), (tx, .inl (dA 1, 300, .inl tf))] H := hP
                          have hD : va_D A [(q69, .inr (17, [.ref va, .int (nI 0), .int (nI 0), .int (nI k)])), (va, .inl (dA 1, (capS k), .inl (bw (fun j => byS tz tf (q + j)) k))), (u120_0, .inr (16, [.ref u120_1, .int (nI 0), .int (nI 0), .int (nI 0)])), (u120_1, .inl (dA 1, k, .inl (bw (fun j => byS tz tf (q + j)) k))), (r, .inr (6, [.ref tx, .int (nI tz), .int (nI (q + k)), .int (nI q), .int (nI 4), .int (nI v), .ref u120_0])), (tx, .inl (dA 1, 300, .inl tf))] := hD
                          refine lv_goto (tgt := 298) hx hb dX7_next_147 (by decide) ?_
                          subst hQ
                          have e9 : nxT tz (byS tz tf) a v = (4, q, q + k, v) := by simp only [nxT, hf]; rw [if_neg (by omega), if_pos ha]; simp only [hro]; rw [if_pos (by omega)]
                          have hL9 := nxL_eq tz (byS tz tf) a v
                          rw [e9] at hL9
                          dsimp only at hL9
                          have hgl := glS_le k
                          have hgc := gcS_le k
                          refine W.widen (k := (4 + (nxL tz (byS tz tf) a))) (n := (40 + 5 * (nxL tz (byS tz tf) a))) (by omega) (by omega) ?_
                          have hP9 : va_P D CL (rdW dA r tx tz tf (nxT tz (byS tz tf) a v) u120_0 0) H := by rw [e9, rdW_0 (show (4 : Nat) ≠ 1 by decide)]; exact hP.sub [4, 5] rfl
                          have hD9 : va_D A (rdW dA r tx tz tf (nxT tz (byS tz tf) a v) u120_0 0) := by rw [e9, rdW_0 (show (4 : Nat) ≠ 1 by decide)]; exact hD.sub [4, 5] (by decide) rfl
                          exact W.vret hx hb hrt (fun t ht hW => ⟨⟨(u120_0, 0), rfl, trivial, by rw [ht]; exact hP9, hD9, GK.warm hW hG⟩, hS.F ht⟩) hS.2.2 dX7_next_298
                      · refine lv_aload_n hx hb dX7_next_86 rfl (lv_at hl 0 rfl) ?_
                        have hPs : va_P D CL ([(r, .inr (6, [.ref tx, .int (nI tz), .int (nI (q + k)), .int (nI q), .int (nI s0), .int (nI v), .ref w])), (tx, .inl (dA 1, 300, .inl tf))] ++ [(q69, .inr (17, [.ref va, .int (nI 0), .int (nI 0), .int (nI k)])), (va, .inl (dA 1, (capS k), .inl (bw (fun j => byS tz tf (q + j)) k)))]) H := hP.sub [0, 1, 2, 3] rfl
                        refine vp_callSi (va_Run.call (va_runV (As := []) (rest := []) ⟨hx, hb, hml, hown, hts⟩ (c_X7_see_I lh D dA r tx tz tf (q + k) q s0 v w (hq2) (h1)) (w_X7_see hts q624 rfl rfl ⟨Nat.le_of_ble_eq_true rfl, Nat.le_of_ble_eq_true rfl⟩) ⟨PX.blind (Mv.and Mv.heap Mv.gk), (va_recv hG.1 hP (ci := 6) (q0 := 0) rfl rfl), PX.pre (Mv.and Mv.heap Mv.gk) ⟨(va_P_left hPs), hG⟩⟩ rfl rfl hl.1 rfl (lv_room (Nat.le_of_ble_eq_true rfl)) dX7_next_87 ⟨by show 2 + gcS k + 0 ≤ 4 + (nxL tz (byS tz tf) a); omega, by show 20 + glS k + 0 ≤ 40 + 5 * (nxL tz (byS tz tf) a); omega⟩)) (fun rr hrr => ?_)
                        subst hrr
                        refine kx_int (y := nI (byS tz tf (q + k))) (rfl) ?_
                        refine lv_bipush (v := nI 122) hx hb dX7_next_90 (by decide) ?_
                        refine kn_cgt (tgt := 118) hx hb dX7_next_92 (by decide) (by have := byS_lt tz tf (q + k); omega) (by omega) (fun c_92 => ?_) (fun c_92 => ?_)
                        · have hnw : ¬ (97 ≤ byS tz tf (q + k) ∧ byS tz tf (q + k) ≤ 122) := by omega
                          have hro : ruC (byS tz tf) 97 122 (tz - q) q = q + k := by rw [i77_0]; exact ruC_stop hnw
                          refine lv_aload_n hx hb dX7_next_118 rfl (lv_at hl 0 rfl) ?_
                          refine lv_aload_n hx hb dX7_next_119 rfl (lv_at hl 2 rfl) ?_
                          have hPs : va_P D CL ([(q69, .inr (17, [.ref va, .int (nI 0), .int (nI 0), .int (nI k)])), (va, .inl (dA 1, (capS k), .inl (bw (fun j => byS tz tf (q + j)) k)))] ++ [(r, .inr (6, [.ref tx, .int (nI tz), .int (nI (q + k)), .int (nI q), .int (nI s0), .int (nI v), .ref w])), (tx, .inl (dA 1, 300, .inl tf))]) H := hP.sub [2, 3, 0, 1] rfl
                          have hDs : va_D A ([(q69, .inr (17, [.ref va, .int (nI 0), .int (nI 0), .int (nI k)])), (va, .inl (dA 1, (capS k), .inl (bw (fun j => byS tz tf (q + j)) k)))] ++ [(r, .inr (6, [.ref tx, .int (nI tz), .int (nI (q + k)), .int (nI q), .int (nI s0), .int (nI v), .ref w])), (tx, .inl (dA 1, 300, .inl tf))]) := hD.sub [2, 3, 0, 1] (by decide) rfl
                          have hz9 := hS.1
                          refine va_callq (va_runV (As := []) (rest := [.ref r]) ⟨hx, hb, hml, hown, hts⟩ (c_J16_toString lh D dA H.size q69 va k (capS k) (fun j => byS tz tf (q + j)) ((capS_ge k).1) (by have := glS_le k; omega) (fun j hj => by have := i77_2 j hj; omega)) (w_J16_toString hts q718 rfl rfl ⟨Nat.le_of_ble_eq_true rfl, Nat.le_of_ble_eq_true rfl⟩) ⟨PX.blind (Mv.and Mv.heap (Mv.and Mv.heap (Mv.and Mv.heap (Mv.and Mv.gk KC.mv)))), (va_recv hG.1 hP (ci := 17) (q0 := 2) rfl rfl), PX.pre (Mv.and Mv.heap (Mv.and Mv.heap (Mv.and Mv.heap (Mv.and Mv.gk KC.mv)))) ⟨rfl, (va_P_left hPs), (va_D_left hDs), hG, (KC.at hKC hS (va_A_up hDs hA hS.1))⟩⟩ rfl rfl hl.1 rfl (lv_room (Nat.le_of_ble_eq_true rfl)) dX7_next_120 ⟨by show 2 + gcS k + 2 ≤ 4 + (nxL tz (byS tz tf) a); have := gcS_le k; omega, by show 20 + glS k + (4 + k) ≤ 40 + 5 * (nxL tz (byS tz tf) a); have := glS_le k; omega⟩) hS (fun q _ => (va_A_up hDs hA hS.1) q) ((va_A_up hDs hA hS.1)) (fun rr u t H1 locs ht hvm hp hB hz hk hS => ?_)
                          obtain ⟨u120_0, u120_1⟩ := u
                          obtain ⟨hP1, hD1, -⟩ := hB
                          rw [ht] at hP1
                          obtain ⟨hP, hD⟩ := vp_join hPs hDs hP1 hD1 hk hA hz9
                          clear ht hvm hz hk hP1 hD1 hPs hDs hz9
                          generalize H1 = H at hP hS ⊢
                          have hP : va_P D CL [(q69, .inr (17, [.ref va, .int (nI 0), .int (nI 0), .int (nI k)])), (va, .inl (dA 1, (capS k), .inl (bw (fun j => byS tz tf (q + j)) k))), (u120_0, .inr (16, [.ref u120_1, .int (nI 0), .int (nI 0), .int (nI 0)])), (u120_1, .inl (dA 1, k, .inl (bw (fun j => byS tz tf (q + j)) k))), (r, .inr (6, [.ref tx, .int (nI tz), .int (nI (q + k)), .int (nI q), .int (nI s0), .int (nI v), .ref w])), (tx, .inl (dA 1, 300, .inl tf))] H := hP
                          have hD : va_D A [(q69, .inr (17, [.ref va, .int (nI 0), .int (nI 0), .int (nI k)])), (va, .inl (dA 1, (capS k), .inl (bw (fun j => byS tz tf (q + j)) k))), (u120_0, .inr (16, [.ref u120_1, .int (nI 0), .int (nI 0), .int (nI 0)])), (u120_1, .inl (dA 1, k, .inl (bw (fun j => byS tz tf (q + j)) k))), (r, .inr (6, [.ref tx, .int (nI tz), .int (nI (q + k)), .int (nI q), .int (nI s0), .int (nI v), .ref w])), (tx, .inl (dA 1, 300, .inl tf))] := hD
                          have hrr := hp
                          try dsimp only at hrr
                          subst hrr
                          show W p lh e (r_X7_next (nxL tz (byS tz tf) a)) s m args below meth cd _ _ _ _ Q (F0 m _ ls (.ref u120_0 :: _))
                          refine va_put (D := D) (ci := 6) (v := .ref u120_0) (C := RX7) (T := TX7) (N := 7) hx hb hts in_X7 tyX7 tyX7_ok nmX7 hown hG.1 hP hD hS 4 rfl rfl 6 (by decide) (hts _ q784) (fun _ h => h) rfl rfl (rfl) (rfl) (Nat.le_of_ble_eq_true rfl) dX7_next_123 (fun H locs hP hD hS => ?_)
                          have hP : va_P D CL [(q69, .inr (17, [.ref va, .int (nI 0), .int (nI 0), .int (nI k)])), (va, .inl (dA 1, (capS k), .inl (bw (fun j => byS tz tf (q + j)) k))), (u120_0, .inr (16, [.ref u120_1, .int (nI 0), .int (nI 0), .int (nI 0)])), (u120_1, .inl (dA 1, k, .inl (bw (fun j => byS tz tf (q + j)) k))), (r, .inr (6, [.ref tx, .int (nI tz), .int (nI (q + k)), .int (nI q), .int (nI s0), .int (nI v), .ref u120_0])), (tx, .inl (dA 1, 300, .inl tf))] H := hP
                          have hD : va_D A [(q69, .inr (17, [.ref va, .int (nI 0), .int (nI 0), .int (nI k)])), (va, .inl (dA 1, (capS k), .inl (bw (fun j => byS tz tf (q + j)) k))), (u120_0, .inr (16, [.ref u120_1, .int (nI 0), .int (nI 0), .int (nI 0)])), (u120_1, .inl (dA 1, k, .inl (bw (fun j => byS tz tf (q + j)) k))), (r, .inr (6, [.ref tx, .int (nI tz), .int (nI (q + k)), .int (nI q), .int (nI s0), .int (nI v), .ref u120_0])), (tx, .inl (dA 1, 300, .inl tf))] := hD
                          refine lv_aload_n hx hb dX7_next_126 rfl (lv_at hl 0 rfl) ?_
                          refine lv_aload_n hx hb dX7_next_127 rfl (lv_at hl 0 rfl) ?_
                          refine va_get (D := D) (ci := 6) (v := .ref u120_0) (C := RX7) (T := TX7) (N := 7) hx hb hts in_X7 hown hG.1 hP 4 rfl rfl 6 (by decide) (hts _ q784) (fun _ h => h) rfl dX7_next_128 ?_
                          refine vp_callSi (W.runV (As := []) (rest := [.ref r]) ⟨hx, hb, hml, hown, hts⟩ (c_J3_length lh u120_0 u120_1 k (fun j => byS tz tf (q + j))) (w_J3_length hts q777 rfl rfl ⟨Nat.le_of_ble_eq_true rfl, Nat.le_of_ble_eq_true rfl⟩) ⟨PX.blind (Mv.and KC.mv SA.mv), (SA.recv (SA.of (i := 2) (j := 3) (n := k) (f := (fun j => byS tz tf (q + j))) hts hG hP rfl rfl (by omega) (fun j hj => ⟨bw_in hj, by have := i77_2 j hj; show byS tz tf (q + j) < 128; omega⟩))), PX.pre (Mv.and KC.mv SA.mv) ⟨(KC.at hKC hS (fun _ q => q.elim)), (SA.of (i := 2) (j := 3) (n := k) (f := (fun j => byS tz tf (q + j))) hts hG hP rfl rfl (by omega) (fun j hj => ⟨bw_in hj, by have := i77_2 j hj; show byS tz tf (q + j) < 128; omega⟩))⟩⟩ rfl rfl hl.1 rfl (lv_room (Nat.le_of_ble_eq_true rfl)) dX7_next_131 ⟨by show 2 + gcS k + 2 + 0 ≤ 4 + (nxL tz (byS tz tf) a); have := gcS_le k; omega, by show 20 + glS k + (4 + k) + 0 ≤ 40 + 5 * (nxL tz (byS tz tf) a); have := glS_le k; omega⟩) (fun rr hrr => ?_)
                          subst hrr
                          refine lv_bipush (v := nI 8) hx hb dX7_next_134 (by decide) ?_
                          refine kn_cle (tgt := 143) hx hb dX7_next_136 (by decide) (by omega) (by omega) (fun c_136 => ?_) (fun c_136 => ?_)
                          · refine lv_iconst (v := nI 1) hx hb dX7_next_143 (by decide) ?_
                            refine va_put (D := D) (ci := 6) (v := .int (nI 1)) (C := RX7) (T := TX7) (N := 7) hx hb hts in_X7 tyX7 tyX7_ok nmX7 hown hG.1 hP hD hS 4 rfl rfl 4 (by decide) (hts _ q782) (fun _ h => h) rfl rfl (rfl) (rfl) (Nat.le_of_ble_eq_true rfl) dX7_next_144 (fun H locs hP hD hS => ?_)
                            have hP : va_P D CL [(q69, .inr (17, [.ref va, .int (nI 0), .int (nI 0), .int (nI k)])), (va, .inl (dA 1, (capS k), .inl (bw (fun j => byS tz tf (q + j)) k))), (u120_0, .inr (16, [.ref u120_1, .int (nI 0), .int (nI 0), .int (nI 0)])), (u120_1, .inl (dA 1, k, .inl (bw (fun j => byS tz tf (q + j)) k))), (r, .inr (6, [.ref tx, .int (nI tz), .int (nI (q + k)), .int (nI q), .int (nI 1), .int (nI v), .ref u120_0])), (tx, .inl (dA 1, 300, .inl tf))] H := hP
                            have hD : va_D A [(q69, .inr (17, [.ref va, .int (nI 0), .int (nI 0), .int (nI k)])), (va, .inl (dA 1, (capS k), .inl (bw (fun j => byS tz tf (q + j)) k))), (u120_0, .inr (16, [.ref u120_1, .int (nI 0), .int (nI 0), .int (nI 0)])), (u120_1, .inl (dA 1, k, .inl (bw (fun j => byS tz tf (q + j)) k))), (r, .inr (6, [.ref tx, .int (nI tz), .int (nI (q + k)), .int (nI q), .int (nI 1), .int (nI v), .ref u120_0])), (tx, .inl (dA 1, 300, .inl tf))] := hD
                            refine lv_goto (tgt := 298) hx hb dX7_next_147 (by decide) ?_
                            have hP : va_P D CL [(q69, .inr (17, [.ref va, .int (nI 0), .int (nI 0), .int (nI k)])), (va, .inl (dA 1, (capS k), .inl (bw (fun j => byS tz tf (q + j)) k))), (u120_0, .inr (16, [.ref u120_1, .int (nI 0), .int (nI 0), .int (nI 0)])), (u120_1, .inl (dA 1, (q + k - q), .inl (bw (fun j => byS tz tf (q + j)) (q + k - q)))), (r, .inr (6, [.ref tx, .int (nI tz), .int (nI (q + k)), .int (nI q), .int (nI 1), .int (nI v), .ref u120_0])), (tx, .inl (dA 1, 300, .inl tf))] H := by rw [show q + k - q = k by omega]; exact hP
                            have hD : va_D A [(q69, .inr (17, [.ref va, .int (nI 0), .int (nI 0), .int (nI k)])), (va, .inl (dA 1, (capS k), .inl (bw (fun j => byS tz tf (q + j)) k))), (u120_0, .inr (16, [.ref u120_1, .int (nI 0), .int (nI 0), .int (nI 0)])), (u120_1, .inl (dA 1, (q + k - q), .inl (bw (fun j => byS tz tf (q + j)) (q + k - q)))), (r, .inr (6, [.ref tx, .int (nI tz), .int (nI (q + k)), .int (nI q), .int (nI 1), .int (nI v), .ref u120_0])), (tx, .inl (dA 1, 300, .inl tf))] := by rw [show q + k - q = k by omega]; exact hD
                            subst hQ
                            have e9 : nxT tz (byS tz tf) a v = (1, q, q + k, v) := by simp only [nxT, hf]; rw [if_neg (by omega), if_pos ha]; simp only [hro]; rw [if_neg (by omega)]
                            have hL9 := nxL_eq tz (byS tz tf) a v
                            rw [e9] at hL9
                            dsimp only at hL9
                            have hgl := glS_le k
                            have hgc := gcS_le k
                            refine W.widen (k := (4 + (nxL tz (byS tz tf) a))) (n := (40 + 5 * (nxL tz (byS tz tf) a))) (by omega) (by omega) ?_
                            have hP9 : va_P D CL (rdW dA r tx tz tf (nxT tz (byS tz tf) a v) u120_0 u120_1) H := by rw [e9, rdW_1 rfl]; exact hP.sub [4, 5, 2, 3] rfl
                            have hD9 : va_D A (rdW dA r tx tz tf (nxT tz (byS tz tf) a v) u120_0 u120_1) := by rw [e9, rdW_1 rfl]; exact hD.sub [4, 5, 2, 3] (by decide) rfl
                            exact W.vret hx hb hrt (fun t ht hW => ⟨⟨(u120_0, u120_1), rfl, trivial, by rw [ht]; exact hP9, hD9, GK.warm hW hG⟩, hS.F ht⟩) hS.2.2 dX7_next_298
                          · refine lv_iconst (v := nI 4) hx hb dX7_next_139 (by decide) ?_
                            refine lv_goto (tgt := 144) hx hb dX7_next_140 (by decide) ?_
                            refine va_put (D := D) (ci := 6) (v := .int (nI 4)) (C := RX7) (T := TX7) (N := 7) hx hb hts in_X7 tyX7 tyX7_ok nmX7 hown hG.1 hP hD hS 4 rfl rfl 4 (by decide) (hts _ q782) (fun _ h => h) rfl rfl (rfl) (rfl) (Nat.le_of_ble_eq_true rfl) dX7_next_144 (fun H locs hP hD hS => ?_)
                            have hP : va_P D CL [(q69, .inr (17, [.ref va, .int (nI 0), .int (nI 0), .int (nI k)])), (va, .inl (dA 1, (capS k), .inl (bw (fun j => byS tz tf (q + j)) k))), (u120_0, .inr (16, [.ref u120_1, .int (nI 0), .int (nI 0), .int (nI 0)])), (u120_1, .inl (dA 1, k, .inl (bw (fun j => byS tz tf (q + j)) k))), (r, .inr (6, [.ref tx, .int (nI tz), .int (nI (q + k)), .int (nI q), .int (nI 4), .int (nI v), .ref u120_0])), (tx, .inl (dA 1, 300, .inl tf))] H := hP
                            have hD : va_D A [(q69, .inr (17, [.ref va, .int (nI 0), .int (nI 0), .int (nI k)])), (va, .inl (dA 1, (capS k), .inl (bw (fun j => byS tz tf (q + j)) k))), (u120_0, .inr (16, [.ref u120_1, .int (nI 0), .int (nI 0), .int (nI 0)])), (u120_1, .inl (dA 1, k, .inl (bw (fun j => byS tz tf (q + j)) k))), (r, .inr (6, [.ref tx, .int (nI tz), .int (nI (q + k)), .int (nI q), .int (nI 4), .int (nI v), .ref u120_0])), (tx, .inl (dA 1, 300, .inl tf))] := hD
                            refine lv_goto (tgt := 298) hx hb dX7_next_147 (by decide) ?_
                            subst hQ
                            have e9 : nxT tz (byS tz tf) a v = (4, q, q + k, v) := by simp only [nxT, hf]; rw [if_neg (by omega), if_pos ha]; simp only [hro]; rw [if_pos (by omega)]
                            have hL9 := nxL_eq tz (byS tz tf) a v
                            rw [e9] at hL9
                            dsimp only at hL9
                            have hgl := glS_le k
                            have hgc := gcS_le k
                            refine W.widen (k := (4 + (nxL tz (byS tz tf) a))) (n := (40 + 5 * (nxL tz (byS tz tf) a))) (by omega) (by omega) ?_
                            have hP9 : va_P D CL (rdW dA r tx tz tf (nxT tz (byS tz tf) a v) u120_0 0) H := by rw [e9, rdW_0 (show (4 : Nat) ≠ 1 by decide)]; exact hP.sub [4, 5] rfl
                            have hD9 : va_D A (rdW dA r tx tz tf (nxT tz (byS tz tf) a v) u120_0 0) := by rw [e9, rdW_0 (show (4 : Nat) ≠ 1 by decide)]; exact hD.sub [4, 5] (by decide) rfl
                            exact W.vret hx hb hrt (fun t ht hW => ⟨⟨(u120_0, 0), rfl, trivial, by rw [ht]; exact hP9, hD9, GK.warm hW hG⟩, hS.F ht⟩) hS.2.2 dX7_next_298
                        · have hw : 97 ≤ byS tz tf (q + k) ∧ byS tz tf (q + k) ≤ 122 := by omega
                          have hru1 := (ruC_go (b := (byS tz tf)) (lo := 97) (hi := 122) (t := tz) (p := q + k) (by omega) hw).symm ▸ (ruC_le (byS tz tf) 97 122 (tz - (q + k + 1)) (q + k + 1)).1
                          rw [← i77_0] at hru1
                          refine lv_aload_n hx hb dX7_next_95 rfl (lv_at hl 2 rfl) ?_
                          refine lv_aload_n hx hb dX7_next_96 rfl (lv_at hl 0 rfl) ?_
                          have hPs : va_P D CL ([(r, .inr (6, [.ref tx, .int (nI tz), .int (nI (q + k)), .int (nI q), .int (nI s0), .int (nI v), .ref w])), (tx, .inl (dA 1, 300, .inl tf))] ++ [(q69, .inr (17, [.ref va, .int (nI 0), .int (nI 0), .int (nI k)])), (va, .inl (dA 1, (capS k), .inl (bw (fun j => byS tz tf (q + j)) k)))]) H := hP.sub [0, 1, 2, 3] rfl
                          refine vp_callSi (va_Run.call (va_runV (As := []) (rest := [.ref q69]) ⟨hx, hb, hml, hown, hts⟩ (c_X7_see_I lh D dA r tx tz tf (q + k) q s0 v w (hq2) (h1)) (w_X7_see hts q624 rfl rfl ⟨Nat.le_of_ble_eq_true rfl, Nat.le_of_ble_eq_true rfl⟩) ⟨PX.blind (Mv.and Mv.heap Mv.gk), (va_recv hG.1 hP (ci := 6) (q0 := 0) rfl rfl), PX.pre (Mv.and Mv.heap Mv.gk) ⟨(va_P_left hPs), hG⟩⟩ rfl rfl hl.1 rfl (lv_room (Nat.le_of_ble_eq_true rfl)) dX7_next_97 ⟨by show 2 + gcS k + 0 ≤ 4 + (nxL tz (byS tz tf) a); omega, by show 20 + glS k + 0 ≤ 40 + 5 * (nxL tz (byS tz tf) a); omega⟩)) (fun rr hrr => ?_)
                          subst hrr
                          refine kx_int (y := nI (byS tz tf (q + k))) (rfl) ?_
                          refine lv_i2c (v := ((nI (byS tz tf (q + k))).toUInt32 % 65536).toInt32) hx hb dX7_next_100 rfl ?_
                          refine kx_int (y := nI (byS tz tf (q + k))) (i2c_n (by omega)) ?_
                          have hge := capS_ge k
                          have hgl := glS_le k
                          have hgl1 := glS_le (k + 1)
                          have hgc := gcS_le k
                          have hgc1 := gcS_le (k + 1)
                          by_cases hk : k < capS k
                          · obtain ⟨g1, g2, g3⟩ := capS_r hk
                            have hPs : va_P D CL ([(q69, .inr (17, [.ref va, .int (nI 0), .int (nI 0), .int (nI k)])), (va, .inl (dA 1, (capS k), .inl (bw (fun j => byS tz tf (q + j)) k)))] ++ [(r, .inr (6, [.ref tx, .int (nI tz), .int (nI (q + k)), .int (nI q), .int (nI s0), .int (nI v), .ref w])), (tx, .inl (dA 1, 300, .inl tf))]) H := hP.sub [2, 3, 0, 1] rfl
                            have hDs : va_D A ([(q69, .inr (17, [.ref va, .int (nI 0), .int (nI 0), .int (nI k)])), (va, .inl (dA 1, (capS k), .inl (bw (fun j => byS tz tf (q + j)) k)))] ++ [(r, .inr (6, [.ref tx, .int (nI tz), .int (nI (q + k)), .int (nI q), .int (nI s0), .int (nI v), .ref w])), (tx, .inl (dA 1, 300, .inl tf))]) := hD.sub [2, 3, 0, 1] (by decide) rfl
                            have hz9 := hS.1
                            refine va_callq (va_runV (As := [.int (nI (byS tz tf (q + k)))]) (rest := []) ⟨hx, hb, hml, hown, hts⟩ (c_J16_append_R lh D dA H.size q69 va k (capS k) (fun j => byS tz tf (q + j)) (byS tz tf (q + k)) (hk) (by omega) (rfl) (by omega)) (w_J16_append hts q658 rfl rfl ⟨Nat.le_of_ble_eq_true rfl, Nat.le_of_ble_eq_true rfl⟩) ⟨PX.blind (Mv.and Mv.heap (Mv.and Mv.heap (Mv.and Mv.heap (Mv.and Mv.gk (Mv.and KC.mv PV.mv))))), (va_recv hG.1 hP (ci := 17) (q0 := 2) rfl rfl), PX.pre (Mv.and Mv.heap (Mv.and Mv.heap (Mv.and Mv.heap (Mv.and Mv.gk (Mv.and KC.mv PV.mv))))) ⟨rfl, (va_P_left hPs), (va_D_left hDs), hG, (KC.at hKC hS (va_A_up hDs hA hS.1)), hPV⟩⟩ rfl rfl hl.1 rfl (lv_room (Nat.le_of_ble_eq_true rfl)) dX7_next_101 ⟨by show 2 + gcS k + _ ≤ 4 + (nxL tz (byS tz tf) a); omega, by show 20 + glS k + _ ≤ 40 + 5 * (nxL tz (byS tz tf) a); omega⟩) hS (fun q _ => (va_A_up hDs hA hS.1) q) ((va_A_up hDs hA hS.1)) (fun rr u t H1 locs ht hvm hp hB hz hk hS => ?_)
                            obtain ⟨hP1, hD1, -⟩ := hB
                            rw [ht] at hP1
                            obtain ⟨hP, hD⟩ := vp_join hPs hDs hP1 hD1 hk hA hz9
                            clear ht hvm hz hk hP1 hD1 hPs hDs hz9
                            generalize H1 = H at hP hS ⊢
                            have hP : va_P D CL [(q69, .inr (17, [.ref va, .int (nI 0), .int (nI 0), .int (nI (k + 1))])), (va, .inl (dA 1, (capS k), .inl (bw (fun j => byS tz tf (q + j)) (k + 1)))), (r, .inr (6, [.ref tx, .int (nI tz), .int (nI (q + k)), .int (nI q), .int (nI s0), .int (nI v), .ref w])), (tx, .inl (dA 1, 300, .inl tf))] H := hP
                            have hD : va_D A [(q69, .inr (17, [.ref va, .int (nI 0), .int (nI 0), .int (nI (k + 1))])), (va, .inl (dA 1, (capS k), .inl (bw (fun j => byS tz tf (q + j)) (k + 1)))), (r, .inr (6, [.ref tx, .int (nI tz), .int (nI (q + k)), .int (nI q), .int (nI s0), .int (nI v), .ref w])), (tx, .inl (dA 1, 300, .inl tf))] := hD
                            have hrr := hp
                            try dsimp only at hrr
                            subst hrr
                            show W p lh e (r_X7_next (nxL tz (byS tz tf) a)) s m args below meth cd _ _ _ _ Q (F0 m _ ls (.ref q69 :: _))
                            refine lv_pop hx hb dX7_next_104 rfl ?_
                            refine lv_aload_n hx hb dX7_next_105 rfl (lv_at hl 0 rfl) ?_
                            refine lv_dup hx hb dX7_next_106 rfl ?_
                            refine va_get (D := D) (ci := 6) (v := .int (nI (q + k))) (C := RX7) (T := TX7) (N := 7) hx hb hts in_X7 hown hG.1 hP 2 rfl rfl 2 (by decide) (hts _ q780) (fun _ h => h) rfl dX7_next_107 ?_
                            refine lv_iconst (v := nI 1) hx hb dX7_next_110 (by decide) ?_
                            refine kn_add hx hb dX7_next_111 ?_
                            refine va_put (D := D) (ci := 6) (v := .int (nI (q + k + 1))) (C := RX7) (T := TX7) (N := 7) hx hb hts in_X7 tyX7 tyX7_ok nmX7 hown hG.1 hP hD hS 2 rfl rfl 2 (by decide) (hts _ q780) (fun _ h => h) rfl rfl (rfl) (rfl) (Nat.le_of_ble_eq_true rfl) dX7_next_112 (fun H locs hP hD hS => ?_)
                            have hP : va_P D CL [(q69, .inr (17, [.ref va, .int (nI 0), .int (nI 0), .int (nI (k + 1))])), (va, .inl (dA 1, (capS k), .inl (bw (fun j => byS tz tf (q + j)) (k + 1)))), (r, .inr (6, [.ref tx, .int (nI tz), .int (nI (q + k + 1)), .int (nI q), .int (nI s0), .int (nI v), .ref w])), (tx, .inl (dA 1, 300, .inl tf))] H := hP
                            have hD : va_D A [(q69, .inr (17, [.ref va, .int (nI 0), .int (nI 0), .int (nI (k + 1))])), (va, .inl (dA 1, (capS k), .inl (bw (fun j => byS tz tf (q + j)) (k + 1)))), (r, .inr (6, [.ref tx, .int (nI tz), .int (nI (q + k + 1)), .int (nI q), .int (nI s0), .int (nI v), .ref w])), (tx, .inl (dA 1, 300, .inl tf))] := hD
                            have hP : va_P D CL [(q69, .inr (17, [.ref va, .int (nI 0), .int (nI 0), .int (nI (k + 1))])), (va, .inl (dA 1, (capS (k + 1)), .inl (bw (fun j => byS tz tf (q + j)) (k + 1)))), (r, .inr (6, [.ref tx, .int (nI tz), .int (nI (q + k + 1)), .int (nI q), .int (nI s0), .int (nI v), .ref w])), (tx, .inl (dA 1, 300, .inl tf))] H := by rw [show (capS k) = (capS (k + 1)) from g1.symm] at hP; exact hP
                            have hD : va_D A [(q69, .inr (17, [.ref va, .int (nI 0), .int (nI 0), .int (nI (k + 1))])), (va, .inl (dA 1, (capS (k + 1)), .inl (bw (fun j => byS tz tf (q + j)) (k + 1)))), (r, .inr (6, [.ref tx, .int (nI tz), .int (nI (q + k + 1)), .int (nI q), .int (nI s0), .int (nI v), .ref w])), (tx, .inl (dA 1, 300, .inl tf))] := by rw [show (capS k) = (capS (k + 1)) from g1.symm] at hD; exact hD
                            have hP : va_P D CL [(r, .inr (6, [.ref tx, .int (nI tz), .int (nI (q + k + 1)), .int (nI q), .int (nI s0), .int (nI v), .ref w])), (tx, .inl (dA 1, 300, .inl tf)), (q69, .inr (17, [.ref va, .int (nI 0), .int (nI 0), .int (nI (k + 1))])), (va, .inl (dA 1, (capS (k + 1)), .inl (bw (fun j => byS tz tf (q + j)) (k + 1))))] H := hP.sub [2, 3, 0, 1] rfl
                            have hD : va_D A [(r, .inr (6, [.ref tx, .int (nI tz), .int (nI (q + k + 1)), .int (nI q), .int (nI s0), .int (nI v), .ref w])), (tx, .inl (dA 1, 300, .inl tf)), (q69, .inr (17, [.ref va, .int (nI 0), .int (nI 0), .int (nI (k + 1))])), (va, .inl (dA 1, (capS (k + 1)), .inl (bw (fun j => byS tz tf (q + j)) (k + 1))))] := hD.sub [2, 3, 0, 1] (by decide) rfl
                            refine W.widen (k := 2 + gcS (k + 1)) (n := 20 + glS (k + 1)) (by omega) (by omega) ?_
                            refine lv_goto (tgt := 77) hx hb dX7_next_115 (by decide) ?_
                            exact ih77 (k + 1) va (by rw [i77_0]; exact ruC_go (by omega) hw) (by omega) (fun j hj => if e : j < k then i77_2 j e else (show j = k by omega) ▸ hw) (by omega) _ _ hP hD hS _ (lv_sub hl [0, 1, 2] rfl)
                          · obtain ⟨g0, g1, g2, g3⟩ := capS_g hk
                            have hP : va_P D CL [(r, .inr (6, [.ref tx, .int (nI tz), .int (nI (q + k)), .int (nI q), .int (nI s0), .int (nI v), .ref w])), (tx, .inl (dA 1, 300, .inl tf)), (q69, .inr (17, [.ref va, .int (nI 0), .int (nI 0), .int (nI k)])), (va, .inl (dA 1, k, .inl (bw (fun j => byS tz tf (q + j)) k)))] H := by rw [show (capS k) = k from g0] at hP; exact hP
                            have hD : va_D A [(r, .inr (6, [.ref tx, .int (nI tz), .int (nI (q + k)), .int (nI q), .int (nI s0), .int (nI v), .ref w])), (tx, .inl (dA 1, 300, .inl tf)), (q69, .inr (17, [.ref va, .int (nI 0), .int (nI 0), .int (nI k)])), (va, .inl (dA 1, k, .inl (bw (fun j => byS tz tf (q + j)) k)))] := by rw [show (capS k) = k from g0] at hD; exact hD
                            have hPs : va_P D CL ([(q69, .inr (17, [.ref va, .int (nI 0), .int (nI 0), .int (nI k)])), (va, .inl (dA 1, k, .inl (bw (fun j => byS tz tf (q + j)) k)))] ++ [(r, .inr (6, [.ref tx, .int (nI tz), .int (nI (q + k)), .int (nI q), .int (nI s0), .int (nI v), .ref w])), (tx, .inl (dA 1, 300, .inl tf))]) H := hP.sub [2, 3, 0, 1] rfl
                            have hDs : va_D A ([(q69, .inr (17, [.ref va, .int (nI 0), .int (nI 0), .int (nI k)])), (va, .inl (dA 1, k, .inl (bw (fun j => byS tz tf (q + j)) k)))] ++ [(r, .inr (6, [.ref tx, .int (nI tz), .int (nI (q + k)), .int (nI q), .int (nI s0), .int (nI v), .ref w])), (tx, .inl (dA 1, 300, .inl tf))]) := hD.sub [2, 3, 0, 1] (by decide) rfl
                            have hz9 := hS.1
                            refine va_callq (va_runV (As := [.int (nI (byS tz tf (q + k)))]) (rest := []) ⟨hx, hb, hml, hown, hts⟩ (c_J16_append_G lh D dA H.size q69 va k (fun j => byS tz tf (q + j)) (byS tz tf (q + k)) (by omega) (by omega) (fun j hj => by have := i77_2 j hj; omega) (rfl) (by omega)) (w_J16_append hts q658 rfl rfl ⟨Nat.le_of_ble_eq_true rfl, Nat.le_of_ble_eq_true rfl⟩) ⟨PX.blind (Mv.and Mv.heap (Mv.and Mv.heap (Mv.and Mv.heap (Mv.and Mv.gk (Mv.and KC.mv PV.mv))))), (va_recv hG.1 hP (ci := 17) (q0 := 2) rfl rfl), PX.pre (Mv.and Mv.heap (Mv.and Mv.heap (Mv.and Mv.heap (Mv.and Mv.gk (Mv.and KC.mv PV.mv))))) ⟨rfl, (va_P_left hPs), (va_D_left hDs), hG, (KC.at hKC hS (va_A_up hDs hA hS.1)), hPV⟩⟩ rfl rfl hl.1 rfl (lv_room (Nat.le_of_ble_eq_true rfl)) dX7_next_101 ⟨by show 2 + gcS k + _ ≤ 4 + (nxL tz (byS tz tf) a); omega, by show 20 + glS k + _ ≤ 40 + 5 * (nxL tz (byS tz tf) a); omega⟩) hS (fun q _ => (va_A_up hDs hA hS.1) q) ((va_A_up hDs hA hS.1)) (fun rr u t H1 locs ht hvm hp hB hz hk hS => ?_)
                            generalize u = u101 at hp hB
                            obtain ⟨hP1, hD1, -⟩ := hB
                            rw [ht] at hP1
                            obtain ⟨hP, hD⟩ := vp_join hPs hDs hP1 hD1 hk hA hz9
                            clear ht hvm hz hk hP1 hD1 hPs hDs hz9
                            generalize H1 = H at hP hS ⊢
                            have hP : va_P D CL [(q69, .inr (17, [.ref u101, .int (nI 0), .int (nI 0), .int (nI (k + 1))])), (u101, .inl (dA 1, (k + (k + 2)), .inl (bw (fun j => byS tz tf (q + j)) (k + 1)))), (r, .inr (6, [.ref tx, .int (nI tz), .int (nI (q + k)), .int (nI q), .int (nI s0), .int (nI v), .ref w])), (tx, .inl (dA 1, 300, .inl tf))] H := hP
                            have hD : va_D A [(q69, .inr (17, [.ref u101, .int (nI 0), .int (nI 0), .int (nI (k + 1))])), (u101, .inl (dA 1, (k + (k + 2)), .inl (bw (fun j => byS tz tf (q + j)) (k + 1)))), (r, .inr (6, [.ref tx, .int (nI tz), .int (nI (q + k)), .int (nI q), .int (nI s0), .int (nI v), .ref w])), (tx, .inl (dA 1, 300, .inl tf))] := hD
                            have hrr := hp
                            try dsimp only at hrr
                            subst hrr
                            show W p lh e (r_X7_next (nxL tz (byS tz tf) a)) s m args below meth cd _ _ _ _ Q (F0 m _ ls (.ref q69 :: _))
                            refine lv_pop hx hb dX7_next_104 rfl ?_
                            refine lv_aload_n hx hb dX7_next_105 rfl (lv_at hl 0 rfl) ?_
                            refine lv_dup hx hb dX7_next_106 rfl ?_
                            refine va_get (D := D) (ci := 6) (v := .int (nI (q + k))) (C := RX7) (T := TX7) (N := 7) hx hb hts in_X7 hown hG.1 hP 2 rfl rfl 2 (by decide) (hts _ q780) (fun _ h => h) rfl dX7_next_107 ?_
                            refine lv_iconst (v := nI 1) hx hb dX7_next_110 (by decide) ?_
                            refine kn_add hx hb dX7_next_111 ?_
                            refine va_put (D := D) (ci := 6) (v := .int (nI (q + k + 1))) (C := RX7) (T := TX7) (N := 7) hx hb hts in_X7 tyX7 tyX7_ok nmX7 hown hG.1 hP hD hS 2 rfl rfl 2 (by decide) (hts _ q780) (fun _ h => h) rfl rfl (rfl) (rfl) (Nat.le_of_ble_eq_true rfl) dX7_next_112 (fun H locs hP hD hS => ?_)
                            have hP : va_P D CL [(q69, .inr (17, [.ref u101, .int (nI 0), .int (nI 0), .int (nI (k + 1))])), (u101, .inl (dA 1, (k + (k + 2)), .inl (bw (fun j => byS tz tf (q + j)) (k + 1)))), (r, .inr (6, [.ref tx, .int (nI tz), .int (nI (q + k + 1)), .int (nI q), .int (nI s0), .int (nI v), .ref w])), (tx, .inl (dA 1, 300, .inl tf))] H := hP
                            have hD : va_D A [(q69, .inr (17, [.ref u101, .int (nI 0), .int (nI 0), .int (nI (k + 1))])), (u101, .inl (dA 1, (k + (k + 2)), .inl (bw (fun j => byS tz tf (q + j)) (k + 1)))), (r, .inr (6, [.ref tx, .int (nI tz), .int (nI (q + k + 1)), .int (nI q), .int (nI s0), .int (nI v), .ref w])), (tx, .inl (dA 1, 300, .inl tf))] := hD
                            have hP : va_P D CL [(q69, .inr (17, [.ref u101, .int (nI 0), .int (nI 0), .int (nI (k + 1))])), (u101, .inl (dA 1, (capS (k + 1)), .inl (bw (fun j => byS tz tf (q + j)) (k + 1)))), (r, .inr (6, [.ref tx, .int (nI tz), .int (nI (q + k + 1)), .int (nI q), .int (nI s0), .int (nI v), .ref w])), (tx, .inl (dA 1, 300, .inl tf))] H := by rw [show (k + (k + 2)) = (capS (k + 1)) from g1.symm] at hP; exact hP
                            have hD : va_D A [(q69, .inr (17, [.ref u101, .int (nI 0), .int (nI 0), .int (nI (k + 1))])), (u101, .inl (dA 1, (capS (k + 1)), .inl (bw (fun j => byS tz tf (q + j)) (k + 1)))), (r, .inr (6, [.ref tx, .int (nI tz), .int (nI (q + k + 1)), .int (nI q), .int (nI s0), .int (nI v), .ref w])), (tx, .inl (dA 1, 300, .inl tf))] := by rw [show (k + (k + 2)) = (capS (k + 1)) from g1.symm] at hD; exact hD
                            have hP : va_P D CL [(r, .inr (6, [.ref tx, .int (nI tz), .int (nI (q + k + 1)), .int (nI q), .int (nI s0), .int (nI v), .ref w])), (tx, .inl (dA 1, 300, .inl tf)), (q69, .inr (17, [.ref u101, .int (nI 0), .int (nI 0), .int (nI (k + 1))])), (u101, .inl (dA 1, (capS (k + 1)), .inl (bw (fun j => byS tz tf (q + j)) (k + 1))))] H := hP.sub [2, 3, 0, 1] rfl
                            have hD : va_D A [(r, .inr (6, [.ref tx, .int (nI tz), .int (nI (q + k + 1)), .int (nI q), .int (nI s0), .int (nI v), .ref w])), (tx, .inl (dA 1, 300, .inl tf)), (q69, .inr (17, [.ref u101, .int (nI 0), .int (nI 0), .int (nI (k + 1))])), (u101, .inl (dA 1, (capS (k + 1)), .inl (bw (fun j => byS tz tf (q + j)) (k + 1))))] := hD.sub [2, 3, 0, 1] (by decide) rfl
                            refine W.widen (k := 2 + gcS (k + 1)) (n := 20 + glS (k + 1)) (by omega) (by omega) ?_
                            refine lv_goto (tgt := 77) hx hb dX7_next_115 (by decide) ?_
                            exact ih77 (k + 1) u101 (by rw [i77_0]; exact ruC_go (by omega) hw) (by omega) (fun j hj => if e : j < k then i77_2 j e else (show j = k by omega) ▸ hw) (by omega) _ _ hP hD hS _ (lv_sub hl [0, 1, 2] rfl)
                    · have hPs : va_P D CL ([(r, .inr (6, [.ref tx, .int (nI tz), .int (nI (q + k)), .int (nI q), .int (nI s0), .int (nI v), .ref w])), (tx, .inl (dA 1, 300, .inl tf))] ++ [(q69, .inr (17, [.ref va, .int (nI 0), .int (nI 0), .int (nI k)])), (va, .inl (dA 1, (capS k), .inl (bw (fun j => byS tz tf (q + j)) k)))]) H := hP.sub [0, 1, 2, 3] rfl
                      refine vp_callSi (va_Run.call (va_runV (As := []) (rest := []) ⟨hx, hb, hml, hown, hts⟩ (c_X7_see_E lh D dA r tx tz tf (q + k) q s0 v w (hq2) (by omega) (by omega)) (w_X7_see hts q624 rfl rfl ⟨Nat.le_of_ble_eq_true rfl, Nat.le_of_ble_eq_true rfl⟩) ⟨PX.blind (Mv.and Mv.heap Mv.gk), (va_recv hG.1 hP (ci := 6) (q0 := 0) rfl rfl), PX.pre (Mv.and Mv.heap Mv.gk) ⟨(va_P_left hPs), hG⟩⟩ rfl rfl hl.1 rfl (lv_room (Nat.le_of_ble_eq_true rfl)) dX7_next_78 ⟨by show 2 + gcS k + 0 ≤ 4 + (nxL tz (byS tz tf) a); omega, by show 20 + glS k + 0 ≤ 40 + 5 * (nxL tz (byS tz tf) a); omega⟩)) (fun rr hrr => ?_)
                      subst hrr
                      refine kx_int (y := (-1)) (rfl) ?_
                      refine lv_bipush (v := nI 97) hx hb dX7_next_81 (by decide) ?_
                      refine lv_icmp_lt (tgt := 118) hx hb dX7_next_83 (by decide) (fun c_83 => ?_) (fun c_83 => ?_)
                      · have hnw : ¬ (97 ≤ byS tz tf (q + k) ∧ byS tz tf (q + k) ≤ 122) := by rw [show byS tz tf (q + k) = 0 from if_neg hq2]; omega
                        have hro : ruC (byS tz tf) 97 122 (tz - q) q = q + k := by rw [i77_0]; exact ruC_stop hnw
                        refine lv_aload_n hx hb dX7_next_118 rfl (lv_at hl 0 rfl) ?_
                        refine lv_aload_n hx hb dX7_next_119 rfl (lv_at hl 2 rfl) ?_
                        have hPs : va_P D CL ([(q69, .inr (17, [.ref va, .int (nI 0), .int (nI 0), .int (nI k)])), (va, .inl (dA 1, (capS k), .inl (bw (fun j => byS tz tf (q + j)) k)))] ++ [(r, .inr (6, [.ref tx, .int (nI tz), .int (nI (q + k)), .int (nI q), .int (nI s0), .int (nI v), .ref w])), (tx, .inl (dA 1, 300, .inl tf))]) H := hP.sub [2, 3, 0, 1] rfl
                        have hDs : va_D A ([(q69, .inr (17, [.ref va, .int (nI 0), .int (nI 0), .int (nI k)])), (va, .inl (dA 1, (capS k), .inl (bw (fun j => byS tz tf (q + j)) k)))] ++ [(r, .inr (6, [.ref tx, .int (nI tz), .int (nI (q + k)), .int (nI q), .int (nI s0), .int (nI v), .ref w])), (tx, .inl (dA 1, 300, .inl tf))]) := hD.sub [2, 3, 0, 1] (by decide) rfl
                        have hz9 := hS.1
                        refine va_callq (va_runV (As := []) (rest := [.ref r]) ⟨hx, hb, hml, hown, hts⟩ (c_J16_toString lh D dA H.size q69 va k (capS k) (fun j => byS tz tf (q + j)) ((capS_ge k).1) (by have := glS_le k; omega) (fun j hj => by have := i77_2 j hj; omega)) (w_J16_toString hts q718 rfl rfl ⟨Nat.le_of_ble_eq_true rfl, Nat.le_of_ble_eq_true rfl⟩) ⟨PX.blind (Mv.and Mv.heap (Mv.and Mv.heap (Mv.and Mv.heap (Mv.and Mv.gk KC.mv)))), (va_recv hG.1 hP (ci := 17) (q0 := 2) rfl rfl), PX.pre (Mv.and Mv.heap (Mv.and Mv.heap (Mv.and Mv.heap (Mv.and Mv.gk KC.mv)))) ⟨rfl, (va_P_left hPs), (va_D_left hDs), hG, (KC.at hKC hS (va_A_up hDs hA hS.1))⟩⟩ rfl rfl hl.1 rfl (lv_room (Nat.le_of_ble_eq_true rfl)) dX7_next_120 ⟨by show 2 + gcS k + 2 ≤ 4 + (nxL tz (byS tz tf) a); have := gcS_le k; omega, by show 20 + glS k + (4 + k) ≤ 40 + 5 * (nxL tz (byS tz tf) a); have := glS_le k; omega⟩) hS (fun q _ => (va_A_up hDs hA hS.1) q) ((va_A_up hDs hA hS.1)) (fun rr u t H1 locs ht hvm hp hB hz hk hS => ?_)
                        obtain ⟨u120_0, u120_1⟩ := u
                        obtain ⟨hP1, hD1, -⟩ := hB
                        rw [ht] at hP1
                        obtain ⟨hP, hD⟩ := vp_join hPs hDs hP1 hD1 hk hA hz9
                        clear ht hvm hz hk hP1 hD1 hPs hDs hz9
                        generalize H1 = H at hP hS ⊢
                        have hP : va_P D CL [(q69, .inr (17, [.ref va, .int (nI 0), .int (nI 0), .int (nI k)])), (va, .inl (dA 1, (capS k), .inl (bw (fun j => byS tz tf (q + j)) k))), (u120_0, .inr (16, [.ref u120_1, .int (nI 0), .int (nI 0), .int (nI 0)])), (u120_1, .inl (dA 1, k, .inl (bw (fun j => byS tz tf (q + j)) k))), (r, .inr (6, [.ref tx, .int (nI tz), .int (nI (q + k)), .int (nI q), .int (nI s0), .int (nI v), .ref w])), (tx, .inl (dA 1, 300, .inl tf))] H := hP
                        have hD : va_D A [(q69, .inr (17, [.ref va, .int (nI 0), .int (nI 0), .int (nI k)])), (va, .inl (dA 1, (capS k), .inl (bw (fun j => byS tz tf (q + j)) k))), (u120_0, .inr (16, [.ref u120_1, .int (nI 0), .int (nI 0), .int (nI 0)])), (u120_1, .inl (dA 1, k, .inl (bw (fun j => byS tz tf (q + j)) k))), (r, .inr (6, [.ref tx, .int (nI tz), .int (nI (q + k)), .int (nI q), .int (nI s0), .int (nI v), .ref w])), (tx, .inl (dA 1, 300, .inl tf))] := hD
                        have hrr := hp
                        try dsimp only at hrr
                        subst hrr
                        show W p lh e (r_X7_next (nxL tz (byS tz tf) a)) s m args below meth cd _ _ _ _ Q (F0 m _ ls (.ref u120_0 :: _))
                        refine va_put (D := D) (ci := 6) (v := .ref u120_0) (C := RX7) (T := TX7) (N := 7) hx hb hts in_X7 tyX7 tyX7_ok nmX7 hown hG.1 hP hD hS 4 rfl rfl 6 (by decide) (hts _ q784) (fun _ h => h) rfl rfl (rfl) (rfl) (Nat.le_of_ble_eq_true rfl) dX7_next_123 (fun H locs hP hD hS => ?_)
                        have hP : va_P D CL [(q69, .inr (17, [.ref va, .int (nI 0), .int (nI 0), .int (nI k)])), (va, .inl (dA 1, (capS k), .inl (bw (fun j => byS tz tf (q + j)) k))), (u120_0, .inr (16, [.ref u120_1, .int (nI 0), .int (nI 0), .int (nI 0)])), (u120_1, .inl (dA 1, k, .inl (bw (fun j => byS tz tf (q + j)) k))), (r, .inr (6, [.ref tx, .int (nI tz), .int (nI (q + k)), .int (nI q), .int (nI s0), .int (nI v), .ref u120_0])), (tx, .inl (dA 1, 300, .inl tf))] H := hP
                        have hD : va_D A [(q69, .inr (17, [.ref va, .int (nI 0), .int (nI 0), .int (nI k)])), (va, .inl (dA 1, (capS k), .inl (bw (fun j => byS tz tf (q + j)) k))), (u120_0, .inr (16, [.ref u120_1, .int (nI 0), .int (nI 0), .int (nI 0)])), (u120_1, .inl (dA 1, k, .inl (bw (fun j => byS tz tf (q + j)) k))), (r, .inr (6, [.ref tx, .int (nI tz), .int (nI (q + k)), .int (nI q), .int (nI s0), .int (nI v), .ref u120_0])), (tx, .inl (dA 1, 300, .inl tf))] := hD
                        refine lv_aload_n hx hb dX7_next_126 rfl (lv_at hl 0 rfl) ?_
                        refine lv_aload_n hx hb dX7_next_127 rfl (lv_at hl 0 rfl) ?_
                        refine va_get (D := D) (ci := 6) (v := .ref u120_0) (C := RX7) (T := TX7) (N := 7) hx hb hts in_X7 hown hG.1 hP 4 rfl rfl 6 (by decide) (hts _ q784) (fun _ h => h) rfl dX7_next_128 ?_
                        refine vp_callSi (W.runV (As := []) (rest := [.ref r]) ⟨hx, hb, hml, hown, hts⟩ (c_J3_length lh u120_0 u120_1 k (fun j => byS tz tf (q + j))) (w_J3_length hts q777 rfl rfl ⟨Nat.le_of_ble_eq_true rfl, Nat.le_of_ble_eq_true rfl⟩) ⟨PX.blind (Mv.and KC.mv SA.mv), (SA.recv (SA.of (i := 2) (j := 3) (n := k) (f := (fun j => byS tz tf (q + j))) hts hG hP rfl rfl (by omega) (fun j hj => ⟨bw_in hj, by have := i77_2 j hj; show byS tz tf (q + j) < 128; omega⟩))), PX.pre (Mv.and KC.mv SA.mv) ⟨(KC.at hKC hS (fun _ q => q.elim)), (SA.of (i := 2) (j := 3) (n := k) (f := (fun j => byS tz tf (q + j))) hts hG hP rfl rfl (by omega) (fun j hj => ⟨bw_in hj, by have := i77_2 j hj; show byS tz tf (q + j) < 128; omega⟩))⟩⟩ rfl rfl hl.1 rfl (lv_room (Nat.le_of_ble_eq_true rfl)) dX7_next_131 ⟨by show 2 + gcS k + 2 + 0 ≤ 4 + (nxL tz (byS tz tf) a); have := gcS_le k; omega, by show 20 + glS k + (4 + k) + 0 ≤ 40 + 5 * (nxL tz (byS tz tf) a); have := glS_le k; omega⟩) (fun rr hrr => ?_)
                        subst hrr
                        refine lv_bipush (v := nI 8) hx hb dX7_next_134 (by decide) ?_
                        refine kn_cle (tgt := 143) hx hb dX7_next_136 (by decide) (by omega) (by omega) (fun c_136 => ?_) (fun c_136 => ?_)
                        · refine lv_iconst (v := nI 1) hx hb dX7_next_143 (by decide) ?_
                          refine va_put (D := D) (ci := 6) (v := .int (nI 1)) (C := RX7) (T := TX7) (N := 7) hx hb hts in_X7 tyX7 tyX7_ok nmX7 hown hG.1 hP hD hS 4 rfl rfl 4 (by decide) (hts _ q782) (fun _ h => h) rfl rfl (rfl) (rfl) (Nat.le_of_ble_eq_true rfl) dX7_next_144 (fun H locs hP hD hS => ?_)
                          have hP : va_P D CL [(q69, .inr (17, [.ref va, .int (nI 0), .int (nI 0), .int (nI k)])), (va, .inl (dA 1, (capS k), .inl (bw (fun j => byS tz tf (q + j)) k))), (u120_0, .inr (16, [.ref u120_1, .int (nI 0), .int (nI 0), .int (nI 0)])), (u120_1, .inl (dA 1, k, .inl (bw (fun j => byS tz tf (q + j)) k))), (r, .inr (6, [.ref tx, .int (nI tz), .int (nI (q + k)), .int (nI q), .int (nI 1), .int (nI v), .ref u120_0])), (tx, .inl (dA 1, 300, .inl tf))] H := hP
                          have hD : va_D A [(q69, .inr (17, [.ref va, .int (nI 0), .int (nI 0), .int (nI k)])), (va, .inl (dA 1, (capS k), .inl (bw (fun j => byS tz tf (q + j)) k))), (u120_0, .inr (16, [.ref u120_1, .int (nI 0), .int (nI 0), .int (nI 0)])), (u120_1, .inl (dA 1, k, .inl (bw (fun j => byS tz tf (q + j)) k))), (r, .inr (6, [.ref tx, .int (nI tz), .int (nI (q + k)), .int (nI q), .int (nI 1), .int (nI v), .ref u120_0])), (tx, .inl (dA 1, 300, .inl tf))] := hD
                          refine lv_goto (tgt := 298) hx hb dX7_next_147 (by decide) ?_
                          have hP : va_P D CL [(q69, .inr (17, [.ref va, .int (nI 0), .int (nI 0), .int (nI k)])), (va, .inl (dA 1, (capS k), .inl (bw (fun j => byS tz tf (q + j)) k))), (u120_0, .inr (16, [.ref u120_1, .int (nI 0), .int (nI 0), .int (nI 0)])), (u120_1, .inl (dA 1, (q + k - q), .inl (bw (fun j => byS tz tf (q + j)) (q + k - q)))), (r, .inr (6, [.ref tx, .int (nI tz), .int (nI (q + k)), .int (nI q), .int (nI 1), .int (nI v), .ref u120_0])), (tx, .inl (dA 1, 300, .inl tf))] H := by rw [show q + k - q = k by omega]; exact hP
                          have hD : va_D A [(q69, .inr (17, [.ref va, .int (nI 0), .int (nI 0), .int (nI k)])), (va, .inl (dA 1, (capS k), .inl (bw (fun j => byS tz tf (q + j)) k))), (u120_0, .inr (16, [.ref u120_1, .int (nI 0), .int (nI 0), .int (nI 0)])), (u120_1, .inl (dA 1, (q + k - q), .inl (bw (fun j => byS tz tf (q + j)) (q + k - q)))), (r, .inr (6, [.ref tx, .int (nI tz), .int (nI (q + k)), .int (nI q), .int (nI 1), .int (nI v), .ref u120_0])), (tx, .inl (dA 1, 300, .inl tf))] := by rw [show q + k - q = k by omega]; exact hD
                          subst hQ
                          have e9 : nxT tz (byS tz tf) a v = (1, q, q + k, v) := by simp only [nxT, hf]; rw [if_neg (by omega), if_pos ha]; simp only [hro]; rw [if_neg (by omega)]
                          have hL9 := nxL_eq tz (byS tz tf) a v
                          rw [e9] at hL9
                          dsimp only at hL9
                          have hgl := glS_le k
                          have hgc := gcS_le k
                          refine W.widen (k := (4 + (nxL tz (byS tz tf) a))) (n := (40 + 5 * (nxL tz (byS tz tf) a))) (by omega) (by omega) ?_
                          have hP9 : va_P D CL (rdW dA r tx tz tf (nxT tz (byS tz tf) a v) u120_0 u120_1) H := by rw [e9, rdW_1 rfl]; exact hP.sub [4, 5, 2, 3] rfl
                          have hD9 : va_D A (rdW dA r tx tz tf (nxT tz (byS tz tf) a v) u120_0 u120_1) := by rw [e9, rdW_1 rfl]; exact hD.sub [4, 5, 2, 3] (by decide) rfl
                          exact W.vret hx hb hrt (fun t ht hW => ⟨⟨(u120_0, u120_1), rfl, trivial, by rw [ht]; exact hP9, hD9, GK.warm hW hG⟩, hS.F ht⟩) hS.2.2 dX7_next_298
                        · refine lv_iconst (v := nI 4) hx hb dX7_next_139 (by decide) ?_
                          refine lv_goto (tgt := 144) hx hb dX7_next_140 (by decide) ?_
                          refine va_put (D := D) (ci := 6) (v := .int (nI 4)) (C := RX7) (T := TX7) (N := 7) hx hb hts in_X7 tyX7 tyX7_ok nmX7 hown hG.1 hP hD hS 4 rfl rfl 4 (by decide) (hts _ q782) (fun _ h => h) rfl rfl (rfl) (rfl) (Nat.le_of_ble_eq_true rfl) dX7_next_144 (fun H locs hP hD hS => ?_)
                          have hP : va_P D CL [(q69, .inr (17, [.ref va, .int (nI 0), .int (nI 0), .int (nI k)])), (va, .inl (dA 1, (capS k), .inl (bw (fun j => byS tz tf (q + j)) k))), (u120_0, .inr (16, [.ref u120_1, .int (nI 0), .int (nI 0), .int (nI 0)])), (u120_1, .inl (dA 1, k, .inl (bw (fun j => byS tz tf (q + j)) k))), (r, .inr (6, [.ref tx, .int (nI tz), .int (nI (q + k)), .int (nI q), .int (nI 4), .int (nI v), .ref u120_0])), (tx, .inl (dA 1, 300, .inl tf))] H := hP
                          have hD : va_D A [(q69, .inr (17, [.ref va, .int (nI 0), .int (nI 0), .int (nI k)])), (va, .inl (dA 1, (capS k), .inl (bw (fun j => byS tz tf (q + j)) k))), (u120_0, .inr (16, [.ref u120_1, .int (nI 0), .int (nI 0), .int (nI 0)])), (u120_1, .inl (dA 1, k, .inl (bw (fun j => byS tz tf (q + j)) k))), (r, .inr (6, [.ref tx, .int (nI tz), .int (nI (q + k)), .int (nI q), .int (nI 4), .int (nI v), .ref u120_0])), (tx, .inl (dA 1, 300, .inl tf))] := hD
                          refine lv_goto (tgt := 298) hx hb dX7_next_147 (by decide) ?_
                          subst hQ
                          have e9 : nxT tz (byS tz tf) a v = (4, q, q + k, v) := by simp only [nxT, hf]; rw [if_neg (by omega), if_pos ha]; simp only [hro]; rw [if_pos (by omega)]
                          have hL9 := nxL_eq tz (byS tz tf) a v
                          rw [e9] at hL9
                          dsimp only at hL9
                          have hgl := glS_le k
                          have hgc := gcS_le k
                          refine W.widen (k := (4 + (nxL tz (byS tz tf) a))) (n := (40 + 5 * (nxL tz (byS tz tf) a))) (by omega) (by omega) ?_
                          have hP9 : va_P D CL (rdW dA r tx tz tf (nxT tz (byS tz tf) a v) u120_0 0) H := by rw [e9, rdW_0 (show (4 : Nat) ≠ 1 by decide)]; exact hP.sub [4, 5] rfl
                          have hD9 : va_D A (rdW dA r tx tz tf (nxT tz (byS tz tf) a v) u120_0 0) := by rw [e9, rdW_0 (show (4 : Nat) ≠ 1 by decide)]; exact hD.sub [4, 5] (by decide) rfl
                          exact W.vret hx hb hrt (fun t ht hW => ⟨⟨(u120_0, 0), rfl, trivial, by rw [ht]; exact hP9, hD9, GK.warm hW hG⟩, hS.F ht⟩) hS.2.2 dX7_next_298
                      · exact absurd (by decide) c_83
                exact L77 _ 0 u73 (rfl) (by omega) (fun j hj => absurd hj (Nat.not_lt_zero j)) (Nat.lt_succ_self _) _ _ hP hD hS _ (lv_sub hl [2, 1, 0] rfl)
          · have hsp : byS tz tf q = 32 ∨ byS tz tf q = 10 := by first | exact Or.inl c_6 | exact Or.inr c_15
            refine lv_aload_n hx hb dX7_next_18 rfl (lv_at hl 0 rfl) ?_
            refine lv_dup hx hb dX7_next_19 rfl ?_
            refine va_get (D := D) (ci := 6) (v := .int (nI q)) (C := RX7) (T := TX7) (N := 7) hx hb hts in_X7 hown hG.1 hP 0 rfl rfl 2 (by decide) (hts _ q780) (fun _ h => h) rfl dX7_next_20 ?_
            refine lv_iconst (v := nI 1) hx hb dX7_next_23 (by decide) ?_
            refine kn_add hx hb dX7_next_24 ?_
            refine va_put (D := D) (ci := 6) (v := .int (nI (q + 1))) (C := RX7) (T := TX7) (N := 7) hx hb hts in_X7 tyX7 tyX7_ok nmX7 hown hG.1 hP hD hS 0 rfl rfl 2 (by decide) (hts _ q780) (fun _ h => h) rfl rfl (rfl) (rfl) (Nat.le_of_ble_eq_true rfl) dX7_next_25 (fun H locs hP hD hS => ?_)
            have hP : va_P D CL [(r, .inr (6, [.ref tx, .int (nI tz), .int (nI (q + 1)), .int (nI p0), .int (nI s0), .int (nI v), .ref w])), (tx, .inl (dA 1, 300, .inl tf))] H := hP
            have hD : va_D A [(r, .inr (6, [.ref tx, .int (nI tz), .int (nI (q + 1)), .int (nI p0), .int (nI s0), .int (nI v), .ref w])), (tx, .inl (dA 1, 300, .inl tf))] := hD
            refine lv_goto (tgt := 0) hx hb dX7_next_28 (by decide) ?_
            exact ih0 (q + 1) (by rw [i0_0]; exact skW_go (by omega) hsp) (by omega) (by omega) _ _ hP hD hS _ (lv_sub hl [0] rfl)
      · have hPs : va_P D CL ([(r, .inr (6, [.ref tx, .int (nI tz), .int (nI q), .int (nI p0), .int (nI s0), .int (nI v), .ref w])), (tx, .inl (dA 1, 300, .inl tf))] ++ []) H := hP.sub [0, 1] rfl
        refine vp_callSi (va_Run.call (va_runV (As := []) (rest := []) ⟨hx, hb, hml, hown, hts⟩ (c_X7_see_E lh D dA r tx tz tf q p0 s0 v w (hq) (by omega) (by omega)) (w_X7_see hts q624 rfl rfl ⟨Nat.le_of_ble_eq_true rfl, Nat.le_of_ble_eq_true rfl⟩) ⟨PX.blind (Mv.and Mv.heap Mv.gk), (va_recv hG.1 hP (ci := 6) (q0 := 0) rfl rfl), PX.pre (Mv.and Mv.heap Mv.gk) ⟨(va_P_left hPs), hG⟩⟩ rfl rfl hl.1 rfl (lv_room (Nat.le_of_ble_eq_true rfl)) dX7_next_1 ⟨Nat.le_of_ble_eq_true rfl, by show _ ≤ (40 + 5 * (nxL tz (byS tz tf) a)); omega⟩)) (fun rr hrr => ?_)
        subst hrr
        refine kx_int (y := (-1)) (rfl) ?_
        refine lv_bipush (v := nI 32) hx hb dX7_next_4 (by decide) ?_
        refine lv_icmp_eq (tgt := 18) hx hb dX7_next_6 (by decide) (fun c_6 => ?_) (fun c_6 => ?_)
        · exact absurd c_6 (by decide)
        · refine lv_aload_n hx hb dX7_next_9 rfl (lv_at hl 0 rfl) ?_
          have hPs : va_P D CL ([(r, .inr (6, [.ref tx, .int (nI tz), .int (nI q), .int (nI p0), .int (nI s0), .int (nI v), .ref w])), (tx, .inl (dA 1, 300, .inl tf))] ++ []) H := hP.sub [0, 1] rfl
          refine vp_callSi (va_Run.call (va_runV (As := []) (rest := []) ⟨hx, hb, hml, hown, hts⟩ (c_X7_see_E lh D dA r tx tz tf q p0 s0 v w (hq) (by omega) (by omega)) (w_X7_see hts q624 rfl rfl ⟨Nat.le_of_ble_eq_true rfl, Nat.le_of_ble_eq_true rfl⟩) ⟨PX.blind (Mv.and Mv.heap Mv.gk), (va_recv hG.1 hP (ci := 6) (q0 := 0) rfl rfl), PX.pre (Mv.and Mv.heap Mv.gk) ⟨(va_P_left hPs), hG⟩⟩ rfl rfl hl.1 rfl (lv_room (Nat.le_of_ble_eq_true rfl)) dX7_next_10 ⟨Nat.le_of_ble_eq_true rfl, by show _ ≤ (40 + 5 * (nxL tz (byS tz tf) a)); omega⟩)) (fun rr hrr => ?_)
          subst hrr
          refine kx_int (y := (-1)) (rfl) ?_
          refine lv_bipush (v := nI 10) hx hb dX7_next_13 (by decide) ?_
          refine lv_icmp_ne (tgt := 31) hx hb dX7_next_15 (by decide) (fun c_15 => ?_) (fun c_15 => ?_)
          · have hqe : q = tz := by omega
            have hf : skW (byS tz tf) (tz - a) a = q := by rw [i0_0, show tz - q = 0 by omega]; rfl
            refine lv_aload_n hx hb dX7_next_31 rfl (lv_at hl 0 rfl) ?_
            refine lv_aload_n hx hb dX7_next_32 rfl (lv_at hl 0 rfl) ?_
            refine va_get (D := D) (ci := 6) (v := .int (nI q)) (C := RX7) (T := TX7) (N := 7) hx hb hts in_X7 hown hG.1 hP 0 rfl rfl 2 (by decide) (hts _ q780) (fun _ h => h) rfl dX7_next_33 ?_
            refine va_put (D := D) (ci := 6) (v := .int (nI q)) (C := RX7) (T := TX7) (N := 7) hx hb hts in_X7 tyX7 tyX7_ok nmX7 hown hG.1 hP hD hS 0 rfl rfl 3 (by decide) (hts _ q781) (fun _ h => h) rfl rfl (rfl) (rfl) (Nat.le_of_ble_eq_true rfl) dX7_next_36 (fun H locs hP hD hS => ?_)
            have hP : va_P D CL [(r, .inr (6, [.ref tx, .int (nI tz), .int (nI q), .int (nI q), .int (nI s0), .int (nI v), .ref w])), (tx, .inl (dA 1, 300, .inl tf))] H := hP
            have hD : va_D A [(r, .inr (6, [.ref tx, .int (nI tz), .int (nI q), .int (nI q), .int (nI s0), .int (nI v), .ref w])), (tx, .inl (dA 1, 300, .inl tf))] := hD
            refine lv_aload_n hx hb dX7_next_39 rfl (lv_at hl 0 rfl) ?_
            have hPs : va_P D CL ([(r, .inr (6, [.ref tx, .int (nI tz), .int (nI q), .int (nI q), .int (nI s0), .int (nI v), .ref w])), (tx, .inl (dA 1, 300, .inl tf))] ++ []) H := hP.sub [0, 1] rfl
            refine vp_callSi (va_Run.call (va_runV (As := []) (rest := []) ⟨hx, hb, hml, hown, hts⟩ (c_X7_see_E lh D dA r tx tz tf q q s0 v w (hq) (by omega) (by omega)) (w_X7_see hts q624 rfl rfl ⟨Nat.le_of_ble_eq_true rfl, Nat.le_of_ble_eq_true rfl⟩) ⟨PX.blind (Mv.and Mv.heap Mv.gk), (va_recv hG.1 hP (ci := 6) (q0 := 0) rfl rfl), PX.pre (Mv.and Mv.heap Mv.gk) ⟨(va_P_left hPs), hG⟩⟩ rfl rfl hl.1 rfl (lv_room (Nat.le_of_ble_eq_true rfl)) dX7_next_40 ⟨Nat.le_of_ble_eq_true rfl, by show _ ≤ (40 + 5 * (nxL tz (byS tz tf) a)); omega⟩)) (fun rr hrr => ?_)
            subst hrr
            refine kx_int (y := (-1)) (rfl) ?_
            refine lv_istore_n (lv' := [(1, .int (-1)), (0, .ref r)]) hx hb dX7_next_43 rfl hl (by decide) rfl (fun ls hl => ?_)
            refine lv_iload_n hx hb dX7_next_44 rfl (lv_at hl 0 rfl) ?_
            refine lv_iconst (v := -1) hx hb dX7_next_45 (by decide) ?_
            refine lv_icmp_ne (tgt := 57) hx hb dX7_next_46 (by decide) (fun c => absurd rfl c) (fun _ => ?_)
            refine lv_aload_n hx hb dX7_next_49 rfl (lv_at hl 1 rfl) ?_
            refine lv_iconst (v := nI 0) hx hb dX7_next_50 (by decide) ?_
            refine va_put (D := D) (ci := 6) (v := .int (nI 0)) (C := RX7) (T := TX7) (N := 7) hx hb hts in_X7 tyX7 tyX7_ok nmX7 hown hG.1 hP hD hS 0 rfl rfl 4 (by decide) (hts _ q782) (fun _ h => h) rfl rfl (rfl) (rfl) (Nat.le_of_ble_eq_true rfl) dX7_next_51 (fun H locs hP hD hS => ?_)
            have hP : va_P D CL [(r, .inr (6, [.ref tx, .int (nI tz), .int (nI q), .int (nI q), .int (nI 0), .int (nI v), .ref w])), (tx, .inl (dA 1, 300, .inl tf))] H := hP
            have hD : va_D A [(r, .inr (6, [.ref tx, .int (nI tz), .int (nI q), .int (nI q), .int (nI 0), .int (nI v), .ref w])), (tx, .inl (dA 1, 300, .inl tf))] := hD
            refine lv_goto (tgt := 298) hx hb dX7_next_54 (by decide) ?_
            subst hQ
            have e9 : nxT tz (byS tz tf) a v = (0, q, q, v) := by simp only [nxT, hf]; rw [if_pos (by omega)]
            have hL9 := nxL_eq tz (byS tz tf) a v
            rw [e9] at hL9
            dsimp only at hL9
            refine W.widen (k := (4 + (nxL tz (byS tz tf) a))) (n := (40 + 5 * (nxL tz (byS tz tf) a))) (by omega) (by omega) ?_
            have hP9 : va_P D CL (rdW dA r tx tz tf (nxT tz (byS tz tf) a v) w 0) H := by rw [e9, rdW_0 (show (0 : Nat) ≠ 1 by decide)]; exact hP.sub [0, 1] rfl
            have hD9 : va_D A (rdW dA r tx tz tf (nxT tz (byS tz tf) a v) w 0) := by rw [e9, rdW_0 (show (0 : Nat) ≠ 1 by decide)]; exact hD.sub [0, 1] (by decide) rfl
            exact W.vret hx hb hrt (fun t ht hW => ⟨⟨(w, 0), rfl, trivial, by rw [ht]; exact hP9, hD9, GK.warm hW hG⟩, hS.F ht⟩) hS.2.2 dX7_next_298
          · exact absurd c_15 (by decide)
  exact L0 _ a (rfl) (h2) (Nat.lt_succ_self _) _ _ hP hD hS _ (lv_sub hl [0] rfl)

theorem w_X7_next {R : Room} {s : State} {args : Array Value} {own : String} {idx : Nat} (hts : ∀ w ∈ lw_all, w.before args s = true) (h1 : Cond.methodLink own idx yX7_next ∈ lw_all) {rm : Room} {mc ms : Nat} (hrc : rm.cells = mc) (hrs : rm.slots = ms) (hR : rm.frames + 1 ≤ R.frames ∧ 8 + (3 + 11) + rm.locals ≤ R.locals) : CallW R s args own RX7 idx yX7_next cX7_next 3 none (ws_ yX7_next cX7_next 3 none) rm mc ms 0 := cwV 0 hts (lw_V h1 q622 qs16 q84 q623) rfl hrc hrs (by decide +kernel) hR
