set_option maxRecDepth 100000
abbrev r_X1_in : Room := { frames := 0, cells := 0, slots := 0, locals := 0 }
set_option maxHeartbeats 400000 in
theorem c_X1_in (lh : Launch) (v : Int32) (lo : Int32) (hi : Int32) : Met lh yX1_in (ws_ yX1_in cX1_in 3 (some .boolean)) r_X1_in (P0 [.int v, .int lo, .int hi]) (vp_Si (fun rv => rv = bI (wi v lo hi))) 0 0 (fun _ => False) := by
  refine Met.ofW (cc := cX1_in) (maxL := 3) (ret := (some .boolean)) (by decide) rfl ?_
  intro p e s m args below meth cd s₁ B hml hv
  obtain ⟨hargs, -⟩ := hv
  have hx := B.exec
  have hb := B.bytes
  have hrt := B.returns
  have hts := atoms_spec (ws := (ws_ yX1_in cX1_in 3 (some .boolean))) B.pre
  have hts : ∀ w ∈ lw_all, w.before _ s = true := fun w h => hts w (List.mem_cons_of_mem _ h)
  have hown : s.vm.findClass RX1 = some m.cls := findClass_of_methodNamed B.named
  have hlocks := B.notSynchronized
  have hE : entryFrame m args 3 = F0 m 0 ((lg_sl ([.int v, .int lo, .int hi]) ++ List.replicate (3 - (lg_sl ([.int v, .int lo, .int hi])).length) Slot.unset).toArray) [] := by rw [hargs]; exact lg_entry_eq m _ 3
  have hl := lv_entry ([.int v, .int lo, .int hi]) (n := 3) (Nat.le_of_ble_eq_true rfl)
  rw [hE]
  clear hE
  generalize (lg_sl ([.int v, .int lo, .int hi]) ++ List.replicate (3 - (lg_sl ([.int v, .int lo, .int hi])).length) Slot.unset).toArray = ls at hl ⊢
  have hl : lv_has ls 3 [(0, .int v), (1, .int lo), (2, .int hi)] := hl
  generalize hQ : MQ _ _ _ _ _ _ _ = Q
  refine lv_iload_n hx hb dX1_in_0 rfl (lv_at hl 0 rfl) ?_
  refine lv_iload_n hx hb dX1_in_1 rfl (lv_at hl 1 rfl) ?_
  refine lv_icmp_lt (tgt := 14) hx hb dX1_in_2 (by decide) (fun c_2 => ?_) (fun c_2 => ?_)
  · refine lv_iconst (v := nI 0) hx hb dX1_in_14 (by decide) ?_
    subst hQ
    exact W.zret (v := nI 0) hx hb hrt rfl (fun t ht _ => ⟨_, rfl, (show nI 0 = bI (wi v lo hi) from retB0 (by first | rfl | simp [wi, c_2])), ht⟩) t_nil dX1_in_15
  · refine lv_iload_n hx hb dX1_in_5 rfl (lv_at hl 0 rfl) ?_
    refine lv_iload_n hx hb dX1_in_6 rfl (lv_at hl 2 rfl) ?_
    refine lv_icmp_gt (tgt := 14) hx hb dX1_in_7 (by decide) (fun c_7 => ?_) (fun c_7 => ?_)
    · refine lv_iconst (v := nI 0) hx hb dX1_in_14 (by decide) ?_
      subst hQ
      exact W.zret (v := nI 0) hx hb hrt rfl (fun t ht _ => ⟨_, rfl, (show nI 0 = bI (wi v lo hi) from retB0 (by first | rfl | simp [wi, c_2, c_7])), ht⟩) t_nil dX1_in_15
    · refine lv_iconst (v := nI 1) hx hb dX1_in_10 (by decide) ?_
      refine lv_goto (tgt := 15) hx hb dX1_in_11 (by decide) ?_
      subst hQ
      exact W.zret (v := nI 1) hx hb hrt rfl (fun t ht _ => ⟨_, rfl, (show nI 1 = bI (wi v lo hi) from retB1 (by first | rfl | simp [wi, c_2, c_7])), ht⟩) t_nil dX1_in_15
theorem w_X1_in {R : Room} {s : State} {args : Array Value} {own : String} {idx : Nat} (hts : ∀ w ∈ lw_all, w.before args s = true) (h1 : Cond.methodLink own idx yX1_in ∈ lw_all) {rm : Room} {mc ms : Nat} (hrc : rm.cells = mc) (hrs : rm.slots = ms) (hR : rm.frames + 1 ≤ R.frames ∧ 8 + (3 + 11) + rm.locals ≤ R.locals) : CallB R s args own idx yX1_in cX1_in 3 (some .boolean) (ws_ yX1_in cX1_in 3 (some .boolean)) rm mc ms 3 ∧ (Cond.static yX1_in).before args s = true := va_cwS 3 hts (lw_S h1 q278 q62 q279) rfl hrc hrs (by decide +kernel) hR

abbrev r_X4_isThere : Room := { frames := 0, cells := 0, slots := 0, locals := 0 }
set_option maxHeartbeats 1000000 in
theorem c_X4_isThere (lh : Launch) (A : Nat → Prop) (D : va_G) (dA : Nat → ClassId) (K : Nat → Nat) (ad X : Nat → Nat → Nat) (Y : Nat → Nat → Nat → Int32) (N : Nat → Nat) (I : Nat → Int32) (G : Nat → Nat → Nat) (J : Nat → Nat → Int32) (c : Nat) (h1 : c < N 3) (h2 : ∀ a b, G a b < 2 ^ 31) : Met lh yX4_isThere (ws_ yX4_isThere cX4_isThere 1 (some .boolean)) r_X4_isThere (PX (fun U H => RH A D dA K ad X Y N I G J H ∧ GK D dA U) [.ref (ad 6 c)]) (vp_Si (fun rv => rv = bI (lv G c))) 0 0 (fun _ => False) := by
  refine Met.ofW (cc := cX4_isThere) (maxL := 1) (ret := (some .boolean)) (by decide) rfl ?_
  intro p e s m args below meth cd s₁ B hml hv
  obtain ⟨hargs, hH, hG⟩ := hv
  have hx := B.exec
  have hb := B.bytes
  have hrt := B.returns
  have hts := atoms_spec (ws := (ws_ yX4_isThere cX4_isThere 1 (some .boolean))) B.pre
  have hts : ∀ w ∈ lw_all, w.before _ s = true := fun w h => hts w (List.mem_cons_of_mem _ h)
  have hown : s.vm.findClass RX4 = some m.cls := findClass_of_methodNamed B.named
  have hlocks := B.notSynchronized
  have hE : entryFrame m args 1 = F0 m 0 ((lg_sl ([.ref (ad 6 c)]) ++ List.replicate (1 - (lg_sl ([.ref (ad 6 c)])).length) Slot.unset).toArray) [] := by rw [hargs]; exact lg_entry_eq m _ 1
  have hl := lv_entry ([.ref (ad 6 c)]) (n := 1) (Nat.le_of_ble_eq_true rfl)
  rw [hE]
  clear hE
  generalize (lg_sl ([.ref (ad 6 c)]) ++ List.replicate (1 - (lg_sl ([.ref (ad 6 c)])).length) Slot.unset).toArray = ls at hl ⊢
  have hl : lv_has ls 1 [(0, .ref (ad 6 c))] := hl
  generalize hQ : MQ _ _ _ _ _ _ _ = Q
  refine lv_aload_n hx hb dX4_isThere_0 rfl (lv_at hl 0 rfl) ?_
  refine ko_get (C := RX4) (T := TX4) (N := 11) (ci := 2) (v := .int (nI (G 6 c))) hx hb hts in_X4 hown hG.1 (hH.cr (show c < N 3 from by omega)) rfl 9 (by decide) q332 (fun _ h => h) (rfl) dX4_isThere_1 ?_
  refine kn_zeq (tgt := 15) hx hb dX4_isThere_4 (by decide) (h2 _ _) (fun c_4 => ?_) (fun c_4 => ?_)
  · refine lv_iconst (v := nI 1) hx hb dX4_isThere_15 (by decide) ?_
    refine lv_goto (tgt := 20) hx hb dX4_isThere_16 (by decide) ?_
    subst hQ
    exact W.zret (v := nI 1) hx hb hrt rfl (fun t ht _ => ⟨_, rfl, (show nI 1 = bI (lv G c) from retB1 (lv_t (by omega))), ht⟩) t_nil dX4_isThere_20
  · refine lv_aload_n hx hb dX4_isThere_7 rfl (lv_at hl 0 rfl) ?_
    refine ko_get (C := RX4) (T := TX4) (N := 11) (ci := 2) (v := .int (nI (G 6 c))) hx hb hts in_X4 hown hG.1 (hH.cr (show c < N 3 from by omega)) rfl 9 (by decide) q332 (fun _ h => h) (rfl) dX4_isThere_8 ?_
    refine lv_iconst (v := nI 1) hx hb dX4_isThere_11 (by decide) ?_
    refine kn_cne (tgt := 19) hx hb dX4_isThere_12 (by decide) (h2 _ _) (by omega) (fun c_12 => ?_) (fun c_12 => ?_)
    · refine lv_iconst (v := nI 0) hx hb dX4_isThere_19 (by decide) ?_
      subst hQ
      exact W.zret (v := nI 0) hx hb hrt rfl (fun t ht _ => ⟨_, rfl, (show nI 0 = bI (lv G c) from retB0 (lv_f (by omega))), ht⟩) t_nil dX4_isThere_20
    · refine lv_iconst (v := nI 1) hx hb dX4_isThere_15 (by decide) ?_
      refine lv_goto (tgt := 20) hx hb dX4_isThere_16 (by decide) ?_
      subst hQ
      exact W.zret (v := nI 1) hx hb hrt rfl (fun t ht _ => ⟨_, rfl, (show nI 1 = bI (lv G c) from retB1 (lv_t (by omega))), ht⟩) t_nil dX4_isThere_20
theorem w_X4_isThere {R : Room} {s : State} {args : Array Value} {own : String} {idx : Nat} (hts : ∀ w ∈ lw_all, w.before args s = true) (h1 : Cond.methodLink own idx yX4_isThere ∈ lw_all) {rm : Room} {mc ms : Nat} (hrc : rm.cells = mc) (hrs : rm.slots = ms) (hR : rm.frames + 1 ≤ R.frames ∧ 8 + (1 + 11) + rm.locals ≤ R.locals) : CallW R s args own RX4 idx yX4_isThere cX4_isThere 1 (some .boolean) (ws_ yX4_isThere cX4_isThere 1 (some .boolean)) rm mc ms 0 := cwV 0 hts (lw_V h1 q306 q307 q73 q308) rfl hrc hrs (by decide +kernel) hR

abbrev r_X4_isCold : Room := { frames := 1, cells := 0, slots := 0, locals := 20 }
set_option maxHeartbeats 1000000 in
theorem c_X4_isCold (lh : Launch) (A : Nat → Prop) (D : va_G) (dA : Nat → ClassId) (K : Nat → Nat) (ad X : Nat → Nat → Nat) (Y : Nat → Nat → Nat → Int32) (N : Nat → Nat) (I : Nat → Int32) (G : Nat → Nat → Nat) (J : Nat → Nat → Int32) (c : Nat) (h1 : c < N 3) (h2 : ∀ a b, G a b < 2 ^ 31) (h3 : PlOk N G Y) : Met lh yX4_isCold (ws_ yX4_isCold cX4_isCold 1 (some .boolean)) r_X4_isCold (PX (fun U H => RH A D dA K ad X Y N I G J H ∧ GK D dA U) [.ref (ad 6 c)]) (vp_Si (fun rv => rv = bI (lv G c && decide (8 ≤ G 5 c)))) 0 0 (fun _ => False) := by
  refine Met.ofW (cc := cX4_isCold) (maxL := 1) (ret := (some .boolean)) (by decide) rfl ?_
  intro p e s m args below meth cd s₁ B hml hv
  obtain ⟨hargs, hH, hG⟩ := hv
  have hx := B.exec
  have hb := B.bytes
  have hrt := B.returns
  have hts := atoms_spec (ws := (ws_ yX4_isCold cX4_isCold 1 (some .boolean))) B.pre
  have hts : ∀ w ∈ lw_all, w.before _ s = true := fun w h => hts w (List.mem_cons_of_mem _ h)
  have hown : s.vm.findClass RX4 = some m.cls := findClass_of_methodNamed B.named
  have hlocks := B.notSynchronized
  have hE : entryFrame m args 1 = F0 m 0 ((lg_sl ([.ref (ad 6 c)]) ++ List.replicate (1 - (lg_sl ([.ref (ad 6 c)])).length) Slot.unset).toArray) [] := by rw [hargs]; exact lg_entry_eq m _ 1
  have hl := lv_entry ([.ref (ad 6 c)]) (n := 1) (Nat.le_of_ble_eq_true rfl)
  rw [hE]
  clear hE
  generalize (lg_sl ([.ref (ad 6 c)]) ++ List.replicate (1 - (lg_sl ([.ref (ad 6 c)])).length) Slot.unset).toArray = ls at hl ⊢
  have hl : lv_has ls 1 [(0, .ref (ad 6 c))] := hl
  generalize hQ : MQ _ _ _ _ _ _ _ = Q
  refine lv_aload_n hx hb dX4_isCold_0 rfl (lv_at hl 0 rfl) ?_
  refine vp_callSi (va_Run.call (va_runV (As := []) (rest := []) ⟨hx, hb, hml, hown, hts⟩ (c_X4_isThere lh A D dA K ad X Y N I G J c (show c < (N 3) from by first | omega | assumption) (show ∀ a b, G a b < 2 ^ 31 from by first | omega | assumption)) (w_X4_isThere hts q509 rfl rfl ⟨Nat.le_of_ble_eq_true rfl, Nat.le_of_ble_eq_true rfl⟩) ⟨PX.blind (Mv.and Mv.heap Mv.gk), (O_recv hG (hH.cr (show c < N 3 from by omega)) rfl), PX.pre (Mv.and Mv.heap Mv.gk) ⟨hH, hG⟩⟩ rfl rfl hl.1 rfl (lv_room (Nat.le_of_ble_eq_true rfl)) dX4_isCold_1 ⟨Nat.le_of_ble_eq_true rfl, Nat.le_of_ble_eq_true rfl⟩)) (fun rr hrr => ?_)
  subst hrr
  refine kb_eq (tgt := 20) hx hb dX4_isCold_4 (by decide) (fun c_4 => ?_) (fun c_4 => ?_)
  · refine lv_iconst (v := nI 0) hx hb dX4_isCold_20 (by decide) ?_
    subst hQ
    exact W.zret (v := nI 0) hx hb hrt rfl (fun t ht _ => ⟨_, rfl, (show nI 0 = bI (lv G c && decide (8 ≤ G 5 c)) from retB0 (by simp [c_4])), ht⟩) t_nil dX4_isCold_21
  · refine lv_aload_n hx hb dX4_isCold_7 rfl (lv_at hl 0 rfl) ?_
    refine ko_get (C := RX4) (T := TX4) (N := 11) (ci := 2) (v := .int (Y 0 c 0)) hx hb hts in_X4 hown hG.1 (hH.cr (show c < N 3 from by omega)) rfl 3 (by decide) q320 (fun _ h => h) (rfl) dX4_isCold_8 ?_
    refine kx_int (y := nI (G 5 c)) (h3 c h1 c_4) ?_
    refine lv_bipush (v := nI 8) hx hb dX4_isCold_11 (by decide) ?_
    refine kn_clt (tgt := 20) hx hb dX4_isCold_13 (by decide) (h2 _ _) (by omega) (fun c_13 => ?_) (fun c_13 => ?_)
    · refine lv_iconst (v := nI 0) hx hb dX4_isCold_20 (by decide) ?_
      subst hQ
      exact W.zret (v := nI 0) hx hb hrt rfl (fun t ht _ => ⟨_, rfl, (show nI 0 = bI (lv G c && decide (8 ≤ G 5 c)) from retB0 (by simp [c_4, Nat.not_le.mpr c_13])), ht⟩) t_nil dX4_isCold_21
    · refine lv_iconst (v := nI 1) hx hb dX4_isCold_16 (by decide) ?_
      refine lv_goto (tgt := 21) hx hb dX4_isCold_17 (by decide) ?_
      subst hQ
      exact W.zret (v := nI 1) hx hb hrt rfl (fun t ht _ => ⟨_, rfl, (show nI 1 = bI (lv G c && decide (8 ≤ G 5 c)) from retB1 (by simp [c_4, c_13])), ht⟩) t_nil dX4_isCold_21
theorem w_X4_isCold {R : Room} {s : State} {args : Array Value} {own : String} {idx : Nat} (hts : ∀ w ∈ lw_all, w.before args s = true) (h1 : Cond.methodLink own idx yX4_isCold ∈ lw_all) {rm : Room} {mc ms : Nat} (hrc : rm.cells = mc) (hrs : rm.slots = ms) (hR : rm.frames + 1 ≤ R.frames ∧ 8 + (1 + 11) + rm.locals ≤ R.locals) : CallW R s args own RX4 idx yX4_isCold cX4_isCold 1 (some .boolean) (ws_ yX4_isCold cX4_isCold 1 (some .boolean)) rm mc ms 0 := cwV 0 hts (lw_V h1 q506 q507 q73 q508) rfl hrc hrs (by decide +kernel) hR

abbrev r_X4_goes : Room := { frames := 0, cells := 0, slots := 0, locals := 0 }
set_option maxHeartbeats 1000000 in
theorem c_X4_goes (lh : Launch) (A : Nat → Prop) (D : va_G) (dA : Nat → ClassId) (K : Nat → Nat) (ad X : Nat → Nat → Nat) (Y : Nat → Nat → Nat → Int32) (N : Nat → Nat) (I : Nat → Int32) (G : Nat → Nat → Nat) (J : Nat → Nat → Int32) (sz : Nat) (c : Nat) (tt : Nat) (h1 : c < N 3) (hA : ∀ q, sz ≤ q → A q) : Met lh yX4_goes (ws_ yX4_goes cX4_goes 2 none) r_X4_goes (PX (fun U H => H.size = sz ∧ RH A D dA K ad X Y N I G J H ∧ GK D dA U) [.ref (ad 6 c), .int (nI tt)]) (va_Qv (fun u : HgT => u = (ad, X, up3 Y 0 c 0 (-1), N, I, up2 G 6 c tt, J)) (BmH A D dA K) A) 0 0 A := by
  refine Met.ofW (cc := cX4_goes) (maxL := 2) (ret := none) (by decide) rfl ?_
  intro p e s m args below meth cd s₁ B hml hv
  obtain ⟨hargs, hsz, hH, hG⟩ := hv
  have hx := B.exec
  have hb := B.bytes
  have hrt := B.returns
  have hts := atoms_spec (ws := (ws_ yX4_goes cX4_goes 2 none)) B.pre
  have hts : ∀ w ∈ lw_all, w.before _ s = true := fun w h => hts w (List.mem_cons_of_mem _ h)
  have hown : s.vm.findClass RX4 = some m.cls := findClass_of_methodNamed B.named
  have hlocks := B.notSynchronized
  subst hsz
  have hS : va_S A s.heap s.heap [] := va_S.rf
  have hE : entryFrame m args 2 = F0 m 0 ((lg_sl ([.ref (ad 6 c), .int (nI tt)]) ++ List.replicate (2 - (lg_sl ([.ref (ad 6 c), .int (nI tt)])).length) Slot.unset).toArray) [] := by rw [hargs]; exact lg_entry_eq m _ 2
  have hl := lv_entry ([.ref (ad 6 c), .int (nI tt)]) (n := 2) (Nat.le_of_ble_eq_true rfl)
  rw [hE]
  clear hE
  generalize (lg_sl ([.ref (ad 6 c), .int (nI tt)]) ++ List.replicate (2 - (lg_sl ([.ref (ad 6 c), .int (nI tt)])).length) Slot.unset).toArray = ls at hl ⊢
  have hl : lv_has ls 2 [(0, .ref (ad 6 c)), (1, .int (nI tt))] := hl
  generalize hQ : MQ _ _ _ _ _ _ _ = Q
  refine lv_aload_n hx hb dX4_goes_0 rfl (lv_at hl 0 rfl) ?_
  refine lv_iload_n hx hb dX4_goes_1 rfl (lv_at hl 1 rfl) ?_
  refine ko_put (C := RX4) (T := TX4) (N := 11) (ci := 2) hx hb hts in_X4 tyX4 tyX4_ok nmX4 hown hG.1 hS (hH.2.2 6 c (show c < N 3 from by omega)) (hH.cr (show c < N 3 from by omega)) rfl 9 (by decide) q332 (fun _ h => h) rfl rfl rfl (Nat.le_of_ble_eq_true rfl) dX4_goes_2 (fun H locs e1 z1 o1 hS => ?_)
  have hH := hH.c9 (v := tt) (show c < N 3 from by omega) e1 o1
  clear e1 z1 o1
  refine lv_aload_n hx hb dX4_goes_5 rfl (lv_at hl 0 rfl) ?_
  refine lv_iconst (v := -1) hx hb dX4_goes_6 (by decide) ?_
  refine ko_put (C := RX4) (T := TX4) (N := 11) (ci := 2) hx hb hts in_X4 tyX4 tyX4_ok nmX4 hown hG.1 hS (hH.2.2 6 c (show c < N 3 from by omega)) (hH.cr (show c < N 3 from by omega)) rfl 3 (by decide) q320 (fun _ h => h) rfl rfl rfl (Nat.le_of_ble_eq_true rfl) dX4_goes_7 (fun H locs e1 z1 o1 hS => ?_)
  have hH := hH.c3 (v := (-1)) (show c < N 3 from by omega) e1 o1
  clear e1 z1 o1
  subst hQ
  exact W.vret hx hb hrt (fun t ht hW => ⟨⟨(ad, X, (up3 Y 0 c 0 (-1)), N, I, (up2 G 6 c tt), J), rfl, (rfl), by rw [ht]; exact hH, GK.warm hW hG⟩, hS.F ht⟩) hS.2.2 dX4_goes_10
theorem w_X4_goes {R : Room} {s : State} {args : Array Value} {own : String} {idx : Nat} (hts : ∀ w ∈ lw_all, w.before args s = true) (h1 : Cond.methodLink own idx yX4_goes ∈ lw_all) {rm : Room} {mc ms : Nat} (hrc : rm.cells = mc) (hrs : rm.slots = ms) (hR : rm.frames + 1 ≤ R.frames ∧ 8 + (2 + 11) + rm.locals ≤ R.locals) : CallW R s args own RX4 idx yX4_goes cX4_goes 2 none (ws_ yX4_goes cX4_goes 2 none) rm mc ms 1 := cwV 1 hts (lw_V h1 q552 q553 q73 q554) rfl hrc hrs (by decide +kernel) hR

abbrev r_X3_all_C : Room := { frames := 0, cells := 0, slots := 0, locals := 0 }
set_option maxHeartbeats 1000000 in
theorem c_X3_all_C (lh : Launch) (A : Nat → Prop) (D : va_G) (dA : Nat → ClassId) (K : Nat → Nat) (ad X : Nat → Nat → Nat) (Y : Nat → Nat → Nat → Int32) (N : Nat → Nat) (I : Nat → Int32) (G : Nat → Nat → Nat) (J : Nat → Nat → Int32) (c : Nat) (h1 : c < N 3) : Met lh yX3_all (ws_ yX3_all cX3_all 6 (some .int)) r_X3_all_C (PX (fun U H => RH A D dA K ad X Y N I G J H ∧ GK D dA U) [.ref (ad 6 c)]) (vp_Si (fun rv => rv = nI (gr G c))) 0 0 (fun _ => False) := by
  refine Met.ofW (cc := cX3_all) (maxL := 6) (ret := (some .int)) (by decide) rfl ?_
  intro p e s m args below meth cd s₁ B hml hv
  obtain ⟨hargs, hH, hG⟩ := hv
  have hx := B.exec
  have hb := B.bytes
  have hrt := B.returns
  have hts := atoms_spec (ws := (ws_ yX3_all cX3_all 6 (some .int))) B.pre
  have hts : ∀ w ∈ lw_all, w.before _ s = true := fun w h => hts w (List.mem_cons_of_mem _ h)
  have hown : s.vm.findClass RX3 = some m.cls := findClass_of_methodNamed B.named
  have hlocks := B.notSynchronized
  have hE : entryFrame m args 6 = F0 m 0 ((lg_sl ([.ref (ad 6 c)]) ++ List.replicate (6 - (lg_sl ([.ref (ad 6 c)])).length) Slot.unset).toArray) [] := by rw [hargs]; exact lg_entry_eq m _ 6
  have hl := lv_entry ([.ref (ad 6 c)]) (n := 6) (Nat.le_of_ble_eq_true rfl)
  rw [hE]
  clear hE
  generalize (lg_sl ([.ref (ad 6 c)]) ++ List.replicate (6 - (lg_sl ([.ref (ad 6 c)])).length) Slot.unset).toArray = ls at hl ⊢
  have hl : lv_has ls 6 [(0, .ref (ad 6 c))] := hl
  generalize hQ : MQ _ _ _ _ _ _ _ = Q
  refine lv_iconst (v := nI 0) hx hb dX3_all_0 (by decide) ?_
  refine lv_istore_n (lv' := [(1, .int (nI 0)), (0, .ref (ad 6 c))]) hx hb dX3_all_1 rfl hl (by decide) rfl (fun ls hl => ?_)
  refine lv_aload_n hx hb dX3_all_2 rfl (lv_at hl 1 rfl) ?_
  refine ko_get (C := RX4) (T := TX4) (N := 11) (ci := 2) (v := .ref (ad 7 c)) hx hb hts in_X4 hown hG.1 (hH.cr (show c < N 3 from by omega)) rfl 0 (by decide) q337 (fun _ h => h) (rfl) dX3_all_3 ?_
  refine lv_astore_n (lv' := [(2, .ref (ad 7 c)), (1, .int (nI 0)), (0, .ref (ad 6 c))]) hx hb dX3_all_6 rfl hl (by decide) rfl (fun ls hl => ?_)
  refine lv_aload_n hx hb dX3_all_7 rfl (lv_at hl 0 rfl) ?_
  refine ka_alen hx hb hG.1 (hH.gm (show c < N 3 from by omega)) 0 rfl dX3_all_8 ?_
  refine kx_int (y := nI 20) rfl ?_
  refine lv_istore_n (lv' := [(3, .int (nI 20)), (2, .ref (ad 7 c)), (1, .int (nI 0)), (0, .ref (ad 6 c))]) hx hb dX3_all_9 rfl hl (by decide) rfl (fun ls hl => ?_)
  refine lv_iconst (v := nI 0) hx hb dX3_all_10 (by decide) ?_
  refine lv_istore (lv' := [(4, .int (nI 0)), (3, .int (nI 20)), (2, .ref (ad 7 c)), (1, .int (nI 0)), (0, .ref (ad 6 c))]) hx hb dX3_all_11 hl (by decide) rfl (fun ls hl => ?_)
  have L13 : ∀ (nn13 : Nat) (i : Nat), (i ≤ 20) → 20 - i < nn13 → ∀ (ls : Array Slot), lv_has ls 6 [(0, .ref (ad 6 c)), (1, .int (nI (grT G c i))), (2, .ref (ad 7 c)), (3, .int (nI 20)), (4, .int (nI i))] → W p lh e r_X3_all_C s m args below meth cd s.heap [] 0 0 Q (F0 m 13 ls []) := by
    intro nn13
    induction nn13 with
    | zero => intro i i13_0 hm13; exact absurd hm13 (Nat.not_lt_zero _)
    | succ nn13 ih13 =>
      intro i i13_0 hm13 ls hl
      refine lv_iload hx hb dX3_all_13 (lv_at hl 4 rfl) ?_
      refine lv_iload_n hx hb dX3_all_15 rfl (lv_at hl 3 rfl) ?_
      refine kn_cge (tgt := 36) hx hb dX3_all_16 (by decide) (by omega) (by omega) (fun c_16 => ?_) (fun c_16 => ?_)
      · refine lv_iload_n hx hb dX3_all_36 rfl (lv_at hl 1 rfl) ?_
        subst hQ
        exact W.iret (v := nI (grT G c i)) hx hb hrt (fun t ht _ => ⟨_, rfl, (show nI (grT G c i) = nI (gr G c) from by rw [show i = 20 by omega]; rfl), ht⟩) t_nil dX3_all_37
      · refine lv_aload_n hx hb dX3_all_19 rfl (lv_at hl 2 rfl) ?_
        refine lv_iload hx hb dX3_all_20 (lv_at hl 4 rfl) ?_
        refine ka_iald (v := nI (G 4 (20 * c + i))) hx hb hG.1 (hH.gm (show c < N 3 from by omega)) 0 rfl (show i < 20 from by omega) (by decide) (tr20_in (by omega)) dX3_all_22 ?_
        refine lv_istore (lv' := [(5, .int (nI (G 4 (20 * c + i)))), (0, .ref (ad 6 c)), (1, .int (nI (grT G c i))), (2, .ref (ad 7 c)), (3, .int (nI 20)), (4, .int (nI i))]) hx hb dX3_all_23 hl (by decide) rfl (fun ls hl => ?_)
        refine lv_iload_n hx hb dX3_all_25 rfl (lv_at hl 2 rfl) ?_
        refine lv_iload hx hb dX3_all_26 (lv_at hl 0 rfl) ?_
        refine kn_add hx hb dX3_all_28 ?_
        refine lv_istore_n (lv' := [(1, .int (nI (grT G c i + (G 4 (20 * c + i))))), (5, .int (nI (G 4 (20 * c + i)))), (0, .ref (ad 6 c)), (2, .ref (ad 7 c)), (3, .int (nI 20)), (4, .int (nI i))]) hx hb dX3_all_29 rfl hl (by decide) rfl (fun ls hl => ?_)
        refine lv_iinc (v := nI (i + 1)) (lv' := [(4, .int (nI (i + 1))), (1, .int (nI (grT G c i + (G 4 (20 * c + i))))), (5, .int (nI (G 4 (20 * c + i)))), (0, .ref (ad 6 c)), (2, .ref (ad 7 c)), (3, .int (nI 20))]) hx hb dX3_all_30 hl (k := 5) rfl (show nI i + Int32.ofInt 1 = nI (i + 1) from nI_add _ 1) (by decide) rfl (fun ls hl => ?_)
        refine lv_goto (tgt := 13) hx hb dX3_all_33 (by decide) ?_
        exact ih13 (i + 1) (by omega) (by omega) _ (lv_sub hl [3, 1, 4, 5, 0] rfl)
  exact L13 _ 0 (by omega) (Nat.lt_succ_self _) _ (lv_sub hl [4, 3, 2, 1, 0] rfl)

abbrev r_X3_all_J : Room := { frames := 0, cells := 0, slots := 0, locals := 0 }
set_option maxHeartbeats 1000000 in
theorem c_X3_all_J (lh : Launch) (A : Nat → Prop) (D : va_G) (dA : Nat → ClassId) (K : Nat → Nat) (ad X : Nat → Nat → Nat) (Y : Nat → Nat → Nat → Int32) (N : Nat → Nat) (I : Nat → Int32) (G : Nat → Nat → Nat) (J : Nat → Nat → Int32) (c : Nat) (h1 : c < N 40) : Met lh yX3_all (ws_ yX3_all cX3_all 6 (some .int)) r_X3_all_J (PX (fun U H => RH A D dA K ad X Y N I G J H ∧ GK D dA U) [.ref (ad 11 c)]) (vp_Si (fun rv => rv = nI (sumTo (fun l => G 41 (20 * c + l)) 20))) 0 0 (fun _ => False) := by
  refine Met.ofW (cc := cX3_all) (maxL := 6) (ret := (some .int)) (by decide) rfl ?_
  intro p e s m args below meth cd s₁ B hml hv
  obtain ⟨hargs, hH, hG⟩ := hv
  have hx := B.exec
  have hb := B.bytes
  have hrt := B.returns
  have hts := atoms_spec (ws := (ws_ yX3_all cX3_all 6 (some .int))) B.pre
  have hts : ∀ w ∈ lw_all, w.before _ s = true := fun w h => hts w (List.mem_cons_of_mem _ h)
  have hown : s.vm.findClass RX3 = some m.cls := findClass_of_methodNamed B.named
  have hlocks := B.notSynchronized
  have hE : entryFrame m args 6 = F0 m 0 ((lg_sl ([.ref (ad 11 c)]) ++ List.replicate (6 - (lg_sl ([.ref (ad 11 c)])).length) Slot.unset).toArray) [] := by rw [hargs]; exact lg_entry_eq m _ 6
  have hl := lv_entry ([.ref (ad 11 c)]) (n := 6) (Nat.le_of_ble_eq_true rfl)
  rw [hE]
  clear hE
  generalize (lg_sl ([.ref (ad 11 c)]) ++ List.replicate (6 - (lg_sl ([.ref (ad 11 c)])).length) Slot.unset).toArray = ls at hl ⊢
  have hl : lv_has ls 6 [(0, .ref (ad 11 c))] := hl
  generalize hQ : MQ _ _ _ _ _ _ _ = Q
  refine lv_iconst (v := nI 0) hx hb dX3_all_0 (by decide) ?_
  refine lv_istore_n (lv' := [(1, .int (nI 0)), (0, .ref (ad 11 c))]) hx hb dX3_all_1 rfl hl (by decide) rfl (fun ls hl => ?_)
  refine lv_aload_n hx hb dX3_all_2 rfl (lv_at hl 1 rfl) ?_
  refine ko_get (C := RX18) (T := TX18) (N := 1) (ci := 3) (v := .ref (ad 12 c)) hx hb hts in_X18 hown hG.1 (hH.ja (show c < N 40 from by omega)) rfl 0 (by decide) q337 (fun _ h => h) (rfl) dX3_all_3 ?_
  refine lv_astore_n (lv' := [(2, .ref (ad 12 c)), (1, .int (nI 0)), (0, .ref (ad 11 c))]) hx hb dX3_all_6 rfl hl (by decide) rfl (fun ls hl => ?_)
  refine lv_aload_n hx hb dX3_all_7 rfl (lv_at hl 0 rfl) ?_
  refine ka_alen hx hb hG.1 (hH.jg (show c < N 40 from by omega)) 0 rfl dX3_all_8 ?_
  refine kx_int (y := nI 20) rfl ?_
  refine lv_istore_n (lv' := [(3, .int (nI 20)), (2, .ref (ad 12 c)), (1, .int (nI 0)), (0, .ref (ad 11 c))]) hx hb dX3_all_9 rfl hl (by decide) rfl (fun ls hl => ?_)
  refine lv_iconst (v := nI 0) hx hb dX3_all_10 (by decide) ?_
  refine lv_istore (lv' := [(4, .int (nI 0)), (3, .int (nI 20)), (2, .ref (ad 12 c)), (1, .int (nI 0)), (0, .ref (ad 11 c))]) hx hb dX3_all_11 hl (by decide) rfl (fun ls hl => ?_)
  have L13 : ∀ (nn13 : Nat) (i : Nat), (i ≤ 20) → 20 - i < nn13 → ∀ (ls : Array Slot), lv_has ls 6 [(0, .ref (ad 11 c)), (1, .int (nI (sumTo (fun l => G 41 (20 * c + l)) i))), (2, .ref (ad 12 c)), (3, .int (nI 20)), (4, .int (nI i))] → W p lh e r_X3_all_J s m args below meth cd s.heap [] 0 0 Q (F0 m 13 ls []) := by
    intro nn13
    induction nn13 with
    | zero => intro i i13_0 hm13; exact absurd hm13 (Nat.not_lt_zero _)
    | succ nn13 ih13 =>
      intro i i13_0 hm13 ls hl
      refine lv_iload hx hb dX3_all_13 (lv_at hl 4 rfl) ?_
      refine lv_iload_n hx hb dX3_all_15 rfl (lv_at hl 3 rfl) ?_
      refine kn_cge (tgt := 36) hx hb dX3_all_16 (by decide) (by omega) (by omega) (fun c_16 => ?_) (fun c_16 => ?_)
      · refine lv_iload_n hx hb dX3_all_36 rfl (lv_at hl 1 rfl) ?_
        subst hQ
        exact W.iret (v := nI (sumTo (fun l => G 41 (20 * c + l)) i)) hx hb hrt (fun t ht _ => ⟨_, rfl, (show nI (sumTo (fun l => G 41 (20 * c + l)) i) = nI (sumTo (fun l => G 41 (20 * c + l)) 20) from by rw [show i = 20 by omega]), ht⟩) t_nil dX3_all_37
      · refine lv_aload_n hx hb dX3_all_19 rfl (lv_at hl 2 rfl) ?_
        refine lv_iload hx hb dX3_all_20 (lv_at hl 4 rfl) ?_
        refine ka_iald (v := nI (G 41 (20 * c + i))) hx hb hG.1 (hH.jg (show c < N 40 from by omega)) 0 rfl (show i < 20 from by omega) (by decide) (tr20_in (by omega)) dX3_all_22 ?_
        refine lv_istore (lv' := [(5, .int (nI (G 41 (20 * c + i)))), (0, .ref (ad 11 c)), (1, .int (nI (sumTo (fun l => G 41 (20 * c + l)) i))), (2, .ref (ad 12 c)), (3, .int (nI 20)), (4, .int (nI i))]) hx hb dX3_all_23 hl (by decide) rfl (fun ls hl => ?_)
        refine lv_iload_n hx hb dX3_all_25 rfl (lv_at hl 2 rfl) ?_
        refine lv_iload hx hb dX3_all_26 (lv_at hl 0 rfl) ?_
        refine kn_add hx hb dX3_all_28 ?_
        refine lv_istore_n (lv' := [(1, .int (nI (sumTo (fun l => G 41 (20 * c + l)) i + (G 41 (20 * c + i))))), (5, .int (nI (G 41 (20 * c + i)))), (0, .ref (ad 11 c)), (2, .ref (ad 12 c)), (3, .int (nI 20)), (4, .int (nI i))]) hx hb dX3_all_29 rfl hl (by decide) rfl (fun ls hl => ?_)
        refine lv_iinc (v := nI (i + 1)) (lv' := [(4, .int (nI (i + 1))), (1, .int (nI (sumTo (fun l => G 41 (20 * c + l)) i + (G 41 (20 * c + i))))), (5, .int (nI (G 41 (20 * c + i)))), (0, .ref (ad 11 c)), (2, .ref (ad 12 c)), (3, .int (nI 20))]) hx hb dX3_all_30 hl (k := 5) rfl (show nI i + Int32.ofInt 1 = nI (i + 1) from nI_add _ 1) (by decide) rfl (fun ls hl => ?_)
        refine lv_goto (tgt := 13) hx hb dX3_all_33 (by decide) ?_
        exact ih13 (i + 1) (by omega) (by omega) _ (lv_sub hl [3, 1, 4, 5, 0] rfl)
  exact L13 _ 0 (by omega) (Nat.lt_succ_self _) _ (lv_sub hl [4, 3, 2, 1, 0] rfl)

abbrev r_X1_there : Room := { frames := 3, cells := 0, slots := 0, locals := 64 }
set_option maxHeartbeats 1000000 in
theorem c_X1_there (lh : Launch) (A : Nat → Prop) (D : va_G) (dA : Nat → ClassId) (K : Nat → Nat) (ad X : Nat → Nat → Nat) (Y : Nat → Nat → Nat → Int32) (N : Nat → Nat) (I : Nat → Int32) (G : Nat → Nat → Nat) (J : Nat → Nat → Int32) (c : Int32) (h1 : ∀ a b, G a b < 2 ^ 31) (h2 : N 3 ≤ 10) (h3 : XOk N G X) : Met lh yX1_there (ws_ yX1_there cX1_there 2 (some (.object "PickleHouse$Crock"))) r_X1_there (PX (fun U H => RH A D dA K ad X Y N I G J H ∧ GK D dA U) [.ref (ad 0 0), .int c]) (va_Sq (fun rv => rv = if lvI (N 3) G c = true then some (ad 6 (tn c)) else none)) 0 0 (fun _ => False) := by
  refine Met.ofW (cc := cX1_there) (maxL := 2) (ret := (some (.object "PickleHouse$Crock"))) (by decide) rfl ?_
  intro p e s m args below meth cd s₁ B hml hv
  obtain ⟨hargs, hH, hG⟩ := hv
  have hx := B.exec
  have hb := B.bytes
  have hrt := B.returns
  have hts := atoms_spec (ws := (ws_ yX1_there cX1_there 2 (some (.object "PickleHouse$Crock")))) B.pre
  have hts : ∀ w ∈ lw_all, w.before _ s = true := fun w h => hts w (List.mem_cons_of_mem _ h)
  have hown : s.vm.findClass RX1 = some m.cls := findClass_of_methodNamed B.named
  have hlocks := B.notSynchronized
  have hE : entryFrame m args 2 = F0 m 0 ((lg_sl ([.ref (ad 0 0), .int c]) ++ List.replicate (2 - (lg_sl ([.ref (ad 0 0), .int c])).length) Slot.unset).toArray) [] := by rw [hargs]; exact lg_entry_eq m _ 2
  have hl := lv_entry ([.ref (ad 0 0), .int c]) (n := 2) (Nat.le_of_ble_eq_true rfl)
  rw [hE]
  clear hE
  generalize (lg_sl ([.ref (ad 0 0), .int c]) ++ List.replicate (2 - (lg_sl ([.ref (ad 0 0), .int c])).length) Slot.unset).toArray = ls at hl ⊢
  have hl : lv_has ls 2 [(0, .ref (ad 0 0)), (1, .int c)] := hl
  generalize hQ : MQ _ _ _ _ _ _ _ = Q
  have hX := h3
  refine lv_iload_n hx hb dX1_there_0 rfl (lv_at hl 1 rfl) ?_
  refine lv_iconst (v := nI 0) hx hb dX1_there_1 (by decide) ?_
  refine lv_aload_n hx hb dX1_there_2 rfl (lv_at hl 0 rfl) ?_
  refine ko_get (C := RX1) (T := TX1) (N := 28) (ci := 1) (v := .ref (ad 4 0)) hx hb hts in_X1 hown hG.1 hH.o0 rfl 3 (by decide) q188 (fun _ h => h) (rfl) dX1_there_3 ?_
  refine vp_callSi (va_Run.call (va_runV (As := []) (rest := [.int (nI 0), .int c]) ⟨hx, hb, hml, hown, hts⟩ (c_J2_size lh D dA (ad 4 0) (Y 3 0 0) (elH K ad X 0) (N 3)) (w_J2_size hts q284 rfl rfl ⟨Nat.le_of_ble_eq_true rfl, Nat.le_of_ble_eq_true rfl⟩) ⟨PX.blind (Mv.and Mv.heap Mv.gk), (O_recv hG (hH.li 0 (by decide)) rfl), PX.pre (Mv.and Mv.heap Mv.gk) ⟨(hH.li 0 (by decide)), hG⟩⟩ rfl rfl hl.1 rfl (lv_room (Nat.le_of_ble_eq_true rfl)) dX1_there_6 ⟨Nat.le_of_ble_eq_true rfl, Nat.le_of_ble_eq_true rfl⟩)) (fun rr hrr => ?_)
  subst hrr
  refine lv_iconst (v := nI 1) hx hb dX1_there_9 (by decide) ?_
  refine lv_isub hx hb dX1_there_10 ?_
  refine vp_callSi (W.runS (As := [.int c, .int (nI 0), .int (nI (N 3) - (nI 1))]) (rest := []) ⟨hx, hb, hml, hown, hts⟩ (c_X1_in lh c (nI 0) (nI (N 3) - (nI 1))) (w_X1_in hts q277 rfl rfl ⟨Nat.le_of_ble_eq_true rfl, Nat.le_of_ble_eq_true rfl⟩) ⟨P0.blind, P0.pre⟩ rfl rfl hl.1 rfl (lv_room (Nat.le_of_ble_eq_true rfl)) dX1_there_11 ⟨Nat.le_of_ble_eq_true rfl, Nat.le_of_ble_eq_true rfl⟩) (fun rr hrr => ?_)
  subst hrr
  refine kb_eq (tgt := 48) hx hb dX1_there_14 (by decide) (fun c_14 => ?_) (fun c_14 => ?_)
  · refine lv_null hx hb dX1_there_48 ?_
    subst hQ
    exact W.aret (v := va_rf none) hx hb hrt (Or.inl ⟨_, rfl⟩) (va_rf_or _) (fun t ht _ => ⟨none, rfl, (show none = if lvI (N 3) G c = true then some (ad 6 (tn c)) else none from by rw [if_neg (by unfold lvI; rw [c_14]; simp)]), ht⟩) t_nil dX1_there_49
  · obtain ⟨j, hj, rfl⟩ := wi_cnt (by omega) c_14
    refine lv_aload_n hx hb dX1_there_17 rfl (lv_at hl 0 rfl) ?_
    refine ko_get (C := RX1) (T := TX1) (N := 28) (ci := 1) (v := .ref (ad 4 0)) hx hb hts in_X1 hown hG.1 hH.o0 rfl 3 (by decide) q188 (fun _ h => h) (rfl) dX1_there_18 ?_
    refine lv_iload_n hx hb dX1_there_21 rfl (lv_at hl 1 rfl) ?_
    refine va_csq (va_Run.call (va_runV (As := [.int (nI j)]) (rest := []) ⟨hx, hb, hml, hown, hts⟩ (c_J2_get lh D dA (ad 4 0) (Y 3 0 0) (ad 5 0) (N 3) (X 0 0) (ltH ad 6 (N 3) 0) (j) (ad 6 j) (show j < N 3 from by omega) ((hX.1 0 (by decide)).1) ((hX.1 0 (by decide)).2) (ltH_0 (show j < N 3 from by omega))) (w_J2_get hts q292 rfl rfl ⟨Nat.le_of_ble_eq_true rfl, Nat.le_of_ble_eq_true rfl⟩) ⟨PX.blind (Mv.and Mv.heap (Mv.and Mv.heap Mv.gk)), (O_recv hG (hH.lo 0 (by decide) (by have hx0 : N 3 ≤ X 0 0 := (hX.1 0 (by decide)).1; omega)) rfl), PX.pre (Mv.and Mv.heap (Mv.and Mv.heap Mv.gk)) ⟨(hH.lo 0 (by decide) (by have hx0 : N 3 ≤ X 0 0 := (hX.1 0 (by decide)).1; omega)), (hH.la 0 (by decide) (by have hx0 : N 3 ≤ X 0 0 := (hX.1 0 (by decide)).1; omega)), hG⟩⟩ rfl rfl hl.1 rfl (lv_room (Nat.le_of_ble_eq_true rfl)) dX1_there_22 ⟨Nat.le_of_ble_eq_true rfl, Nat.le_of_ble_eq_true rfl⟩)) (fun rr hrr => ?_)
    subst hrr
    show W p lh e r_X1_there s m args below meth cd _ _ _ _ Q (F0 m _ ls (.ref (ad 6 j) :: _))
    refine va_castE hx hb hown (hts _ q304) (O_recv hG (hH.cr (show j < N 3 from by omega)) rfl) dX1_there_25 ?_
    refine vp_callSi (va_Run.call (va_runV (As := []) (rest := []) ⟨hx, hb, hml, hown, hts⟩ (c_X4_isThere lh A D dA K ad X Y N I G J j (show j < (N 3) from by first | omega | assumption) (show ∀ a b, G a b < 2 ^ 31 from by first | omega | assumption)) (w_X4_isThere hts q305 rfl rfl ⟨Nat.le_of_ble_eq_true rfl, Nat.le_of_ble_eq_true rfl⟩) ⟨PX.blind (Mv.and Mv.heap Mv.gk), (O_recv hG (hH.cr (show j < N 3 from by omega)) rfl), PX.pre (Mv.and Mv.heap Mv.gk) ⟨hH, hG⟩⟩ rfl rfl hl.1 rfl (lv_room (Nat.le_of_ble_eq_true rfl)) dX1_there_28 ⟨Nat.le_of_ble_eq_true rfl, Nat.le_of_ble_eq_true rfl⟩)) (fun rr hrr => ?_)
    subst hrr
    refine kb_eq (tgt := 48) hx hb dX1_there_31 (by decide) (fun c_31 => ?_) (fun c_31 => ?_)
    · refine lv_null hx hb dX1_there_48 ?_
      subst hQ
      exact W.aret (v := va_rf none) hx hb hrt (Or.inl ⟨_, rfl⟩) (va_rf_or _) (fun t ht _ => ⟨none, rfl, (show none = if lvI (N 3) G (nI j) = true then some (ad 6 (tn (nI j))) else none from by rw [if_neg (by rw [lvI_lv (by omega) c_14, c_31]; decide)]), ht⟩) t_nil dX1_there_49
    · refine lv_aload_n hx hb dX1_there_34 rfl (lv_at hl 0 rfl) ?_
      refine ko_get (C := RX1) (T := TX1) (N := 28) (ci := 1) (v := .ref (ad 4 0)) hx hb hts in_X1 hown hG.1 hH.o0 rfl 3 (by decide) q188 (fun _ h => h) (rfl) dX1_there_35 ?_
      refine lv_iload_n hx hb dX1_there_38 rfl (lv_at hl 1 rfl) ?_
      refine va_csq (va_Run.call (va_runV (As := [.int (nI j)]) (rest := []) ⟨hx, hb, hml, hown, hts⟩ (c_J2_get lh D dA (ad 4 0) (Y 3 0 0) (ad 5 0) (N 3) (X 0 0) (ltH ad 6 (N 3) 0) (j) (ad 6 j) (show j < N 3 from by omega) ((hX.1 0 (by decide)).1) ((hX.1 0 (by decide)).2) (ltH_0 (show j < N 3 from by omega))) (w_J2_get hts q292 rfl rfl ⟨Nat.le_of_ble_eq_true rfl, Nat.le_of_ble_eq_true rfl⟩) ⟨PX.blind (Mv.and Mv.heap (Mv.and Mv.heap Mv.gk)), (O_recv hG (hH.lo 0 (by decide) (by have hx0 : N 3 ≤ X 0 0 := (hX.1 0 (by decide)).1; omega)) rfl), PX.pre (Mv.and Mv.heap (Mv.and Mv.heap Mv.gk)) ⟨(hH.lo 0 (by decide) (by have hx0 : N 3 ≤ X 0 0 := (hX.1 0 (by decide)).1; omega)), (hH.la 0 (by decide) (by have hx0 : N 3 ≤ X 0 0 := (hX.1 0 (by decide)).1; omega)), hG⟩⟩ rfl rfl hl.1 rfl (lv_room (Nat.le_of_ble_eq_true rfl)) dX1_there_39 ⟨Nat.le_of_ble_eq_true rfl, Nat.le_of_ble_eq_true rfl⟩)) (fun rr hrr => ?_)
      subst hrr
      show W p lh e r_X1_there s m args below meth cd _ _ _ _ Q (F0 m _ ls (.ref (ad 6 j) :: _))
      refine va_castE hx hb hown (hts _ q304) (O_recv hG (hH.cr (show j < N 3 from by omega)) rfl) dX1_there_42 ?_
      refine lv_goto (tgt := 49) hx hb dX1_there_45 (by decide) ?_
      subst hQ
      exact W.aret (v := va_rf (some (ad 6 j))) hx hb hrt (Or.inl ⟨_, rfl⟩) (va_rf_or _) (fun t ht _ => ⟨(some (ad 6 j)), rfl, (show (some (ad 6 j)) = if lvI (N 3) G (nI j) = true then some (ad 6 (tn (nI j))) else none from by rw [if_pos ((lvI_lv (by omega) c_14).trans c_31), tn_nI (by omega)]), ht⟩) t_nil dX1_there_49
theorem w_X1_there {R : Room} {s : State} {args : Array Value} {own : String} {idx : Nat} (hts : ∀ w ∈ lw_all, w.before args s = true) (h1 : Cond.methodLink own idx yX1_there ∈ lw_all) {rm : Room} {mc ms : Nat} (hrc : rm.cells = mc) (hrs : rm.slots = ms) (hR : rm.frames + 1 ≤ R.frames ∧ 8 + (2 + 11) + rm.locals ≤ R.locals) : CallW R s args own RX1 idx yX1_there cX1_there 2 (some (.object "PickleHouse$Crock")) (ws_ yX1_there cX1_there 2 (some (.object "PickleHouse$Crock"))) rm mc ms 1 := cwV 1 hts (lw_V h1 q438 qs4 q62 q439) rfl hrc hrs (by decide +kernel) hR

abbrev r_X1_isFree : Room := { frames := 3, cells := 0, slots := 0, locals := 64 }
set_option maxHeartbeats 1000000 in
theorem c_X1_isFree (lh : Launch) (A : Nat → Prop) (D : va_G) (dA : Nat → ClassId) (K : Nat → Nat) (ad X : Nat → Nat → Nat) (Y : Nat → Nat → Nat → Int32) (N : Nat → Nat) (I : Nat → Int32) (G : Nat → Nat → Nat) (J : Nat → Nat → Int32) (q : Nat) (h1 : ∀ a b, G a b < 2 ^ 31) (h2 : N 3 ≤ 10) (h3 : q < 2 ^ 31) (h4 : XOk N G X) (h5 : PlOk N G Y) : Met lh yX1_isFree (ws_ yX1_isFree cX1_isFree 3 (some .boolean)) r_X1_isFree (PX (fun U H => RH A D dA K ad X Y N I G J H ∧ GK D dA U) [.ref (ad 0 0), .int (nI q)]) (vp_Si (fun rv => rv = bI (frS G q (N 3)))) 0 0 (fun _ => False) := by
  refine Met.ofW (cc := cX1_isFree) (maxL := 3) (ret := (some .boolean)) (by decide) rfl ?_
  intro p e s m args below meth cd s₁ B hml hv
  obtain ⟨hargs, hH, hG⟩ := hv
  have hx := B.exec
  have hb := B.bytes
  have hrt := B.returns
  have hts := atoms_spec (ws := (ws_ yX1_isFree cX1_isFree 3 (some .boolean))) B.pre
  have hts : ∀ w ∈ lw_all, w.before _ s = true := fun w h => hts w (List.mem_cons_of_mem _ h)
  have hown : s.vm.findClass RX1 = some m.cls := findClass_of_methodNamed B.named
  have hlocks := B.notSynchronized
  have hE : entryFrame m args 3 = F0 m 0 ((lg_sl ([.ref (ad 0 0), .int (nI q)]) ++ List.replicate (3 - (lg_sl ([.ref (ad 0 0), .int (nI q)])).length) Slot.unset).toArray) [] := by rw [hargs]; exact lg_entry_eq m _ 3
  have hl := lv_entry ([.ref (ad 0 0), .int (nI q)]) (n := 3) (Nat.le_of_ble_eq_true rfl)
  rw [hE]
  clear hE
  generalize (lg_sl ([.ref (ad 0 0), .int (nI q)]) ++ List.replicate (3 - (lg_sl ([.ref (ad 0 0), .int (nI q)])).length) Slot.unset).toArray = ls at hl ⊢
  have hl : lv_has ls 3 [(0, .ref (ad 0 0)), (1, .int (nI q))] := hl
  generalize hQ : MQ _ _ _ _ _ _ _ = Q
  have hX := h4
  refine lv_iconst (v := nI 0) hx hb dX1_isFree_0 (by decide) ?_
  refine lv_istore_n (lv' := [(2, .int (nI 0)), (0, .ref (ad 0 0)), (1, .int (nI q))]) hx hb dX1_isFree_1 rfl hl (by decide) rfl (fun ls hl => ?_)
  have L2 : ∀ (nn2 : Nat) (c : Nat), (c ≤ N 3) → (frS G q c = true) → N 3 - c < nn2 → ∀ (ls : Array Slot), lv_has ls 3 [(0, .ref (ad 0 0)), (1, .int (nI q)), (2, .int (nI c))] → W p lh e r_X1_isFree s m args below meth cd s.heap [] 0 0 Q (F0 m 2 ls []) := by
    intro nn2
    induction nn2 with
    | zero => intro c i2_0 i2_1 hm2; exact absurd hm2 (Nat.not_lt_zero _)
    | succ nn2 ih2 =>
      intro c i2_0 i2_1 hm2 ls hl
      refine lv_iload_n hx hb dX1_isFree_2 rfl (lv_at hl 2 rfl) ?_
      refine lv_aload_n hx hb dX1_isFree_3 rfl (lv_at hl 0 rfl) ?_
      refine ko_get (C := RX1) (T := TX1) (N := 28) (ci := 1) (v := .ref (ad 4 0)) hx hb hts in_X1 hown hG.1 hH.o0 rfl 3 (by decide) q188 (fun _ h => h) (rfl) dX1_isFree_4 ?_
      refine vp_callSi (va_Run.call (va_runV (As := []) (rest := [.int (nI c)]) ⟨hx, hb, hml, hown, hts⟩ (c_J2_size lh D dA (ad 4 0) (Y 3 0 0) (elH K ad X 0) (N 3)) (w_J2_size hts q284 rfl rfl ⟨Nat.le_of_ble_eq_true rfl, Nat.le_of_ble_eq_true rfl⟩) ⟨PX.blind (Mv.and Mv.heap Mv.gk), (O_recv hG (hH.li 0 (by decide)) rfl), PX.pre (Mv.and Mv.heap Mv.gk) ⟨(hH.li 0 (by decide)), hG⟩⟩ rfl rfl hl.1 rfl (lv_room (Nat.le_of_ble_eq_true rfl)) dX1_isFree_7 ⟨Nat.le_of_ble_eq_true rfl, Nat.le_of_ble_eq_true rfl⟩)) (fun rr hrr => ?_)
      subst hrr
      refine kn_cge (tgt := 56) hx hb dX1_isFree_10 (by decide) (by omega) (by omega) (fun c_10 => ?_) (fun c_10 => ?_)
      · refine lv_iconst (v := nI 1) hx hb dX1_isFree_56 (by decide) ?_
        subst hQ
        exact W.zret (v := nI 1) hx hb hrt rfl (fun t ht _ => ⟨_, rfl, (show nI 1 = bI (frS G q (N 3)) from retB1 (by rw [show N 3 = c by omega]; exact i2_1)), ht⟩) t_nil dX1_isFree_57
      · refine lv_aload_n hx hb dX1_isFree_13 rfl (lv_at hl 0 rfl) ?_
        refine ko_get (C := RX1) (T := TX1) (N := 28) (ci := 1) (v := .ref (ad 4 0)) hx hb hts in_X1 hown hG.1 hH.o0 rfl 3 (by decide) q188 (fun _ h => h) (rfl) dX1_isFree_14 ?_
        refine lv_iload_n hx hb dX1_isFree_17 rfl (lv_at hl 2 rfl) ?_
        refine va_csq (va_Run.call (va_runV (As := [.int (nI c)]) (rest := []) ⟨hx, hb, hml, hown, hts⟩ (c_J2_get lh D dA (ad 4 0) (Y 3 0 0) (ad 5 0) (N 3) (X 0 0) (ltH ad 6 (N 3) 0) (c) (ad 6 c) (show c < N 3 from by omega) ((hX.1 0 (by decide)).1) ((hX.1 0 (by decide)).2) (ltH_0 (show c < N 3 from by omega))) (w_J2_get hts q292 rfl rfl ⟨Nat.le_of_ble_eq_true rfl, Nat.le_of_ble_eq_true rfl⟩) ⟨PX.blind (Mv.and Mv.heap (Mv.and Mv.heap Mv.gk)), (O_recv hG (hH.lo 0 (by decide) (by have hx0 : N 3 ≤ X 0 0 := (hX.1 0 (by decide)).1; omega)) rfl), PX.pre (Mv.and Mv.heap (Mv.and Mv.heap Mv.gk)) ⟨(hH.lo 0 (by decide) (by have hx0 : N 3 ≤ X 0 0 := (hX.1 0 (by decide)).1; omega)), (hH.la 0 (by decide) (by have hx0 : N 3 ≤ X 0 0 := (hX.1 0 (by decide)).1; omega)), hG⟩⟩ rfl rfl hl.1 rfl (lv_room (Nat.le_of_ble_eq_true rfl)) dX1_isFree_18 ⟨Nat.le_of_ble_eq_true rfl, Nat.le_of_ble_eq_true rfl⟩)) (fun rr hrr => ?_)
        subst hrr
        show W p lh e r_X1_isFree s m args below meth cd _ _ _ _ Q (F0 m _ ls (.ref (ad 6 c) :: _))
        refine va_castE hx hb hown (hts _ q304) (O_recv hG (hH.cr (show c < N 3 from by omega)) rfl) dX1_isFree_21 ?_
        refine vp_callSi (va_Run.call (va_runV (As := []) (rest := []) ⟨hx, hb, hml, hown, hts⟩ (c_X4_isThere lh A D dA K ad X Y N I G J c (show c < (N 3) from by first | omega | assumption) (show ∀ a b, G a b < 2 ^ 31 from by first | omega | assumption)) (w_X4_isThere hts q305 rfl rfl ⟨Nat.le_of_ble_eq_true rfl, Nat.le_of_ble_eq_true rfl⟩) ⟨PX.blind (Mv.and Mv.heap Mv.gk), (O_recv hG (hH.cr (show c < N 3 from by omega)) rfl), PX.pre (Mv.and Mv.heap Mv.gk) ⟨hH, hG⟩⟩ rfl rfl hl.1 rfl (lv_room (Nat.le_of_ble_eq_true rfl)) dX1_isFree_24 ⟨Nat.le_of_ble_eq_true rfl, Nat.le_of_ble_eq_true rfl⟩)) (fun rr hrr => ?_)
        subst hrr
        refine kb_eq (tgt := 50) hx hb dX1_isFree_27 (by decide) (fun c_27 => ?_) (fun c_27 => ?_)
        · refine lv_iinc (v := nI (c + 1)) (lv' := [(2, .int (nI (c + 1))), (0, .ref (ad 0 0)), (1, .int (nI q))]) hx hb dX1_isFree_50 hl (k := 2) rfl (show nI c + Int32.ofInt 1 = nI (c + 1) from nI_add _ 1) (by decide) rfl (fun ls hl => ?_)
          refine lv_goto (tgt := 2) hx hb dX1_isFree_53 (by decide) ?_
          exact ih2 (c + 1) (by omega) (by simp [frS, i2_1, c_27]) (by omega) _ (lv_sub hl [1, 2, 0] rfl)
        · refine lv_aload_n hx hb dX1_isFree_30 rfl (lv_at hl 0 rfl) ?_
          refine ko_get (C := RX1) (T := TX1) (N := 28) (ci := 1) (v := .ref (ad 4 0)) hx hb hts in_X1 hown hG.1 hH.o0 rfl 3 (by decide) q188 (fun _ h => h) (rfl) dX1_isFree_31 ?_
          refine lv_iload_n hx hb dX1_isFree_34 rfl (lv_at hl 2 rfl) ?_
          refine va_csq (va_Run.call (va_runV (As := [.int (nI c)]) (rest := []) ⟨hx, hb, hml, hown, hts⟩ (c_J2_get lh D dA (ad 4 0) (Y 3 0 0) (ad 5 0) (N 3) (X 0 0) (ltH ad 6 (N 3) 0) (c) (ad 6 c) (show c < N 3 from by omega) ((hX.1 0 (by decide)).1) ((hX.1 0 (by decide)).2) (ltH_0 (show c < N 3 from by omega))) (w_J2_get hts q292 rfl rfl ⟨Nat.le_of_ble_eq_true rfl, Nat.le_of_ble_eq_true rfl⟩) ⟨PX.blind (Mv.and Mv.heap (Mv.and Mv.heap Mv.gk)), (O_recv hG (hH.lo 0 (by decide) (by have hx0 : N 3 ≤ X 0 0 := (hX.1 0 (by decide)).1; omega)) rfl), PX.pre (Mv.and Mv.heap (Mv.and Mv.heap Mv.gk)) ⟨(hH.lo 0 (by decide) (by have hx0 : N 3 ≤ X 0 0 := (hX.1 0 (by decide)).1; omega)), (hH.la 0 (by decide) (by have hx0 : N 3 ≤ X 0 0 := (hX.1 0 (by decide)).1; omega)), hG⟩⟩ rfl rfl hl.1 rfl (lv_room (Nat.le_of_ble_eq_true rfl)) dX1_isFree_35 ⟨Nat.le_of_ble_eq_true rfl, Nat.le_of_ble_eq_true rfl⟩)) (fun rr hrr => ?_)
          subst hrr
          show W p lh e r_X1_isFree s m args below meth cd _ _ _ _ Q (F0 m _ ls (.ref (ad 6 c) :: _))
          refine va_castE hx hb hown (hts _ q304) (O_recv hG (hH.cr (show c < N 3 from by omega)) rfl) dX1_isFree_38 ?_
          refine ko_getN (C := RX4) (T := TX4) (N := 11) (ci := 2) (v := .int (Y 0 c 0)) hx hb hts in_X4 hown hG.1 (hH.cr (show c < N 3 from by omega)) rfl 3 (by decide) (hG.2.1 _ q322 rfl) (fun _ h => h) (rfl) dX1_isFree_41 ?_
          refine kx_int (y := nI (G 5 c)) (h5 c (by omega) c_27) ?_
          refine lv_iload_n hx hb dX1_isFree_44 rfl (lv_at hl 1 rfl) ?_
          refine kn_cne (tgt := 50) hx hb dX1_isFree_45 (by decide) (h1 _ _) (by omega) (fun c_45 => ?_) (fun c_45 => ?_)
          · refine lv_iinc (v := nI (c + 1)) (lv' := [(2, .int (nI (c + 1))), (0, .ref (ad 0 0)), (1, .int (nI q))]) hx hb dX1_isFree_50 hl (k := 2) rfl (show nI c + Int32.ofInt 1 = nI (c + 1) from nI_add _ 1) (by decide) rfl (fun ls hl => ?_)
            refine lv_goto (tgt := 2) hx hb dX1_isFree_53 (by decide) ?_
            exact ih2 (c + 1) (by omega) (by simp [frS, i2_1, c_45]) (by omega) _ (lv_sub hl [1, 2, 0] rfl)
          · refine lv_iconst (v := nI 0) hx hb dX1_isFree_48 (by decide) ?_
            subst hQ
            exact W.zret (v := nI 0) hx hb hrt rfl (fun t ht _ => ⟨_, rfl, (show nI 0 = bI (frS G q (N 3)) from retB0 (frS_no c_10 (by simp [c_27, c_45]))), ht⟩) t_nil dX1_isFree_49
  exact L2 _ 0 (by omega) (rfl) (Nat.lt_succ_self _) _ (lv_sub hl [1, 2, 0] rfl)
theorem w_X1_isFree {R : Room} {s : State} {args : Array Value} {own : String} {idx : Nat} (hts : ∀ w ∈ lw_all, w.before args s = true) (h1 : Cond.methodLink own idx yX1_isFree ∈ lw_all) {rm : Room} {mc ms : Nat} (hrc : rm.cells = mc) (hrs : rm.slots = ms) (hR : rm.frames + 1 ≤ R.frames ∧ 8 + (3 + 11) + rm.locals ≤ R.locals) : CallW R s args own RX1 idx yX1_isFree cX1_isFree 3 (some .boolean) (ws_ yX1_isFree cX1_isFree 3 (some .boolean)) rm mc ms 1 := cwV 1 hts (lw_V h1 q290 qs0 q62 q291) rfl hrc hrs (by decide +kernel) hR

abbrev r_X1_free : Room := { frames := 4, cells := 0, slots := 0, locals := 86 }
set_option maxHeartbeats 1000000 in
theorem c_X1_free (lh : Launch) (A : Nat → Prop) (D : va_G) (dA : Nat → ClassId) (K : Nat → Nat) (ad X : Nat → Nat → Nat) (Y : Nat → Nat → Nat → Int32) (N : Nat → Nat) (I : Nat → Int32) (G : Nat → Nat → Nat) (J : Nat → Nat → Int32) (lo : Nat) (hi : Nat) (h1 : ∀ a b, G a b < 2 ^ 31) (h2 : N 3 ≤ 10) (h3 : hi < 2 ^ 31) (h4 : XOk N G X) (h5 : PlOk N G Y) (h6 : lo ≤ hi) : Met lh yX1_free (ws_ yX1_free cX1_free 4 (some .int)) r_X1_free (PX (fun U H => RH A D dA K ad X Y N I G J H ∧ GK D dA U) [.ref (ad 0 0), .int (nI lo), .int (nI hi)]) (vp_Si (fun rv => rv = oI (frP G (N 3) lo (hi - lo)))) 0 0 (fun _ => False) := by
  refine Met.ofW (cc := cX1_free) (maxL := 4) (ret := (some .int)) (by decide) rfl ?_
  intro p e s m args below meth cd s₁ B hml hv
  obtain ⟨hargs, hH, hG⟩ := hv
  have hx := B.exec
  have hb := B.bytes
  have hrt := B.returns
  have hts := atoms_spec (ws := (ws_ yX1_free cX1_free 4 (some .int))) B.pre
  have hts : ∀ w ∈ lw_all, w.before _ s = true := fun w h => hts w (List.mem_cons_of_mem _ h)
  have hown : s.vm.findClass RX1 = some m.cls := findClass_of_methodNamed B.named
  have hlocks := B.notSynchronized
  have hE : entryFrame m args 4 = F0 m 0 ((lg_sl ([.ref (ad 0 0), .int (nI lo), .int (nI hi)]) ++ List.replicate (4 - (lg_sl ([.ref (ad 0 0), .int (nI lo), .int (nI hi)])).length) Slot.unset).toArray) [] := by rw [hargs]; exact lg_entry_eq m _ 4
  have hl := lv_entry ([.ref (ad 0 0), .int (nI lo), .int (nI hi)]) (n := 4) (Nat.le_of_ble_eq_true rfl)
  rw [hE]
  clear hE
  generalize (lg_sl ([.ref (ad 0 0), .int (nI lo), .int (nI hi)]) ++ List.replicate (4 - (lg_sl ([.ref (ad 0 0), .int (nI lo), .int (nI hi)])).length) Slot.unset).toArray = ls at hl ⊢
  have hl : lv_has ls 4 [(0, .ref (ad 0 0)), (1, .int (nI lo)), (2, .int (nI hi))] := hl
  generalize hQ : MQ _ _ _ _ _ _ _ = Q
  refine lv_iload_n hx hb dX1_free_0 rfl (lv_at hl 1 rfl) ?_
  refine lv_istore_n (lv' := [(3, .int (nI lo)), (0, .ref (ad 0 0)), (1, .int (nI lo)), (2, .int (nI hi))]) hx hb dX1_free_1 rfl hl (by decide) rfl (fun ls hl => ?_)
  have L2 : ∀ (nn2 : Nat) (q : Nat), (frP G (N 3) lo (hi - lo) = frP G (N 3) q (hi - q)) → (q ≤ hi) → hi - q < nn2 → ∀ (ls : Array Slot), lv_has ls 4 [(0, .ref (ad 0 0)), (1, .int (nI lo)), (2, .int (nI hi)), (3, .int (nI q))] → W p lh e r_X1_free s m args below meth cd s.heap [] 0 0 Q (F0 m 2 ls []) := by
    intro nn2
    induction nn2 with
    | zero => intro q i2_0 i2_1 hm2; exact absurd hm2 (Nat.not_lt_zero _)
    | succ nn2 ih2 =>
      intro q i2_0 i2_1 hm2 ls hl
      refine lv_iload_n hx hb dX1_free_2 rfl (lv_at hl 3 rfl) ?_
      refine lv_iload_n hx hb dX1_free_3 rfl (lv_at hl 2 rfl) ?_
      refine kn_cge (tgt := 23) hx hb dX1_free_4 (by decide) (by omega) (by omega) (fun c_4 => ?_) (fun c_4 => ?_)
      · refine lv_iconst (v := -1) hx hb dX1_free_23 (by decide) ?_
        subst hQ
        exact W.iret (v := (-1)) hx hb hrt (fun t ht _ => ⟨_, rfl, (show (-1) = oI (frP G (N 3) lo (hi - lo)) from by rw [i2_0, show hi - q = 0 by omega]; rfl), ht⟩) t_nil dX1_free_24
      · refine lv_aload_n hx hb dX1_free_7 rfl (lv_at hl 0 rfl) ?_
        refine lv_iload_n hx hb dX1_free_8 rfl (lv_at hl 3 rfl) ?_
        refine vp_callSi (va_Run.call (va_runV (As := [.int (nI q)]) (rest := []) ⟨hx, hb, hml, hown, hts⟩ (c_X1_isFree lh A D dA K ad X Y N I G J q (show ∀ a b, G a b < 2 ^ 31 from by first | omega | assumption) (show (N 3) ≤ 10 from by first | omega | assumption) (show q < 2 ^ 31 from by first | omega | assumption) (show XOk N G X from by first | omega | assumption) (show PlOk N G Y from by first | omega | assumption)) (w_X1_isFree hts q288 rfl rfl ⟨Nat.le_of_ble_eq_true rfl, Nat.le_of_ble_eq_true rfl⟩) ⟨PX.blind (Mv.and Mv.heap Mv.gk), (O_recv hG hH.o0 rfl), PX.pre (Mv.and Mv.heap Mv.gk) ⟨hH, hG⟩⟩ rfl rfl hl.1 rfl (lv_room (Nat.le_of_ble_eq_true rfl)) dX1_free_9 ⟨Nat.le_of_ble_eq_true rfl, Nat.le_of_ble_eq_true rfl⟩)) (fun rr hrr => ?_)
        subst hrr
        refine kb_eq (tgt := 17) hx hb dX1_free_12 (by decide) (fun c_12 => ?_) (fun c_12 => ?_)
        · refine lv_iinc (v := nI (q + 1)) (lv' := [(3, .int (nI (q + 1))), (0, .ref (ad 0 0)), (1, .int (nI lo)), (2, .int (nI hi))]) hx hb dX1_free_17 hl (k := 3) rfl (show nI q + Int32.ofInt 1 = nI (q + 1) from nI_add _ 1) (by decide) rfl (fun ls hl => ?_)
          refine lv_goto (tgt := 2) hx hb dX1_free_20 (by decide) ?_
          exact ih2 (q + 1) (by rw [i2_0, show hi - q = (hi - (q + 1)) + 1 by omega, frP, if_neg (by rw [c_12]; decide)]) (by omega) (by omega) _ (lv_sub hl [1, 2, 3, 0] rfl)
        · refine lv_iload_n hx hb dX1_free_15 rfl (lv_at hl 3 rfl) ?_
          subst hQ
          exact W.iret (v := nI q) hx hb hrt (fun t ht _ => ⟨_, rfl, (show nI q = oI (frP G (N 3) lo (hi - lo)) from by rw [i2_0, show hi - q = (hi - (q + 1)) + 1 by omega, frP, if_pos c_12]; rfl), ht⟩) t_nil dX1_free_16
  exact L2 _ lo (rfl) (by omega) (Nat.lt_succ_self _) _ (lv_sub hl [1, 2, 3, 0] rfl)
theorem w_X1_free {R : Room} {s : State} {args : Array Value} {own : String} {idx : Nat} (hts : ∀ w ∈ lw_all, w.before args s = true) (h1 : Cond.methodLink own idx yX1_free ∈ lw_all) {rm : Room} {mc ms : Nat} (hrc : rm.cells = mc) (hrs : rm.slots = ms) (hR : rm.frames + 1 ≤ R.frames ∧ 8 + (4 + 11) + rm.locals ≤ R.locals) : CallW R s args own RX1 idx yX1_free cX1_free 4 (some .int) (ws_ yX1_free cX1_free 4 (some .int)) rm mc ms 2 := cwV 2 hts (lw_V h1 q532 qs11 q62 q533) rfl hrc hrs (by decide +kernel) hR

abbrev r_X1_lot : Room := { frames := 1, cells := 0, slots := 0, locals := 22 }
set_option maxHeartbeats 1000000 in
theorem c_X1_lot (lh : Launch) (A : Nat → Prop) (D : va_G) (dA : Nat → ClassId) (K : Nat → Nat) (ad X : Nat → Nat → Nat) (Y : Nat → Nat → Nat → Int32) (N : Nat → Nat) (I : Nat → Int32) (G : Nat → Nat → Nat) (J : Nat → Nat → Int32) (sz : Nat) (g : Int32) (h1 : N 1 ≤ 20) (hA : ∀ q, sz ≤ q → A q) : Met lh yX1_lot (ws_ yX1_lot cX1_lot 2 (some .int)) r_X1_lot (PX (fun U H => H.size = sz ∧ RH A D dA K ad X Y N I G J H ∧ GK D dA U) [.ref (ad 0 0), .int g]) (va_Qi (fun (r : Int32) (u : HgT) => if lotB N g = true then r = nI (N 1) ∧ u = (ad, X, Y, up1 N 1 (N 1 + 1), I, up2 G 2 (N 1) (tn g), J) else r = -1 ∧ u = (ad, X, Y, N, I, G, J)) (BmH A D dA K) A) 0 0 A := by
  refine Met.ofW (cc := cX1_lot) (maxL := 2) (ret := (some .int)) (by decide) rfl ?_
  intro p e s m args below meth cd s₁ B hml hv
  obtain ⟨hargs, hsz, hH, hG⟩ := hv
  have hx := B.exec
  have hb := B.bytes
  have hrt := B.returns
  have hts := atoms_spec (ws := (ws_ yX1_lot cX1_lot 2 (some .int))) B.pre
  have hts : ∀ w ∈ lw_all, w.before _ s = true := fun w h => hts w (List.mem_cons_of_mem _ h)
  have hown : s.vm.findClass RX1 = some m.cls := findClass_of_methodNamed B.named
  have hlocks := B.notSynchronized
  subst hsz
  have hS : va_S A s.heap s.heap [] := va_S.rf
  have hE : entryFrame m args 2 = F0 m 0 ((lg_sl ([.ref (ad 0 0), .int g]) ++ List.replicate (2 - (lg_sl ([.ref (ad 0 0), .int g])).length) Slot.unset).toArray) [] := by rw [hargs]; exact lg_entry_eq m _ 2
  have hl := lv_entry ([.ref (ad 0 0), .int g]) (n := 2) (Nat.le_of_ble_eq_true rfl)
  rw [hE]
  clear hE
  generalize (lg_sl ([.ref (ad 0 0), .int g]) ++ List.replicate (2 - (lg_sl ([.ref (ad 0 0), .int g])).length) Slot.unset).toArray = ls at hl ⊢
  have hl : lv_has ls 2 [(0, .ref (ad 0 0)), (1, .int g)] := hl
  generalize hQ : MQ _ _ _ _ _ _ _ = Q
  refine lv_aload_n hx hb dX1_lot_0 rfl (lv_at hl 0 rfl) ?_
  refine ko_get (C := RX1) (T := TX1) (N := 28) (ci := 1) (v := .int (nI (N 1))) hx hb hts in_X1 hown hG.1 hH.o0 rfl 8 (by decide) q193 (fun _ h => h) (rfl) dX1_lot_1 ?_
  refine lv_bipush (v := nI 20) hx hb dX1_lot_4 (by decide) ?_
  refine kn_ceq (tgt := 19) hx hb dX1_lot_6 (by decide) (by omega) (by omega) (fun c_6 => ?_) (fun c_6 => ?_)
  · refine lv_iconst (v := -1) hx hb dX1_lot_19 (by decide) ?_
    subst hQ
    exact W.iret (v := (-1)) hx hb hrt (fun t ht hW => ⟨⟨_, (ad, X, Y, N, I, G, J), rfl, (by dsimp only; rw [if_neg (by simp [lotB, c_6])]; exact ⟨rfl, rfl⟩), by rw [ht]; exact hH, GK.warm hW hG⟩, hS.F ht⟩) hS.2.2 dX1_lot_20
  · refine lv_iload_n hx hb dX1_lot_9 rfl (lv_at hl 1 rfl) ?_
    refine lv_iconst (v := nI 1) hx hb dX1_lot_10 (by decide) ?_
    refine lv_ldc (v := 100000) hx hb hown (hts _ q276) dX1_lot_11 ?_
    refine kx_int (y := nI 100000) (by decide) ?_
    refine vp_callSi (W.runS (As := [.int g, .int (nI 1), .int (nI 100000)]) (rest := []) ⟨hx, hb, hml, hown, hts⟩ (c_X1_in lh g (nI 1) (nI 100000)) (w_X1_in hts q277 rfl rfl ⟨Nat.le_of_ble_eq_true rfl, Nat.le_of_ble_eq_true rfl⟩) ⟨P0.blind, P0.pre⟩ rfl rfl hl.1 rfl (lv_room (Nat.le_of_ble_eq_true rfl)) dX1_lot_13 ⟨Nat.le_of_ble_eq_true rfl, Nat.le_of_ble_eq_true rfl⟩) (fun rr hrr => ?_)
    subst hrr
    refine kb_ne (tgt := 21) hx hb dX1_lot_16 (by decide) (fun c_16 => ?_) (fun c_16 => ?_)
    · obtain ⟨j, hj1, hj2, rfl⟩ := wi_nat (by decide) (by decide) c_16
      refine lv_aload_n hx hb dX1_lot_21 rfl (lv_at hl 0 rfl) ?_
      refine ko_get (C := RX1) (T := TX1) (N := 28) (ci := 1) (v := .ref (ad 1 1)) hx hb hts in_X1 hown hG.1 hH.o0 rfl 1 (by decide) q186 (fun _ h => h) (rfl) dX1_lot_22 ?_
      refine lv_aload_n hx hb dX1_lot_25 rfl (lv_at hl 0 rfl) ?_
      refine ko_get (C := RX1) (T := TX1) (N := 28) (ci := 1) (v := .int (nI (N 1))) hx hb hts in_X1 hown hG.1 hH.o0 rfl 8 (by decide) q193 (fun _ h => h) (rfl) dX1_lot_26 ?_
      refine lv_iload_n hx hb dX1_lot_29 rfl (lv_at hl 1 rfl) ?_
      refine ka_iast hx hb hG.1 hS (hH.2.2 1 1 rfl) (hH.arr 1 rfl) 0 rfl (show N 1 < 20 from by omega) (by decide) dX1_lot_30 (fun H locs e1 z1 o1 hS => ?_)
      have hH := hH.h1 (j := N 1) (v := j) e1 o1
      clear e1 z1 o1
      refine lv_aload_n hx hb dX1_lot_31 rfl (lv_at hl 0 rfl) ?_
      refine lv_dup hx hb dX1_lot_32 rfl ?_
      refine ko_get (C := RX1) (T := TX1) (N := 28) (ci := 1) (v := .int (nI (N 1))) hx hb hts in_X1 hown hG.1 hH.o0 rfl 8 (by decide) q193 (fun _ h => h) (rfl) dX1_lot_33 ?_
      refine lv_iconst (v := nI 1) hx hb dX1_lot_36 (by decide) ?_
      refine kn_add hx hb dX1_lot_37 ?_
      refine ko_put (C := RX1) (T := TX1) (N := 28) (ci := 1) hx hb hts in_X1 tyX1 tyX1_ok nmX1 hown hG.1 hS (hH.2.2 0 0 rfl) hH.o0 rfl 8 (by decide) q193 (fun _ h => h) rfl rfl rfl (Nat.le_of_ble_eq_true rfl) dX1_lot_38 (fun H locs e1 z1 o1 hS => ?_)
      have hH := hH.house (N1 := (up1 N 1 (N 1 + 1))) (I1 := I) (Y1 := Y) e1 o1 rfl rfl rfl rfl (fun _ _ => rfl)
      clear e1 z1 o1
      refine lv_aload_n hx hb dX1_lot_41 rfl (lv_at hl 0 rfl) ?_
      refine ko_get (C := RX1) (T := TX1) (N := 28) (ci := 1) (v := .int (nI (N 1 + 1))) hx hb hts in_X1 hown hG.1 hH.o0 rfl 8 (by decide) q193 (fun _ h => h) (by simp [fC, fH, up2, up3, up1]) dX1_lot_42 ?_
      refine lv_iconst (v := nI 1) hx hb dX1_lot_45 (by decide) ?_
      refine kn_sub hx hb dX1_lot_46 (by omega) ?_
      subst hQ
      exact W.iret (v := nI (N 1 + 1 - 1)) hx hb hrt (fun t ht hW => ⟨⟨_, (ad, X, Y, (up1 N 1 (N 1 + 1)), I, (up2 G 2 (N 1) j), J), rfl, (by dsimp only; rw [if_pos (by simp [lotB, c_6, c_16, tn_nI (show j < 2 ^ 31 by omega)])]; refine ⟨?_, ?_⟩ <;> (try simp only [tn_nI (show j < 2 ^ 31 by omega)]) <;> (try first | rfl | simp [c_6, c_16])), by rw [ht]; exact hH, GK.warm hW hG⟩, hS.F ht⟩) hS.2.2 dX1_lot_47
    · refine lv_iconst (v := -1) hx hb dX1_lot_19 (by decide) ?_
      subst hQ
      exact W.iret (v := (-1)) hx hb hrt (fun t ht hW => ⟨⟨_, (ad, X, Y, N, I, G, J), rfl, (by dsimp only; rw [if_neg (by simp [lotB, c_6, c_16])]; exact ⟨rfl, rfl⟩), by rw [ht]; exact hH, GK.warm hW hG⟩, hS.F ht⟩) hS.2.2 dX1_lot_20
theorem w_X1_lot {R : Room} {s : State} {args : Array Value} {own : String} {idx : Nat} (hts : ∀ w ∈ lw_all, w.before args s = true) (h1 : Cond.methodLink own idx yX1_lot ∈ lw_all) {rm : Room} {mc ms : Nat} (hrc : rm.cells = mc) (hrs : rm.slots = ms) (hR : rm.frames + 1 ≤ R.frames ∧ 8 + (2 + 11) + rm.locals ≤ R.locals) : CallW R s args own RX1 idx yX1_lot cX1_lot 2 (some .int) (ws_ yX1_lot cX1_lot 2 (some .int)) rm mc ms 1 := cwV 1 hts (lw_V h1 q273 q274 q62 q275) rfl hrc hrs (by decide +kernel) hR

abbrev r_X1_limits : Room := { frames := 1, cells := 0, slots := 0, locals := 22 }
set_option maxHeartbeats 1000000 in
theorem c_X1_limits (lh : Launch) (A : Nat → Prop) (D : va_G) (dA : Nat → ClassId) (K : Nat → Nat) (ad X : Nat → Nat → Nat) (Y : Nat → Nat → Nat → Int32) (N : Nat → Nat) (I : Nat → Int32) (G : Nat → Nat → Nat) (J : Nat → Nat → Int32) (sz : Nat) (a : Int32) (b : Int32) (hA : ∀ q, sz ≤ q → A q) : Met lh yX1_limits (ws_ yX1_limits cX1_limits 3 (some .boolean)) r_X1_limits (PX (fun U H => H.size = sz ∧ RH A D dA K ad X Y N I G J H ∧ GK D dA U) [.ref (ad 0 0), .int a, .int b]) (va_Qi (fun (r : Int32) (u : HgT) => if limB a b = true then r = nI 1 ∧ u = (ad, X, Y, up1 (up1 N 42 (tn a)) 43 (tn b), I, G, J) else r = nI 0 ∧ u = (ad, X, Y, N, I, G, J)) (BmH A D dA K) A) 0 0 A := by
  refine Met.ofW (cc := cX1_limits) (maxL := 3) (ret := (some .boolean)) (by decide) rfl ?_
  intro p e s m args below meth cd s₁ B hml hv
  obtain ⟨hargs, hsz, hH, hG⟩ := hv
  have hx := B.exec
  have hb := B.bytes
  have hrt := B.returns
  have hts := atoms_spec (ws := (ws_ yX1_limits cX1_limits 3 (some .boolean))) B.pre
  have hts : ∀ w ∈ lw_all, w.before _ s = true := fun w h => hts w (List.mem_cons_of_mem _ h)
  have hown : s.vm.findClass RX1 = some m.cls := findClass_of_methodNamed B.named
  have hlocks := B.notSynchronized
  subst hsz
  have hS : va_S A s.heap s.heap [] := va_S.rf
  have hE : entryFrame m args 3 = F0 m 0 ((lg_sl ([.ref (ad 0 0), .int a, .int b]) ++ List.replicate (3 - (lg_sl ([.ref (ad 0 0), .int a, .int b])).length) Slot.unset).toArray) [] := by rw [hargs]; exact lg_entry_eq m _ 3
  have hl := lv_entry ([.ref (ad 0 0), .int a, .int b]) (n := 3) (Nat.le_of_ble_eq_true rfl)
  rw [hE]
  clear hE
  generalize (lg_sl ([.ref (ad 0 0), .int a, .int b]) ++ List.replicate (3 - (lg_sl ([.ref (ad 0 0), .int a, .int b])).length) Slot.unset).toArray = ls at hl ⊢
  have hl : lv_has ls 3 [(0, .ref (ad 0 0)), (1, .int a), (2, .int b)] := hl
  generalize hQ : MQ _ _ _ _ _ _ _ = Q
  refine lv_iload_n hx hb dX1_limits_0 rfl (lv_at hl 1 rfl) ?_
  refine lv_iconst (v := nI 0) hx hb dX1_limits_1 (by decide) ?_
  refine lv_sipush (v := nI 1000) hx hb dX1_limits_2 (by decide) ?_
  refine vp_callSi (W.runS (As := [.int a, .int (nI 0), .int (nI 1000)]) (rest := []) ⟨hx, hb, hml, hown, hts⟩ (c_X1_in lh a (nI 0) (nI 1000)) (w_X1_in hts q277 rfl rfl ⟨Nat.le_of_ble_eq_true rfl, Nat.le_of_ble_eq_true rfl⟩) ⟨P0.blind, P0.pre⟩ rfl rfl hl.1 rfl (lv_room (Nat.le_of_ble_eq_true rfl)) dX1_limits_5 ⟨Nat.le_of_ble_eq_true rfl, Nat.le_of_ble_eq_true rfl⟩) (fun rr hrr => ?_)
  subst hrr
  refine kb_eq (tgt := 22) hx hb dX1_limits_8 (by decide) (fun c_8 => ?_) (fun c_8 => ?_)
  · refine lv_iconst (v := nI 0) hx hb dX1_limits_22 (by decide) ?_
    subst hQ
    exact W.zret (v := nI 0) hx hb hrt rfl (fun t ht hW => ⟨⟨_, (ad, X, Y, N, I, G, J), rfl, (by dsimp only; rw [if_neg (by simp [limB, c_8])]; exact ⟨rfl, rfl⟩), by rw [ht]; exact hH, GK.warm hW hG⟩, hS.F ht⟩) hS.2.2 dX1_limits_23
  · obtain ⟨j, hj1, hj2, rfl⟩ := wi_nat (by decide) (by decide) c_8
    refine lv_iload_n hx hb dX1_limits_11 rfl (lv_at hl 2 rfl) ?_
    refine lv_iload_n hx hb dX1_limits_12 rfl (lv_at hl 1 rfl) ?_
    refine lv_sipush (v := nI 1000) hx hb dX1_limits_13 (by decide) ?_
    refine vp_callSi (W.runS (As := [.int b, .int (nI j), .int (nI 1000)]) (rest := []) ⟨hx, hb, hml, hown, hts⟩ (c_X1_in lh b (nI j) (nI 1000)) (w_X1_in hts q277 rfl rfl ⟨Nat.le_of_ble_eq_true rfl, Nat.le_of_ble_eq_true rfl⟩) ⟨P0.blind, P0.pre⟩ rfl rfl hl.1 rfl (lv_room (Nat.le_of_ble_eq_true rfl)) dX1_limits_16 ⟨Nat.le_of_ble_eq_true rfl, Nat.le_of_ble_eq_true rfl⟩) (fun rr hrr => ?_)
    subst hrr
    refine kb_ne (tgt := 24) hx hb dX1_limits_19 (by decide) (fun c_19 => ?_) (fun c_19 => ?_)
    · obtain ⟨k, hk1, hk2, rfl⟩ := wi_nat (by omega) (by decide) c_19
      refine lv_aload_n hx hb dX1_limits_24 rfl (lv_at hl 0 rfl) ?_
      refine lv_iload_n hx hb dX1_limits_25 rfl (lv_at hl 1 rfl) ?_
      refine ko_put (C := RX1) (T := TX1) (N := 28) (ci := 1) hx hb hts in_X1 tyX1 tyX1_ok nmX1 hown hG.1 hS (hH.2.2 0 0 rfl) hH.o0 rfl 13 (by decide) q198 (fun _ h => h) rfl rfl rfl (Nat.le_of_ble_eq_true rfl) dX1_limits_26 (fun H locs e1 z1 o1 hS => ?_)
      have hH := hH.house (N1 := (up1 N 42 j)) (I1 := I) (Y1 := Y) e1 o1 rfl rfl rfl rfl (fun _ _ => rfl)
      clear e1 z1 o1
      refine lv_aload_n hx hb dX1_limits_29 rfl (lv_at hl 0 rfl) ?_
      refine lv_iload_n hx hb dX1_limits_30 rfl (lv_at hl 2 rfl) ?_
      refine ko_put (C := RX1) (T := TX1) (N := 28) (ci := 1) hx hb hts in_X1 tyX1 tyX1_ok nmX1 hown hG.1 hS (hH.2.2 0 0 rfl) hH.o0 rfl 14 (by decide) q199 (fun _ h => h) rfl rfl rfl (Nat.le_of_ble_eq_true rfl) dX1_limits_31 (fun H locs e1 z1 o1 hS => ?_)
      have hH := hH.house (N1 := (up1 (up1 N 42 j) 43 k)) (I1 := I) (Y1 := Y) e1 o1 rfl rfl rfl rfl (fun _ _ => rfl)
      clear e1 z1 o1
      refine lv_iconst (v := nI 1) hx hb dX1_limits_34 (by decide) ?_
      subst hQ
      exact W.zret (v := nI 1) hx hb hrt rfl (fun t ht hW => ⟨⟨_, (ad, X, Y, (up1 (up1 N 42 j) 43 k), I, G, J), rfl, (by dsimp only; rw [if_pos (by simp [limB, c_8, c_19, tn_nI (show j < 2 ^ 31 by omega), tn_nI (show k < 2 ^ 31 by omega)])]; refine ⟨?_, ?_⟩ <;> (try simp only [tn_nI (show j < 2 ^ 31 by omega), tn_nI (show k < 2 ^ 31 by omega)]) <;> (try first | rfl | simp [c_8, c_19])), by rw [ht]; exact hH, GK.warm hW hG⟩, hS.F ht⟩) hS.2.2 dX1_limits_35
    · refine lv_iconst (v := nI 0) hx hb dX1_limits_22 (by decide) ?_
      subst hQ
      exact W.zret (v := nI 0) hx hb hrt rfl (fun t ht hW => ⟨⟨_, (ad, X, Y, N, I, G, J), rfl, (by dsimp only; rw [if_neg (by simp [limB, c_8, c_19, tn_nI (show j < 2 ^ 31 by omega)])]; exact ⟨rfl, rfl⟩), by rw [ht]; exact hH, GK.warm hW hG⟩, hS.F ht⟩) hS.2.2 dX1_limits_23
theorem w_X1_limits {R : Room} {s : State} {args : Array Value} {own : String} {idx : Nat} (hts : ∀ w ∈ lw_all, w.before args s = true) (h1 : Cond.methodLink own idx yX1_limits ∈ lw_all) {rm : Room} {mc ms : Nat} (hrc : rm.cells = mc) (hrs : rm.slots = ms) (hR : rm.frames + 1 ≤ R.frames ∧ 8 + (3 + 11) + rm.locals ≤ R.locals) : CallW R s args own RX1 idx yX1_limits cX1_limits 3 (some .boolean) (ws_ yX1_limits cX1_limits 3 (some .boolean)) rm mc ms 2 := cwV 2 hts (lw_V h1 q1156 q1157 q62 q1158) rfl hrc hrs (by decide +kernel) hR

abbrev r_X1_clear : Room := { frames := 0, cells := 0, slots := 0, locals := 0 }
set_option maxHeartbeats 1000000 in
theorem c_X1_clear (lh : Launch) (A : Nat → Prop) (D : va_G) (dA : Nat → ClassId) (K : Nat → Nat) (ad X : Nat → Nat → Nat) (Y : Nat → Nat → Nat → Int32) (N : Nat → Nat) (I : Nat → Int32) (G : Nat → Nat → Nat) (J : Nat → Nat → Int32) (sz : Nat) (hA : ∀ q, sz ≤ q → A q) : Met lh yX1_clear (ws_ yX1_clear cX1_clear 2 (some .int)) r_X1_clear (PX (fun U H => H.size = sz ∧ RH A D dA K ad X Y N I G J H ∧ GK D dA U) [.ref (ad 0 0)]) (va_Qi (fun (r : Int32) (u : HgT) => r = nI (N 44) ∧ u = (ad, X, Y, up1 N 44 0, I, G, J)) (BmH A D dA K) A) 0 0 A := by
  refine Met.ofW (cc := cX1_clear) (maxL := 2) (ret := (some .int)) (by decide) rfl ?_
  intro p e s m args below meth cd s₁ B hml hv
  obtain ⟨hargs, hsz, hH, hG⟩ := hv
  have hx := B.exec
  have hb := B.bytes
  have hrt := B.returns
  have hts := atoms_spec (ws := (ws_ yX1_clear cX1_clear 2 (some .int))) B.pre
  have hts : ∀ w ∈ lw_all, w.before _ s = true := fun w h => hts w (List.mem_cons_of_mem _ h)
  have hown : s.vm.findClass RX1 = some m.cls := findClass_of_methodNamed B.named
  have hlocks := B.notSynchronized
  subst hsz
  have hS : va_S A s.heap s.heap [] := va_S.rf
  have hE : entryFrame m args 2 = F0 m 0 ((lg_sl ([.ref (ad 0 0)]) ++ List.replicate (2 - (lg_sl ([.ref (ad 0 0)])).length) Slot.unset).toArray) [] := by rw [hargs]; exact lg_entry_eq m _ 2
  have hl := lv_entry ([.ref (ad 0 0)]) (n := 2) (Nat.le_of_ble_eq_true rfl)
  rw [hE]
  clear hE
  generalize (lg_sl ([.ref (ad 0 0)]) ++ List.replicate (2 - (lg_sl ([.ref (ad 0 0)])).length) Slot.unset).toArray = ls at hl ⊢
  have hl : lv_has ls 2 [(0, .ref (ad 0 0))] := hl
  generalize hQ : MQ _ _ _ _ _ _ _ = Q
  refine lv_aload_n hx hb dX1_clear_0 rfl (lv_at hl 0 rfl) ?_
  refine ko_get (C := RX1) (T := TX1) (N := 28) (ci := 1) (v := .int (nI (N 44))) hx hb hts in_X1 hown hG.1 hH.o0 rfl 25 (by decide) q210 (fun _ h => h) (rfl) dX1_clear_1 ?_
  refine lv_istore_n (lv' := [(1, .int (nI (N 44))), (0, .ref (ad 0 0))]) hx hb dX1_clear_4 rfl hl (by decide) rfl (fun ls hl => ?_)
  refine lv_aload_n hx hb dX1_clear_5 rfl (lv_at hl 1 rfl) ?_
  refine lv_iconst (v := nI 0) hx hb dX1_clear_6 (by decide) ?_
  refine ko_put (C := RX1) (T := TX1) (N := 28) (ci := 1) hx hb hts in_X1 tyX1 tyX1_ok nmX1 hown hG.1 hS (hH.2.2 0 0 rfl) hH.o0 rfl 25 (by decide) q210 (fun _ h => h) rfl rfl rfl (Nat.le_of_ble_eq_true rfl) dX1_clear_7 (fun H locs e1 z1 o1 hS => ?_)
  have hH := hH.house (N1 := (up1 N 44 0)) (I1 := I) (Y1 := Y) e1 o1 rfl rfl rfl rfl (fun _ _ => rfl)
  clear e1 z1 o1
  refine lv_iload_n hx hb dX1_clear_10 rfl (lv_at hl 0 rfl) ?_
  subst hQ
  exact W.iret (v := nI (N 44)) hx hb hrt (fun t ht hW => ⟨⟨_, (ad, X, Y, (up1 N 44 0), I, G, J), rfl, (⟨rfl, rfl⟩), by rw [ht]; exact hH, GK.warm hW hG⟩, hS.F ht⟩) hS.2.2 dX1_clear_11
theorem w_X1_clear {R : Room} {s : State} {args : Array Value} {own : String} {idx : Nat} (hts : ∀ w ∈ lw_all, w.before args s = true) (h1 : Cond.methodLink own idx yX1_clear ∈ lw_all) {rm : Room} {mc ms : Nat} (hrc : rm.cells = mc) (hrs : rm.slots = ms) (hR : rm.frames + 1 ≤ R.frames ∧ 8 + (2 + 11) + rm.locals ≤ R.locals) : CallW R s args own RX1 idx yX1_clear cX1_clear 2 (some .int) (ws_ yX1_clear cX1_clear 2 (some .int)) rm mc ms 0 := cwV 0 hts (lw_V h1 q1191 q1192 q62 q1193) rfl hrc hrs (by decide +kernel) hR

abbrev r_X1_place : Room := { frames := 0, cells := 0, slots := 0, locals := 0 }
set_option maxHeartbeats 1000000 in
theorem c_X1_place (lh : Launch) (A : Nat → Prop) (D : va_G) (dA : Nat → ClassId) (K : Nat → Nat) (ad X : Nat → Nat → Nat) (Y : Nat → Nat → Nat → Int32) (N : Nat → Nat) (I : Nat → Int32) (G : Nat → Nat → Nat) (J : Nat → Nat → Int32) : Met lh yX1_place (ws_ yX1_place cX1_place 1 (some .int)) r_X1_place (PX (fun U H => RH A D dA K ad X Y N I G J H ∧ GK D dA U) [.ref (ad 0 0)]) (vp_Si (fun rv => rv = I 35)) 0 0 (fun _ => False) := by
  refine Met.ofW (cc := cX1_place) (maxL := 1) (ret := (some .int)) (by decide) rfl ?_
  intro p e s m args below meth cd s₁ B hml hv
  obtain ⟨hargs, hH, hG⟩ := hv
  have hx := B.exec
  have hb := B.bytes
  have hrt := B.returns
  have hts := atoms_spec (ws := (ws_ yX1_place cX1_place 1 (some .int))) B.pre
  have hts : ∀ w ∈ lw_all, w.before _ s = true := fun w h => hts w (List.mem_cons_of_mem _ h)
  have hown : s.vm.findClass RX1 = some m.cls := findClass_of_methodNamed B.named
  have hlocks := B.notSynchronized
  have hE : entryFrame m args 1 = F0 m 0 ((lg_sl ([.ref (ad 0 0)]) ++ List.replicate (1 - (lg_sl ([.ref (ad 0 0)])).length) Slot.unset).toArray) [] := by rw [hargs]; exact lg_entry_eq m _ 1
  have hl := lv_entry ([.ref (ad 0 0)]) (n := 1) (Nat.le_of_ble_eq_true rfl)
  rw [hE]
  clear hE
  generalize (lg_sl ([.ref (ad 0 0)]) ++ List.replicate (1 - (lg_sl ([.ref (ad 0 0)])).length) Slot.unset).toArray = ls at hl ⊢
  have hl : lv_has ls 1 [(0, .ref (ad 0 0))] := hl
  generalize hQ : MQ _ _ _ _ _ _ _ = Q
  refine lv_aload_n hx hb dX1_place_0 rfl (lv_at hl 0 rfl) ?_
  refine ko_get (C := RX1) (T := TX1) (N := 28) (ci := 1) (v := .int (I 35)) hx hb hts in_X1 hown hG.1 hH.o0 rfl 11 (by decide) q196 (fun _ h => h) (rfl) dX1_place_1 ?_
  subst hQ
  exact W.iret (v := I 35) hx hb hrt (fun t ht _ => ⟨_, rfl, (show I 35 = I 35 from rfl), ht⟩) t_nil dX1_place_4
theorem w_X1_place {R : Room} {s : State} {args : Array Value} {own : String} {idx : Nat} (hts : ∀ w ∈ lw_all, w.before args s = true) (h1 : Cond.methodLink own idx yX1_place ∈ lw_all) {rm : Room} {mc ms : Nat} (hrc : rm.cells = mc) (hrs : rm.slots = ms) (hR : rm.frames + 1 ≤ R.frames ∧ 8 + (1 + 11) + rm.locals ≤ R.locals) : CallW R s args own RX1 idx yX1_place cX1_place 1 (some .int) (ws_ yX1_place cX1_place 1 (some .int)) rm mc ms 0 := cwV 0 hts (lw_V h1 q1137 q1138 q62 q1139) rfl hrc hrs (by decide +kernel) hR

abbrev r_X1_end : Room := { frames := 1, cells := 0, slots := 0, locals := 22 }
set_option maxHeartbeats 1000000 in
theorem c_X1_end (lh : Launch) (A : Nat → Prop) (D : va_G) (dA : Nat → ClassId) (K : Nat → Nat) (ad X : Nat → Nat → Nat) (Y : Nat → Nat → Nat → Int32) (N : Nat → Nat) (I : Nat → Int32) (G : Nat → Nat → Nat) (J : Nat → Nat → Int32) (sz : Nat) (n : Int32) (h1 : N 33 ≤ 300) (hA : ∀ q, sz ≤ q → A q) : Met lh yX1_end (ws_ yX1_end cX1_end 2 (some .int)) r_X1_end (PX (fun U H => H.size = sz ∧ RH A D dA K ad X Y N I G J H ∧ GK D dA U) [.ref (ad 0 0), .int n]) (va_Qi (fun (r : Int32) (u : HgT) => if wi n (nI 0) (nI (N 33)) = true then r = n ∧ u = (ad, X, Y, up1 N 33 (tn n), I, G, J) else r = -1 ∧ u = (ad, X, Y, N, I, G, J)) (BmH A D dA K) A) 0 0 A := by
  refine Met.ofW (cc := cX1_end) (maxL := 2) (ret := (some .int)) (by decide) rfl ?_
  intro p e s m args below meth cd s₁ B hml hv
  obtain ⟨hargs, hsz, hH, hG⟩ := hv
  have hx := B.exec
  have hb := B.bytes
  have hrt := B.returns
  have hts := atoms_spec (ws := (ws_ yX1_end cX1_end 2 (some .int))) B.pre
  have hts : ∀ w ∈ lw_all, w.before _ s = true := fun w h => hts w (List.mem_cons_of_mem _ h)
  have hown : s.vm.findClass RX1 = some m.cls := findClass_of_methodNamed B.named
  have hlocks := B.notSynchronized
  subst hsz
  have hS : va_S A s.heap s.heap [] := va_S.rf
  have hE : entryFrame m args 2 = F0 m 0 ((lg_sl ([.ref (ad 0 0), .int n]) ++ List.replicate (2 - (lg_sl ([.ref (ad 0 0), .int n])).length) Slot.unset).toArray) [] := by rw [hargs]; exact lg_entry_eq m _ 2
  have hl := lv_entry ([.ref (ad 0 0), .int n]) (n := 2) (Nat.le_of_ble_eq_true rfl)
  rw [hE]
  clear hE
  generalize (lg_sl ([.ref (ad 0 0), .int n]) ++ List.replicate (2 - (lg_sl ([.ref (ad 0 0), .int n])).length) Slot.unset).toArray = ls at hl ⊢
  have hl : lv_has ls 2 [(0, .ref (ad 0 0)), (1, .int n)] := hl
  generalize hQ : MQ _ _ _ _ _ _ _ = Q
  refine lv_iload_n hx hb dX1_end_0 rfl (lv_at hl 1 rfl) ?_
  refine lv_iconst (v := nI 0) hx hb dX1_end_1 (by decide) ?_
  refine lv_aload_n hx hb dX1_end_2 rfl (lv_at hl 0 rfl) ?_
  refine ko_get (C := RX1) (T := TX1) (N := 28) (ci := 1) (v := .int (nI (N 33))) hx hb hts in_X1 hown hG.1 hH.o0 rfl 10 (by decide) q195 (fun _ h => h) (rfl) dX1_end_3 ?_
  refine vp_callSi (W.runS (As := [.int n, .int (nI 0), .int (nI (N 33))]) (rest := []) ⟨hx, hb, hml, hown, hts⟩ (c_X1_in lh n (nI 0) (nI (N 33))) (w_X1_in hts q277 rfl rfl ⟨Nat.le_of_ble_eq_true rfl, Nat.le_of_ble_eq_true rfl⟩) ⟨P0.blind, P0.pre⟩ rfl rfl hl.1 rfl (lv_room (Nat.le_of_ble_eq_true rfl)) dX1_end_6 ⟨Nat.le_of_ble_eq_true rfl, Nat.le_of_ble_eq_true rfl⟩) (fun rr hrr => ?_)
  subst hrr
  refine kb_ne (tgt := 14) hx hb dX1_end_9 (by decide) (fun c_9 => ?_) (fun c_9 => ?_)
  · obtain ⟨k, hk1, hk2, rfl⟩ := wi_nat (by decide) (by omega) c_9
    refine lv_aload_n hx hb dX1_end_14 rfl (lv_at hl 0 rfl) ?_
    refine lv_iload_n hx hb dX1_end_15 rfl (lv_at hl 1 rfl) ?_
    refine ko_put (C := RX1) (T := TX1) (N := 28) (ci := 1) hx hb hts in_X1 tyX1 tyX1_ok nmX1 hown hG.1 hS (hH.2.2 0 0 rfl) hH.o0 rfl 10 (by decide) q195 (fun _ h => h) rfl rfl rfl (Nat.le_of_ble_eq_true rfl) dX1_end_16 (fun H locs e1 z1 o1 hS => ?_)
    have hH := hH.house (N1 := (up1 N 33 k)) (I1 := I) (Y1 := Y) e1 o1 rfl rfl rfl rfl (fun _ _ => rfl)
    clear e1 z1 o1
    refine lv_iload_n hx hb dX1_end_19 rfl (lv_at hl 1 rfl) ?_
    subst hQ
    exact W.iret (v := nI k) hx hb hrt (fun t ht hW => ⟨⟨_, (ad, X, Y, (up1 N 33 k), I, G, J), rfl, (by dsimp only; rw [if_pos (by simp [c_9, tn_nI (show k < 2 ^ 31 by omega)])]; refine ⟨?_, ?_⟩ <;> (try simp only [tn_nI (show k < 2 ^ 31 by omega)]) <;> (try first | rfl | simp [c_9])), by rw [ht]; exact hH, GK.warm hW hG⟩, hS.F ht⟩) hS.2.2 dX1_end_20
  · refine lv_iconst (v := -1) hx hb dX1_end_12 (by decide) ?_
    subst hQ
    exact W.iret (v := (-1)) hx hb hrt (fun t ht hW => ⟨⟨_, (ad, X, Y, N, I, G, J), rfl, (by dsimp only; rw [if_neg (by simp [c_9])]; exact ⟨rfl, rfl⟩), by rw [ht]; exact hH, GK.warm hW hG⟩, hS.F ht⟩) hS.2.2 dX1_end_13
theorem w_X1_end {R : Room} {s : State} {args : Array Value} {own : String} {idx : Nat} (hts : ∀ w ∈ lw_all, w.before args s = true) (h1 : Cond.methodLink own idx yX1_end ∈ lw_all) {rm : Room} {mc ms : Nat} (hrc : rm.cells = mc) (hrs : rm.slots = ms) (hR : rm.frames + 1 ≤ R.frames ∧ 8 + (2 + 11) + rm.locals ≤ R.locals) : CallW R s args own RX1 idx yX1_end cX1_end 2 (some .int) (ws_ yX1_end cX1_end 2 (some .int)) rm mc ms 1 := cwV 1 hts (lw_V h1 q604 q605 q62 q606) rfl hrc hrs (by decide +kernel) hR

abbrev r_X1_order : Room := { frames := 1, cells := 0, slots := 0, locals := 22 }
set_option maxHeartbeats 1000000 in
theorem c_X1_order (lh : Launch) (A : Nat → Prop) (D : va_G) (dA : Nat → ClassId) (K : Nat → Nat) (ad X : Nat → Nat → Nat) (Y : Nat → Nat → Nat → Int32) (N : Nat → Nat) (I : Nat → Int32) (G : Nat → Nat → Nat) (J : Nat → Nat → Int32) (sz : Nat) (g : Int32) (a : Int32) (b : Int32) (q : Int32) (h1 : N 44 ≤ 6) (hA : ∀ q, sz ≤ q → A q) : Met lh yX1_order (ws_ yX1_order cX1_order 5 (some .int)) r_X1_order (PX (fun U H => H.size = sz ∧ RH A D dA K ad X Y N I G J H ∧ GK D dA U) [.ref (ad 0 0), .int g, .int a, .int b, .int q]) (va_Qi (fun (r : Int32) (u : HgT) => if orderB N g a b q = true then r = nI (N 44) ∧ u = (ad, X, Y, up1 N 44 (N 44 + 1), I, orderG G (N 44) (tn g) (tn a) (tn b) (tn q), J) else r = -1 ∧ u = (ad, X, Y, N, I, G, J)) (BmH A D dA K) A) 0 0 A := by
  refine Met.ofW (cc := cX1_order) (maxL := 5) (ret := (some .int)) (by decide) rfl ?_
  intro p e s m args below meth cd s₁ B hml hv
  obtain ⟨hargs, hsz, hH, hG⟩ := hv
  have hx := B.exec
  have hb := B.bytes
  have hrt := B.returns
  have hts := atoms_spec (ws := (ws_ yX1_order cX1_order 5 (some .int))) B.pre
  have hts : ∀ w ∈ lw_all, w.before _ s = true := fun w h => hts w (List.mem_cons_of_mem _ h)
  have hown : s.vm.findClass RX1 = some m.cls := findClass_of_methodNamed B.named
  have hlocks := B.notSynchronized
  subst hsz
  have hS : va_S A s.heap s.heap [] := va_S.rf
  have hE : entryFrame m args 5 = F0 m 0 ((lg_sl ([.ref (ad 0 0), .int g, .int a, .int b, .int q]) ++ List.replicate (5 - (lg_sl ([.ref (ad 0 0), .int g, .int a, .int b, .int q])).length) Slot.unset).toArray) [] := by rw [hargs]; exact lg_entry_eq m _ 5
  have hl := lv_entry ([.ref (ad 0 0), .int g, .int a, .int b, .int q]) (n := 5) (Nat.le_of_ble_eq_true rfl)
  rw [hE]
  clear hE
  generalize (lg_sl ([.ref (ad 0 0), .int g, .int a, .int b, .int q]) ++ List.replicate (5 - (lg_sl ([.ref (ad 0 0), .int g, .int a, .int b, .int q])).length) Slot.unset).toArray = ls at hl ⊢
  have hl : lv_has ls 5 [(0, .ref (ad 0 0)), (1, .int g), (2, .int a), (3, .int b), (4, .int q)] := hl
  generalize hQ : MQ _ _ _ _ _ _ _ = Q
  refine lv_aload_n hx hb dX1_order_0 rfl (lv_at hl 0 rfl) ?_
  refine ko_get (C := RX1) (T := TX1) (N := 28) (ci := 1) (v := .int (nI (N 44))) hx hb hts in_X1 hown hG.1 hH.o0 rfl 25 (by decide) q210 (fun _ h => h) (rfl) dX1_order_1 ?_
  refine lv_bipush (v := nI 6) hx hb dX1_order_4 (by decide) ?_
  refine kn_ceq (tgt := 53) hx hb dX1_order_6 (by decide) (by omega) (by omega) (fun c_6 => ?_) (fun c_6 => ?_)
  · refine lv_iconst (v := -1) hx hb dX1_order_53 (by decide) ?_
    subst hQ
    exact W.iret (v := (-1)) hx hb hrt (fun t ht hW => ⟨⟨_, (ad, X, Y, N, I, G, J), rfl, (by dsimp only; rw [if_neg (by simp [orderB, c_6])]; exact ⟨rfl, rfl⟩), by rw [ht]; exact hH, GK.warm hW hG⟩, hS.F ht⟩) hS.2.2 dX1_order_54
  · refine lv_iload_n hx hb dX1_order_9 rfl (lv_at hl 1 rfl) ?_
    refine lv_iconst (v := nI 1) hx hb dX1_order_10 (by decide) ?_
    refine lv_ldc (v := 100000) hx hb hown (hts _ q276) dX1_order_11 ?_
    refine kx_int (y := nI 100000) (by decide) ?_
    refine vp_callSi (W.runS (As := [.int g, .int (nI 1), .int (nI 100000)]) (rest := []) ⟨hx, hb, hml, hown, hts⟩ (c_X1_in lh g (nI 1) (nI 100000)) (w_X1_in hts q277 rfl rfl ⟨Nat.le_of_ble_eq_true rfl, Nat.le_of_ble_eq_true rfl⟩) ⟨P0.blind, P0.pre⟩ rfl rfl hl.1 rfl (lv_room (Nat.le_of_ble_eq_true rfl)) dX1_order_13 ⟨Nat.le_of_ble_eq_true rfl, Nat.le_of_ble_eq_true rfl⟩) (fun rr hrr => ?_)
    subst hrr
    refine kb_eq (tgt := 53) hx hb dX1_order_16 (by decide) (fun c_16 => ?_) (fun c_16 => ?_)
    · refine lv_iconst (v := -1) hx hb dX1_order_53 (by decide) ?_
      subst hQ
      exact W.iret (v := (-1)) hx hb hrt (fun t ht hW => ⟨⟨_, (ad, X, Y, N, I, G, J), rfl, (by dsimp only; rw [if_neg (by simp [orderB, c_6, c_16])]; exact ⟨rfl, rfl⟩), by rw [ht]; exact hH, GK.warm hW hG⟩, hS.F ht⟩) hS.2.2 dX1_order_54
    · obtain ⟨j, hj1, hj2, rfl⟩ := wi_nat (by decide) (by decide) c_16
      refine lv_iload_n hx hb dX1_order_19 rfl (lv_at hl 2 rfl) ?_
      refine lv_iconst (v := nI 0) hx hb dX1_order_20 (by decide) ?_
      refine lv_sipush (v := nI 1000) hx hb dX1_order_21 (by decide) ?_
      refine vp_callSi (W.runS (As := [.int a, .int (nI 0), .int (nI 1000)]) (rest := []) ⟨hx, hb, hml, hown, hts⟩ (c_X1_in lh a (nI 0) (nI 1000)) (w_X1_in hts q277 rfl rfl ⟨Nat.le_of_ble_eq_true rfl, Nat.le_of_ble_eq_true rfl⟩) ⟨P0.blind, P0.pre⟩ rfl rfl hl.1 rfl (lv_room (Nat.le_of_ble_eq_true rfl)) dX1_order_24 ⟨Nat.le_of_ble_eq_true rfl, Nat.le_of_ble_eq_true rfl⟩) (fun rr hrr => ?_)
      subst hrr
      refine kb_eq (tgt := 53) hx hb dX1_order_27 (by decide) (fun c_27 => ?_) (fun c_27 => ?_)
      · refine lv_iconst (v := -1) hx hb dX1_order_53 (by decide) ?_
        subst hQ
        exact W.iret (v := (-1)) hx hb hrt (fun t ht hW => ⟨⟨_, (ad, X, Y, N, I, G, J), rfl, (by dsimp only; rw [if_neg (by simp [orderB, c_6, c_16, c_27, tn_nI (show j < 2 ^ 31 by omega)])]; exact ⟨rfl, rfl⟩), by rw [ht]; exact hH, GK.warm hW hG⟩, hS.F ht⟩) hS.2.2 dX1_order_54
      · obtain ⟨k, hk1, hk2, rfl⟩ := wi_nat (by decide) (by decide) c_27
        refine lv_iload_n hx hb dX1_order_30 rfl (lv_at hl 3 rfl) ?_
        refine lv_iload_n hx hb dX1_order_31 rfl (lv_at hl 2 rfl) ?_
        refine lv_sipush (v := nI 1000) hx hb dX1_order_32 (by decide) ?_
        refine vp_callSi (W.runS (As := [.int b, .int (nI k), .int (nI 1000)]) (rest := []) ⟨hx, hb, hml, hown, hts⟩ (c_X1_in lh b (nI k) (nI 1000)) (w_X1_in hts q277 rfl rfl ⟨Nat.le_of_ble_eq_true rfl, Nat.le_of_ble_eq_true rfl⟩) ⟨P0.blind, P0.pre⟩ rfl rfl hl.1 rfl (lv_room (Nat.le_of_ble_eq_true rfl)) dX1_order_35 ⟨Nat.le_of_ble_eq_true rfl, Nat.le_of_ble_eq_true rfl⟩) (fun rr hrr => ?_)
        subst hrr
        refine kb_eq (tgt := 53) hx hb dX1_order_38 (by decide) (fun c_38 => ?_) (fun c_38 => ?_)
        · refine lv_iconst (v := -1) hx hb dX1_order_53 (by decide) ?_
          subst hQ
          exact W.iret (v := (-1)) hx hb hrt (fun t ht hW => ⟨⟨_, (ad, X, Y, N, I, G, J), rfl, (by dsimp only; rw [if_neg (by simp [orderB, c_6, c_16, c_27, c_38, tn_nI (show j < 2 ^ 31 by omega), tn_nI (show k < 2 ^ 31 by omega)])]; exact ⟨rfl, rfl⟩), by rw [ht]; exact hH, GK.warm hW hG⟩, hS.F ht⟩) hS.2.2 dX1_order_54
        · obtain ⟨x, hx1, hx2, rfl⟩ := wi_nat (by omega) (by decide) c_38
          refine lv_iload hx hb dX1_order_41 (lv_at hl 4 rfl) ?_
          refine lv_iconst (v := nI 0) hx hb dX1_order_43 (by decide) ?_
          refine lv_sipush (v := nI 10000) hx hb dX1_order_44 (by decide) ?_
          refine vp_callSi (W.runS (As := [.int q, .int (nI 0), .int (nI 10000)]) (rest := []) ⟨hx, hb, hml, hown, hts⟩ (c_X1_in lh q (nI 0) (nI 10000)) (w_X1_in hts q277 rfl rfl ⟨Nat.le_of_ble_eq_true rfl, Nat.le_of_ble_eq_true rfl⟩) ⟨P0.blind, P0.pre⟩ rfl rfl hl.1 rfl (lv_room (Nat.le_of_ble_eq_true rfl)) dX1_order_47 ⟨Nat.le_of_ble_eq_true rfl, Nat.le_of_ble_eq_true rfl⟩) (fun rr hrr => ?_)
          subst hrr
          refine kb_ne (tgt := 55) hx hb dX1_order_50 (by decide) (fun c_50 => ?_) (fun c_50 => ?_)
          · obtain ⟨y, hy1, hy2, rfl⟩ := wi_nat (by decide) (by decide) c_50
            refine lv_aload_n hx hb dX1_order_55 rfl (lv_at hl 0 rfl) ?_
            refine ko_get (C := RX1) (T := TX1) (N := 28) (ci := 1) (v := .ref (ad 1 16)) hx hb hts in_X1 hown hG.1 hH.o0 rfl 16 (by decide) q201 (fun _ h => h) (rfl) dX1_order_56 ?_
            refine lv_aload_n hx hb dX1_order_59 rfl (lv_at hl 0 rfl) ?_
            refine ko_get (C := RX1) (T := TX1) (N := 28) (ci := 1) (v := .int (nI (N 44))) hx hb hts in_X1 hown hG.1 hH.o0 rfl 25 (by decide) q210 (fun _ h => h) (rfl) dX1_order_60 ?_
            refine lv_iload_n hx hb dX1_order_63 rfl (lv_at hl 1 rfl) ?_
            refine ka_iast hx hb hG.1 hS (hH.2.2 1 16 rfl) (hH.arr 16 rfl) 0 rfl (show N 44 < 6 from by omega) (by decide) dX1_order_64 (fun H locs e1 z1 o1 hS => ?_)
            have hH := hH.h16 (j := N 44) (v := j) e1 o1
            clear e1 z1 o1
            refine lv_aload_n hx hb dX1_order_65 rfl (lv_at hl 0 rfl) ?_
            refine ko_get (C := RX1) (T := TX1) (N := 28) (ci := 1) (v := .ref (ad 1 17)) hx hb hts in_X1 hown hG.1 hH.o0 rfl 17 (by decide) q202 (fun _ h => h) (rfl) dX1_order_66 ?_
            refine lv_aload_n hx hb dX1_order_69 rfl (lv_at hl 0 rfl) ?_
            refine ko_get (C := RX1) (T := TX1) (N := 28) (ci := 1) (v := .int (nI (N 44))) hx hb hts in_X1 hown hG.1 hH.o0 rfl 25 (by decide) q210 (fun _ h => h) (rfl) dX1_order_70 ?_
            refine lv_iload_n hx hb dX1_order_73 rfl (lv_at hl 2 rfl) ?_
            refine ka_iast hx hb hG.1 hS (hH.2.2 1 17 rfl) (hH.arr 17 rfl) 0 rfl (show N 44 < 6 from by omega) (by decide) dX1_order_74 (fun H locs e1 z1 o1 hS => ?_)
            have hH := hH.h17 (j := N 44) (v := k) e1 o1
            clear e1 z1 o1
            refine lv_aload_n hx hb dX1_order_75 rfl (lv_at hl 0 rfl) ?_
            refine ko_get (C := RX1) (T := TX1) (N := 28) (ci := 1) (v := .ref (ad 1 18)) hx hb hts in_X1 hown hG.1 hH.o0 rfl 18 (by decide) q203 (fun _ h => h) (rfl) dX1_order_76 ?_
            refine lv_aload_n hx hb dX1_order_79 rfl (lv_at hl 0 rfl) ?_
            refine ko_get (C := RX1) (T := TX1) (N := 28) (ci := 1) (v := .int (nI (N 44))) hx hb hts in_X1 hown hG.1 hH.o0 rfl 25 (by decide) q210 (fun _ h => h) (rfl) dX1_order_80 ?_
            refine lv_iload_n hx hb dX1_order_83 rfl (lv_at hl 3 rfl) ?_
            refine ka_iast hx hb hG.1 hS (hH.2.2 1 18 rfl) (hH.arr 18 rfl) 0 rfl (show N 44 < 6 from by omega) (by decide) dX1_order_84 (fun H locs e1 z1 o1 hS => ?_)
            have hH := hH.h18 (j := N 44) (v := x) e1 o1
            clear e1 z1 o1
            refine lv_aload_n hx hb dX1_order_85 rfl (lv_at hl 0 rfl) ?_
            refine ko_get (C := RX1) (T := TX1) (N := 28) (ci := 1) (v := .ref (ad 1 19)) hx hb hts in_X1 hown hG.1 hH.o0 rfl 19 (by decide) q204 (fun _ h => h) (rfl) dX1_order_86 ?_
            refine lv_aload_n hx hb dX1_order_89 rfl (lv_at hl 0 rfl) ?_
            refine ko_get (C := RX1) (T := TX1) (N := 28) (ci := 1) (v := .int (nI (N 44))) hx hb hts in_X1 hown hG.1 hH.o0 rfl 25 (by decide) q210 (fun _ h => h) (rfl) dX1_order_90 ?_
            refine lv_iload hx hb dX1_order_93 (lv_at hl 4 rfl) ?_
            refine ka_iast hx hb hG.1 hS (hH.2.2 1 19 rfl) (hH.arr 19 rfl) 0 rfl (show N 44 < 6 from by omega) (by decide) dX1_order_95 (fun H locs e1 z1 o1 hS => ?_)
            have hH := hH.h19 (j := N 44) (v := y) e1 o1
            clear e1 z1 o1
            refine lv_aload_n hx hb dX1_order_96 rfl (lv_at hl 0 rfl) ?_
            refine lv_dup hx hb dX1_order_97 rfl ?_
            refine ko_get (C := RX1) (T := TX1) (N := 28) (ci := 1) (v := .int (nI (N 44))) hx hb hts in_X1 hown hG.1 hH.o0 rfl 25 (by decide) q210 (fun _ h => h) (rfl) dX1_order_98 ?_
            refine lv_iconst (v := nI 1) hx hb dX1_order_101 (by decide) ?_
            refine kn_add hx hb dX1_order_102 ?_
            refine ko_put (C := RX1) (T := TX1) (N := 28) (ci := 1) hx hb hts in_X1 tyX1 tyX1_ok nmX1 hown hG.1 hS (hH.2.2 0 0 rfl) hH.o0 rfl 25 (by decide) q210 (fun _ h => h) rfl rfl rfl (Nat.le_of_ble_eq_true rfl) dX1_order_103 (fun H locs e1 z1 o1 hS => ?_)
            have hH := hH.house (N1 := (up1 N 44 (N 44 + 1))) (I1 := I) (Y1 := Y) e1 o1 rfl rfl rfl rfl (fun _ _ => rfl)
            clear e1 z1 o1
            refine lv_aload_n hx hb dX1_order_106 rfl (lv_at hl 0 rfl) ?_
            refine ko_get (C := RX1) (T := TX1) (N := 28) (ci := 1) (v := .int (nI (N 44 + 1))) hx hb hts in_X1 hown hG.1 hH.o0 rfl 25 (by decide) q210 (fun _ h => h) (by simp [fC, fH, up2, up3, up1]) dX1_order_107 ?_
            refine lv_iconst (v := nI 1) hx hb dX1_order_110 (by decide) ?_
            refine kn_sub hx hb dX1_order_111 (by omega) ?_
            subst hQ
            exact W.iret (v := nI (N 44 + 1 - 1)) hx hb hrt (fun t ht hW => ⟨⟨_, (ad, X, Y, (up1 N 44 (N 44 + 1)), I, (up2 (up2 (up2 (up2 G 45 (N 44) j) 46 (N 44) k) 47 (N 44) x) 48 (N 44) y), J), rfl, (by dsimp only; rw [if_pos (by simp [orderB, c_6, c_16, c_27, c_38, c_50, tn_nI (show j < 2 ^ 31 by omega), tn_nI (show k < 2 ^ 31 by omega), tn_nI (show x < 2 ^ 31 by omega), tn_nI (show y < 2 ^ 31 by omega)])]; refine ⟨?_, ?_⟩ <;> (try simp only [tn_nI (show j < 2 ^ 31 by omega), tn_nI (show k < 2 ^ 31 by omega), tn_nI (show x < 2 ^ 31 by omega), tn_nI (show y < 2 ^ 31 by omega)]) <;> (try first | rfl | simp [c_6, c_16, c_27, c_38, c_50])), by rw [ht]; exact hH, GK.warm hW hG⟩, hS.F ht⟩) hS.2.2 dX1_order_112
          · refine lv_iconst (v := -1) hx hb dX1_order_53 (by decide) ?_
            subst hQ
            exact W.iret (v := (-1)) hx hb hrt (fun t ht hW => ⟨⟨_, (ad, X, Y, N, I, G, J), rfl, (by dsimp only; rw [if_neg (by simp [orderB, c_6, c_16, c_27, c_38, c_50, tn_nI (show j < 2 ^ 31 by omega), tn_nI (show k < 2 ^ 31 by omega), tn_nI (show x < 2 ^ 31 by omega)])]; exact ⟨rfl, rfl⟩), by rw [ht]; exact hH, GK.warm hW hG⟩, hS.F ht⟩) hS.2.2 dX1_order_54
theorem w_X1_order {R : Room} {s : State} {args : Array Value} {own : String} {idx : Nat} (hts : ∀ w ∈ lw_all, w.before args s = true) (h1 : Cond.methodLink own idx yX1_order ∈ lw_all) {rm : Room} {mc ms : Nat} (hrc : rm.cells = mc) (hrs : rm.slots = ms) (hR : rm.frames + 1 ≤ R.frames ∧ 8 + (5 + 11) + rm.locals ≤ R.locals) : CallW R s args own RX1 idx yX1_order cX1_order 5 (some .int) (ws_ yX1_order cX1_order 5 (some .int)) rm mc ms 4 := cwV 4 hts (lw_V h1 q1187 q1188 q62 q1189) rfl hrc hrs (by decide +kernel) hR

abbrev r_X1_put : Room := { frames := 4, cells := 0, slots := 0, locals := 85 }
set_option maxHeartbeats 1000000 in
theorem c_X1_put (lh : Launch) (A : Nat → Prop) (D : va_G) (dA : Nat → ClassId) (K : Nat → Nat) (ad X : Nat → Nat → Nat) (Y : Nat → Nat → Nat → Int32) (N : Nat → Nat) (I : Nat → Int32) (G : Nat → Nat → Nat) (J : Nat → Nat → Int32) (sz : Nat) (c : Int32) (l : Int32) (g : Int32) (h1 : ∀ a b, G a b < 2 ^ 31) (h2 : N 3 ≤ 10) (h3 : N 1 ≤ 20) (h4 : XOk N G X) (hA : ∀ q, sz ≤ q → A q) : Met lh yX1_put (ws_ yX1_put cX1_put 5 (some .int)) r_X1_put (PX (fun U H => H.size = sz ∧ RH A D dA K ad X Y N I G J H ∧ GK D dA U) [.ref (ad 0 0), .int c, .int l, .int g]) (va_Qi (fun (r : Int32) (u : HgT) => if putB N G c l g = true then r = nI (gr (putG G (tn c) (tn l) (tn g)) (tn c)) ∧ u = (ad, X, Y, N, I, putG G (tn c) (tn l) (tn g), J) else r = -1 ∧ u = (ad, X, Y, N, I, G, J)) (BmH A D dA K) A) 0 0 A := by
  refine Met.ofW (cc := cX1_put) (maxL := 5) (ret := (some .int)) (by decide) rfl ?_
  intro p e s m args below meth cd s₁ B hml hv
  obtain ⟨hargs, hsz, hH, hG⟩ := hv
  have hx := B.exec
  have hb := B.bytes
  have hrt := B.returns
  have hts := atoms_spec (ws := (ws_ yX1_put cX1_put 5 (some .int))) B.pre
  have hts : ∀ w ∈ lw_all, w.before _ s = true := fun w h => hts w (List.mem_cons_of_mem _ h)
  have hown : s.vm.findClass RX1 = some m.cls := findClass_of_methodNamed B.named
  have hlocks := B.notSynchronized
  subst hsz
  have hS : va_S A s.heap s.heap [] := va_S.rf
  have hE : entryFrame m args 5 = F0 m 0 ((lg_sl ([.ref (ad 0 0), .int c, .int l, .int g]) ++ List.replicate (5 - (lg_sl ([.ref (ad 0 0), .int c, .int l, .int g])).length) Slot.unset).toArray) [] := by rw [hargs]; exact lg_entry_eq m _ 5
  have hl := lv_entry ([.ref (ad 0 0), .int c, .int l, .int g]) (n := 5) (Nat.le_of_ble_eq_true rfl)
  rw [hE]
  clear hE
  generalize (lg_sl ([.ref (ad 0 0), .int c, .int l, .int g]) ++ List.replicate (5 - (lg_sl ([.ref (ad 0 0), .int c, .int l, .int g])).length) Slot.unset).toArray = ls at hl ⊢
  have hl : lv_has ls 5 [(0, .ref (ad 0 0)), (1, .int c), (2, .int l), (3, .int g)] := hl
  generalize hQ : MQ _ _ _ _ _ _ _ = Q
  refine lv_aload_n hx hb dX1_put_0 rfl (lv_at hl 0 rfl) ?_
  refine lv_iload_n hx hb dX1_put_1 rfl (lv_at hl 1 rfl) ?_
  refine va_csq (va_Run.call (va_runV (As := [.int c]) (rest := []) ⟨hx, hb, hml, hown, hts⟩ (c_X1_there lh A D dA K ad X Y N I G J c (show ∀ a b, G a b < 2 ^ 31 from by first | omega | assumption) (show (N 3) ≤ 10 from by first | omega | assumption) (show XOk N G X from by first | omega | assumption)) (w_X1_there hts q436 rfl rfl ⟨Nat.le_of_ble_eq_true rfl, Nat.le_of_ble_eq_true rfl⟩) ⟨PX.blind (Mv.and Mv.heap Mv.gk), (O_recv hG hH.o0 rfl), PX.pre (Mv.and Mv.heap Mv.gk) ⟨hH, hG⟩⟩ rfl rfl hl.1 rfl (lv_room (Nat.le_of_ble_eq_true rfl)) dX1_put_2 ⟨Nat.le_of_ble_eq_true rfl, Nat.le_of_ble_eq_true rfl⟩)) (fun rr hrr => ?_)
  subst hrr
  by_cases hq2 : lvI (N 3) G c = true
  · rw [if_pos hq2]
    show W p lh e r_X1_put s m args below meth cd _ _ _ _ Q (F0 m _ ls (.ref (ad 6 (tn c)) :: _))
    obtain ⟨j, hj, rfl, hlj⟩ := lvI_nat (by omega) hq2
    rw [tn_nI (show j < 2 ^ 31 by omega)]
    refine lv_astore (lv' := [(4, .ref (ad 6 j)), (0, .ref (ad 0 0)), (1, .int (nI j)), (2, .int l), (3, .int g)]) hx hb dX1_put_5 hl (by decide) rfl (fun ls hl => ?_)
    refine lv_aload hx hb dX1_put_7 (lv_at hl 0 rfl) ?_
    refine lv_ifnull hx hb dX1_put_9 ?_
    refine lv_iload_n hx hb dX1_put_12 rfl (lv_at hl 3 rfl) ?_
    refine lv_iconst (v := nI 0) hx hb dX1_put_13 (by decide) ?_
    refine lv_aload_n hx hb dX1_put_14 rfl (lv_at hl 1 rfl) ?_
    refine ko_get (C := RX1) (T := TX1) (N := 28) (ci := 1) (v := .int (nI (N 1))) hx hb hts in_X1 hown hG.1 hH.o0 rfl 8 (by decide) q193 (fun _ h => h) (rfl) dX1_put_15 ?_
    refine lv_iconst (v := nI 1) hx hb dX1_put_18 (by decide) ?_
    refine lv_isub hx hb dX1_put_19 ?_
    refine vp_callSi (W.runS (As := [.int l, .int (nI 0), .int (nI (N 1) - (nI 1))]) (rest := []) ⟨hx, hb, hml, hown, hts⟩ (c_X1_in lh l (nI 0) (nI (N 1) - (nI 1))) (w_X1_in hts q277 rfl rfl ⟨Nat.le_of_ble_eq_true rfl, Nat.le_of_ble_eq_true rfl⟩) ⟨P0.blind, P0.pre⟩ rfl rfl hl.1 rfl (lv_room (Nat.le_of_ble_eq_true rfl)) dX1_put_20 ⟨Nat.le_of_ble_eq_true rfl, Nat.le_of_ble_eq_true rfl⟩) (fun rr hrr => ?_)
    subst hrr
    refine kb_eq (tgt := 41) hx hb dX1_put_23 (by decide) (fun c_23 => ?_) (fun c_23 => ?_)
    · refine lv_iconst (v := -1) hx hb dX1_put_41 (by decide) ?_
      subst hQ
      exact W.iret (v := (-1)) hx hb hrt (fun t ht hW => ⟨⟨_, (ad, X, Y, N, I, G, J), rfl, (by dsimp only; rw [if_neg (by simp [putB, hq2, c_23, tn_nI (show j < 2 ^ 31 by omega)])]; exact ⟨rfl, rfl⟩), by rw [ht]; exact hH, GK.warm hW hG⟩, hS.F ht⟩) hS.2.2 dX1_put_42
    · obtain ⟨k, hk, rfl⟩ := wi_cnt (by omega) c_23
      refine lv_iload_n hx hb dX1_put_26 rfl (lv_at hl 4 rfl) ?_
      refine lv_iconst (v := nI 1) hx hb dX1_put_27 (by decide) ?_
      refine lv_icmp_lt (tgt := 41) hx hb dX1_put_28 (by decide) (fun c_28 => ?_) (fun c_28 => ?_)
      · refine lv_iconst (v := -1) hx hb dX1_put_41 (by decide) ?_
        subst hQ
        exact W.iret (v := (-1)) hx hb hrt (fun t ht hW => ⟨⟨_, (ad, X, Y, N, I, G, J), rfl, (by dsimp only; rw [if_neg (by simp [putB, hq2, c_23, c_28, tn_nI (show j < 2 ^ 31 by omega), tn_nI (show k < 2 ^ 31 by omega)])]; exact ⟨rfl, rfl⟩), by rw [ht]; exact hH, GK.warm hW hG⟩, hS.F ht⟩) hS.2.2 dX1_put_42
      · obtain ⟨g1, hg1, hg2, rfl⟩ := nI_ge1 c_28
        refine lv_iload_n hx hb dX1_put_31 rfl (lv_at hl 4 rfl) ?_
        refine lv_aload_n hx hb dX1_put_32 rfl (lv_at hl 1 rfl) ?_
        refine ko_get (C := RX1) (T := TX1) (N := 28) (ci := 1) (v := .ref (ad 1 1)) hx hb hts in_X1 hown hG.1 hH.o0 rfl 1 (by decide) q186 (fun _ h => h) (rfl) dX1_put_33 ?_
        refine lv_iload_n hx hb dX1_put_36 rfl (lv_at hl 3 rfl) ?_
        refine ka_iald (v := nI (G 2 k)) hx hb hG.1 (hH.arr 1 rfl) 0 rfl (show k < 20 from by omega) (by decide) (rfl) dX1_put_37 ?_
        refine lv_icmp_le (tgt := 43) hx hb dX1_put_38 (by decide) (fun c_38 => ?_) (fun c_38 => ?_)
        · have hle : g1 ≤ G 2 k := (nI_leI (by omega) (h1 _ _)).mp c_38
          refine lv_aload_n hx hb dX1_put_43 rfl (lv_at hl 1 rfl) ?_
          refine ko_get (C := RX1) (T := TX1) (N := 28) (ci := 1) (v := .ref (ad 1 1)) hx hb hts in_X1 hown hG.1 hH.o0 rfl 1 (by decide) q186 (fun _ h => h) (rfl) dX1_put_44 ?_
          refine lv_iload_n hx hb dX1_put_47 rfl (lv_at hl 3 rfl) ?_
          refine lv_dup2_11 hx hb dX1_put_48 rfl rfl ?_
          refine ka_iald (v := nI (G 2 k)) hx hb hG.1 (hH.arr 1 rfl) 0 rfl (show k < 20 from by omega) (by decide) (rfl) dX1_put_49 ?_
          refine lv_iload_n hx hb dX1_put_50 rfl (lv_at hl 4 rfl) ?_
          refine kn_sub hx hb dX1_put_51 (by omega) ?_
          refine ka_iast hx hb hG.1 hS (hH.2.2 1 1 rfl) (hH.arr 1 rfl) 0 rfl (show k < 20 from by omega) (by decide) dX1_put_52 (fun H locs e1 z1 o1 hS => ?_)
          have hH := hH.h1 (j := k) (v := G 2 k - g1) e1 o1
          clear e1 z1 o1
          refine lv_aload hx hb dX1_put_53 (lv_at hl 0 rfl) ?_
          refine ko_get (C := RX4) (T := TX4) (N := 11) (ci := 2) (v := .ref (ad 7 j)) hx hb hts in_X4 hown hG.1 (hH.cr (show j < N 3 from by omega)) rfl 0 (by decide) q338 (u_same (hts _ q339)) (rfl) dX1_put_55 ?_
          refine lv_iload_n hx hb dX1_put_58 rfl (lv_at hl 3 rfl) ?_
          refine lv_dup2_11 hx hb dX1_put_59 rfl rfl ?_
          refine ka_iald (v := nI (G 4 (20 * j + k))) hx hb hG.1 (hH.gm (show j < N 3 from by omega)) 0 rfl (show k < 20 from by omega) (by decide) (tr20_in (by omega)) dX1_put_60 ?_
          refine lv_iload_n hx hb dX1_put_61 rfl (lv_at hl 4 rfl) ?_
          refine kn_add hx hb dX1_put_62 ?_
          refine ka_iast hx hb hG.1 hS (hH.2.2 7 j (show j < N 3 from by omega)) (hH.gm (show j < N 3 from by omega)) 0 rfl (show k < 20 from by omega) (by decide) dX1_put_63 (fun H locs e1 z1 o1 hS => ?_)
          have hH := hH.gram (show j < N 3 from by omega) (j := k) (v := G 4 (20 * j + k) + g1) (by omega) e1 o1
          clear e1 z1 o1
          refine lv_aload hx hb dX1_put_64 (lv_at hl 0 rfl) ?_
          refine vp_callSi (va_Run.call (va_runU (As := []) (rest := []) ⟨hx, hb, hml, hown, hts⟩ (c_X3_all_C lh A D dA K ad X Y N I (up2 (up2 G 2 k (G 2 k - g1)) 4 (20 * j + k) (G 4 (20 * j + k) + g1)) J j (show j < (N 3) from by first | omega | assumption)) (va_cwU 0 hts (lw_U q440 q441 q443 q444 q72 q445) rfl rfl rfl rfl (by decide +kernel) ⟨Nat.le_of_ble_eq_true rfl, Nat.le_of_ble_eq_true rfl⟩) ⟨PX.blind (Mv.and Mv.heap Mv.gk), (O_recv hG (hH.cr (show j < N 3 from by omega)) rfl), PX.pre (Mv.and Mv.heap Mv.gk) ⟨hH, hG⟩⟩ rfl rfl hl.1 rfl (lv_room (Nat.le_of_ble_eq_true rfl)) dX1_put_66 ⟨Nat.le_of_ble_eq_true rfl, Nat.le_of_ble_eq_true rfl⟩)) (fun rr hrr => ?_)
          subst hrr
          refine kx_int (y := nI (gr (up2 (up2 G 2 k (G 2 k - g1)) 4 (20 * j + k) (G 4 (20 * j + k) + g1)) j)) rfl ?_
          subst hQ
          exact W.iret (v := nI (gr (up2 (up2 G 2 k (G 2 k - g1)) 4 (20 * j + k) (G 4 (20 * j + k) + g1)) j)) hx hb hrt (fun t ht hW => ⟨⟨_, (ad, X, Y, N, I, (up2 (up2 G 2 k (G 2 k - g1)) 4 (20 * j + k) (G 4 (20 * j + k) + g1)), J), rfl, (by dsimp only; rw [if_pos (by simp [putB, hq2, c_23, c_28, c_38, tn_nI (show j < 2 ^ 31 by omega), tn_nI (show k < 2 ^ 31 by omega), tn_nI (show g1 < 2 ^ 31 by omega)])]; refine ⟨?_, ?_⟩ <;> (try simp only [tn_nI (show j < 2 ^ 31 by omega), tn_nI (show k < 2 ^ 31 by omega), tn_nI (show g1 < 2 ^ 31 by omega)]) <;> (try first | rfl | simp [hq2, c_23, c_28, c_38])), by rw [ht]; exact hH, GK.warm hW hG⟩, hS.F ht⟩) hS.2.2 dX1_put_69
        · refine lv_iconst (v := -1) hx hb dX1_put_41 (by decide) ?_
          subst hQ
          exact W.iret (v := (-1)) hx hb hrt (fun t ht hW => ⟨⟨_, (ad, X, Y, N, I, G, J), rfl, (by dsimp only; rw [if_neg (by simp [putB, hq2, c_23, c_28, c_38, tn_nI (show j < 2 ^ 31 by omega), tn_nI (show k < 2 ^ 31 by omega), tn_nI (show g1 < 2 ^ 31 by omega)])]; exact ⟨rfl, rfl⟩), by rw [ht]; exact hH, GK.warm hW hG⟩, hS.F ht⟩) hS.2.2 dX1_put_42
  · rw [if_neg hq2]
    show W p lh e r_X1_put s m args below meth cd _ _ _ _ Q (F0 m _ ls (.null :: _))
    refine lv_astoreN (lv' := [(4, .null), (0, .ref (ad 0 0)), (1, .int c), (2, .int l), (3, .int g)]) hx hb dX1_put_5 hl (by decide) rfl (fun ls hl => ?_)
    refine lv_aloadN hx hb dX1_put_7 (lv_at hl 0 rfl) ?_
    refine lv_ifnullN (tgt := 41) hx hb dX1_put_9 (by decide) ?_
    refine lv_iconst (v := -1) hx hb dX1_put_41 (by decide) ?_
    subst hQ
    exact W.iret (v := (-1)) hx hb hrt (fun t ht hW => ⟨⟨_, (ad, X, Y, N, I, G, J), rfl, (by dsimp only; rw [if_neg (by simp [putB, hq2])]; exact ⟨rfl, rfl⟩), by rw [ht]; exact hH, GK.warm hW hG⟩, hS.F ht⟩) hS.2.2 dX1_put_42
theorem w_X1_put {R : Room} {s : State} {args : Array Value} {own : String} {idx : Nat} (hts : ∀ w ∈ lw_all, w.before args s = true) (h1 : Cond.methodLink own idx yX1_put ∈ lw_all) {rm : Room} {mc ms : Nat} (hrc : rm.cells = mc) (hrs : rm.slots = ms) (hR : rm.frames + 1 ≤ R.frames ∧ 8 + (5 + 11) + rm.locals ≤ R.locals) : CallW R s args own RX1 idx yX1_put cX1_put 5 (some .int) (ws_ yX1_put cX1_put 5 (some .int)) rm mc ms 3 := cwV 3 hts (lw_V h1 q433 q434 q62 q435) rfl hrc hrs (by decide +kernel) hR
