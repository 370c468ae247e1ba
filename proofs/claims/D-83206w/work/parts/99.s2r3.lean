set_option maxRecDepth 100000
abbrev r_J8_signedHashCode : Room := { frames := 0, cells := 0, slots := 0, locals := 0 }
set_option maxHeartbeats 1000000 in
theorem c_J8_signedHashCode (lh : Launch) (D : va_G) (dA : Nat → ClassId) (b : Nat) (n : Nat) (g : Nat → Nat) (h1 : 2 ≤ n) (h2 : n < 2 ^ 30) (h3 : ∀ j, j < n → g j < 128) : Met lh yJ8_signedHashCode (ws_ yJ8_signedHashCode cJ8_signedHashCode 6 (some .int)) r_J8_signedHashCode (PX (fun U H => va_P D CL [(b, .inl (dA 1, n, .inl (bw g n)))] H ∧ GK D dA U) [.int (nI 0), .ref b, .int (nI 0), .int (nI n)]) (vp_Si (fun rv => rv = hsI g n)) 0 0 (fun _ => False) := by
  refine Met.ofW (cc := cJ8_signedHashCode) (maxL := 6) (ret := (some .int)) (by decide) rfl ?_
  intro p e s m args below meth cd s₁ B hml hv
  obtain ⟨hargs, hP, hG⟩ := hv
  have hx := B.exec
  have hb := B.bytes
  have hrt := B.returns
  have hts := atoms_spec (ws := (ws_ yJ8_signedHashCode cJ8_signedHashCode 6 (some .int))) B.pre
  have hts : ∀ w ∈ lw_all, w.before _ s = true := fun w h => hts w (List.mem_cons_of_mem _ h)
  have hown : s.vm.findClass RJ8 = some m.cls := findClass_of_methodNamed B.named
  have hlocks := B.notSynchronized
  have hS : va_S nA s.heap s.heap [] := va_S.rf
  have hE : entryFrame m args 6 = F0 m 0 ((lg_sl ([.int (nI 0), .ref b, .int (nI 0), .int (nI n)]) ++ List.replicate (6 - (lg_sl ([.int (nI 0), .ref b, .int (nI 0), .int (nI n)])).length) Slot.unset).toArray) [] := by rw [hargs]; exact lg_entry_eq m _ 6
  have hl := lv_entry ([.int (nI 0), .ref b, .int (nI 0), .int (nI n)]) (n := 6) (Nat.le_of_ble_eq_true rfl)
  rw [hE]
  clear hE
  generalize (lg_sl ([.int (nI 0), .ref b, .int (nI 0), .int (nI n)]) ++ List.replicate (6 - (lg_sl ([.int (nI 0), .ref b, .int (nI 0), .int (nI n)])).length) Slot.unset).toArray = ls at hl ⊢
  have hl : lv_has ls 6 [(0, .int (nI 0)), (1, .ref b), (2, .int (nI 0)), (3, .int (nI n))] := hl
  generalize hQ : MQ _ _ _ _ _ _ _ = Q
  refine lv_iload_n hx hb dJ8_signedHashCode_0 rfl (lv_at hl 2 rfl) ?_
  refine lv_iload_n hx hb dJ8_signedHashCode_1 rfl (lv_at hl 3 rfl) ?_
  refine kn_add hx hb dJ8_signedHashCode_2 ?_
  refine kx_int (y := nI n) (congrArg nI (by omega)) ?_
  refine lv_istore (lv' := [(4, .int (nI n)), (0, .int (nI 0)), (1, .ref b), (2, .int (nI 0)), (3, .int (nI n))]) hx hb dJ8_signedHashCode_3 hl (by decide) rfl (fun ls hl => ?_)
  refine lv_iload_n hx hb dJ8_signedHashCode_5 rfl (lv_at hl 3 rfl) ?_
  refine lv_istore (lv' := [(5, .int (nI 0)), (4, .int (nI n)), (0, .int (nI 0)), (1, .ref b), (2, .int (nI 0)), (3, .int (nI n))]) hx hb dJ8_signedHashCode_6 hl (by decide) rfl (fun ls hl => ?_)
  have L8 : ∀ (nn8 : Nat) (j : Nat), (j ≤ n) → n - j < nn8 → ∀ (ls : Array Slot), lv_has ls 6 [(0, .int (hsI g j)), (1, .ref b), (2, .int (nI 0)), (3, .int (nI n)), (4, .int (nI n)), (5, .int (nI j))] → W p lh e r_J8_signedHashCode s m args below meth cd s.heap [] 0 0 Q (F0 m 8 ls []) := by
    intro nn8
    induction nn8 with
    | zero => intro j i8_0 hm8; exact absurd hm8 (Nat.not_lt_zero _)
    | succ nn8 ih8 =>
      intro j i8_0 hm8 ls hl
      refine lv_iload hx hb dJ8_signedHashCode_8 (lv_at hl 5 rfl) ?_
      refine lv_iload hx hb dJ8_signedHashCode_10 (lv_at hl 4 rfl) ?_
      refine kn_cge (tgt := 35) hx hb dJ8_signedHashCode_12 (by decide) (by omega) (by omega) (fun c_12 => ?_) (fun c_12 => ?_)
      · refine lv_iload_n hx hb dJ8_signedHashCode_35 rfl (lv_at hl 0 rfl) ?_
        subst hQ
        exact W.iret (v := hsI g j) hx hb hrt (fun t ht _ => ⟨_, rfl, (show hsI g j = hsI g n from by rw [show j = n by omega]), ht⟩) t_nil dJ8_signedHashCode_36
      · refine lv_bipush (v := nI 31) hx hb dJ8_signedHashCode_15 (by decide) ?_
        refine lv_iload_n hx hb dJ8_signedHashCode_17 rfl (lv_at hl 0 rfl) ?_
        refine lv_imul hx hb dJ8_signedHashCode_18 ?_
        refine lv_aload_n hx hb dJ8_signedHashCode_19 rfl (lv_at hl 1 rfl) ?_
        refine lv_iload hx hb dJ8_signedHashCode_20 (lv_at hl 5 rfl) ?_
        refine va_bald hx hb hG.1 hP 0 1 rfl rfl (vp_in_nI (show j < n from by omega) (by omega)) dJ8_signedHashCode_22 ?_
        refine kx_int (y := nI (g j)) (by rw [nI_clamp (by omega)]; exact bw_in (by omega)) ?_
        refine lv_sipush (v := nI 255) hx hb dJ8_signedHashCode_23 (by decide) ?_
        refine lv_iand hx hb dJ8_signedHashCode_26 ?_
        refine kx_int (y := nI (g j)) (and255_n (h3 j (by omega))) ?_
        refine lv_iadd hx hb dJ8_signedHashCode_27 ?_
        refine kx_int (y := hsI g (j + 1)) rfl ?_
        refine lv_istore_n (lv' := [(0, .int (hsI g (j + 1))), (1, .ref b), (2, .int (nI 0)), (3, .int (nI n)), (4, .int (nI n)), (5, .int (nI j))]) hx hb dJ8_signedHashCode_28 rfl hl (by decide) rfl (fun ls hl => ?_)
        refine lv_iinc (v := nI (j + 1)) (lv' := [(5, .int (nI (j + 1))), (0, .int (hsI g (j + 1))), (1, .ref b), (2, .int (nI 0)), (3, .int (nI n)), (4, .int (nI n))]) hx hb dJ8_signedHashCode_29 hl (k := 5) rfl (show nI j + Int32.ofInt 1 = nI (j + 1) from nI_add _ 1) (by decide) rfl (fun ls hl => ?_)
        refine lv_goto (tgt := 8) hx hb dJ8_signedHashCode_32 (by decide) ?_
        exact ih8 (j + 1) (by omega) (by omega) _ (lv_sub hl [1, 2, 3, 4, 5, 0] rfl)
  exact L8 _ 0 (by omega) (Nat.lt_succ_self _) _ (lv_sub hl [2, 3, 4, 5, 1, 0] rfl)
theorem w_J8_signedHashCode {R : Room} {s : State} {args : Array Value} {own : String} {idx : Nat} (hts : ∀ w ∈ lw_all, w.before args s = true) (h1 : Cond.methodLink own idx yJ8_signedHashCode ∈ lw_all) {rm : Room} {mc ms : Nat} (hrc : rm.cells = mc) (hrs : rm.slots = ms) (hR : rm.frames + 1 ≤ R.frames ∧ 8 + (6 + 11) + rm.locals ≤ R.locals) : CallB R s args own idx yJ8_signedHashCode cJ8_signedHashCode 6 (some .int) (ws_ yJ8_signedHashCode cJ8_signedHashCode 6 (some .int)) rm mc ms 4 ∧ (Cond.static yJ8_signedHashCode).before args s = true := va_cwS 4 hts (lw_S h1 q1018 q74 q1019) rfl hrc hrs (by decide +kernel) hR

abbrev r_J8_vectorizedHashCode : Room := { frames := 1, cells := 0, slots := 0, locals := 25 }
set_option maxHeartbeats 1000000 in
theorem c_J8_vectorizedHashCode (lh : Launch) (D : va_G) (dA : Nat → ClassId) (b : Nat) (n : Nat) (g : Nat → Nat) (h1 : 2 ≤ n) (h2 : n < 2 ^ 30) (h3 : ∀ j, j < n → g j < 128) : Met lh yJ8_vectorizedHashCode (ws_ yJ8_vectorizedHashCode cJ8_vectorizedHashCode 5 (some .int)) r_J8_vectorizedHashCode (PX (fun U H => va_P D CL [(b, .inl (dA 1, n, .inl (bw g n)))] H ∧ GK D dA U) [.ref b, .int (nI 0), .int (nI n), .int (nI 0), .int (nI 4)]) (vp_Si (fun rv => rv = hsI g n)) 0 0 (fun _ => False) := by
  refine Met.ofW (cc := cJ8_vectorizedHashCode) (maxL := 5) (ret := (some .int)) (by decide) rfl ?_
  intro p e s m args below meth cd s₁ B hml hv
  obtain ⟨hargs, hP, hG⟩ := hv
  have hx := B.exec
  have hb := B.bytes
  have hrt := B.returns
  have hts := atoms_spec (ws := (ws_ yJ8_vectorizedHashCode cJ8_vectorizedHashCode 5 (some .int))) B.pre
  have hts : ∀ w ∈ lw_all, w.before _ s = true := fun w h => hts w (List.mem_cons_of_mem _ h)
  have hown : s.vm.findClass RJ8 = some m.cls := findClass_of_methodNamed B.named
  have hlocks := B.notSynchronized
  have hS : va_S nA s.heap s.heap [] := va_S.rf
  have hE : entryFrame m args 5 = F0 m 0 ((lg_sl ([.ref b, .int (nI 0), .int (nI n), .int (nI 0), .int (nI 4)]) ++ List.replicate (5 - (lg_sl ([.ref b, .int (nI 0), .int (nI n), .int (nI 0), .int (nI 4)])).length) Slot.unset).toArray) [] := by rw [hargs]; exact lg_entry_eq m _ 5
  have hl := lv_entry ([.ref b, .int (nI 0), .int (nI n), .int (nI 0), .int (nI 4)]) (n := 5) (Nat.le_of_ble_eq_true rfl)
  rw [hE]
  clear hE
  generalize (lg_sl ([.ref b, .int (nI 0), .int (nI n), .int (nI 0), .int (nI 4)]) ++ List.replicate (5 - (lg_sl ([.ref b, .int (nI 0), .int (nI n), .int (nI 0), .int (nI 4)])).length) Slot.unset).toArray = ls at hl ⊢
  have hl : lv_has ls 5 [(0, .ref b), (1, .int (nI 0)), (2, .int (nI n)), (3, .int (nI 0)), (4, .int (nI 4))] := hl
  generalize hQ : MQ _ _ _ _ _ _ _ = Q
  refine lv_iload hx hb dJ8_vectorizedHashCode_0 (lv_at hl 4 rfl) ?_
  refine lv_tableIn (tgt := 44) (off := 42) hx hb dJ8_vectorizedHashCode_2 (by decide) (by decide) (by decide) (by decide) ?_
  refine lv_iload_n hx hb dJ8_vectorizedHashCode_44 rfl (lv_at hl 3 rfl) ?_
  refine lv_aload_n hx hb dJ8_vectorizedHashCode_45 rfl (lv_at hl 0 rfl) ?_
  refine va_castA hx hb hown (hts _ q1016) hP 0 rfl (va_nm_byte (hG.1.2 1 _ rfl).2) dJ8_vectorizedHashCode_46 ?_
  refine lv_iload_n hx hb dJ8_vectorizedHashCode_49 rfl (lv_at hl 1 rfl) ?_
  refine lv_iload_n hx hb dJ8_vectorizedHashCode_50 rfl (lv_at hl 2 rfl) ?_
  have hPs : va_P D CL ([(b, .inl (dA 1, n, .inl (bw g n)))] ++ []) s.heap := hP.sub [0] rfl
  refine vp_callSi (va_Run.call (va_runS (As := [.int (nI 0), .ref b, .int (nI 0), .int (nI n)]) (rest := []) ⟨hx, hb, hml, hown, hts⟩ (c_J8_signedHashCode lh D dA b n g (h1) (h2) (h3)) (w_J8_signedHashCode hts q1017 rfl rfl ⟨Nat.le_of_ble_eq_true rfl, Nat.le_of_ble_eq_true rfl⟩) ⟨PX.blind (Mv.and Mv.heap Mv.gk), PX.pre (Mv.and Mv.heap Mv.gk) ⟨(va_P_left hPs), hG⟩⟩ rfl rfl hl.1 rfl (lv_room (Nat.le_of_ble_eq_true rfl)) dJ8_vectorizedHashCode_51 ⟨Nat.le_of_ble_eq_true rfl, Nat.le_of_ble_eq_true rfl⟩)) (fun rr hrr => ?_)
  subst hrr
  refine kx_int (y := hsI g n) (rfl) ?_
  refine lv_goto (tgt := 157) hx hb dJ8_vectorizedHashCode_54 (by decide) ?_
  subst hQ
  exact W.iret (v := hsI g n) hx hb hrt (fun t ht _ => ⟨_, rfl, (show hsI g n = hsI g n from rfl), ht⟩) t_nil dJ8_vectorizedHashCode_157
theorem w_J8_vectorizedHashCode {R : Room} {s : State} {args : Array Value} {own : String} {idx : Nat} (hts : ∀ w ∈ lw_all, w.before args s = true) (h1 : Cond.methodLink own idx yJ8_vectorizedHashCode ∈ lw_all) {rm : Room} {mc ms : Nat} (hrc : rm.cells = mc) (hrs : rm.slots = ms) (hR : rm.frames + 1 ≤ R.frames ∧ 8 + (5 + 11) + rm.locals ≤ R.locals) : CallB R s args own idx yJ8_vectorizedHashCode cJ8_vectorizedHashCode 5 (some .int) (ws_ yJ8_vectorizedHashCode cJ8_vectorizedHashCode 5 (some .int)) rm mc ms 5 ∧ (Cond.static yJ8_vectorizedHashCode).before args s = true := va_cwS 5 hts (lw_S h1 q1014 q74 q1015) rfl hrc hrs (by decide +kernel) hR

abbrev r_J4_hashCode : Room := { frames := 2, cells := 0, slots := 0, locals := 49 }
set_option maxHeartbeats 1000000 in
theorem c_J4_hashCode (lh : Launch) (D : va_G) (dA : Nat → ClassId) (b : Nat) (n : Nat) (g : Nat → Nat) (h1 : 2 ≤ n) (h2 : n < 2 ^ 30) (h3 : ∀ j, j < n → g j < 128) : Met lh yJ4_hashCode (ws_ yJ4_hashCode cJ4_hashCode 1 (some .int)) r_J4_hashCode (PX (fun U H => va_P D CL [(b, .inl (dA 1, n, .inl (bw g n)))] H ∧ GK D dA U) [.ref b]) (vp_Si (fun rv => rv = hsI g n)) 0 0 (fun _ => False) := by
  refine Met.ofW (cc := cJ4_hashCode) (maxL := 1) (ret := (some .int)) (by decide) rfl ?_
  intro p e s m args below meth cd s₁ B hml hv
  obtain ⟨hargs, hP, hG⟩ := hv
  have hx := B.exec
  have hb := B.bytes
  have hrt := B.returns
  have hts := atoms_spec (ws := (ws_ yJ4_hashCode cJ4_hashCode 1 (some .int))) B.pre
  have hts : ∀ w ∈ lw_all, w.before _ s = true := fun w h => hts w (List.mem_cons_of_mem _ h)
  have hown : s.vm.findClass RJ4 = some m.cls := findClass_of_methodNamed B.named
  have hlocks := B.notSynchronized
  have hS : va_S nA s.heap s.heap [] := va_S.rf
  have hE : entryFrame m args 1 = F0 m 0 ((lg_sl ([.ref b]) ++ List.replicate (1 - (lg_sl ([.ref b])).length) Slot.unset).toArray) [] := by rw [hargs]; exact lg_entry_eq m _ 1
  have hl := lv_entry ([.ref b]) (n := 1) (Nat.le_of_ble_eq_true rfl)
  rw [hE]
  clear hE
  generalize (lg_sl ([.ref b]) ++ List.replicate (1 - (lg_sl ([.ref b])).length) Slot.unset).toArray = ls at hl ⊢
  have hl : lv_has ls 1 [(0, .ref b)] := hl
  generalize hQ : MQ _ _ _ _ _ _ _ = Q
  refine lv_aload_n hx hb dJ4_hashCode_0 rfl (lv_at hl 0 rfl) ?_
  refine va_alen (v := nI n) hx hb hG.1 hP 0 1 rfl rfl rfl dJ4_hashCode_1 ?_
  refine lv_lookup (tgt := 42) (off := 40) hx hb dJ4_hashCode_2 (by decide) ((lv_osw (k := nI 0) (fun e => by have := nI_eqI (by omega) (by decide) e; omega) rfl).trans (lv_osw (k := nI 1) (fun e => by have := nI_eqI (by omega) (by decide) e; omega) rfl)) (by decide) ?_
  refine lv_aload_n hx hb dJ4_hashCode_42 rfl (lv_at hl 0 rfl) ?_
  refine lv_iconst (v := nI 0) hx hb dJ4_hashCode_43 (by decide) ?_
  refine lv_aload_n hx hb dJ4_hashCode_44 rfl (lv_at hl 0 rfl) ?_
  refine va_alen (v := nI n) hx hb hG.1 hP 0 1 rfl rfl rfl dJ4_hashCode_45 ?_
  refine lv_iconst (v := nI 0) hx hb dJ4_hashCode_46 (by decide) ?_
  refine lv_iconst (v := nI 4) hx hb dJ4_hashCode_47 (by decide) ?_
  have hPs : va_P D CL ([(b, .inl (dA 1, n, .inl (bw g n)))] ++ []) s.heap := hP.sub [0] rfl
  refine vp_callSi (va_Run.call (va_runS (As := [.ref b, .int (nI 0), .int (nI n), .int (nI 0), .int (nI 4)]) (rest := []) ⟨hx, hb, hml, hown, hts⟩ (c_J8_vectorizedHashCode lh D dA b n g (h1) (h2) (h3)) (w_J8_vectorizedHashCode hts q1013 rfl rfl ⟨Nat.le_of_ble_eq_true rfl, Nat.le_of_ble_eq_true rfl⟩) ⟨PX.blind (Mv.and Mv.heap Mv.gk), PX.pre (Mv.and Mv.heap Mv.gk) ⟨(va_P_left hPs), hG⟩⟩ rfl rfl hl.1 rfl (lv_room (Nat.le_of_ble_eq_true rfl)) dJ4_hashCode_48 ⟨Nat.le_of_ble_eq_true rfl, Nat.le_of_ble_eq_true rfl⟩)) (fun rr hrr => ?_)
  subst hrr
  refine kx_int (y := hsI g n) (rfl) ?_
  subst hQ
  exact W.iret (v := hsI g n) hx hb hrt (fun t ht _ => ⟨_, rfl, (show hsI g n = hsI g n from rfl), ht⟩) t_nil dJ4_hashCode_51
theorem w_J4_hashCode {R : Room} {s : State} {args : Array Value} {own : String} {idx : Nat} (hts : ∀ w ∈ lw_all, w.before args s = true) (h1 : Cond.methodLink own idx yJ4_hashCode ∈ lw_all) {rm : Room} {mc ms : Nat} (hrc : rm.cells = mc) (hrs : rm.slots = ms) (hR : rm.frames + 1 ≤ R.frames ∧ 8 + (1 + 11) + rm.locals ≤ R.locals) : CallB R s args own idx yJ4_hashCode cJ4_hashCode 1 (some .int) (ws_ yJ4_hashCode cJ4_hashCode 1 (some .int)) rm mc ms 1 ∧ (Cond.static yJ4_hashCode).before args s = true := va_cwS 1 hts (lw_S h1 q1011 q67 q1012) rfl hrc hrs (by decide +kernel) hR

abbrev r_J3_hashCode : Room := { frames := 3, cells := 0, slots := 0, locals := 69 }
set_option maxHeartbeats 1000000 in
theorem c_J3_hashCode (lh : Launch) (D : va_G) (dA : Nat → ClassId) (sz : Nat) (a : Nat) (b : Nat) (n : Nat) (g : Nat → Nat) (h1 : 2 ≤ n) (h2 : n < 2 ^ 30) (h3 : ∀ j, j < n → g j < 128) (h4 : ¬ hsI g n = 0) : Met lh yJ3_hashCode (ws_ yJ3_hashCode cJ3_hashCode 2 (some .int)) r_J3_hashCode (PX (fun U H => H.size = sz ∧ va_P D CL [(a, .inr (16, [.ref b, .int (nI 0), .int (nI 0), .int (nI 0)])), (b, .inl (dA 1, n, .inl (bw g n)))] H ∧ va_D nT [(a, .inr (16, [.ref b, .int (nI 0), .int (nI 0), .int (nI 0)])), (b, .inl (dA 1, n, .inl (bw g n)))] ∧ GK D dA U ∧ KC (va_A [(a, .inr (16, [.ref b, .int (nI 0), .int (nI 0), .int (nI 0)])), (b, .inl (dA 1, n, .inl (bw g n)))] sz) U H) [.ref a]) (va_Qi (fun (r : Int32) (u : Unit) => r = hsI g n) (fun (u : Unit) t => va_P D CL [(a, .inr (16, [.ref b, .int (nI 0), .int (hsI g n), .int (nI 0)])), (b, .inl (dA 1, n, .inl (bw g n)))] t.heap ∧ va_D (va_A [(a, .inr (16, [.ref b, .int (nI 0), .int (nI 0), .int (nI 0)])), (b, .inl (dA 1, n, .inl (bw g n)))] sz) [(a, .inr (16, [.ref b, .int (nI 0), .int (hsI g n), .int (nI 0)])), (b, .inl (dA 1, n, .inl (bw g n)))] ∧ GK D dA t) (va_A [(a, .inr (16, [.ref b, .int (nI 0), .int (nI 0), .int (nI 0)])), (b, .inl (dA 1, n, .inl (bw g n)))] sz)) 0 0 (va_A [(a, .inr (16, [.ref b, .int (nI 0), .int (nI 0), .int (nI 0)])), (b, .inl (dA 1, n, .inl (bw g n)))] sz) := by
  refine Met.ofW (cc := cJ3_hashCode) (maxL := 2) (ret := (some .int)) (by decide) rfl ?_
  intro p e s m args below meth cd s₁ B hml hv
  obtain ⟨hargs, hsz, hP, hD, hG, hKC⟩ := hv
  have hx := B.exec
  have hb := B.bytes
  have hrt := B.returns
  have hts := atoms_spec (ws := (ws_ yJ3_hashCode cJ3_hashCode 2 (some .int))) B.pre
  have hts : ∀ w ∈ lw_all, w.before _ s = true := fun w h => hts w (List.mem_cons_of_mem _ h)
  have hown : s.vm.findClass RJ3 = some m.cls := findClass_of_methodNamed B.named
  have hlocks := B.notSynchronized
  subst hsz
  have hD := hD.self (sz := s.heap.size)
  have hA : ∀ q : Nat, s.heap.size ≤ q → va_A [(a, .inr (16, [.ref b, .int (nI 0), .int (nI 0), .int (nI 0)])), (b, .inl (dA 1, n, .inl (bw g n)))] s.heap.size q := fun q h => Or.inr h
  generalize va_A [(a, .inr (16, [.ref b, .int (nI 0), .int (nI 0), .int (nI 0)])), (b, .inl (dA 1, n, .inl (bw g n)))] s.heap.size = A at hD hA hKC ⊢
  have hS : va_S A s.heap s.heap [] := va_S.rf
  have hE : entryFrame m args 2 = F0 m 0 ((lg_sl ([.ref a]) ++ List.replicate (2 - (lg_sl ([.ref a])).length) Slot.unset).toArray) [] := by rw [hargs]; exact lg_entry_eq m _ 2
  have hl := lv_entry ([.ref a]) (n := 2) (Nat.le_of_ble_eq_true rfl)
  rw [hE]
  clear hE
  generalize (lg_sl ([.ref a]) ++ List.replicate (2 - (lg_sl ([.ref a])).length) Slot.unset).toArray = ls at hl ⊢
  have hl : lv_has ls 2 [(0, .ref a)] := hl
  generalize hQ : MQ _ _ _ _ _ _ _ = Q
  refine lv_aload_n hx hb dJ3_hashCode_0 rfl (lv_at hl 0 rfl) ?_
  refine va_get (D := D) (ci := 16) (v := .int (nI 0)) (C := RJ3) (T := TJ3) (N := 4) hx hb hts in_J3 hown hG.1 hP 0 rfl rfl 2 (by decide) (hts _ q766) (fun _ h => h) rfl dJ3_hashCode_1 ?_
  refine lv_istore_n (lv' := [(1, .int (nI 0)), (0, .ref a)]) hx hb dJ3_hashCode_4 rfl hl (by decide) rfl (fun ls hl => ?_)
  refine lv_iload_n hx hb dJ3_hashCode_5 rfl (lv_at hl 0 rfl) ?_
  refine kn_zne (tgt := 58) hx hb dJ3_hashCode_6 (by decide) (by decide) (fun c => absurd c (by decide)) (fun _ => ?_)
  refine lv_aload_n hx hb dJ3_hashCode_9 rfl (lv_at hl 1 rfl) ?_
  refine va_get (D := D) (ci := 16) (v := .int (nI 0)) (C := RJ3) (T := TJ3) (N := 4) hx hb hts in_J3 hown hG.1 hP 0 rfl rfl 3 (by decide) (hts _ q767) (fun _ h => h) rfl dJ3_hashCode_10 ?_
  refine kn_zne (tgt := 58) hx hb dJ3_hashCode_13 (by decide) (by decide) (fun c => absurd c (by decide)) (fun _ => ?_)
  refine lv_aload_n hx hb dJ3_hashCode_16 rfl (lv_at hl 1 rfl) ?_
  refine vp_callSi (W.runV (As := []) (rest := []) ⟨hx, hb, hml, hown, hts⟩ (c_J3_isLatin1 lh a b n g) (w_J3_isLatin1 hts q151 rfl rfl ⟨Nat.le_of_ble_eq_true rfl, Nat.le_of_ble_eq_true rfl⟩) ⟨PX.blind (Mv.and KC.mv SA.mv), (SA.recv (SA.of (i := 0) (j := 1) (n := n) (f := g) hts hG hP rfl rfl (by omega) (fun j hj => ⟨bw_in hj, h3 j hj⟩))), PX.pre (Mv.and KC.mv SA.mv) ⟨(KC.at hKC hS (fun _ q => q.elim)), (SA.of (i := 0) (j := 1) (n := n) (f := g) hts hG hP rfl rfl (by omega) (fun j hj => ⟨bw_in hj, h3 j hj⟩))⟩⟩ rfl rfl hl.1 rfl (lv_room (Nat.le_of_ble_eq_true rfl)) dJ3_hashCode_17 ⟨Nat.le_of_ble_eq_true rfl, Nat.le_of_ble_eq_true rfl⟩) (fun rr hrr => ?_)
  subst hrr
  refine kn_zeq (tgt := 33) hx hb dJ3_hashCode_20 (by decide) (by decide) (fun c => absurd c (by decide)) (fun _ => ?_)
  refine lv_aload_n hx hb dJ3_hashCode_23 rfl (lv_at hl 1 rfl) ?_
  refine va_get (D := D) (ci := 16) (v := .ref b) (C := RJ3) (T := TJ3) (N := 4) hx hb hts in_J3 hown hG.1 hP 0 rfl rfl 0 (by decide) (hts _ q764) (fun _ h => h) rfl dJ3_hashCode_24 ?_
  have hPs : va_P D CL ([(b, .inl (dA 1, n, .inl (bw g n)))] ++ [(a, .inr (16, [.ref b, .int (nI 0), .int (nI 0), .int (nI 0)]))]) s.heap := hP.sub [1, 0] rfl
  refine vp_callSi (va_Run.call (va_runS (As := [.ref b]) (rest := []) ⟨hx, hb, hml, hown, hts⟩ (c_J4_hashCode lh D dA b n g (h1) (h2) (h3)) (w_J4_hashCode hts q1010 rfl rfl ⟨Nat.le_of_ble_eq_true rfl, Nat.le_of_ble_eq_true rfl⟩) ⟨PX.blind (Mv.and Mv.heap Mv.gk), PX.pre (Mv.and Mv.heap Mv.gk) ⟨(va_P_left hPs), hG⟩⟩ rfl rfl hl.1 rfl (lv_room (Nat.le_of_ble_eq_true rfl)) dJ3_hashCode_27 ⟨Nat.le_of_ble_eq_true rfl, Nat.le_of_ble_eq_true rfl⟩)) (fun rr hrr => ?_)
  subst hrr
  refine kx_int (y := hsI g n) (rfl) ?_
  refine lv_goto (tgt := 40) hx hb dJ3_hashCode_30 (by decide) ?_
  refine lv_istore_n (lv' := [(1, .int (hsI g n)), (0, .ref a)]) hx hb dJ3_hashCode_40 rfl hl (by decide) rfl (fun ls hl => ?_)
  refine lv_iload_n hx hb dJ3_hashCode_41 rfl (lv_at hl 0 rfl) ?_
  refine lv_if_ne (tgt := 53) hx hb dJ3_hashCode_42 (by decide) (fun c_42 => ?_) (fun c_42 => ?_)
  · refine lv_aload_n hx hb dJ3_hashCode_53 rfl (lv_at hl 1 rfl) ?_
    refine lv_iload_n hx hb dJ3_hashCode_54 rfl (lv_at hl 0 rfl) ?_
    refine va_put (D := D) (ci := 16) (v := .int (hsI g n)) (C := RJ3) (T := TJ3) (N := 4) hx hb hts in_J3 tyJ3 tyJ3_ok nmJ3 hown hG.1 hP hD hS 0 rfl rfl 2 (by decide) (hts _ q766) (fun _ h => h) rfl rfl (rfl) (rfl) (Nat.le_of_ble_eq_true rfl) dJ3_hashCode_55 (fun H locs hP hD hS => ?_)
    have hP : va_P D CL [(a, .inr (16, [.ref b, .int (nI 0), .int (hsI g n), .int (nI 0)])), (b, .inl (dA 1, n, .inl (bw g n)))] H := hP
    have hD : va_D A [(a, .inr (16, [.ref b, .int (nI 0), .int (hsI g n), .int (nI 0)])), (b, .inl (dA 1, n, .inl (bw g n)))] := hD
    refine lv_iload_n hx hb dJ3_hashCode_58 rfl (lv_at hl 0 rfl) ?_
    subst hQ
    have hP9 : va_P D CL [(a, .inr (16, [.ref b, .int (nI 0), .int (hsI g n), .int (nI 0)])), (b, .inl (dA 1, n, .inl (bw g n)))] H := hP.sub [0, 1] rfl
    have hD9 : va_D A [(a, .inr (16, [.ref b, .int (nI 0), .int (hsI g n), .int (nI 0)])), (b, .inl (dA 1, n, .inl (bw g n)))] := hD.sub [0, 1] (by decide) rfl
    exact W.iret (v := hsI g n) hx hb hrt (fun t ht hW => ⟨⟨_, (), rfl, (by first | rfl | exact ⟨rfl, rfl⟩), by rw [ht]; exact hP9, hD9, GK.warm hW hG⟩, hS.F ht⟩) hS.2.2 dJ3_hashCode_59
  · exact absurd c_42 h4
theorem w_J3_hashCode {R : Room} {s : State} {args : Array Value} {own : String} {idx : Nat} (hts : ∀ w ∈ lw_all, w.before args s = true) (h1 : Cond.methodLink own idx yJ3_hashCode ∈ lw_all) {rm : Room} {mc ms : Nat} (hrc : rm.cells = mc) (hrs : rm.slots = ms) (hR : rm.frames + 1 ≤ R.frames ∧ 8 + (2 + 11) + rm.locals ≤ R.locals) : CallW R s args own RJ3 idx yJ3_hashCode cJ3_hashCode 2 (some .int) (ws_ yJ3_hashCode cJ3_hashCode 2 (some .int)) rm mc ms 0 := cwV 0 hts (lw_V h1 q1007 q1008 q66 q1009) rfl hrc hrs (by decide +kernel) hR

abbrev r_X7_is : Room := { frames := 0, cells := 0, slots := 0, locals := 0 }
set_option maxHeartbeats 1000000 in
theorem c_X7_is (lh : Launch) (D : va_G) (dA : Nat → ClassId) (r : Nat) (tx : Nat) (tz : Nat) (tf : Nat → Int32) (a : Nat) (p0 : Nat) (s0 : Nat) (v : Nat) (w : Nat) (x : Nat) (h1 : s0 < 2 ^ 31) (h2 : v < 2 ^ 31) (h3 : x < 2 ^ 31) : Met lh yX7_is (ws_ yX7_is cX7_is 2 (some .boolean)) r_X7_is (PX (fun U H => va_P D CL [(r, .inr (6, [.ref tx, .int (nI tz), .int (nI a), .int (nI p0), .int (nI s0), .int (nI v), .ref w])), (tx, .inl (dA 1, 300, .inl tf))] H ∧ GK D dA U) [.ref r, .int (nI x)]) (vp_Si (fun rv => rv = bI (decide (s0 = 3) && decide (v = x)))) 0 0 (fun _ => False) := by
  refine Met.ofW (cc := cX7_is) (maxL := 2) (ret := (some .boolean)) (by decide) rfl ?_
  intro p e s m args below meth cd s₁ B hml hv
  obtain ⟨hargs, hP, hG⟩ := hv
  have hx := B.exec
  have hb := B.bytes
  have hrt := B.returns
  have hts := atoms_spec (ws := (ws_ yX7_is cX7_is 2 (some .boolean))) B.pre
  have hts : ∀ w ∈ lw_all, w.before _ s = true := fun w h => hts w (List.mem_cons_of_mem _ h)
  have hown : s.vm.findClass RX7 = some m.cls := findClass_of_methodNamed B.named
  have hlocks := B.notSynchronized
  have hS : va_S nA s.heap s.heap [] := va_S.rf
  have hE : entryFrame m args 2 = F0 m 0 ((lg_sl ([.ref r, .int (nI x)]) ++ List.replicate (2 - (lg_sl ([.ref r, .int (nI x)])).length) Slot.unset).toArray) [] := by rw [hargs]; exact lg_entry_eq m _ 2
  have hl := lv_entry ([.ref r, .int (nI x)]) (n := 2) (Nat.le_of_ble_eq_true rfl)
  rw [hE]
  clear hE
  generalize (lg_sl ([.ref r, .int (nI x)]) ++ List.replicate (2 - (lg_sl ([.ref r, .int (nI x)])).length) Slot.unset).toArray = ls at hl ⊢
  have hl : lv_has ls 2 [(0, .ref r), (1, .int (nI x))] := hl
  generalize hQ : MQ _ _ _ _ _ _ _ = Q
  refine lv_aload_n hx hb dX7_is_0 rfl (lv_at hl 0 rfl) ?_
  refine va_get (D := D) (ci := 6) (v := .int (nI s0)) (C := RX7) (T := TX7) (N := 7) hx hb hts in_X7 hown hG.1 hP 0 rfl rfl 4 (by decide) (hts _ q782) (fun _ h => h) rfl dX7_is_1 ?_
  refine lv_iconst (v := nI 3) hx hb dX7_is_4 (by decide) ?_
  refine kn_cne (tgt := 20) hx hb dX7_is_5 (by decide) (by omega) (by omega) (fun c_5 => ?_) (fun c_5 => ?_)
  · refine lv_iconst (v := nI 0) hx hb dX7_is_20 (by decide) ?_
    subst hQ
    exact W.zret (v := nI 0) hx hb hrt rfl (fun t ht _ => ⟨_, rfl, (show nI 0 = bI (decide (s0 = 3) && decide (v = x)) from by rw [decide_eq_false c_5]; rfl), ht⟩) t_nil dX7_is_21
  · refine lv_aload_n hx hb dX7_is_8 rfl (lv_at hl 0 rfl) ?_
    refine va_get (D := D) (ci := 6) (v := .int (nI v)) (C := RX7) (T := TX7) (N := 7) hx hb hts in_X7 hown hG.1 hP 0 rfl rfl 5 (by decide) (hts _ q783) (fun _ h => h) rfl dX7_is_9 ?_
    refine lv_iload_n hx hb dX7_is_12 rfl (lv_at hl 1 rfl) ?_
    refine kn_cne (tgt := 20) hx hb dX7_is_13 (by decide) (by omega) (by omega) (fun c_13 => ?_) (fun c_13 => ?_)
    · refine lv_iconst (v := nI 0) hx hb dX7_is_20 (by decide) ?_
      subst hQ
      exact W.zret (v := nI 0) hx hb hrt rfl (fun t ht _ => ⟨_, rfl, (show nI 0 = bI (decide (s0 = 3) && decide (v = x)) from by rw [decide_eq_true c_5, decide_eq_false c_13]; rfl), ht⟩) t_nil dX7_is_21
    · refine lv_iconst (v := nI 1) hx hb dX7_is_16 (by decide) ?_
      refine lv_goto (tgt := 21) hx hb dX7_is_17 (by decide) ?_
      subst hQ
      exact W.zret (v := nI 1) hx hb hrt rfl (fun t ht _ => ⟨_, rfl, (show nI 1 = bI (decide (s0 = 3) && decide (v = x)) from by rw [decide_eq_true c_5, decide_eq_true c_13]; rfl), ht⟩) t_nil dX7_is_21
theorem w_X7_is {R : Room} {s : State} {args : Array Value} {own : String} {idx : Nat} (hts : ∀ w ∈ lw_all, w.before args s = true) (h1 : Cond.methodLink own idx yX7_is ∈ lw_all) {rm : Room} {mc ms : Nat} (hrc : rm.cells = mc) (hrs : rm.slots = ms) (hR : rm.frames + 1 ≤ R.frames ∧ 8 + (2 + 11) + rm.locals ≤ R.locals) : CallW R s args own RX7 idx yX7_is cX7_is 2 (some .boolean) (ws_ yX7_is cX7_is 2 (some .boolean)) rm mc ms 1 := cwV 1 hts (lw_V h1 q975 qs24 q84 q976) rfl hrc hrs (by decide +kernel) hR

abbrev r_X7_form : Room := { frames := 4, cells := 1, slots := 8, locals := 90 }
set_option maxHeartbeats 1000000 in
theorem c_X7_form (lh : Launch) (D : va_G) (dA : Nat → ClassId) (sz : Nat) (r : Nat) (tx : Nat) (tz : Nat) (tf : Nat → Int32) (a : Nat) (p0 : Nat) (s0 : Nat) (v : Nat) (w : Nat) : Met lh yX7_form (ws_ yX7_form cX7_form 1 (some (.object "PickleHouse$Wrong"))) r_X7_form (PX (fun U H => H.size = sz ∧ va_P D CL [(r, .inr (6, [.ref tx, .int (nI tz), .int (nI a), .int (nI p0), .int (nI s0), .int (nI v), .ref w])), (tx, .inl (dA 1, 300, .inl tf))] H ∧ va_D nT [(r, .inr (6, [.ref tx, .int (nI tz), .int (nI a), .int (nI p0), .int (nI s0), .int (nI v), .ref w])), (tx, .inl (dA 1, 300, .inl tf))] ∧ GK D dA U ∧ KT (va_A [(r, .inr (6, [.ref tx, .int (nI tz), .int (nI a), .int (nI p0), .int (nI s0), .int (nI v), .ref w])), (tx, .inl (dA 1, 300, .inl tf))] sz) U H) [.ref r]) (va_Qq (fun (r : Option Nat) (u : Nat) => r = some (u)) (fun (u : Nat) t => va_P D CL [(r, .inr (6, [.ref tx, .int (nI tz), .int (nI a), .int (nI p0), .int (nI s0), .int (nI v), .ref w])), (tx, .inl (dA 1, 300, .inl tf)), (u, .inr (7, [.null, .null, .null, .null, .null, .int (nI 0), .int (nI 1), .int (nI p0)]))] t.heap ∧ va_D (va_A [(r, .inr (6, [.ref tx, .int (nI tz), .int (nI a), .int (nI p0), .int (nI s0), .int (nI v), .ref w])), (tx, .inl (dA 1, 300, .inl tf))] sz) [(r, .inr (6, [.ref tx, .int (nI tz), .int (nI a), .int (nI p0), .int (nI s0), .int (nI v), .ref w])), (tx, .inl (dA 1, 300, .inl tf)), (u, .inr (7, [.null, .null, .null, .null, .null, .int (nI 0), .int (nI 1), .int (nI p0)]))] ∧ GK D dA t) (va_A [(r, .inr (6, [.ref tx, .int (nI tz), .int (nI a), .int (nI p0), .int (nI s0), .int (nI v), .ref w])), (tx, .inl (dA 1, 300, .inl tf))] sz)) 1 8 (va_A [(r, .inr (6, [.ref tx, .int (nI tz), .int (nI a), .int (nI p0), .int (nI s0), .int (nI v), .ref w])), (tx, .inl (dA 1, 300, .inl tf))] sz) := by
  refine Met.ofW (cc := cX7_form) (maxL := 1) (ret := (some (.object "PickleHouse$Wrong"))) (by decide) rfl ?_
  intro p e s m args below meth cd s₁ B hml hv
  obtain ⟨hargs, hsz, hP, hD, hG, hKT⟩ := hv
  have hx := B.exec
  have hb := B.bytes
  have hrt := B.returns
  have hts := atoms_spec (ws := (ws_ yX7_form cX7_form 1 (some (.object "PickleHouse$Wrong")))) B.pre
  have hts : ∀ w ∈ lw_all, w.before _ s = true := fun w h => hts w (List.mem_cons_of_mem _ h)
  have hown : s.vm.findClass RX7 = some m.cls := findClass_of_methodNamed B.named
  have hlocks := B.notSynchronized
  subst hsz
  have hD := hD.self (sz := s.heap.size)
  have hA : ∀ q : Nat, s.heap.size ≤ q → va_A [(r, .inr (6, [.ref tx, .int (nI tz), .int (nI a), .int (nI p0), .int (nI s0), .int (nI v), .ref w])), (tx, .inl (dA 1, 300, .inl tf))] s.heap.size q := fun q h => Or.inr h
  generalize va_A [(r, .inr (6, [.ref tx, .int (nI tz), .int (nI a), .int (nI p0), .int (nI s0), .int (nI v), .ref w])), (tx, .inl (dA 1, 300, .inl tf))] s.heap.size = A at hD hA hKT ⊢
  have hS : va_S A s.heap s.heap [] := va_S.rf
  have hE : entryFrame m args 1 = F0 m 0 ((lg_sl ([.ref r]) ++ List.replicate (1 - (lg_sl ([.ref r])).length) Slot.unset).toArray) [] := by rw [hargs]; exact lg_entry_eq m _ 1
  have hl := lv_entry ([.ref r]) (n := 1) (Nat.le_of_ble_eq_true rfl)
  rw [hE]
  clear hE
  generalize (lg_sl ([.ref r]) ++ List.replicate (1 - (lg_sl ([.ref r])).length) Slot.unset).toArray = ls at hl ⊢
  have hl : lv_has ls 1 [(0, .ref r)] := hl
  generalize hQ : MQ _ _ _ _ _ _ _ = Q
  refine va_new (D := D) (ci := 7) (C := RX8) (T := TX8) (N := 8) hx hb hts in_X8 tyX8 tyX8_ok hown (hts _ q894) (hts _ q895) (hts _ q87) hG.1 hP hD hS hA rfl (fs := [.null, .null, .null, .null, .null, .int (nI 0), .int (nI 0), .int (nI 0)]) (by decide) (Nat.le_of_ble_eq_true rfl) (Nat.le_of_ble_eq_true rfl) dX7_form_0 (fun q0 H hP hD hS => ?_)
  have hP : va_P D CL [(r, .inr (6, [.ref tx, .int (nI tz), .int (nI a), .int (nI p0), .int (nI s0), .int (nI v), .ref w])), (tx, .inl (dA 1, 300, .inl tf)), (q0, .inr (7, [.null, .null, .null, .null, .null, .int (nI 0), .int (nI 0), .int (nI 0)]))] H := hP
  have hD : va_D A [(r, .inr (6, [.ref tx, .int (nI tz), .int (nI a), .int (nI p0), .int (nI s0), .int (nI v), .ref w])), (tx, .inl (dA 1, 300, .inl tf)), (q0, .inr (7, [.null, .null, .null, .null, .null, .int (nI 0), .int (nI 0), .int (nI 0)]))] := hD
  refine lv_dup hx hb dX7_form_3 rfl ?_
  refine lv_iconst (v := nI 1) hx hb dX7_form_4 (by decide) ?_
  refine lv_aload_n hx hb dX7_form_5 rfl (lv_at hl 0 rfl) ?_
  refine va_get (D := D) (ci := 6) (v := .int (nI p0)) (C := RX7) (T := TX7) (N := 7) hx hb hts in_X7 hown hG.1 hP 0 rfl rfl 3 (by decide) (hts _ q781) (fun _ h => h) rfl dX7_form_6 ?_
  have hPs : va_P D CL ([(q0, .inr (7, [.null, .null, .null, .null, .null, .int (nI 0), .int (nI 0), .int (nI 0)]))] ++ [(r, .inr (6, [.ref tx, .int (nI tz), .int (nI a), .int (nI p0), .int (nI s0), .int (nI v), .ref w])), (tx, .inl (dA 1, 300, .inl tf))]) H := hP.sub [2, 0, 1] rfl
  have hDs : va_D A ([(q0, .inr (7, [.null, .null, .null, .null, .null, .int (nI 0), .int (nI 0), .int (nI 0)]))] ++ [(r, .inr (6, [.ref tx, .int (nI tz), .int (nI a), .int (nI p0), .int (nI s0), .int (nI v), .ref w])), (tx, .inl (dA 1, 300, .inl tf))]) := hD.sub [2, 0, 1] (by decide) rfl
  have hz9 := hS.1
  refine va_callv (va_runI (As := [.int (nI 1), .int (nI p0)]) (rest := [.ref q0]) ⟨hx, hb, hml, hown, hts⟩ (c_X8_init lh D dA H.size q0 1 p0) (cwI 2 hts (lw_meth q934) rfl rfl rfl (hts _ q87) (hts _ q932) (hts _ q933) rfl (by decide +kernel) ⟨Nat.le_of_ble_eq_true rfl, Nat.le_of_ble_eq_true rfl⟩) ⟨PX.blind (Mv.and Mv.heap (Mv.and Mv.heap (Mv.and Mv.heap (Mv.and Mv.gk KT.mv)))), PX.pre (Mv.and Mv.heap (Mv.and Mv.heap (Mv.and Mv.heap (Mv.and Mv.gk KT.mv)))) ⟨rfl, (va_P_left hPs), (va_D_left hDs), hG, (KT.at hKT hS (va_A_up hDs hA hS.1))⟩⟩ rfl rfl hl.1 rfl (lv_room (Nat.le_of_ble_eq_true rfl)) dX7_form_9 ⟨Nat.le_of_ble_eq_true rfl, by decide⟩) hS (fun q _ => (va_A_up hDs hA hS.1) q) ((va_A_up hDs hA hS.1)) (fun u t H1 locs ht hvm hp hB hz hk hS => ?_)
  obtain ⟨hP1, hD1, -⟩ := hB
  rw [ht] at hP1
  obtain ⟨hP, hD⟩ := vp_join hPs hDs hP1 hD1 hk hA hz9
  clear ht hvm hz hk hP1 hD1 hPs hDs hz9
  generalize H1 = H at hP hS ⊢
  have hP : va_P D CL [(q0, .inr (7, [.null, .null, .null, .null, .null, .int (nI 0), .int (nI 1), .int (nI p0)])), (r, .inr (6, [.ref tx, .int (nI tz), .int (nI a), .int (nI p0), .int (nI s0), .int (nI v), .ref w])), (tx, .inl (dA 1, 300, .inl tf))] H := hP
  have hD : va_D A [(q0, .inr (7, [.null, .null, .null, .null, .null, .int (nI 0), .int (nI 1), .int (nI p0)])), (r, .inr (6, [.ref tx, .int (nI tz), .int (nI a), .int (nI p0), .int (nI s0), .int (nI v), .ref w])), (tx, .inl (dA 1, 300, .inl tf))] := hD
  subst hQ
  have hP9 : va_P D CL [(r, .inr (6, [.ref tx, .int (nI tz), .int (nI a), .int (nI p0), .int (nI s0), .int (nI v), .ref w])), (tx, .inl (dA 1, 300, .inl tf)), (q0, .inr (7, [.null, .null, .null, .null, .null, .int (nI 0), .int (nI 1), .int (nI p0)]))] H := hP.sub [1, 2, 0] rfl
  have hD9 : va_D A [(r, .inr (6, [.ref tx, .int (nI tz), .int (nI a), .int (nI p0), .int (nI s0), .int (nI v), .ref w])), (tx, .inl (dA 1, 300, .inl tf)), (q0, .inr (7, [.null, .null, .null, .null, .null, .int (nI 0), .int (nI 1), .int (nI p0)]))] := hD.sub [1, 2, 0] (by decide) rfl
  exact W.aret (v := va_rf (some (q0))) hx hb hrt (Or.inl ⟨_, rfl⟩) (va_rf_or _) (fun t ht hW => ⟨⟨(some (q0)), (q0), rfl, rfl, by rw [ht]; exact hP9, hD9, GK.warm hW hG⟩, hS.F ht⟩) hS.2.2 dX7_form_12
theorem w_X7_form {R : Room} {s : State} {args : Array Value} {own : String} {idx : Nat} (hts : ∀ w ∈ lw_all, w.before args s = true) (h1 : Cond.methodLink own idx yX7_form ∈ lw_all) {rm : Room} {mc ms : Nat} (hrc : rm.cells = mc) (hrs : rm.slots = ms) (hR : rm.frames + 1 ≤ R.frames ∧ 8 + (1 + 11) + rm.locals ≤ R.locals) : CallW R s args own RX7 idx yX7_form cX7_form 1 (some (.object "PickleHouse$Wrong")) (ws_ yX7_form cX7_form 1 (some (.object "PickleHouse$Wrong"))) rm mc ms 0 := cwV 0 hts (lw_V h1 q892 qs20 q84 q893) rfl hrc hrs (by decide +kernel) hR

abbrev r_X7_isWord_W : Room := { frames := 2, cells := 0, slots := 0, locals := 44 }
set_option maxHeartbeats 1000000 in
theorem c_X7_isWord_W (lh : Launch) (D : va_G) (dA : Nat → ClassId) (r : Nat) (tx : Nat) (tz : Nat) (tf : Nat → Int32) (a : Nat) (p0 : Nat) (v : Nat) (w : Nat) (wb : Nat) (n : Nat) (g : Nat → Nat) (sa : Nat) (sb : Nat) (k : Nat) (h : Nat → Nat) (h1 : w ≠ sa) (h2 : n < 2 ^ 31) (h3 : ∀ j, j < n → g j < 128) : Met lh yX7_isWord (ws_ yX7_isWord cX7_isWord 2 (some .boolean)) r_X7_isWord_W (PX (fun U H => va_P D CL [(r, .inr (6, [.ref tx, .int (nI tz), .int (nI a), .int (nI p0), .int (nI 1), .int (nI v), .ref w])), (tx, .inl (dA 1, 300, .inl tf)), (w, .inr (16, [.ref wb, .int (nI 0), .int (nI 0), .int (nI 0)])), (wb, .inl (dA 1, n, .inl (bw g n)))] H ∧ GK D dA U ∧ KC nA U H ∧ SA nA sa sb k h U H) [.ref r, .ref sa]) (vp_Si (fun rv => rv = bI (decide (n = k) && eqT g 0 h 0 n))) 0 0 (fun _ => False) := by
  refine Met.ofW (cc := cX7_isWord) (maxL := 2) (ret := (some .boolean)) (by decide) rfl ?_
  intro p e s m args below meth cd s₁ B hml hv
  obtain ⟨hargs, hP, hG, hKC, hSA⟩ := hv
  have hx := B.exec
  have hb := B.bytes
  have hrt := B.returns
  have hts := atoms_spec (ws := (ws_ yX7_isWord cX7_isWord 2 (some .boolean))) B.pre
  have hts : ∀ w ∈ lw_all, w.before _ s = true := fun w h => hts w (List.mem_cons_of_mem _ h)
  have hown : s.vm.findClass RX7 = some m.cls := findClass_of_methodNamed B.named
  have hlocks := B.notSynchronized
  have hS : va_S nA s.heap s.heap [] := va_S.rf
  have hE : entryFrame m args 2 = F0 m 0 ((lg_sl ([.ref r, .ref sa]) ++ List.replicate (2 - (lg_sl ([.ref r, .ref sa])).length) Slot.unset).toArray) [] := by rw [hargs]; exact lg_entry_eq m _ 2
  have hl := lv_entry ([.ref r, .ref sa]) (n := 2) (Nat.le_of_ble_eq_true rfl)
  rw [hE]
  clear hE
  generalize (lg_sl ([.ref r, .ref sa]) ++ List.replicate (2 - (lg_sl ([.ref r, .ref sa])).length) Slot.unset).toArray = ls at hl ⊢
  have hl : lv_has ls 2 [(0, .ref r), (1, .ref sa)] := hl
  generalize hQ : MQ _ _ _ _ _ _ _ = Q
  refine lv_aload_n hx hb dX7_isWord_0 rfl (lv_at hl 0 rfl) ?_
  refine va_get (D := D) (ci := 6) (v := .int (nI 1)) (C := RX7) (T := TX7) (N := 7) hx hb hts in_X7 hown hG.1 hP 0 rfl rfl 4 (by decide) (hts _ q782) (fun _ h => h) rfl dX7_isWord_1 ?_
  refine lv_iconst (v := nI 1) hx hb dX7_isWord_4 (by decide) ?_
  refine kn_cne (tgt := 23) hx hb dX7_isWord_5 (by decide) (by decide) (by decide) (fun c => absurd c (by decide)) (fun _ => ?_)
  refine lv_aload_n hx hb dX7_isWord_8 rfl (lv_at hl 0 rfl) ?_
  refine va_get (D := D) (ci := 6) (v := .ref w) (C := RX7) (T := TX7) (N := 7) hx hb hts in_X7 hown hG.1 hP 0 rfl rfl 6 (by decide) (hts _ q784) (fun _ h => h) rfl dX7_isWord_9 ?_
  refine lv_aload_n hx hb dX7_isWord_12 rfl (lv_at hl 1 rfl) ?_
  refine vp_callSi (W.runV (As := [.ref sa]) (rest := []) ⟨hx, hb, hml, hown, hts⟩ (c_J3_equals lh w wb n g sa sb k h (h1)) (w_J3_equals hts q815 rfl rfl ⟨Nat.le_of_ble_eq_true rfl, Nat.le_of_ble_eq_true rfl⟩) ⟨PX.blind (Mv.and KC.mv (Mv.and SA.mv SA.mv)), (SA.recv (SA.of (i := 2) (j := 3) (n := n) (f := g) hts hG hP rfl rfl (h2) (fun j hj => ⟨bw_in hj, h3 j hj⟩))), PX.pre (Mv.and KC.mv (Mv.and SA.mv SA.mv)) ⟨(KC.at hKC hS (fun _ q => q.elim)), (SA.of (i := 2) (j := 3) (n := n) (f := g) hts hG hP rfl rfl (h2) (fun j hj => ⟨bw_in hj, h3 j hj⟩)), (SA.at hSA hS)⟩⟩ rfl rfl hl.1 rfl (lv_room (Nat.le_of_ble_eq_true rfl)) dX7_isWord_13 ⟨Nat.le_of_ble_eq_true rfl, Nat.le_of_ble_eq_true rfl⟩) (fun rr hrr => ?_)
  subst hrr
  refine kb_eq (tgt := 23) hx hb dX7_isWord_16 (by decide) (fun c_16 => ?_) (fun c_16 => ?_)
  · refine lv_iconst (v := nI 0) hx hb dX7_isWord_23 (by decide) ?_
    subst hQ
    exact W.zret (v := nI 0) hx hb hrt rfl (fun t ht _ => ⟨_, rfl, (show nI 0 = bI (decide (n = k) && eqT g 0 h 0 n) from by rw [c_16]; rfl), ht⟩) t_nil dX7_isWord_24
  · refine lv_iconst (v := nI 1) hx hb dX7_isWord_19 (by decide) ?_
    refine lv_goto (tgt := 24) hx hb dX7_isWord_20 (by decide) ?_
    subst hQ
    exact W.zret (v := nI 1) hx hb hrt rfl (fun t ht _ => ⟨_, rfl, (show nI 1 = bI (decide (n = k) && eqT g 0 h 0 n) from by rw [c_16]; rfl), ht⟩) t_nil dX7_isWord_24

abbrev r_X7_isWord_O : Room := { frames := 0, cells := 0, slots := 0, locals := 0 }
set_option maxHeartbeats 1000000 in
theorem c_X7_isWord_O (lh : Launch) (D : va_G) (dA : Nat → ClassId) (r : Nat) (tx : Nat) (tz : Nat) (tf : Nat → Int32) (a : Nat) (p0 : Nat) (s0 : Nat) (v : Nat) (w : Nat) (sa : Nat) (sb : Nat) (k : Nat) (h : Nat → Nat) (h1 : s0 ≠ 1) (h2 : s0 < 2 ^ 31) : Met lh yX7_isWord (ws_ yX7_isWord cX7_isWord 2 (some .boolean)) r_X7_isWord_O (PX (fun U H => va_P D CL [(r, .inr (6, [.ref tx, .int (nI tz), .int (nI a), .int (nI p0), .int (nI s0), .int (nI v), .ref w])), (tx, .inl (dA 1, 300, .inl tf))] H ∧ GK D dA U ∧ KC nA U H ∧ SA nA sa sb k h U H) [.ref r, .ref sa]) (vp_Si (fun rv => rv = nI 0)) 0 0 (fun _ => False) := by
  refine Met.ofW (cc := cX7_isWord) (maxL := 2) (ret := (some .boolean)) (by decide) rfl ?_
  intro p e s m args below meth cd s₁ B hml hv
  obtain ⟨hargs, hP, hG, hKC, hSA⟩ := hv
  have hx := B.exec
  have hb := B.bytes
  have hrt := B.returns
  have hts := atoms_spec (ws := (ws_ yX7_isWord cX7_isWord 2 (some .boolean))) B.pre
  have hts : ∀ w ∈ lw_all, w.before _ s = true := fun w h => hts w (List.mem_cons_of_mem _ h)
  have hown : s.vm.findClass RX7 = some m.cls := findClass_of_methodNamed B.named
  have hlocks := B.notSynchronized
  have hS : va_S nA s.heap s.heap [] := va_S.rf
  have hE : entryFrame m args 2 = F0 m 0 ((lg_sl ([.ref r, .ref sa]) ++ List.replicate (2 - (lg_sl ([.ref r, .ref sa])).length) Slot.unset).toArray) [] := by rw [hargs]; exact lg_entry_eq m _ 2
  have hl := lv_entry ([.ref r, .ref sa]) (n := 2) (Nat.le_of_ble_eq_true rfl)
  rw [hE]
  clear hE
  generalize (lg_sl ([.ref r, .ref sa]) ++ List.replicate (2 - (lg_sl ([.ref r, .ref sa])).length) Slot.unset).toArray = ls at hl ⊢
  have hl : lv_has ls 2 [(0, .ref r), (1, .ref sa)] := hl
  generalize hQ : MQ _ _ _ _ _ _ _ = Q
  refine lv_aload_n hx hb dX7_isWord_0 rfl (lv_at hl 0 rfl) ?_
  refine va_get (D := D) (ci := 6) (v := .int (nI s0)) (C := RX7) (T := TX7) (N := 7) hx hb hts in_X7 hown hG.1 hP 0 rfl rfl 4 (by decide) (hts _ q782) (fun _ h => h) rfl dX7_isWord_1 ?_
  refine lv_iconst (v := nI 1) hx hb dX7_isWord_4 (by decide) ?_
  refine kn_cne (tgt := 23) hx hb dX7_isWord_5 (by decide) (by omega) (by decide) (fun c_5 => ?_) (fun c_5 => ?_)
  · refine lv_iconst (v := nI 0) hx hb dX7_isWord_23 (by decide) ?_
    subst hQ
    exact W.zret (v := nI 0) hx hb hrt rfl (fun t ht _ => ⟨_, rfl, (show nI 0 = nI 0 from rfl), ht⟩) t_nil dX7_isWord_24
  · exact absurd c_5 h1

theorem w_X7_isWord {R : Room} {s : State} {args : Array Value} {own : String} {idx : Nat} (hts : ∀ w ∈ lw_all, w.before args s = true) (h1 : Cond.methodLink own idx yX7_isWord ∈ lw_all) {rm : Room} {mc ms : Nat} (hrc : rm.cells = mc) (hrs : rm.slots = ms) (hR : rm.frames + 1 ≤ R.frames ∧ 8 + (2 + 11) + rm.locals ≤ R.locals) : CallW R s args own RX7 idx yX7_isWord cX7_isWord 2 (some .boolean) (ws_ yX7_isWord cX7_isWord 2 (some .boolean)) rm mc ms 1 := cwV 1 hts (lw_V h1 q813 qs18 q84 q814) rfl hrc hrs (by decide +kernel) hR
