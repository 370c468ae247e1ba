set_option maxRecDepth 100000
abbrev r_J10_checkLength : Room := { frames := 0, cells := 0, slots := 0, locals := 0 }
set_option maxHeartbeats 1000000 in
theorem c_J10_checkLength (lh : Launch) (D : va_G) (dA : Nat → ClassId) (x : Nat) (y : Nat) (h1 : x ≤ y) (h2 : y < 2 ^ 31) : Met lh yJ10_checkLength (ws_ yJ10_checkLength cJ10_checkLength 2 none) r_J10_checkLength (PX (fun U H => va_P D CL [] H ∧ GK D dA U) [.int (nI x), .int (nI y)]) (va_Sv (fun _ => True)) 0 0 (fun _ => False) := by
  refine Met.ofW (cc := cJ10_checkLength) (maxL := 2) (ret := none) (by decide) rfl ?_
  intro p e s m args below meth cd s₁ B hml hv
  obtain ⟨hargs, hP, hG⟩ := hv
  have hx := B.exec
  have hb := B.bytes
  have hrt := B.returns
  have hts := atoms_spec (ws := (ws_ yJ10_checkLength cJ10_checkLength 2 none)) B.pre
  have hts : ∀ w ∈ lw_all, w.before _ s = true := fun w h => hts w (List.mem_cons_of_mem _ h)
  have hown : s.vm.findClass RJ10 = some m.cls := findClass_of_methodNamed B.named
  have hlocks := B.notSynchronized
  have hS : va_S nA s.heap s.heap [] := va_S.rf
  have hE : entryFrame m args 2 = F0 m 0 ((lg_sl ([.int (nI x), .int (nI y)]) ++ List.replicate (2 - (lg_sl ([.int (nI x), .int (nI y)])).length) Slot.unset).toArray) [] := by rw [hargs]; exact lg_entry_eq m _ 2
  have hl := lv_entry ([.int (nI x), .int (nI y)]) (n := 2) (Nat.le_of_ble_eq_true rfl)
  rw [hE]
  clear hE
  generalize (lg_sl ([.int (nI x), .int (nI y)]) ++ List.replicate (2 - (lg_sl ([.int (nI x), .int (nI y)])).length) Slot.unset).toArray = ls at hl ⊢
  have hl : lv_has ls 2 [(0, .int (nI x)), (1, .int (nI y))] := hl
  generalize hQ : MQ _ _ _ _ _ _ _ = Q
  refine lv_iload_n hx hb dJ10_checkLength_0 rfl (lv_at hl 1 rfl) ?_
  refine lv_iload_n hx hb dJ10_checkLength_1 rfl (lv_at hl 0 rfl) ?_
  refine kn_cge (tgt := 37) hx hb dJ10_checkLength_2 (by decide) (by omega) (by omega) (fun c_2 => ?_) (fun c_2 => ?_)
  · subst hQ
    exact W.vret hx hb hrt (fun t ht _ => ⟨rfl, trivial, ht⟩) t_nil dJ10_checkLength_37
  · omega
theorem w_J10_checkLength {R : Room} {s : State} {args : Array Value} {own : String} {idx : Nat} (hts : ∀ w ∈ lw_all, w.before args s = true) (h1 : Cond.methodLink own idx yJ10_checkLength ∈ lw_all) {rm : Room} {mc ms : Nat} (hrc : rm.cells = mc) (hrs : rm.slots = ms) (hR : rm.frames + 1 ≤ R.frames ∧ 8 + (2 + 11) + rm.locals ≤ R.locals) : CallB R s args own idx yJ10_checkLength cJ10_checkLength 2 none (ws_ yJ10_checkLength cJ10_checkLength 2 none) rm mc ms 2 ∧ (Cond.static yJ10_checkLength).before args s = true := va_cwS 2 hts (lw_S h1 q752 q76 q753) rfl hrc hrs (by decide +kernel) hR

abbrev r_J10_copyOfRangeByte (n : Nat) : Room := { frames := 1, cells := 1, slots := n, locals := 40 }
set_option maxHeartbeats 1000000 in
theorem c_J10_copyOfRangeByte (lh : Launch) (D : va_G) (dA : Nat → ClassId) (sz : Nat) (v : Nat) (n : Nat) (cap : Nat) (g : Nat → Nat) (h1 : n ≤ cap) (h2 : cap < 2 ^ 20) (h3 : ∀ j, j < n → g j < 128) : Met lh yJ10_copyOfRangeByte (ws_ yJ10_copyOfRangeByte cJ10_copyOfRangeByte 5 (some ((.array .byte)))) (r_J10_copyOfRangeByte n) (PX (fun U H => H.size = sz ∧ va_P D CL [(v, .inl (dA 1, cap, .inl (bw g n)))] H ∧ va_D nT [(v, .inl (dA 1, cap, .inl (bw g n)))] ∧ GK D dA U) [.ref v, .int (nI 0), .int (nI n)]) (va_Qq (fun (r : Option Nat) (u : Nat) => r = some (u)) (fun (u : Nat) t => va_P D CL [(v, .inl (dA 1, cap, .inl (bw g n))), (u, .inl (dA 1, n, .inl (bw g n)))] t.heap ∧ va_D (va_A [(v, .inl (dA 1, cap, .inl (bw g n)))] sz) [(v, .inl (dA 1, cap, .inl (bw g n))), (u, .inl (dA 1, n, .inl (bw g n)))] ∧ GK D dA t) (va_A [(v, .inl (dA 1, cap, .inl (bw g n)))] sz)) 1 n (va_A [(v, .inl (dA 1, cap, .inl (bw g n)))] sz) := by
  refine Met.ofW (cc := cJ10_copyOfRangeByte) (maxL := 5) (ret := (some ((.array .byte)))) (by decide) rfl ?_
  intro p e s m args below meth cd s₁ B hml hv
  obtain ⟨hargs, hsz, hP, hD, hG⟩ := hv
  have hx := B.exec
  have hb := B.bytes
  have hrt := B.returns
  have hts := atoms_spec (ws := (ws_ yJ10_copyOfRangeByte cJ10_copyOfRangeByte 5 (some ((.array .byte))))) B.pre
  have hts : ∀ w ∈ lw_all, w.before _ s = true := fun w h => hts w (List.mem_cons_of_mem _ h)
  have hown : s.vm.findClass RJ10 = some m.cls := findClass_of_methodNamed B.named
  have hlocks := B.notSynchronized
  subst hsz
  have hD := hD.self (sz := s.heap.size)
  have hA : ∀ q : Nat, s.heap.size ≤ q → va_A [(v, .inl (dA 1, cap, .inl (bw g n)))] s.heap.size q := fun q h => Or.inr h
  generalize va_A [(v, .inl (dA 1, cap, .inl (bw g n)))] s.heap.size = A at hD hA ⊢
  have hS : va_S A s.heap s.heap [] := va_S.rf
  have hE : entryFrame m args 5 = F0 m 0 ((lg_sl ([.ref v, .int (nI 0), .int (nI n)]) ++ List.replicate (5 - (lg_sl ([.ref v, .int (nI 0), .int (nI n)])).length) Slot.unset).toArray) [] := by rw [hargs]; exact lg_entry_eq m _ 5
  have hl := lv_entry ([.ref v, .int (nI 0), .int (nI n)]) (n := 5) (Nat.le_of_ble_eq_true rfl)
  rw [hE]
  clear hE
  generalize (lg_sl ([.ref v, .int (nI 0), .int (nI n)]) ++ List.replicate (5 - (lg_sl ([.ref v, .int (nI 0), .int (nI n)])).length) Slot.unset).toArray = ls at hl ⊢
  have hl : lv_has ls 5 [(0, .ref v), (1, .int (nI 0)), (2, .int (nI n))] := hl
  generalize hQ : MQ _ _ _ _ _ _ _ = Q
  refine lv_iload_n hx hb dJ10_copyOfRangeByte_0 rfl (lv_at hl 1 rfl) ?_
  refine lv_iload_n hx hb dJ10_copyOfRangeByte_1 rfl (lv_at hl 2 rfl) ?_
  have hPs : va_P D CL ([] ++ [(v, .inl (dA 1, cap, .inl (bw g n)))]) s.heap := hP.sub [0] rfl
  refine va_csv (va_Run.call (va_runS (As := [.int (nI 0), .int (nI n)]) (rest := []) ⟨hx, hb, hml, hown, hts⟩ (c_J10_checkLength lh D dA 0 n (by omega) (by omega)) (w_J10_checkLength hts q751 rfl rfl ⟨Nat.le_of_ble_eq_true rfl, Nat.le_of_ble_eq_true rfl⟩) ⟨PX.blind (Mv.and Mv.heap Mv.gk), PX.pre (Mv.and Mv.heap Mv.gk) ⟨(va_P_left hPs), hG⟩⟩ rfl rfl hl.1 rfl (lv_room (Nat.le_of_ble_eq_true rfl)) dJ10_copyOfRangeByte_2 ⟨Nat.le_of_ble_eq_true rfl, by show _ ≤ n; omega⟩)) (fun _ => ?_)
  refine lv_iload_n hx hb dJ10_copyOfRangeByte_5 rfl (lv_at hl 2 rfl) ?_
  refine lv_iload_n hx hb dJ10_copyOfRangeByte_6 rfl (lv_at hl 1 rfl) ?_
  refine kn_sub hx hb dJ10_copyOfRangeByte_7 (by omega) ?_
  refine kx_int (y := nI n) rfl ?_
  refine lv_istore_n (lv' := [(3, .int (nI n)), (0, .ref v), (1, .int (nI 0)), (2, .int (nI n))]) hx hb dJ10_copyOfRangeByte_8 rfl hl (by decide) rfl (fun ls hl => ?_)
  refine lv_iload_n hx hb dJ10_copyOfRangeByte_9 rfl (lv_at hl 0 rfl) ?_
  refine P_newi (atype := .byte) hx hb hG (hts _ q270) rfl 1 rfl hP hD hS hA (n := n) (by omega) (by show n * 1 ≤ _; omega) (Nat.le_of_ble_eq_true rfl) (by show 0 + n ≤ n; omega) dJ10_copyOfRangeByte_10 (fun q10 H hP hD hS => ?_)
  have hP : va_P D CL [(v, .inl (dA 1, cap, .inl (bw g n))), (q10, .inl (dA 1, n, .inl (fun _ => 0)))] H := hP
  have hD : va_D A [(v, .inl (dA 1, cap, .inl (bw g n))), (q10, .inl (dA 1, n, .inl (fun _ => 0)))] := hD
  refine lv_astore (lv' := [(4, .ref q10), (3, .int (nI n)), (0, .ref v), (1, .int (nI 0)), (2, .int (nI n))]) hx hb dJ10_copyOfRangeByte_12 hl (by decide) rfl (fun ls hl => ?_)
  refine lv_aload_n hx hb dJ10_copyOfRangeByte_14 rfl (lv_at hl 2 rfl) ?_
  refine lv_iload_n hx hb dJ10_copyOfRangeByte_15 rfl (lv_at hl 3 rfl) ?_
  refine lv_aload hx hb dJ10_copyOfRangeByte_16 (lv_at hl 0 rfl) ?_
  refine lv_iconst (v := nI 0) hx hb dJ10_copyOfRangeByte_18 (by decide) ?_
  refine lv_aload_n hx hb dJ10_copyOfRangeByte_19 rfl (lv_at hl 2 rfl) ?_
  refine va_alen (v := nI cap) hx hb hG.1 hP 0 1 rfl rfl rfl dJ10_copyOfRangeByte_20 ?_
  refine lv_iload_n hx hb dJ10_copyOfRangeByte_21 rfl (lv_at hl 3 rfl) ?_
  refine kn_sub hx hb dJ10_copyOfRangeByte_22 (by omega) ?_
  refine kx_int (y := nI cap) rfl ?_
  refine lv_iload_n hx hb dJ10_copyOfRangeByte_23 rfl (lv_at hl 1 rfl) ?_
  refine va_mmin hx hb (hml.trans hl.1.symm) hown (hts _ q424) (hts _ q425) (hts _ q75) (hts _ q426) (Nat.le_of_ble_eq_true rfl) (Nat.le_of_ble_eq_true rfl) (Nat.le_of_ble_eq_true rfl) (by show _ ≤ n; omega) dJ10_copyOfRangeByte_24 ?_
  refine kx_int (y := nI n) ((mi_n (a := cap) (b := n) (by omega) (by omega)).trans (congrArg nI (by split <;> omega))) ?_
  refine va_copyi hx hb (hml.trans hl.1.symm) hown (hts _ q427) (hts _ q429) (hts _ q428) (hts _ q77) hG.1 hP hD hS 0 1 1 1 rfl rfl rfl rfl rfl (nI_pos (by omega)) (nI_pos (by omega)) (nI_pos (by omega)) (by rw [nI_clamp (by omega), nI_clamp (by omega)]; omega) (by rw [nI_clamp (by omega), nI_clamp (by omega)]; omega) (fun i hi => bw_fit h3 _) (Nat.le_of_ble_eq_true rfl) (Nat.le_of_ble_eq_true rfl) dJ10_copyOfRangeByte_27 (fun H locs hP hD hS => ?_)
  rw [nI_clamp (show 0 < 2 ^ 31 by omega), nI_clamp (show n < 2 ^ 31 by omega)] at hP hD
  have hP : va_P D CL [(v, .inl (dA 1, cap, .inl (bw g n))), (q10, .inl (dA 1, n, .inl (va_cpy (bw g n) (fun _ => 0) 0 0 n)))] H := hP
  have hD : va_D A [(v, .inl (dA 1, cap, .inl (bw g n))), (q10, .inl (dA 1, n, .inl (va_cpy (bw g n) (fun _ => 0) 0 0 n)))] := hD
  rw [show (va_cpy (bw g n) (fun _ => 0) 0 0 n) = (bw g n) from bw_cpy] at hP hD
  have hP : va_P D CL [(v, .inl (dA 1, cap, .inl (bw g n))), (q10, .inl (dA 1, n, .inl (bw g n)))] H := hP
  have hD : va_D A [(v, .inl (dA 1, cap, .inl (bw g n))), (q10, .inl (dA 1, n, .inl (bw g n)))] := hD
  refine lv_aload hx hb dJ10_copyOfRangeByte_30 (lv_at hl 0 rfl) ?_
  subst hQ
  refine W.widen (k := 1) (n := n) (by first | decide | omega) (by first | decide | omega) ?_
  have hP9 : va_P D CL [(v, .inl (dA 1, cap, .inl (bw g n))), (q10, .inl (dA 1, n, .inl (bw g n)))] H := hP.sub [0, 1] rfl
  have hD9 : va_D A [(v, .inl (dA 1, cap, .inl (bw g n))), (q10, .inl (dA 1, n, .inl (bw g n)))] := hD.sub [0, 1] (by decide) rfl
  exact W.aret (v := va_rf (some (q10))) hx hb hrt (Or.inr ⟨_, rfl⟩) (va_rf_or _) (fun t ht hW => ⟨⟨(some (q10)), (q10), rfl, rfl, by rw [ht]; exact hP9, hD9, GK.warm hW hG⟩, hS.F ht⟩) hS.2.2 dJ10_copyOfRangeByte_32
theorem w_J10_copyOfRangeByte {R : Room} {s : State} {args : Array Value} {own : String} {idx : Nat} (hts : ∀ w ∈ lw_all, w.before args s = true) (h1 : Cond.methodLink own idx yJ10_copyOfRangeByte ∈ lw_all) {rm : Room} {mc ms : Nat} (hrc : rm.cells = mc) (hrs : rm.slots = ms) (hR : rm.frames + 1 ≤ R.frames ∧ 8 + (5 + 11) + rm.locals ≤ R.locals) : CallB R s args own idx yJ10_copyOfRangeByte cJ10_copyOfRangeByte 5 (some ((.array .byte))) (ws_ yJ10_copyOfRangeByte cJ10_copyOfRangeByte 5 (some ((.array .byte)))) rm mc ms 3 ∧ (Cond.static yJ10_copyOfRangeByte).before args s = true := va_cwS 3 hts (lw_S h1 q749 q76 q750) rfl hrc hrs (by decide +kernel) hR

abbrev r_J10_copyOfRange (n : Nat) : Room := { frames := 2, cells := 1, slots := n, locals := 64 }
set_option maxHeartbeats 1000000 in
theorem c_J10_copyOfRange (lh : Launch) (D : va_G) (dA : Nat → ClassId) (sz : Nat) (v : Nat) (n : Nat) (cap : Nat) (g : Nat → Nat) (h1 : n ≤ cap) (h2 : cap < 2 ^ 20) (h3 : ∀ j, j < n → g j < 128) : Met lh yJ10_copyOfRange (ws_ yJ10_copyOfRange cJ10_copyOfRange 3 (some ((.array .byte)))) (r_J10_copyOfRange n) (PX (fun U H => H.size = sz ∧ va_P D CL [(v, .inl (dA 1, cap, .inl (bw g n)))] H ∧ va_D nT [(v, .inl (dA 1, cap, .inl (bw g n)))] ∧ GK D dA U) [.ref v, .int (nI 0), .int (nI n)]) (va_Qq (fun (r : Option Nat) (u : Nat) => r = some (u)) (fun (u : Nat) t => va_P D CL [(v, .inl (dA 1, cap, .inl (bw g n))), (u, .inl (dA 1, n, .inl (bw g n)))] t.heap ∧ va_D (va_A [(v, .inl (dA 1, cap, .inl (bw g n)))] sz) [(v, .inl (dA 1, cap, .inl (bw g n))), (u, .inl (dA 1, n, .inl (bw g n)))] ∧ GK D dA t) (va_A [(v, .inl (dA 1, cap, .inl (bw g n)))] sz)) 1 n (va_A [(v, .inl (dA 1, cap, .inl (bw g n)))] sz) := by
  refine Met.ofW (cc := cJ10_copyOfRange) (maxL := 3) (ret := (some ((.array .byte)))) (by decide) rfl ?_
  intro p e s m args below meth cd s₁ B hml hv
  obtain ⟨hargs, hsz, hP, hD, hG⟩ := hv
  have hx := B.exec
  have hb := B.bytes
  have hrt := B.returns
  have hts := atoms_spec (ws := (ws_ yJ10_copyOfRange cJ10_copyOfRange 3 (some ((.array .byte))))) B.pre
  have hts : ∀ w ∈ lw_all, w.before _ s = true := fun w h => hts w (List.mem_cons_of_mem _ h)
  have hown : s.vm.findClass RJ10 = some m.cls := findClass_of_methodNamed B.named
  have hlocks := B.notSynchronized
  subst hsz
  have hD := hD.self (sz := s.heap.size)
  have hA : ∀ q : Nat, s.heap.size ≤ q → va_A [(v, .inl (dA 1, cap, .inl (bw g n)))] s.heap.size q := fun q h => Or.inr h
  generalize va_A [(v, .inl (dA 1, cap, .inl (bw g n)))] s.heap.size = A at hD hA ⊢
  have hS : va_S A s.heap s.heap [] := va_S.rf
  have hE : entryFrame m args 3 = F0 m 0 ((lg_sl ([.ref v, .int (nI 0), .int (nI n)]) ++ List.replicate (3 - (lg_sl ([.ref v, .int (nI 0), .int (nI n)])).length) Slot.unset).toArray) [] := by rw [hargs]; exact lg_entry_eq m _ 3
  have hl := lv_entry ([.ref v, .int (nI 0), .int (nI n)]) (n := 3) (Nat.le_of_ble_eq_true rfl)
  rw [hE]
  clear hE
  generalize (lg_sl ([.ref v, .int (nI 0), .int (nI n)]) ++ List.replicate (3 - (lg_sl ([.ref v, .int (nI 0), .int (nI n)])).length) Slot.unset).toArray = ls at hl ⊢
  have hl : lv_has ls 3 [(0, .ref v), (1, .int (nI 0)), (2, .int (nI n))] := hl
  generalize hQ : MQ _ _ _ _ _ _ _ = Q
  refine lv_iload_n hx hb dJ10_copyOfRange_0 rfl (lv_at hl 1 rfl) ?_
  refine kn_zne (tgt := 10) hx hb dJ10_copyOfRange_1 (by decide) (by decide) (fun c => absurd c (by decide)) (fun _ => ?_)
  refine lv_iload_n hx hb dJ10_copyOfRange_4 rfl (lv_at hl 2 rfl) ?_
  refine lv_aload_n hx hb dJ10_copyOfRange_5 rfl (lv_at hl 0 rfl) ?_
  refine va_alen (v := nI cap) hx hb hG.1 hP 0 1 rfl rfl rfl dJ10_copyOfRange_6 ?_
  refine kn_ceq (tgt := 17) hx hb dJ10_copyOfRange_7 (by decide) (by omega) (by omega) (fun c_7 => ?_) (fun c_7 => ?_)
  · refine lv_aload_n hx hb dJ10_copyOfRange_17 rfl (lv_at hl 0 rfl) ?_
    refine va_clone hx hb (hml.trans hl.1.symm) hown (hts _ q678) (hts _ q679) (hts _ q680) (hts _ q681) (hts _ q682) (hG.2.1 _ q683 rfl) hG.1 hP hD hS hA 0 1 rfl rfl (va_nm_byte (hG.1.2 1 _ rfl).2) (fun i v hv => va_fit (F := fun j => .int ((bw g n) j)) (fun j _ => bw_fit h3 _) i v hv) (Nat.le_of_ble_eq_true rfl) (Nat.le_of_ble_eq_true rfl) (Nat.le_of_ble_eq_true rfl) (by show 0 + cap ≤ n; have e7 : n = cap := c_7; omega) dJ10_copyOfRange_18 (fun q18 H _ hP hD hS => ?_)
    have hP : va_P D CL [(v, .inl (dA 1, cap, .inl (bw g n))), (q18, .inl (dA 1, cap, .inl (bw g n)))] H := hP
    have hD : va_D A [(v, .inl (dA 1, cap, .inl (bw g n))), (q18, .inl (dA 1, cap, .inl (bw g n)))] := hD
    have e7 : n = cap := c_7
    have hP : va_P D CL [(v, .inl (dA 1, cap, .inl (bw g n))), (q18, .inl (dA 1, n, .inl (bw g n)))] H := by rw [e7]; rw [e7] at hP; exact hP
    have hD : va_D A [(v, .inl (dA 1, cap, .inl (bw g n))), (q18, .inl (dA 1, n, .inl (bw g n)))] := by rw [e7]; rw [e7] at hD; exact hD
    show W p lh e (r_J10_copyOfRange n) s m args below meth cd H _ (0 + 1) (0 + cap) Q _
    rw [show 0 + cap = n by omega]
    refine va_castA hx hb hown (hts _ q684) hP 1 rfl (va_nm_byte (hG.1.2 1 _ rfl).2) dJ10_copyOfRange_21 ?_
    subst hQ
    refine W.widen (k := 1) (n := n) (by first | decide | omega) (by first | decide | omega) ?_
    have hP9 : va_P D CL [(v, .inl (dA 1, cap, .inl (bw g n))), (q18, .inl (dA 1, n, .inl (bw g n)))] H := hP.sub [0, 1] rfl
    have hD9 : va_D A [(v, .inl (dA 1, cap, .inl (bw g n))), (q18, .inl (dA 1, n, .inl (bw g n)))] := hD.sub [0, 1] (by decide) rfl
    exact W.aret (v := va_rf (some (q18))) hx hb hrt (Or.inr ⟨_, rfl⟩) (va_rf_or _) (fun t ht hW => ⟨⟨(some (q18)), (q18), rfl, rfl, by rw [ht]; exact hP9, hD9, GK.warm hW hG⟩, hS.F ht⟩) hS.2.2 dJ10_copyOfRange_24
  · refine lv_aload_n hx hb dJ10_copyOfRange_10 rfl (lv_at hl 0 rfl) ?_
    refine lv_iload_n hx hb dJ10_copyOfRange_11 rfl (lv_at hl 1 rfl) ?_
    refine lv_iload_n hx hb dJ10_copyOfRange_12 rfl (lv_at hl 2 rfl) ?_
    have hPs : va_P D CL ([(v, .inl (dA 1, cap, .inl (bw g n)))] ++ []) s.heap := hP.sub [0] rfl
    have hDs : va_D A ([(v, .inl (dA 1, cap, .inl (bw g n)))] ++ []) := hD.sub [0] (by decide) rfl
    have hz9 := hS.1
    refine va_callq (va_runS (As := [.ref v, .int (nI 0), .int (nI n)]) (rest := []) ⟨hx, hb, hml, hown, hts⟩ (c_J10_copyOfRangeByte lh D dA s.heap.size v n cap g (h1) (h2) (h3)) (w_J10_copyOfRangeByte hts q748 rfl rfl ⟨Nat.le_of_ble_eq_true rfl, Nat.le_of_ble_eq_true rfl⟩) ⟨PX.blind (Mv.and Mv.heap (Mv.and Mv.heap (Mv.and Mv.heap Mv.gk))), PX.pre (Mv.and Mv.heap (Mv.and Mv.heap (Mv.and Mv.heap Mv.gk))) ⟨rfl, (va_P_left hPs), (va_D_left hDs), hG⟩⟩ rfl rfl hl.1 rfl (lv_room (Nat.le_of_ble_eq_true rfl)) dJ10_copyOfRange_13 ⟨Nat.le_of_ble_eq_true rfl, by show 0 + n ≤ n; omega⟩) hS (fun q _ => (va_A_up hDs hA hS.1) q) ((va_A_up hDs hA hS.1)) (fun rr u t H1 locs ht hvm hp hB hz hk hS => ?_)
    generalize u = u13 at hp hB
    obtain ⟨hP1, hD1, -⟩ := hB
    rw [ht] at hP1
    obtain ⟨hP, hD⟩ := vp_join hPs hDs hP1 hD1 hk hA hz9
    clear ht hvm hz hk hP1 hD1 hPs hDs hz9
    generalize H1 = H at hP hS ⊢
    have hP : va_P D CL [(v, .inl (dA 1, cap, .inl (bw g n))), (u13, .inl (dA 1, n, .inl (bw g n)))] H := hP
    have hD : va_D A [(v, .inl (dA 1, cap, .inl (bw g n))), (u13, .inl (dA 1, n, .inl (bw g n)))] := hD
    have hrr := hp
    try dsimp only at hrr
    subst hrr
    show W p lh e (r_J10_copyOfRange n) s m args below meth cd _ _ _ _ Q (F0 m _ ls (.ref u13 :: _))
    subst hQ
    refine W.widen (k := 1) (n := n) (by first | decide | omega) (by first | decide | omega) ?_
    have hP9 : va_P D CL [(v, .inl (dA 1, cap, .inl (bw g n))), (u13, .inl (dA 1, n, .inl (bw g n)))] H := hP.sub [0, 1] rfl
    have hD9 : va_D A [(v, .inl (dA 1, cap, .inl (bw g n))), (u13, .inl (dA 1, n, .inl (bw g n)))] := hD.sub [0, 1] (by decide) rfl
    exact W.aret (v := va_rf (some (u13))) hx hb hrt (Or.inr ⟨_, rfl⟩) (va_rf_or _) (fun t ht hW => ⟨⟨(some (u13)), (u13), rfl, rfl, by rw [ht]; exact hP9, hD9, GK.warm hW hG⟩, hS.F ht⟩) hS.2.2 dJ10_copyOfRange_16
theorem w_J10_copyOfRange {R : Room} {s : State} {args : Array Value} {own : String} {idx : Nat} (hts : ∀ w ∈ lw_all, w.before args s = true) (h1 : Cond.methodLink own idx yJ10_copyOfRange ∈ lw_all) {rm : Room} {mc ms : Nat} (hrc : rm.cells = mc) (hrs : rm.slots = ms) (hR : rm.frames + 1 ≤ R.frames ∧ 8 + (3 + 11) + rm.locals ≤ R.locals) : CallB R s args own idx yJ10_copyOfRange cJ10_copyOfRange 3 (some ((.array .byte))) (ws_ yJ10_copyOfRange cJ10_copyOfRange 3 (some ((.array .byte)))) rm mc ms 3 ∧ (Cond.static yJ10_copyOfRange).before args s = true := va_cwS 3 hts (lw_S h1 q746 q76 q747) rfl hrc hrs (by decide +kernel) hR

abbrev r_J3_init_2 (n : Nat) : Room := { frames := 3, cells := 1, slots := n, locals := 86 }
set_option maxHeartbeats 1000000 in
theorem c_J3_init_2 (lh : Launch) (D : va_G) (dA : Nat → ClassId) (sz : Nat) (a : Nat) (b : Nat) (v : Nat) (n : Nat) (cap : Nat) (g : Nat → Nat) (h1 : n ≤ cap) (h2 : cap < 2 ^ 20) (h3 : ∀ j, j < n → g j < 128) : Met lh yJ3_init_2 (ws_ yJ3_init_2 cJ3_init_2 5 none) (r_J3_init_2 n) (PX (fun U H => H.size = sz ∧ va_P D CL [(a, .inr (16, [.null, .int (nI 0), .int (nI 0), .int (nI 0)])), (b, .inr (17, [.ref v, .int (nI 0), .int (nI 0), .int (nI n)])), (v, .inl (dA 1, cap, .inl (bw g n)))] H ∧ va_D nT [(a, .inr (16, [.null, .int (nI 0), .int (nI 0), .int (nI 0)])), (b, .inr (17, [.ref v, .int (nI 0), .int (nI 0), .int (nI n)])), (v, .inl (dA 1, cap, .inl (bw g n)))] ∧ GK D dA U ∧ KC (va_A [(a, .inr (16, [.null, .int (nI 0), .int (nI 0), .int (nI 0)])), (b, .inr (17, [.ref v, .int (nI 0), .int (nI 0), .int (nI n)])), (v, .inl (dA 1, cap, .inl (bw g n)))] sz) U H) [.ref a, .ref b, .null]) (va_Qv (fun u : Nat => True) (fun (u : Nat) t => va_P D CL [(a, .inr (16, [.ref u, .int (nI 0), .int (nI 0), .int (nI 0)])), (b, .inr (17, [.ref v, .int (nI 0), .int (nI 0), .int (nI n)])), (v, .inl (dA 1, cap, .inl (bw g n))), (u, .inl (dA 1, n, .inl (bw g n)))] t.heap ∧ va_D (va_A [(a, .inr (16, [.null, .int (nI 0), .int (nI 0), .int (nI 0)])), (b, .inr (17, [.ref v, .int (nI 0), .int (nI 0), .int (nI n)])), (v, .inl (dA 1, cap, .inl (bw g n)))] sz) [(a, .inr (16, [.ref u, .int (nI 0), .int (nI 0), .int (nI 0)])), (b, .inr (17, [.ref v, .int (nI 0), .int (nI 0), .int (nI n)])), (v, .inl (dA 1, cap, .inl (bw g n))), (u, .inl (dA 1, n, .inl (bw g n)))] ∧ GK D dA t) (va_A [(a, .inr (16, [.null, .int (nI 0), .int (nI 0), .int (nI 0)])), (b, .inr (17, [.ref v, .int (nI 0), .int (nI 0), .int (nI n)])), (v, .inl (dA 1, cap, .inl (bw g n)))] sz)) 1 n (va_A [(a, .inr (16, [.null, .int (nI 0), .int (nI 0), .int (nI 0)])), (b, .inr (17, [.ref v, .int (nI 0), .int (nI 0), .int (nI n)])), (v, .inl (dA 1, cap, .inl (bw g n)))] sz) := by
  refine Met.ofW (cc := cJ3_init_2) (maxL := 5) (ret := none) (by decide) rfl ?_
  intro p e s m args below meth cd s₁ B hml hv
  obtain ⟨hargs, hsz, hP, hD, hG, hKC⟩ := hv
  have hx := B.exec
  have hb := B.bytes
  have hrt := B.returns
  have hts := atoms_spec (ws := (ws_ yJ3_init_2 cJ3_init_2 5 none)) B.pre
  have hts : ∀ w ∈ lw_all, w.before _ s = true := fun w h => hts w (List.mem_cons_of_mem _ h)
  have hown : s.vm.findClass RJ3 = some m.cls := findClass_of_methodNamed B.named
  have hlocks := B.notSynchronized
  have hin : meth.name = "<init>" := (name_of_methodNamed B.named B.method).1
  subst hsz
  have hD := hD.self (sz := s.heap.size)
  have hA : ∀ q : Nat, s.heap.size ≤ q → va_A [(a, .inr (16, [.null, .int (nI 0), .int (nI 0), .int (nI 0)])), (b, .inr (17, [.ref v, .int (nI 0), .int (nI 0), .int (nI n)])), (v, .inl (dA 1, cap, .inl (bw g n)))] s.heap.size q := fun q h => Or.inr h
  generalize va_A [(a, .inr (16, [.null, .int (nI 0), .int (nI 0), .int (nI 0)])), (b, .inr (17, [.ref v, .int (nI 0), .int (nI 0), .int (nI n)])), (v, .inl (dA 1, cap, .inl (bw g n)))] s.heap.size = A at hD hA hKC ⊢
  have hS : va_S A s.heap s.heap [] := va_S.rf
  have hE : entryFrame m args 5 = F0 m 0 ((lg_sl ([.ref a, .ref b, .null]) ++ List.replicate (5 - (lg_sl ([.ref a, .ref b, .null])).length) Slot.unset).toArray) [] := by rw [hargs]; exact lg_entry_eq m _ 5
  have hl := lv_entry ([.ref a, .ref b, .null]) (n := 5) (Nat.le_of_ble_eq_true rfl)
  rw [hE]
  clear hE
  generalize (lg_sl ([.ref a, .ref b, .null]) ++ List.replicate (5 - (lg_sl ([.ref a, .ref b, .null])).length) Slot.unset).toArray = ls at hl ⊢
  have hl : lv_has ls 5 [(0, .ref a), (1, .ref b), (2, .null)] := hl
  generalize hQ : MQ _ _ _ _ _ _ _ = Q
  refine lv_aload_n hx hb dJ3_init_2_0 rfl (lv_at hl 0 rfl) ?_
  refine W.objInit hx hb hown (hts _ q730) (hts _ q105) (hts _ q106) rfl (by rw [hml]; exact hl.1) rfl dJ3_init_2_1 (Nat.le_of_ble_eq_true rfl) (Nat.le_of_ble_eq_true rfl) ?_
  refine W.eq (g2 := F0 m 4 ls []) rfl ?_
  refine lv_aload_n hx hb dJ3_init_2_4 rfl (lv_at hl 1 rfl) ?_
  have hPs : va_P D CL ([(b, .inr (17, [.ref v, .int (nI 0), .int (nI 0), .int (nI n)]))] ++ [(a, .inr (16, [.null, .int (nI 0), .int (nI 0), .int (nI 0)])), (v, .inl (dA 1, cap, .inl (bw g n)))]) s.heap := hP.sub [1, 0, 2] rfl
  refine va_csq (va_Run.call (va_runU (As := []) (rest := []) ⟨hx, hb, hml, hown, hts⟩ (c_J15_getValue lh D dA b v n) (va_cwU 0 hts (lw_U q731 q733 q734 q732 q85 q735) rfl rfl rfl rfl (by decide +kernel) ⟨Nat.le_of_ble_eq_true rfl, Nat.le_of_ble_eq_true rfl⟩) ⟨PX.blind (Mv.and Mv.heap Mv.gk), (va_recv hG.1 hP (ci := 17) (q0 := 1) rfl rfl), PX.pre (Mv.and Mv.heap Mv.gk) ⟨(va_P_left hPs), hG⟩⟩ rfl rfl hl.1 rfl (lv_room (Nat.le_of_ble_eq_true rfl)) dJ3_init_2_5 ⟨Nat.le_of_ble_eq_true rfl, by show _ ≤ n; omega⟩)) (fun rr hrr => ?_)
  subst hrr
  show W p lh e (r_J3_init_2 n) s m args below meth cd _ _ _ _ Q (F0 m _ ls (.ref v :: _))
  refine lv_astore_n (lv' := [(3, .ref v), (0, .ref a), (1, .ref b), (2, .null)]) hx hb dJ3_init_2_8 rfl hl (by decide) rfl (fun ls hl => ?_)
  refine lv_aload_n hx hb dJ3_init_2_9 rfl (lv_at hl 2 rfl) ?_
  have hPs : va_P D CL ([(b, .inr (17, [.ref v, .int (nI 0), .int (nI 0), .int (nI n)]))] ++ [(a, .inr (16, [.null, .int (nI 0), .int (nI 0), .int (nI 0)])), (v, .inl (dA 1, cap, .inl (bw g n)))]) s.heap := hP.sub [1, 0, 2] rfl
  refine vp_callSi (va_Run.call (va_runU (As := []) (rest := []) ⟨hx, hb, hml, hown, hts⟩ (c_J16_length lh D dA b v n) (va_cwO 0 hts (lw_O q736 q738 q737 q739 q740 q86 q741) rfl rfl rfl q743 (by decide +kernel) ⟨Nat.le_of_ble_eq_true rfl, Nat.le_of_ble_eq_true rfl⟩) ⟨PX.blind (Mv.and Mv.heap Mv.gk), (va_recv hG.1 hP (ci := 17) (q0 := 1) rfl rfl), PX.pre (Mv.and Mv.heap Mv.gk) ⟨(va_P_left hPs), hG⟩⟩ rfl rfl hl.1 rfl (lv_room (Nat.le_of_ble_eq_true rfl)) dJ3_init_2_10 ⟨Nat.le_of_ble_eq_true rfl, by show _ ≤ n; omega⟩)) (fun rr hrr => ?_)
  subst hrr
  refine kx_int (y := nI n) (rfl) ?_
  refine lv_istore (lv' := [(4, .int (nI n)), (3, .ref v), (0, .ref a), (1, .ref b), (2, .null)]) hx hb dJ3_init_2_13 hl (by decide) rfl (fun ls hl => ?_)
  refine lv_aload_n hx hb dJ3_init_2_15 rfl (lv_at hl 3 rfl) ?_
  have hPs : va_P D CL ([(b, .inr (17, [.ref v, .int (nI 0), .int (nI 0), .int (nI n)]))] ++ [(a, .inr (16, [.null, .int (nI 0), .int (nI 0), .int (nI 0)])), (v, .inl (dA 1, cap, .inl (bw g n)))]) s.heap := hP.sub [1, 0, 2] rfl
  refine vp_callSi (va_Run.call (va_runU (As := []) (rest := []) ⟨hx, hb, hml, hown, hts⟩ (c_J15_isLatin1 lh D dA b v n) (va_cwU 0 hts (lw_U q744 q687 q688 q686 q85 q689) rfl rfl rfl rfl (by decide +kernel) ⟨Nat.le_of_ble_eq_true rfl, Nat.le_of_ble_eq_true rfl⟩) ⟨PX.blind (Mv.and Mv.heap (Mv.and Mv.gk KC.mv)), (va_recv hG.1 hP (ci := 17) (q0 := 1) rfl rfl), PX.pre (Mv.and Mv.heap (Mv.and Mv.gk KC.mv)) ⟨(va_P_left hPs), hG, (KC.at hKC hS (fun _ h => h.elim))⟩⟩ rfl rfl hl.1 rfl (lv_room (Nat.le_of_ble_eq_true rfl)) dJ3_init_2_16 ⟨Nat.le_of_ble_eq_true rfl, by show _ ≤ n; omega⟩)) (fun rr hrr => ?_)
  subst hrr
  refine kx_int (y := nI 1) (rfl) ?_
  refine kn_zeq (tgt := 41) hx hb dJ3_init_2_19 (by decide) (by decide) (fun c => absurd c (by decide)) (fun _ => ?_)
  refine lv_aload_n hx hb dJ3_init_2_22 rfl (lv_at hl 2 rfl) ?_
  refine lv_iconst (v := nI 0) hx hb dJ3_init_2_23 (by decide) ?_
  refine va_putF (D := D) (ci := 16) (v := .int (nI 0)) (C := RJ3) (T := TJ3) (N := 4) hx hb hts in_J3 tyJ3 tyJ3_ok nmJ3 hown hG.1 hP hD hS 0 rfl rfl 1 (by decide) (hts _ q765) (fun _ h => h) rfl hin rfl rfl (rfl) (rfl) (Nat.le_of_ble_eq_true rfl) dJ3_init_2_24 (fun H locs hP hD hS => ?_)
  have hP : va_P D CL [(a, .inr (16, [.null, .int (nI 0), .int (nI 0), .int (nI 0)])), (b, .inr (17, [.ref v, .int (nI 0), .int (nI 0), .int (nI n)])), (v, .inl (dA 1, cap, .inl (bw g n)))] H := hP
  have hD : va_D A [(a, .inr (16, [.null, .int (nI 0), .int (nI 0), .int (nI 0)])), (b, .inr (17, [.ref v, .int (nI 0), .int (nI 0), .int (nI n)])), (v, .inl (dA 1, cap, .inl (bw g n)))] := hD
  refine lv_aload_n hx hb dJ3_init_2_27 rfl (lv_at hl 2 rfl) ?_
  refine lv_aload_n hx hb dJ3_init_2_28 rfl (lv_at hl 1 rfl) ?_
  refine lv_iconst (v := nI 0) hx hb dJ3_init_2_29 (by decide) ?_
  refine lv_iload hx hb dJ3_init_2_30 (lv_at hl 0 rfl) ?_
  have hPs : va_P D CL ([(v, .inl (dA 1, cap, .inl (bw g n)))] ++ [(a, .inr (16, [.null, .int (nI 0), .int (nI 0), .int (nI 0)])), (b, .inr (17, [.ref v, .int (nI 0), .int (nI 0), .int (nI n)]))]) H := hP.sub [2, 0, 1] rfl
  have hDs : va_D A ([(v, .inl (dA 1, cap, .inl (bw g n)))] ++ [(a, .inr (16, [.null, .int (nI 0), .int (nI 0), .int (nI 0)])), (b, .inr (17, [.ref v, .int (nI 0), .int (nI 0), .int (nI n)]))]) := hD.sub [2, 0, 1] (by decide) rfl
  have hz9 := hS.1
  refine va_callq (va_runS (As := [.ref v, .int (nI 0), .int (nI n)]) (rest := [.ref a]) ⟨hx, hb, hml, hown, hts⟩ (c_J10_copyOfRange lh D dA H.size v n cap g (h1) (h2) (h3)) (w_J10_copyOfRange hts q745 rfl rfl ⟨Nat.le_of_ble_eq_true rfl, Nat.le_of_ble_eq_true rfl⟩) ⟨PX.blind (Mv.and Mv.heap (Mv.and Mv.heap (Mv.and Mv.heap Mv.gk))), PX.pre (Mv.and Mv.heap (Mv.and Mv.heap (Mv.and Mv.heap Mv.gk))) ⟨rfl, (va_P_left hPs), (va_D_left hDs), hG⟩⟩ rfl rfl hl.1 rfl (lv_room (Nat.le_of_ble_eq_true rfl)) dJ3_init_2_32 ⟨Nat.le_of_ble_eq_true rfl, by show 0 + n ≤ n; omega⟩) hS (fun q _ => (va_A_up hDs hA hS.1) q) ((va_A_up hDs hA hS.1)) (fun rr u t H1 locs ht hvm hp hB hz hk hS => ?_)
  generalize u = u32 at hp hB
  obtain ⟨hP1, hD1, -⟩ := hB
  rw [ht] at hP1
  obtain ⟨hP, hD⟩ := vp_join hPs hDs hP1 hD1 hk hA hz9
  clear ht hvm hz hk hP1 hD1 hPs hDs hz9
  generalize H1 = H at hP hS ⊢
  have hP : va_P D CL [(v, .inl (dA 1, cap, .inl (bw g n))), (u32, .inl (dA 1, n, .inl (bw g n))), (a, .inr (16, [.null, .int (nI 0), .int (nI 0), .int (nI 0)])), (b, .inr (17, [.ref v, .int (nI 0), .int (nI 0), .int (nI n)]))] H := hP
  have hD : va_D A [(v, .inl (dA 1, cap, .inl (bw g n))), (u32, .inl (dA 1, n, .inl (bw g n))), (a, .inr (16, [.null, .int (nI 0), .int (nI 0), .int (nI 0)])), (b, .inr (17, [.ref v, .int (nI 0), .int (nI 0), .int (nI n)]))] := hD
  have hrr := hp
  try dsimp only at hrr
  subst hrr
  show W p lh e (r_J3_init_2 n) s m args below meth cd _ _ _ _ Q (F0 m _ ls (.ref u32 :: _))
  refine va_putF (D := D) (ci := 16) (v := .ref u32) (C := RJ3) (T := TJ3) (N := 4) hx hb hts in_J3 tyJ3 tyJ3_ok nmJ3 hown hG.1 hP hD hS 2 rfl rfl 0 (by decide) (hts _ q764) (fun _ h => h) rfl hin rfl rfl (rfl) (rfl) (Nat.le_of_ble_eq_true rfl) dJ3_init_2_35 (fun H locs hP hD hS => ?_)
  have hP : va_P D CL [(v, .inl (dA 1, cap, .inl (bw g n))), (u32, .inl (dA 1, n, .inl (bw g n))), (a, .inr (16, [.ref u32, .int (nI 0), .int (nI 0), .int (nI 0)])), (b, .inr (17, [.ref v, .int (nI 0), .int (nI 0), .int (nI n)]))] H := hP
  have hD : va_D A [(v, .inl (dA 1, cap, .inl (bw g n))), (u32, .inl (dA 1, n, .inl (bw g n))), (a, .inr (16, [.ref u32, .int (nI 0), .int (nI 0), .int (nI 0)])), (b, .inr (17, [.ref v, .int (nI 0), .int (nI 0), .int (nI n)]))] := hD
  refine lv_goto (tgt := 97) hx hb dJ3_init_2_38 (by decide) ?_
  subst hQ
  refine W.widen (k := 1) (n := n) (by first | decide | omega) (by first | decide | omega) ?_
  have hP9 : va_P D CL [(a, .inr (16, [.ref u32, .int (nI 0), .int (nI 0), .int (nI 0)])), (b, .inr (17, [.ref v, .int (nI 0), .int (nI 0), .int (nI n)])), (v, .inl (dA 1, cap, .inl (bw g n))), (u32, .inl (dA 1, n, .inl (bw g n)))] H := hP.sub [2, 3, 0, 1] rfl
  have hD9 : va_D A [(a, .inr (16, [.ref u32, .int (nI 0), .int (nI 0), .int (nI 0)])), (b, .inr (17, [.ref v, .int (nI 0), .int (nI 0), .int (nI n)])), (v, .inl (dA 1, cap, .inl (bw g n))), (u32, .inl (dA 1, n, .inl (bw g n)))] := hD.sub [2, 3, 0, 1] (by decide) rfl
  exact W.vret hx hb hrt (fun t ht hW => ⟨⟨(u32), rfl, trivial, by rw [ht]; exact hP9, hD9, GK.warm hW hG⟩, hS.F ht⟩) hS.2.2 dJ3_init_2_97

abbrev r_J3_init (n : Nat) : Room := { frames := 4, cells := 1, slots := n, locals := 110 }
set_option maxHeartbeats 1000000 in
theorem c_J3_init (lh : Launch) (D : va_G) (dA : Nat → ClassId) (sz : Nat) (a : Nat) (b : Nat) (v : Nat) (n : Nat) (cap : Nat) (g : Nat → Nat) (h1 : n ≤ cap) (h2 : cap < 2 ^ 20) (h3 : ∀ j, j < n → g j < 128) : Met lh yJ3_init (ws_ yJ3_init cJ3_init 2 none) (r_J3_init n) (PX (fun U H => H.size = sz ∧ va_P D CL [(a, .inr (16, [.null, .int (nI 0), .int (nI 0), .int (nI 0)])), (b, .inr (17, [.ref v, .int (nI 0), .int (nI 0), .int (nI n)])), (v, .inl (dA 1, cap, .inl (bw g n)))] H ∧ va_D nT [(a, .inr (16, [.null, .int (nI 0), .int (nI 0), .int (nI 0)])), (b, .inr (17, [.ref v, .int (nI 0), .int (nI 0), .int (nI n)])), (v, .inl (dA 1, cap, .inl (bw g n)))] ∧ GK D dA U ∧ KC (va_A [(a, .inr (16, [.null, .int (nI 0), .int (nI 0), .int (nI 0)])), (b, .inr (17, [.ref v, .int (nI 0), .int (nI 0), .int (nI n)])), (v, .inl (dA 1, cap, .inl (bw g n)))] sz) U H) [.ref a, .ref b]) (va_Qv (fun u : Nat => True) (fun (u : Nat) t => va_P D CL [(a, .inr (16, [.ref u, .int (nI 0), .int (nI 0), .int (nI 0)])), (b, .inr (17, [.ref v, .int (nI 0), .int (nI 0), .int (nI n)])), (v, .inl (dA 1, cap, .inl (bw g n))), (u, .inl (dA 1, n, .inl (bw g n)))] t.heap ∧ va_D (va_A [(a, .inr (16, [.null, .int (nI 0), .int (nI 0), .int (nI 0)])), (b, .inr (17, [.ref v, .int (nI 0), .int (nI 0), .int (nI n)])), (v, .inl (dA 1, cap, .inl (bw g n)))] sz) [(a, .inr (16, [.ref u, .int (nI 0), .int (nI 0), .int (nI 0)])), (b, .inr (17, [.ref v, .int (nI 0), .int (nI 0), .int (nI n)])), (v, .inl (dA 1, cap, .inl (bw g n))), (u, .inl (dA 1, n, .inl (bw g n)))] ∧ GK D dA t) (va_A [(a, .inr (16, [.null, .int (nI 0), .int (nI 0), .int (nI 0)])), (b, .inr (17, [.ref v, .int (nI 0), .int (nI 0), .int (nI n)])), (v, .inl (dA 1, cap, .inl (bw g n)))] sz)) 1 n (va_A [(a, .inr (16, [.null, .int (nI 0), .int (nI 0), .int (nI 0)])), (b, .inr (17, [.ref v, .int (nI 0), .int (nI 0), .int (nI n)])), (v, .inl (dA 1, cap, .inl (bw g n)))] sz) := by
  refine Met.ofW (cc := cJ3_init) (maxL := 2) (ret := none) (by decide) rfl ?_
  intro p e s m args below meth cd s₁ B hml hv
  obtain ⟨hargs, hsz, hP, hD, hG, hKC⟩ := hv
  have hx := B.exec
  have hb := B.bytes
  have hrt := B.returns
  have hts := atoms_spec (ws := (ws_ yJ3_init cJ3_init 2 none)) B.pre
  have hts : ∀ w ∈ lw_all, w.before _ s = true := fun w h => hts w (List.mem_cons_of_mem _ h)
  have hown : s.vm.findClass RJ3 = some m.cls := findClass_of_methodNamed B.named
  have hlocks := B.notSynchronized
  have hin : meth.name = "<init>" := (name_of_methodNamed B.named B.method).1
  subst hsz
  have hD := hD.self (sz := s.heap.size)
  have hA : ∀ q : Nat, s.heap.size ≤ q → va_A [(a, .inr (16, [.null, .int (nI 0), .int (nI 0), .int (nI 0)])), (b, .inr (17, [.ref v, .int (nI 0), .int (nI 0), .int (nI n)])), (v, .inl (dA 1, cap, .inl (bw g n)))] s.heap.size q := fun q h => Or.inr h
  generalize va_A [(a, .inr (16, [.null, .int (nI 0), .int (nI 0), .int (nI 0)])), (b, .inr (17, [.ref v, .int (nI 0), .int (nI 0), .int (nI n)])), (v, .inl (dA 1, cap, .inl (bw g n)))] s.heap.size = A at hD hA hKC ⊢
  have hS : va_S A s.heap s.heap [] := va_S.rf
  have hE : entryFrame m args 2 = F0 m 0 ((lg_sl ([.ref a, .ref b]) ++ List.replicate (2 - (lg_sl ([.ref a, .ref b])).length) Slot.unset).toArray) [] := by rw [hargs]; exact lg_entry_eq m _ 2
  have hl := lv_entry ([.ref a, .ref b]) (n := 2) (Nat.le_of_ble_eq_true rfl)
  rw [hE]
  clear hE
  generalize (lg_sl ([.ref a, .ref b]) ++ List.replicate (2 - (lg_sl ([.ref a, .ref b])).length) Slot.unset).toArray = ls at hl ⊢
  have hl : lv_has ls 2 [(0, .ref a), (1, .ref b)] := hl
  generalize hQ : MQ _ _ _ _ _ _ _ = Q
  refine lv_aload_n hx hb dJ3_init_0 rfl (lv_at hl 0 rfl) ?_
  refine lv_aload_n hx hb dJ3_init_1 rfl (lv_at hl 1 rfl) ?_
  refine lv_null hx hb dJ3_init_2 ?_
  have hPs : va_P D CL ([(a, .inr (16, [.null, .int (nI 0), .int (nI 0), .int (nI 0)])), (b, .inr (17, [.ref v, .int (nI 0), .int (nI 0), .int (nI n)])), (v, .inl (dA 1, cap, .inl (bw g n)))] ++ []) s.heap := hP.sub [0, 1, 2] rfl
  have hDs : va_D A ([(a, .inr (16, [.null, .int (nI 0), .int (nI 0), .int (nI 0)])), (b, .inr (17, [.ref v, .int (nI 0), .int (nI 0), .int (nI n)])), (v, .inl (dA 1, cap, .inl (bw g n)))] ++ []) := hD.sub [0, 1, 2] (by decide) rfl
  have hz9 := hS.1
  refine va_callv (va_runI (As := [.ref b, .null]) (rest := []) ⟨hx, hb, hml, hown, hts⟩ (c_J3_init_2 lh D dA s.heap.size a b v n cap g (h1) (h2) (h3)) (cwI 2 hts (lw_meth q729) rfl rfl rfl (hts _ q66) (hts _ q727) (hts _ q728) rfl (by decide +kernel) ⟨Nat.le_of_ble_eq_true rfl, Nat.le_of_ble_eq_true rfl⟩) ⟨PX.blind (Mv.and Mv.heap (Mv.and Mv.heap (Mv.and Mv.heap (Mv.and Mv.gk KC.mv)))), PX.pre (Mv.and Mv.heap (Mv.and Mv.heap (Mv.and Mv.heap (Mv.and Mv.gk KC.mv)))) ⟨rfl, (va_P_left hPs), (va_D_left hDs), hG, (KC.at hKC hS (va_A_up hDs hA hS.1))⟩⟩ rfl rfl hl.1 rfl (lv_room (Nat.le_of_ble_eq_true rfl)) dJ3_init_3 ⟨Nat.le_of_ble_eq_true rfl, by show 0 + n ≤ n; omega⟩) hS (fun q _ => (va_A_up hDs hA hS.1) q) ((va_A_up hDs hA hS.1)) (fun u t H1 locs ht hvm hp hB hz hk hS => ?_)
  generalize u = u3 at hp hB
  obtain ⟨hP1, hD1, -⟩ := hB
  rw [ht] at hP1
  obtain ⟨hP, hD⟩ := vp_join hPs hDs hP1 hD1 hk hA hz9
  clear ht hvm hz hk hP1 hD1 hPs hDs hz9
  generalize H1 = H at hP hS ⊢
  have hP : va_P D CL [(a, .inr (16, [.ref u3, .int (nI 0), .int (nI 0), .int (nI 0)])), (b, .inr (17, [.ref v, .int (nI 0), .int (nI 0), .int (nI n)])), (v, .inl (dA 1, cap, .inl (bw g n))), (u3, .inl (dA 1, n, .inl (bw g n)))] H := hP
  have hD : va_D A [(a, .inr (16, [.ref u3, .int (nI 0), .int (nI 0), .int (nI 0)])), (b, .inr (17, [.ref v, .int (nI 0), .int (nI 0), .int (nI n)])), (v, .inl (dA 1, cap, .inl (bw g n))), (u3, .inl (dA 1, n, .inl (bw g n)))] := hD
  subst hQ
  refine W.widen (k := 1) (n := n) (by first | decide | omega) (by first | decide | omega) ?_
  have hP9 : va_P D CL [(a, .inr (16, [.ref u3, .int (nI 0), .int (nI 0), .int (nI 0)])), (b, .inr (17, [.ref v, .int (nI 0), .int (nI 0), .int (nI n)])), (v, .inl (dA 1, cap, .inl (bw g n))), (u3, .inl (dA 1, n, .inl (bw g n)))] H := hP.sub [0, 1, 2, 3] rfl
  have hD9 : va_D A [(a, .inr (16, [.ref u3, .int (nI 0), .int (nI 0), .int (nI 0)])), (b, .inr (17, [.ref v, .int (nI 0), .int (nI 0), .int (nI n)])), (v, .inl (dA 1, cap, .inl (bw g n))), (u3, .inl (dA 1, n, .inl (bw g n)))] := hD.sub [0, 1, 2, 3] (by decide) rfl
  exact W.vret hx hb hrt (fun t ht hW => ⟨⟨(u3), rfl, trivial, by rw [ht]; exact hP9, hD9, GK.warm hW hG⟩, hS.F ht⟩) hS.2.2 dJ3_init_6

abbrev r_J16_toString (n : Nat) : Room := { frames := 5, cells := 2, slots := (4 + n), locals := 131 }
set_option maxHeartbeats 1000000 in
theorem c_J16_toString (lh : Launch) (D : va_G) (dA : Nat → ClassId) (sz : Nat) (a : Nat) (v : Nat) (n : Nat) (cap : Nat) (g : Nat → Nat) (h1 : n ≤ cap) (h2 : cap < 2 ^ 20) (h3 : ∀ j, j < n → g j < 128) : Met lh yJ16_toString (ws_ yJ16_toString cJ16_toString 1 (some (.object "java/lang/String"))) (r_J16_toString n) (PX (fun U H => H.size = sz ∧ va_P D CL [(a, .inr (17, [.ref v, .int (nI 0), .int (nI 0), .int (nI n)])), (v, .inl (dA 1, cap, .inl (bw g n)))] H ∧ va_D nT [(a, .inr (17, [.ref v, .int (nI 0), .int (nI 0), .int (nI n)])), (v, .inl (dA 1, cap, .inl (bw g n)))] ∧ GK D dA U ∧ KC (va_A [(a, .inr (17, [.ref v, .int (nI 0), .int (nI 0), .int (nI n)])), (v, .inl (dA 1, cap, .inl (bw g n)))] sz) U H) [.ref a]) (va_Qq (fun (r : Option Nat) (u : Nat × Nat) => r = some (u.1)) (fun (u : Nat × Nat) t => va_P D CL [(a, .inr (17, [.ref v, .int (nI 0), .int (nI 0), .int (nI n)])), (v, .inl (dA 1, cap, .inl (bw g n))), (u.1, .inr (16, [.ref u.2, .int (nI 0), .int (nI 0), .int (nI 0)])), (u.2, .inl (dA 1, n, .inl (bw g n)))] t.heap ∧ va_D (va_A [(a, .inr (17, [.ref v, .int (nI 0), .int (nI 0), .int (nI n)])), (v, .inl (dA 1, cap, .inl (bw g n)))] sz) [(a, .inr (17, [.ref v, .int (nI 0), .int (nI 0), .int (nI n)])), (v, .inl (dA 1, cap, .inl (bw g n))), (u.1, .inr (16, [.ref u.2, .int (nI 0), .int (nI 0), .int (nI 0)])), (u.2, .inl (dA 1, n, .inl (bw g n)))] ∧ GK D dA t) (va_A [(a, .inr (17, [.ref v, .int (nI 0), .int (nI 0), .int (nI n)])), (v, .inl (dA 1, cap, .inl (bw g n)))] sz)) 2 (4 + n) (va_A [(a, .inr (17, [.ref v, .int (nI 0), .int (nI 0), .int (nI n)])), (v, .inl (dA 1, cap, .inl (bw g n)))] sz) := by
  refine Met.ofW (cc := cJ16_toString) (maxL := 1) (ret := (some (.object "java/lang/String"))) (by decide) rfl ?_
  intro p e s m args below meth cd s₁ B hml hv
  obtain ⟨hargs, hsz, hP, hD, hG, hKC⟩ := hv
  have hx := B.exec
  have hb := B.bytes
  have hrt := B.returns
  have hts := atoms_spec (ws := (ws_ yJ16_toString cJ16_toString 1 (some (.object "java/lang/String")))) B.pre
  have hts : ∀ w ∈ lw_all, w.before _ s = true := fun w h => hts w (List.mem_cons_of_mem _ h)
  have hown : s.vm.findClass RJ16 = some m.cls := findClass_of_methodNamed B.named
  have hlocks := B.notSynchronized
  subst hsz
  have hD := hD.self (sz := s.heap.size)
  have hA : ∀ q : Nat, s.heap.size ≤ q → va_A [(a, .inr (17, [.ref v, .int (nI 0), .int (nI 0), .int (nI n)])), (v, .inl (dA 1, cap, .inl (bw g n)))] s.heap.size q := fun q h => Or.inr h
  generalize va_A [(a, .inr (17, [.ref v, .int (nI 0), .int (nI 0), .int (nI n)])), (v, .inl (dA 1, cap, .inl (bw g n)))] s.heap.size = A at hD hA hKC ⊢
  have hS : va_S A s.heap s.heap [] := va_S.rf
  have hE : entryFrame m args 1 = F0 m 0 ((lg_sl ([.ref a]) ++ List.replicate (1 - (lg_sl ([.ref a])).length) Slot.unset).toArray) [] := by rw [hargs]; exact lg_entry_eq m _ 1
  have hl := lv_entry ([.ref a]) (n := 1) (Nat.le_of_ble_eq_true rfl)
  rw [hE]
  clear hE
  generalize (lg_sl ([.ref a]) ++ List.replicate (1 - (lg_sl ([.ref a])).length) Slot.unset).toArray = ls at hl ⊢
  have hl : lv_has ls 1 [(0, .ref a)] := hl
  generalize hQ : MQ _ _ _ _ _ _ _ = Q
  refine va_new (D := D) (ci := 16) (C := RJ3) (T := TJ3) (N := 4) hx hb hts in_J3 tyJ3 tyJ3_ok hown (hts _ q722) (hts _ q723) (hts _ q66) hG.1 hP hD hS hA rfl (fs := [.null, .int (nI 0), .int (nI 0), .int (nI 0)]) (by decide) (Nat.le_of_ble_eq_true rfl) (by show 0 + 4 ≤ 4 + n; omega) dJ16_toString_0 (fun q0 H hP hD hS => ?_)
  have hP : va_P D CL [(a, .inr (17, [.ref v, .int (nI 0), .int (nI 0), .int (nI n)])), (v, .inl (dA 1, cap, .inl (bw g n))), (q0, .inr (16, [.null, .int (nI 0), .int (nI 0), .int (nI 0)]))] H := hP
  have hD : va_D A [(a, .inr (17, [.ref v, .int (nI 0), .int (nI 0), .int (nI n)])), (v, .inl (dA 1, cap, .inl (bw g n))), (q0, .inr (16, [.null, .int (nI 0), .int (nI 0), .int (nI 0)]))] := hD
  refine lv_dup hx hb dJ16_toString_3 rfl ?_
  refine lv_aload_n hx hb dJ16_toString_4 rfl (lv_at hl 0 rfl) ?_
  have hPs : va_P D CL ([(q0, .inr (16, [.null, .int (nI 0), .int (nI 0), .int (nI 0)])), (a, .inr (17, [.ref v, .int (nI 0), .int (nI 0), .int (nI n)])), (v, .inl (dA 1, cap, .inl (bw g n)))] ++ []) H := hP.sub [2, 0, 1] rfl
  have hDs : va_D A ([(q0, .inr (16, [.null, .int (nI 0), .int (nI 0), .int (nI 0)])), (a, .inr (17, [.ref v, .int (nI 0), .int (nI 0), .int (nI n)])), (v, .inl (dA 1, cap, .inl (bw g n)))] ++ []) := hD.sub [2, 0, 1] (by decide) rfl
  have hz9 := hS.1
  refine va_callv (va_runI (As := [.ref a]) (rest := [.ref q0]) ⟨hx, hb, hml, hown, hts⟩ (c_J3_init lh D dA H.size q0 a v n cap g (h1) (h2) (h3)) (cwI 1 hts (lw_meth q726) rfl rfl rfl (hts _ q66) (hts _ q724) (hts _ q725) rfl (by decide +kernel) ⟨Nat.le_of_ble_eq_true rfl, Nat.le_of_ble_eq_true rfl⟩) ⟨PX.blind (Mv.and Mv.heap (Mv.and Mv.heap (Mv.and Mv.heap (Mv.and Mv.gk KC.mv)))), PX.pre (Mv.and Mv.heap (Mv.and Mv.heap (Mv.and Mv.heap (Mv.and Mv.gk KC.mv)))) ⟨rfl, (va_P_left hPs), (va_D_left hDs), hG, (KC.at hKC hS (va_A_up hDs hA hS.1))⟩⟩ rfl rfl hl.1 rfl (lv_room (Nat.le_of_ble_eq_true rfl)) dJ16_toString_5 ⟨Nat.le_of_ble_eq_true rfl, by show 0 + 4 + n ≤ 4 + n; omega⟩) hS (fun q _ => (va_A_up hDs hA hS.1) q) ((va_A_up hDs hA hS.1)) (fun u t H1 locs ht hvm hp hB hz hk hS => ?_)
  generalize u = u5 at hp hB
  obtain ⟨hP1, hD1, -⟩ := hB
  rw [ht] at hP1
  obtain ⟨hP, hD⟩ := vp_join hPs hDs hP1 hD1 hk hA hz9
  clear ht hvm hz hk hP1 hD1 hPs hDs hz9
  generalize H1 = H at hP hS ⊢
  have hP : va_P D CL [(q0, .inr (16, [.ref u5, .int (nI 0), .int (nI 0), .int (nI 0)])), (a, .inr (17, [.ref v, .int (nI 0), .int (nI 0), .int (nI n)])), (v, .inl (dA 1, cap, .inl (bw g n))), (u5, .inl (dA 1, n, .inl (bw g n)))] H := hP
  have hD : va_D A [(q0, .inr (16, [.ref u5, .int (nI 0), .int (nI 0), .int (nI 0)])), (a, .inr (17, [.ref v, .int (nI 0), .int (nI 0), .int (nI n)])), (v, .inl (dA 1, cap, .inl (bw g n))), (u5, .inl (dA 1, n, .inl (bw g n)))] := hD
  subst hQ
  refine W.widen (k := 2) (n := (4 + n)) (by first | decide | omega) (by first | decide | omega) ?_
  have hP9 : va_P D CL [(a, .inr (17, [.ref v, .int (nI 0), .int (nI 0), .int (nI n)])), (v, .inl (dA 1, cap, .inl (bw g n))), (q0, .inr (16, [.ref u5, .int (nI 0), .int (nI 0), .int (nI 0)])), (u5, .inl (dA 1, n, .inl (bw g n)))] H := hP.sub [1, 2, 0, 3] rfl
  have hD9 : va_D A [(a, .inr (17, [.ref v, .int (nI 0), .int (nI 0), .int (nI n)])), (v, .inl (dA 1, cap, .inl (bw g n))), (q0, .inr (16, [.ref u5, .int (nI 0), .int (nI 0), .int (nI 0)])), (u5, .inl (dA 1, n, .inl (bw g n)))] := hD.sub [1, 2, 0, 3] (by decide) rfl
  exact W.aret (v := va_rf (some (q0))) hx hb hrt (Or.inl ⟨_, rfl⟩) (va_rf_or _) (fun t ht hW => ⟨⟨(some (q0)), (q0, u5), rfl, rfl, by rw [ht]; exact hP9, hD9, GK.warm hW hG⟩, hS.F ht⟩) hS.2.2 dJ16_toString_8
theorem w_J16_toString {R : Room} {s : State} {args : Array Value} {own : String} {idx : Nat} (hts : ∀ w ∈ lw_all, w.before args s = true) (h1 : Cond.methodLink own idx yJ16_toString ∈ lw_all) {rm : Room} {mc ms : Nat} (hrc : rm.cells = mc) (hrs : rm.slots = ms) (hR : rm.frames + 1 ≤ R.frames ∧ 8 + (1 + 11) + rm.locals ≤ R.locals) : CallW R s args own RJ16 idx yJ16_toString cJ16_toString 1 (some (.object "java/lang/String")) (ws_ yJ16_toString cJ16_toString 1 (some (.object "java/lang/String"))) rm mc ms 0 := cwV 0 hts (lw_V h1 q719 q720 q86 q721) rfl hrc hrs (by decide +kernel) hR
