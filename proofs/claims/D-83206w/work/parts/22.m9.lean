set_option maxRecDepth 100000
theorem narBv (b : Bool) : vp_nar .boolean (bI b) = bI b := by cases b <;> rfl
abbrev r_X2_plans : Room := { frames := 8, cells := 0, slots := 0, locals := 200 }
set_option maxHeartbeats 400000 in
theorem c_X2_plans (lh : Launch) (D : va_G) (dA : Nat → ClassId) (a0 : Nat) (ad : Nat → Nat) (N : Nat → Nat) (I : Nat → Int32) (G : Nat → Nat → Nat) (J : Nat → Nat → Int32) (sz : Nat) (h1 : OkS N G J) : Met lh yX2_plans (ws_ yX2_plans cX2_plans 3 none) r_X2_plans (PmM D dA a0 ad N I G J sz [.ref a0]) (va_Qv (fun u : SgT => u = (N, trI I (plT N I G J), plG N G J, trJ J (plT N I G J))) (BmM D dA a0 ad) (AM a0 ad sz)) 0 0 (AM a0 ad sz) := by
  refine Met.ofW (cc := cX2_plans) (maxL := 3) (ret := none) (by decide) rfl ?_
  intro p e s m args below meth cd s₁ B hml hv
  obtain ⟨hargs, hsz, hM, hG⟩ := hv
  have hx := B.exec
  have hb := B.bytes
  have hrt := B.returns
  have hts := atoms_spec (ws := (ws_ yX2_plans cX2_plans 3 none)) B.pre
  have hts : ∀ w ∈ lw_all, w.before _ s = true := fun w h => hts w (List.mem_cons_of_mem _ h)
  have hown : s.vm.findClass RX2 = some m.cls := findClass_of_methodNamed B.named
  have hlocks := B.notSynchronized
  subst hsz
  have hS : va_S (AM a0 ad s.heap.size) s.heap s.heap [] := va_S.rf
  have hE : entryFrame m args 3 = F0 m 0 ((lg_sl ([.ref a0]) ++ List.replicate (3 - (lg_sl ([.ref a0])).length) Slot.unset).toArray) [] := by rw [hargs]; exact lg_entry_eq m _ 3
  have hl := lv_entry ([.ref a0]) (n := 3) (Nat.le_of_ble_eq_true rfl)
  rw [hE]
  clear hE
  generalize (lg_sl ([.ref a0]) ++ List.replicate (3 - (lg_sl ([.ref a0])).length) Slot.unset).toArray = ls at hl ⊢
  have hl : lv_has ls 3 [(0, .ref a0)] := hl
  generalize hQ : MQ _ _ _ _ _ _ _ = Q
  have hokk := h1
  obtain ⟨hB, ⟨hn1, hn3, hn14, hn19, hn23, hn33, hn40, hn44⟩, hcr, hst, hwm, hrc⟩ := hokk
  have hPB : ∀ n c a b, plR N G J n c a b < 2 ^ 31 := fun n c a b => by
    by_cases h : a = 49
    · subst h
      unfold plR
      split
      · unfold bN; split <;> decide
      · exact hB _ _
    · rw [plR_o h]; exact hB _ _
  refine lv_iconst (v := nI 0) hx hb dX2_plans_0 (by decide) ?_
  refine lv_istore_n (lv' := [(1, .int (nI 0)), (0, .ref a0)]) hx hb dX2_plans_1 rfl hl (by decide) rfl (fun ls hl => ?_)
  have L2 : ∀ (nn2 : Nat) (o : Nat), (o ≤ N 44) → N 44 - o < nn2 → ∀ (H : Heap) (locs : List Loc), RM D dA a0 ad N I (plR N G J o 0) J H → va_S (AM a0 ad s.heap.size) s.heap H locs → ∀ (ls : Array Slot), lv_has ls 3 [(0, .ref a0), (1, .int (nI o))] → W p lh e r_X2_plans s m args below meth cd H locs 0 0 Q (F0 m 2 ls []) := by
    intro nn2
    induction nn2 with
    | zero => intro o i2_0 hm2; exact absurd hm2 (Nat.not_lt_zero _)
    | succ nn2 ih2 =>
      intro o i2_0 hm2 H locs hM hS ls hl
      refine lv_iload_n hx hb dX2_plans_2 rfl (lv_at hl 1 rfl) ?_
      refine lv_aload_n hx hb dX2_plans_3 rfl (lv_at hl 0 rfl) ?_
      refine M_get (v := .int (nI (N 44))) hx hb hts hown hG hM 44 (by decide) q1336 rfl rfl dX2_plans_4 ?_
      refine kn_cge (tgt := 49) hx hb dX2_plans_7 (by decide) (by omega) (by omega) (fun c_7 => ?_) (fun c_7 => ?_)
      · have eo : o = N 44 := (by omega)
        subst eo
        refine lv_aload_n hx hb dX2_plans_49 rfl (lv_at hl 0 rfl) ?_
        refine lv_iconst (v := -1) hx hb dX2_plans_50 (by decide) ?_
        refine M_put hx hb hts hown hG hS AM.o hM 52 (by decide) q1344 rfl rfl rfl N (up1 I 52 (-1)) rfl dX2_plans_51 (fun H locs hM hz hS => ?_)
        refine lv_aload_n hx hb dX2_plans_54 rfl (lv_at hl 0 rfl) ?_
        refine lv_iconst (v := nI 0) hx hb dX2_plans_55 (by decide) ?_
        refine M_put hx hb hts hown hG hS AM.o hM 53 (by decide) q1345 rfl rfl rfl N (up1 (up1 I 52 (-1)) 53 (nI 0)) rfl dX2_plans_56 (fun H locs hM hz hS => ?_)
        refine lv_aload_n hx hb dX2_plans_59 rfl (lv_at hl 0 rfl) ?_
        have hM : RM D dA a0 ad N (trI I (J 50, J 51, -1, nI 0)) (plG N G J) (trJ J (J 50, J 51, -1, nI 0)) H := by rw [trJ_id, ← trI_mk]; exact hM
        refine lv_iconst (v := nI 0) hx hb dX2_plans_60 (by decide) ?_
        refine lv_iconst (v := nI 0) hx hb dX2_plans_61 (by decide) ?_
        refine lv_iconst (v := nI 0) hx hb dX2_plans_62 (by decide) ?_
        refine lv_iconst (v := nI 0) hx hb dX2_plans_63 (by decide) ?_
        refine va_callv (va_runV (As := [.int (nI 0), .int (nI 0), .int (nI 0), .int (nI 0)]) (rest := []) ⟨hx, hb, hml, hown, hts⟩ (c_X2_tries lh D dA a0 ad N I (plG N G J) J (hPB _ _) hn3 hn44 (N 44) H.size 0 (nI 0) 0 0 (J 50, J 51, -1, nI 0) (by omega) (by decide)) (w_X2_tries hts q1678 rfl rfl ⟨by show N 44 + 1 + 1 ≤ 8; omega, by show 8 + (6 + 11) + (25 * N 44 + 25) ≤ 200; omega⟩) ⟨PmM.blind, M_recv hG hM, PmM.pre hG hM⟩ rfl rfl hl.1 rfl (lv_room (Nat.le_of_ble_eq_true rfl)) dX2_plans_64 ⟨Nat.le_of_ble_eq_true rfl, Nat.le_of_ble_eq_true rfl⟩) hS (fun q _ h => AM.up (hS.1) q h) (fun q h => AM.up (hS.1) q h) (fun u t H1 locs ht hvm hp hB hz hk hS => ?_)
        obtain ⟨hM, -⟩ := hB
        rw [ht] at hM
        clear ht hz hk
        generalize H1 = H at hM hS ⊢
        subst hp
        dsimp only at hM
        subst hQ
        exact W.vret hx hb hrt (fun t ht hW => ⟨⟨(N, (trI I (plT N I G J)), (plG N G J), (trJ J (plT N I G J))), rfl, (rfl), by rw [ht]; exact hM, GK.warm hW hG⟩, hS.F ht⟩) hS.2.2 dX2_plans_67
      · refine lv_iconst (v := nI 0) hx hb dX2_plans_10 (by decide) ?_
        refine lv_istore_n (lv' := [(2, .int (nI 0)), (0, .ref a0), (1, .int (nI o))]) hx hb dX2_plans_11 rfl hl (by decide) rfl (fun ls hl => ?_)
        have L12 : ∀ (nn12 : Nat) (c : Nat), (c ≤ N 3) → N 3 - c < nn12 → ∀ (H : Heap) (locs : List Loc), RM D dA a0 ad N I (plR N G J o c) J H → va_S (AM a0 ad s.heap.size) s.heap H locs → ∀ (ls : Array Slot), lv_has ls 3 [(0, .ref a0), (1, .int (nI o)), (2, .int (nI c))] → W p lh e r_X2_plans s m args below meth cd H locs 0 0 Q (F0 m 12 ls []) := by
          intro nn12
          induction nn12 with
          | zero => intro c i12_0 hm12; exact absurd hm12 (Nat.not_lt_zero _)
          | succ nn12 ih12 =>
            intro c i12_0 hm12 H locs hM hS ls hl
            refine lv_iload_n hx hb dX2_plans_12 rfl (lv_at hl 2 rfl) ?_
            refine lv_aload_n hx hb dX2_plans_13 rfl (lv_at hl 0 rfl) ?_
            refine M_get (v := .int (nI (N 3))) hx hb hts hown hG hM 3 (by decide) q1295 rfl rfl dX2_plans_14 ?_
            refine kn_cge (tgt := 43) hx hb dX2_plans_17 (by decide) (by omega) (by omega) (fun c_17 => ?_) (fun c_17 => ?_)
            · refine lv_iinc (v := nI (o + 1)) (lv' := [(1, .int (nI (o + 1))), (0, .ref a0), (2, .int (nI c))]) hx hb dX2_plans_43 hl (k := 1) rfl (show nI o + Int32.ofInt 1 = nI (o + 1) from nI_add _ 1) (by decide) rfl (fun ls hl => ?_)
              refine lv_goto (tgt := 2) hx hb dX2_plans_46 (by decide) ?_
              exact ih2 (o + 1) (by omega) (by omega) _ _ (by rw [← plR_n, show N 3 = c by omega]; exact hM) hS _ (lv_sub hl [1, 0] rfl)
            · refine lv_aload_n hx hb dX2_plans_20 rfl (lv_at hl 0 rfl) ?_
              refine M_get (v := .ref (ad 49)) hx hb hts hown hG hM 49 (by decide) q1341 rfl rfl dX2_plans_21 ?_
              refine lv_bipush (v := nI 10) hx hb dX2_plans_24 (by decide) ?_
              refine lv_iload_n hx hb dX2_plans_26 rfl (lv_at hl 1 rfl) ?_
              refine kn_mul hx hb dX2_plans_27 ?_
              refine lv_iload_n hx hb dX2_plans_28 rfl (lv_at hl 2 rfl) ?_
              refine kn_add hx hb dX2_plans_29 ?_
              refine lv_aload_n hx hb dX2_plans_30 rfl (lv_at hl 0 rfl) ?_
              refine lv_iload_n hx hb dX2_plans_31 rfl (lv_at hl 2 rfl) ?_
              refine lv_iload_n hx hb dX2_plans_32 rfl (lv_at hl 1 rfl) ?_
              refine vp_callSi (W.runV (As := [.int (nI c), .int (nI o)]) (rest := [.int (nI (10 * o + c)), .ref (ad 49)]) ⟨hx, hb, hml, hown, hts⟩ (c_X2_doesMeet lh D dA a0 ad N I (plR N G J o c) J c o (hPB _ _) (by omega) (hn14) (hn19) (by omega)) (w_X2_doesMeet hts q1666 rfl rfl ⟨Nat.le_of_ble_eq_true rfl, Nat.le_of_ble_eq_true rfl⟩) ⟨PqM.blind, M_recv hG hM, PqM.pre hG hM⟩ rfl rfl hl.1 rfl (lv_room (Nat.le_of_ble_eq_true rfl)) dX2_plans_33 ⟨Nat.le_of_ble_eq_true rfl, Nat.le_of_ble_eq_true rfl⟩) (fun rr hrr => ?_)
              subst hrr
              refine M_zastN (v := bN (dmS G J c o (N 14) (N 19) (N 42) (N 43))) hx hb hG hS hM 49 rfl (AM.a 49 rfl) rfl rfl (show 10 * o + c < 60 from by omega) (by rw [dmS_cg (G := G) (fun a h => plR_o h), bN_I]; exact narBv _) dX2_plans_36 (fun H locs hM hz hS => ?_)
              refine lv_iinc (v := nI (c + 1)) (lv' := [(2, .int (nI (c + 1))), (0, .ref a0), (1, .int (nI o))]) hx hb dX2_plans_37 hl (k := 2) rfl (show nI c + Int32.ofInt 1 = nI (c + 1) from nI_add _ 1) (by decide) rfl (fun ls hl => ?_)
              refine lv_goto (tgt := 12) hx hb dX2_plans_40 (by decide) ?_
              exact ih12 (c + 1) (by omega) (by omega) _ _ (by rw [← plR_s (by omega) rfl]; exact hM) hS _ (lv_sub hl [1, 2, 0] rfl)
        exact L12 _ 0 (by omega) (Nat.lt_succ_self _) _ _ hM hS _ (lv_sub hl [1, 2, 0] rfl)
  exact L2 _ 0 (by omega) (Nat.lt_succ_self _) _ _ (by rw [plR_0]; exact hM) hS _ (lv_sub hl [1, 0] rfl)
theorem w_X2_plans {R : Room} {s : State} {args : Array Value} {own : String} {idx : Nat} (hts : ∀ w ∈ lw_all, w.before args s = true) (h1 : Cond.methodLink own idx yX2_plans ∈ lw_all) {rm : Room} {mc ms : Nat} (hrc : rm.cells = mc) (hrs : rm.slots = ms) (hR : rm.frames + 1 ≤ R.frames ∧ 8 + (3 + 11) + rm.locals ≤ R.locals) : CallW R s args own RX2 idx yX2_plans cX2_plans 3 none (ws_ yX2_plans cX2_plans 3 none) rm mc ms 0 := cwV 0 hts (lw_V h1 q1676 qs59 q70 q1677) rfl hrc hrs (by decide +kernel) hR

abbrev r_X2_plan : Room := { frames := 9, cells := 0, slots := 0, locals := 222 }
set_option maxHeartbeats 400000 in
theorem c_X2_plan (lh : Launch) (D : va_G) (dA : Nat → ClassId) (a0 : Nat) (ad : Nat → Nat) (N : Nat → Nat) (I : Nat → Int32) (G : Nat → Nat → Nat) (J : Nat → Nat → Int32) (sz : Nat) (h1 : OkS N G J) : Met lh yX2_plan (ws_ yX2_plan cX2_plan 1 (some .int)) r_X2_plan (PmM D dA a0 ad N I G J sz [.ref a0]) (va_Qi (fun (r : Int32) (u : SgT) => r = (plT (up1 N 0 0) I G J).2.2.1 ∧ u = (up1 N 0 0, trI I (plT (up1 N 0 0) I G J), plG (up1 N 0 0) G J, trJ J (plT (up1 N 0 0) I G J))) (BmM D dA a0 ad) (AM a0 ad sz)) 0 0 (AM a0 ad sz) := by
  refine Met.ofW (cc := cX2_plan) (maxL := 1) (ret := (some .int)) (by decide) rfl ?_
  intro p e s m args below meth cd s₁ B hml hv
  obtain ⟨hargs, hsz, hM, hG⟩ := hv
  have hx := B.exec
  have hb := B.bytes
  have hrt := B.returns
  have hts := atoms_spec (ws := (ws_ yX2_plan cX2_plan 1 (some .int))) B.pre
  have hts : ∀ w ∈ lw_all, w.before _ s = true := fun w h => hts w (List.mem_cons_of_mem _ h)
  have hown : s.vm.findClass RX2 = some m.cls := findClass_of_methodNamed B.named
  have hlocks := B.notSynchronized
  subst hsz
  have hS : va_S (AM a0 ad s.heap.size) s.heap s.heap [] := va_S.rf
  have hE : entryFrame m args 1 = F0 m 0 ((lg_sl ([.ref a0]) ++ List.replicate (1 - (lg_sl ([.ref a0])).length) Slot.unset).toArray) [] := by rw [hargs]; exact lg_entry_eq m _ 1
  have hl := lv_entry ([.ref a0]) (n := 1) (Nat.le_of_ble_eq_true rfl)
  rw [hE]
  clear hE
  generalize (lg_sl ([.ref a0]) ++ List.replicate (1 - (lg_sl ([.ref a0])).length) Slot.unset).toArray = ls at hl ⊢
  have hl : lv_has ls 1 [(0, .ref a0)] := hl
  generalize hQ : MQ _ _ _ _ _ _ _ = Q
  refine lv_aload_n hx hb dX2_plan_0 rfl (lv_at hl 0 rfl) ?_
  refine lv_iconst (v := nI 0) hx hb dX2_plan_1 (by decide) ?_
  refine M_put hx hb hts hown hG hS AM.o hM 0 (by decide) q1292 rfl rfl rfl (up1 N 0 0) I rfl dX2_plan_2 (fun H locs hM hz hS => ?_)
  refine lv_aload_n hx hb dX2_plan_5 rfl (lv_at hl 0 rfl) ?_
  refine va_callv (va_runV (As := []) (rest := []) ⟨hx, hb, hml, hown, hts⟩ (c_X2_plans lh D dA a0 ad (up1 N 0 0) I G J H.size (h1)) (w_X2_plans hts q1674 rfl rfl ⟨Nat.le_of_ble_eq_true rfl, Nat.le_of_ble_eq_true rfl⟩) ⟨PmM.blind, M_recv hG hM, PmM.pre hG hM⟩ rfl rfl hl.1 rfl (lv_room (Nat.le_of_ble_eq_true rfl)) dX2_plan_6 ⟨Nat.le_of_ble_eq_true rfl, Nat.le_of_ble_eq_true rfl⟩) hS (fun q _ h => AM.up (hS.1) q h) (fun q h => AM.up (hS.1) q h) (fun u t H1 locs ht hvm hp hB hz hk hS => ?_)
  obtain ⟨hM, -⟩ := hB
  rw [ht] at hM
  clear ht hz hk
  generalize H1 = H at hM hS ⊢
  subst hp
  dsimp only at hM
  refine lv_aload_n hx hb dX2_plan_9 rfl (lv_at hl 0 rfl) ?_
  refine M_get (v := .int ((trI I (plT (up1 N 0 0) I G J)) 52)) hx hb hts hown hG hM 52 (by decide) q1344 rfl rfl dX2_plan_10 ?_
  subst hQ
  exact W.iret (v := (trI I (plT (up1 N 0 0) I G J)) 52) hx hb hrt (fun t ht hW => ⟨⟨_, ((up1 N 0 0), (trI I (plT (up1 N 0 0) I G J)), (plG (up1 N 0 0) G J), (trJ J (plT (up1 N 0 0) I G J))), rfl, (⟨rfl, rfl⟩), by rw [ht]; exact hM, GK.warm hW hG⟩, hS.F ht⟩) hS.2.2 dX2_plan_13
theorem w_X2_plan {R : Room} {s : State} {args : Array Value} {own : String} {idx : Nat} (hts : ∀ w ∈ lw_all, w.before args s = true) (h1 : Cond.methodLink own idx yX2_plan ∈ lw_all) {rm : Room} {mc ms : Nat} (hrc : rm.cells = mc) (hrs : rm.slots = ms) (hR : rm.frames + 1 ≤ R.frames ∧ 8 + (1 + 11) + rm.locals ≤ R.locals) : CallW R s args own RX2 idx yX2_plan cX2_plan 1 (some .int) (ws_ yX2_plan cX2_plan 1 (some .int)) rm mc ms 0 := cwV 0 hts (lw_V h1 q1671 q1672 q70 q1673) rfl hrc hrs (by decide +kernel) hR

abbrev r_X2_planned : Room := { frames := 9, cells := 0, slots := 0, locals := 222 }
set_option maxHeartbeats 400000 in
theorem c_X2_planned (lh : Launch) (D : va_G) (dA : Nat → ClassId) (a0 : Nat) (ad : Nat → Nat) (N : Nat → Nat) (I : Nat → Int32) (G : Nat → Nat → Nat) (J : Nat → Nat → Int32) (sz : Nat) (o : Int32) (h1 : OkS N G J) : Met lh yX2_planned (ws_ yX2_planned cX2_planned 2 (some .int)) r_X2_planned (PmM D dA a0 ad N I G J sz [.ref a0, .int o]) (va_Qi (fun (r : Int32) (u : SgT) => if wi o (nI 0) (nI (N 44) - nI 1) = true then r = (plT (up1 N 0 0) I G J).2.1 (tn o) ∧ u = (up1 N 0 0, trI I (plT (up1 N 0 0) I G J), plG (up1 N 0 0) G J, trJ J (plT (up1 N 0 0) I G J)) else r = -1 ∧ u = (up1 N 0 0, I, G, J)) (BmM D dA a0 ad) (AM a0 ad sz)) 0 0 (AM a0 ad sz) := by
  refine Met.ofW (cc := cX2_planned) (maxL := 2) (ret := (some .int)) (by decide) rfl ?_
  intro p e s m args below meth cd s₁ B hml hv
  obtain ⟨hargs, hsz, hM, hG⟩ := hv
  have hx := B.exec
  have hb := B.bytes
  have hrt := B.returns
  have hts := atoms_spec (ws := (ws_ yX2_planned cX2_planned 2 (some .int))) B.pre
  have hts : ∀ w ∈ lw_all, w.before _ s = true := fun w h => hts w (List.mem_cons_of_mem _ h)
  have hown : s.vm.findClass RX2 = some m.cls := findClass_of_methodNamed B.named
  have hlocks := B.notSynchronized
  subst hsz
  have hS : va_S (AM a0 ad s.heap.size) s.heap s.heap [] := va_S.rf
  have hE : entryFrame m args 2 = F0 m 0 ((lg_sl ([.ref a0, .int o]) ++ List.replicate (2 - (lg_sl ([.ref a0, .int o])).length) Slot.unset).toArray) [] := by rw [hargs]; exact lg_entry_eq m _ 2
  have hl := lv_entry ([.ref a0, .int o]) (n := 2) (Nat.le_of_ble_eq_true rfl)
  rw [hE]
  clear hE
  generalize (lg_sl ([.ref a0, .int o]) ++ List.replicate (2 - (lg_sl ([.ref a0, .int o])).length) Slot.unset).toArray = ls at hl ⊢
  have hl : lv_has ls 2 [(0, .ref a0), (1, .int o)] := hl
  generalize hQ : MQ _ _ _ _ _ _ _ = Q
  have hokk := h1
  obtain ⟨hB, ⟨hn1, hn3, hn14, hn19, hn23, hn33, hn40, hn44⟩, hcr, hst, hwm, hrc⟩ := hokk
  refine lv_aload_n hx hb dX2_planned_0 rfl (lv_at hl 0 rfl) ?_
  refine lv_iconst (v := nI 0) hx hb dX2_planned_1 (by decide) ?_
  refine M_put hx hb hts hown hG hS AM.o hM 0 (by decide) q1292 rfl rfl rfl (up1 N 0 0) I rfl dX2_planned_2 (fun H locs hM hz hS => ?_)
  refine lv_iload_n hx hb dX2_planned_5 rfl (lv_at hl 1 rfl) ?_
  refine lv_iconst (v := nI 0) hx hb dX2_planned_6 (by decide) ?_
  refine lv_aload_n hx hb dX2_planned_7 rfl (lv_at hl 0 rfl) ?_
  refine M_get (v := .int (nI (N 44))) hx hb hts hown hG hM 44 (by decide) q1336 rfl rfl dX2_planned_8 ?_
  refine lv_iconst (v := nI 1) hx hb dX2_planned_11 (by decide) ?_
  refine lv_isub hx hb dX2_planned_12 ?_
  refine vp_callSi (W.runS (As := [.int o, .int (nI 0), .int (nI (N 44) - (nI 1))]) (rest := []) ⟨hx, hb, hml, hown, hts⟩ (c_X2_within lh o (nI 0) (nI (N 44) - (nI 1))) (w_X2_within hts q1464 rfl rfl ⟨Nat.le_of_ble_eq_true rfl, Nat.le_of_ble_eq_true rfl⟩) ⟨P0.blind, P0.pre⟩ rfl rfl hl.1 rfl (lv_room (Nat.le_of_ble_eq_true rfl)) dX2_planned_13 ⟨Nat.le_of_ble_eq_true rfl, Nat.le_of_ble_eq_true rfl⟩) (fun rr hrr => ?_)
  subst hrr
  refine kx_int (y := bI (wi o (nI 0) (nI (N 44) - (nI 1)))) rfl ?_
  refine kb_ne (tgt := 21) hx hb dX2_planned_16 (by decide) (fun c_16 => ?_) (fun c_16 => ?_)
  · obtain ⟨j, hj, rfl⟩ := wi_cnt (by omega) c_16
    refine lv_aload_n hx hb dX2_planned_21 rfl (lv_at hl 0 rfl) ?_
    refine va_callv (va_runV (As := []) (rest := []) ⟨hx, hb, hml, hown, hts⟩ (c_X2_plans lh D dA a0 ad (up1 N 0 0) I G J H.size (h1)) (w_X2_plans hts q1674 rfl rfl ⟨Nat.le_of_ble_eq_true rfl, Nat.le_of_ble_eq_true rfl⟩) ⟨PmM.blind, M_recv hG hM, PmM.pre hG hM⟩ rfl rfl hl.1 rfl (lv_room (Nat.le_of_ble_eq_true rfl)) dX2_planned_22 ⟨Nat.le_of_ble_eq_true rfl, Nat.le_of_ble_eq_true rfl⟩) hS (fun q _ h => AM.up (hS.1) q h) (fun q h => AM.up (hS.1) q h) (fun u t H1 locs ht hvm hp hB hz hk hS => ?_)
    obtain ⟨hM, -⟩ := hB
    rw [ht] at hM
    clear ht hz hk
    generalize H1 = H at hM hS ⊢
    subst hp
    dsimp only at hM
    refine lv_aload_n hx hb dX2_planned_25 rfl (lv_at hl 0 rfl) ?_
    refine M_get (v := .ref (ad 51)) hx hb hts hown hG hM 51 (by decide) q1343 rfl rfl dX2_planned_26 ?_
    refine lv_iload_n hx hb dX2_planned_29 rfl (lv_at hl 1 rfl) ?_
    refine M_iald (v := (trJ J (plT (up1 N 0 0) I G J)) 51 j) hx hb hG hM 51 rfl rfl (show j < 6 from by omega) (rfl) dX2_planned_30 ?_
    subst hQ
    exact W.iret (v := (trJ J (plT (up1 N 0 0) I G J)) 51 j) hx hb hrt (fun t ht hW => ⟨⟨_, ((up1 N 0 0), (trI I (plT (up1 N 0 0) I G J)), (plG (up1 N 0 0) G J), (trJ J (plT (up1 N 0 0) I G J))), rfl, (by dsimp only; rw [if_pos c_16, tn_nI (show j < 2 ^ 31 by omega)]; exact ⟨rfl, rfl⟩), by rw [ht]; exact hM, GK.warm hW hG⟩, hS.F ht⟩) hS.2.2 dX2_planned_31
  · refine lv_iconst (v := -1) hx hb dX2_planned_19 (by decide) ?_
    subst hQ
    exact W.iret (v := (-1)) hx hb hrt (fun t ht hW => ⟨⟨_, ((up1 N 0 0), I, G, J), rfl, (by dsimp only; rw [if_neg (by rw [c_16]; decide)]; exact ⟨rfl, rfl⟩), by rw [ht]; exact hM, GK.warm hW hG⟩, hS.F ht⟩) hS.2.2 dX2_planned_20
theorem w_X2_planned {R : Room} {s : State} {args : Array Value} {own : String} {idx : Nat} (hts : ∀ w ∈ lw_all, w.before args s = true) (h1 : Cond.methodLink own idx yX2_planned ∈ lw_all) {rm : Room} {mc ms : Nat} (hrc : rm.cells = mc) (hrs : rm.slots = ms) (hR : rm.frames + 1 ≤ R.frames ∧ 8 + (2 + 11) + rm.locals ≤ R.locals) : CallW R s args own RX2 idx yX2_planned cX2_planned 2 (some .int) (ws_ yX2_planned cX2_planned 2 (some .int)) rm mc ms 1 := cwV 1 hts (lw_V h1 q1683 q1684 q70 q1685) rfl hrc hrs (by decide +kernel) hR

abbrev r_X2_feed : Room := { frames := 0, cells := 0, slots := 0, locals := 0 }
set_option maxHeartbeats 400000 in
theorem c_X2_feed (lh : Launch) (D : va_G) (dA : Nat → ClassId) (a0 : Nat) (ad : Nat → Nat) (N : Nat → Nat) (I : Nat → Int32) (G : Nat → Nat → Nat) (J : Nat → Nat → Int32) (sz : Nat) (a : Int32) (b : Int32) (c : Int32) (d : Int32) (f : Int32) (h1 : N 33 ≤ 300) : Met lh yX2_feed (ws_ yX2_feed cX2_feed 8 (some .int)) r_X2_feed (PmM D dA a0 ad N I G J sz [.ref a0, .int a, .int b, .int c, .int d, .int f]) (va_Qi (fun (r : Int32) (u : SgT) => if N 33 ≤ 280 then r = nI (N 33 + 20) ∧ u = (up1 (up1 N 0 0) 33 (N 33 + 20), I, G, sj J 32 (N 33) 20 (fdB a b c d f)) else r = -1 ∧ u = (up1 N 0 0, I, G, J)) (BmM D dA a0 ad) (AM a0 ad sz)) 0 0 (AM a0 ad sz) := by
  refine Met.ofW (cc := cX2_feed) (maxL := 8) (ret := (some .int)) (by decide) rfl ?_
  intro p e s m args below meth cd s₁ B hml hv
  obtain ⟨hargs, hsz, hM, hG⟩ := hv
  have hx := B.exec
  have hb := B.bytes
  have hrt := B.returns
  have hts := atoms_spec (ws := (ws_ yX2_feed cX2_feed 8 (some .int))) B.pre
  have hts : ∀ w ∈ lw_all, w.before _ s = true := fun w h => hts w (List.mem_cons_of_mem _ h)
  have hown : s.vm.findClass RX2 = some m.cls := findClass_of_methodNamed B.named
  have hlocks := B.notSynchronized
  subst hsz
  have hS : va_S (AM a0 ad s.heap.size) s.heap s.heap [] := va_S.rf
  have hE : entryFrame m args 8 = F0 m 0 ((lg_sl ([.ref a0, .int a, .int b, .int c, .int d, .int f]) ++ List.replicate (8 - (lg_sl ([.ref a0, .int a, .int b, .int c, .int d, .int f])).length) Slot.unset).toArray) [] := by rw [hargs]; exact lg_entry_eq m _ 8
  have hl := lv_entry ([.ref a0, .int a, .int b, .int c, .int d, .int f]) (n := 8) (Nat.le_of_ble_eq_true rfl)
  rw [hE]
  clear hE
  generalize (lg_sl ([.ref a0, .int a, .int b, .int c, .int d, .int f]) ++ List.replicate (8 - (lg_sl ([.ref a0, .int a, .int b, .int c, .int d, .int f])).length) Slot.unset).toArray = ls at hl ⊢
  have hl : lv_has ls 8 [(0, .ref a0), (1, .int a), (2, .int b), (3, .int c), (4, .int d), (5, .int f)] := hl
  generalize hQ : MQ _ _ _ _ _ _ _ = Q
  refine lv_aload_n hx hb dX2_feed_0 rfl (lv_at hl 0 rfl) ?_
  refine lv_iconst (v := nI 0) hx hb dX2_feed_1 (by decide) ?_
  refine M_put hx hb hts hown hG hS AM.o hM 0 (by decide) q1292 rfl rfl rfl (up1 N 0 0) I rfl dX2_feed_2 (fun H locs hM hz hS => ?_)
  refine lv_aload_n hx hb dX2_feed_5 rfl (lv_at hl 0 rfl) ?_
  refine M_get (v := .int (nI (N 33))) hx hb hts hown hG hM 33 (by decide) q1325 rfl rfl dX2_feed_6 ?_
  refine lv_sipush (v := nI 280) hx hb dX2_feed_9 (by decide) ?_
  refine kn_cle (tgt := 17) hx hb dX2_feed_12 (by decide) (by omega) (by omega) (fun c_12 => ?_) (fun c_12 => ?_)
  · refine lv_iconst (v := nI 0) hx hb dX2_feed_17 (by decide) ?_
    refine lv_istore (lv' := [(6, .int (nI 0)), (0, .ref a0), (1, .int a), (2, .int b), (3, .int c), (4, .int d), (5, .int f)]) hx hb dX2_feed_18 hl (by decide) rfl (fun ls hl => ?_)
    have L20 : ∀ (nn20 : Nat) (k : Nat), (k ≤ 20) → 20 - k < nn20 → ∀ (H : Heap) (locs : List Loc), RM D dA a0 ad (up1 (up1 N 0 0) 33 (N 33 + k)) I G (sj J 32 (N 33) k (fdB a b c d f)) H → va_S (AM a0 ad s.heap.size) s.heap H locs → ∀ (ls : Array Slot), lv_has ls 8 [(0, .ref a0), (1, .int a), (2, .int b), (3, .int c), (4, .int d), (5, .int f), (6, .int (nI k))] → W p lh e r_X2_feed s m args below meth cd H locs 0 0 Q (F0 m 20 ls []) := by
      intro nn20
      induction nn20 with
      | zero => intro k i20_0 hm20; exact absurd hm20 (Nat.not_lt_zero _)
      | succ nn20 ih20 =>
        intro k i20_0 hm20 H locs hM hS ls hl
        refine lv_iload hx hb dX2_feed_20 (lv_at hl 6 rfl) ?_
        refine lv_bipush (v := nI 20) hx hb dX2_feed_22 (by decide) ?_
        refine kn_cge (tgt := 114) hx hb dX2_feed_24 (by decide) (by omega) (by omega) (fun c_24 => ?_) (fun c_24 => ?_)
        · refine lv_aload_n hx hb dX2_feed_114 rfl (lv_at hl 0 rfl) ?_
          refine M_get (v := .int (nI (N 33 + k))) hx hb hts hown hG hM 33 (by decide) q1325 rfl rfl dX2_feed_115 ?_
          subst hQ
          exact W.iret (v := nI (N 33 + k)) hx hb hrt (fun t ht hW => ⟨⟨_, ((up1 (up1 N 0 0) 33 (N 33 + k)), I, G, (sj J 32 (N 33) k (fdB a b c d f))), rfl, (by dsimp only; rw [if_pos c_12]; have ek : k = 20 := (by omega); subst ek; exact ⟨rfl, rfl⟩), by rw [ht]; exact hM, GK.warm hW hG⟩, hS.F ht⟩) hS.2.2 dX2_feed_118
        · refine lv_iload hx hb dX2_feed_27 (lv_at hl 6 rfl) ?_
          refine lv_iconst (v := nI 4) hx hb dX2_feed_29 (by decide) ?_
          refine kn_cge (tgt := 37) hx hb dX2_feed_30 (by decide) (by omega) (by omega) (fun c_30 => ?_) (fun c_30 => ?_)
          · refine lv_iload hx hb dX2_feed_37 (lv_at hl 6 rfl) ?_
            refine lv_bipush (v := nI 8) hx hb dX2_feed_39 (by decide) ?_
            refine kn_cge (tgt := 48) hx hb dX2_feed_41 (by decide) (by omega) (by omega) (fun c_41 => ?_) (fun c_41 => ?_)
            · refine lv_iload hx hb dX2_feed_48 (lv_at hl 6 rfl) ?_
              refine lv_bipush (v := nI 12) hx hb dX2_feed_50 (by decide) ?_
              refine kn_cge (tgt := 59) hx hb dX2_feed_52 (by decide) (by omega) (by omega) (fun c_52 => ?_) (fun c_52 => ?_)
              · refine lv_iload hx hb dX2_feed_59 (lv_at hl 6 rfl) ?_
                refine lv_bipush (v := nI 16) hx hb dX2_feed_61 (by decide) ?_
                refine kn_cge (tgt := 71) hx hb dX2_feed_63 (by decide) (by omega) (by omega) (fun c_63 => ?_) (fun c_63 => ?_)
                · refine lv_iload hx hb dX2_feed_71 (lv_at hl 5 rfl) ?_
                  refine lv_istore (lv' := [(7, .int f), (0, .ref a0), (1, .int a), (2, .int b), (3, .int c), (4, .int d), (5, .int f), (6, .int (nI k))]) hx hb dX2_feed_73 hl (by decide) rfl (fun ls hl => ?_)
                  refine lv_aload_n hx hb dX2_feed_75 rfl (lv_at hl 1 rfl) ?_
                  refine M_get (v := .ref (ad 32)) hx hb hts hown hG hM 32 (by decide) q1324 rfl rfl dX2_feed_76 ?_
                  refine lv_aload_n hx hb dX2_feed_79 rfl (lv_at hl 1 rfl) ?_
                  refine M_get (v := .int (nI (N 33 + k))) hx hb hts hown hG hM 33 (by decide) q1325 rfl rfl dX2_feed_80 ?_
                  refine lv_iload hx hb dX2_feed_83 (lv_at hl 0 rfl) ?_
                  refine lv_bipush (v := nI 24) hx hb dX2_feed_85 (by decide) ?_
                  refine lv_bipush (v := nI 8) hx hb dX2_feed_87 (by decide) ?_
                  refine lv_iload hx hb dX2_feed_89 (lv_at hl 7 rfl) ?_
                  refine lv_iconst (v := nI 4) hx hb dX2_feed_91 (by decide) ?_
                  refine kn_rem hx hb dX2_feed_92 (by omega) (by omega) (by omega) ?_
                  refine kn_mul hx hb dX2_feed_93 ?_
                  refine kn_sub hx hb dX2_feed_94 (by omega) ?_
                  refine lv_ishr hx hb dX2_feed_95 ?_
                  refine lv_i2b (v := (f >>> ((nI (24 - (8 * (k % 4)))) &&& 31)).toInt8.toInt32) hx hb dX2_feed_96 rfl ?_
                  refine M_bastJ (v := (f >>> ((nI (24 - (8 * (k % 4)))) &&& 31)).toInt8.toInt32) hx hb hG hS hM 32 rfl (AM.a 32 rfl) rfl rfl (show N 33 + k < 300 from by omega) (pk_vb _) dX2_feed_97 (fun H locs hM hz hS => ?_)
                  refine lv_aload_n hx hb dX2_feed_98 rfl (lv_at hl 1 rfl) ?_
                  refine lv_dup hx hb dX2_feed_99 rfl ?_
                  refine M_get (v := .int (nI (N 33 + k))) hx hb hts hown hG hM 33 (by decide) q1325 rfl rfl dX2_feed_100 ?_
                  refine lv_iconst (v := nI 1) hx hb dX2_feed_103 (by decide) ?_
                  refine kn_add hx hb dX2_feed_104 ?_
                  refine M_put hx hb hts hown hG hS AM.o hM 33 (by decide) q1325 rfl rfl rfl (up1 (up1 (up1 N 0 0) 33 (N 33 + k)) 33 (N 33 + k + 1)) I rfl dX2_feed_105 (fun H locs hM hz hS => ?_)
                  refine lv_iinc (v := nI (k + 1)) (lv' := [(6, .int (nI (k + 1))), (7, .int f), (0, .ref a0), (1, .int a), (2, .int b), (3, .int c), (4, .int d), (5, .int f)]) hx hb dX2_feed_108 hl (k := 7) rfl (show nI k + Int32.ofInt 1 = nI (k + 1) from nI_add _ 1) (by decide) rfl (fun ls hl => ?_)
                  refine lv_goto (tgt := 20) hx hb dX2_feed_111 (by decide) ?_
                  have hfb : (f >>> ((nI (24 - (8 * (k % 4)))) &&& 31)).toInt8.toInt32 = fdB a b c d f k := by unfold fdB fdW; simp [Nat.not_lt.mpr c_30, Nat.not_lt.mpr c_41, Nat.not_lt.mpr c_52, Nat.not_lt.mpr c_63]
                  have hM : RM D dA a0 ad (up1 (up1 N 0 0) 33 (N 33 + k + 1)) I G (sj J 32 (N 33) (k + 1) (fdB a b c d f)) H := by rw [← sj_s hfb]; exact hM
                  exact ih20 (k + 1) (by omega) (by omega) _ _ hM hS _ (lv_sub hl [2, 3, 4, 5, 6, 7, 0] rfl)
                · refine lv_iload hx hb dX2_feed_66 (lv_at hl 4 rfl) ?_
                  refine lv_goto (tgt := 73) hx hb dX2_feed_68 (by decide) ?_
                  refine lv_istore (lv' := [(7, .int d), (0, .ref a0), (1, .int a), (2, .int b), (3, .int c), (4, .int d), (5, .int f), (6, .int (nI k))]) hx hb dX2_feed_73 hl (by decide) rfl (fun ls hl => ?_)
                  refine lv_aload_n hx hb dX2_feed_75 rfl (lv_at hl 1 rfl) ?_
                  refine M_get (v := .ref (ad 32)) hx hb hts hown hG hM 32 (by decide) q1324 rfl rfl dX2_feed_76 ?_
                  refine lv_aload_n hx hb dX2_feed_79 rfl (lv_at hl 1 rfl) ?_
                  refine M_get (v := .int (nI (N 33 + k))) hx hb hts hown hG hM 33 (by decide) q1325 rfl rfl dX2_feed_80 ?_
                  refine lv_iload hx hb dX2_feed_83 (lv_at hl 0 rfl) ?_
                  refine lv_bipush (v := nI 24) hx hb dX2_feed_85 (by decide) ?_
                  refine lv_bipush (v := nI 8) hx hb dX2_feed_87 (by decide) ?_
                  refine lv_iload hx hb dX2_feed_89 (lv_at hl 7 rfl) ?_
                  refine lv_iconst (v := nI 4) hx hb dX2_feed_91 (by decide) ?_
                  refine kn_rem hx hb dX2_feed_92 (by omega) (by omega) (by omega) ?_
                  refine kn_mul hx hb dX2_feed_93 ?_
                  refine kn_sub hx hb dX2_feed_94 (by omega) ?_
                  refine lv_ishr hx hb dX2_feed_95 ?_
                  refine lv_i2b (v := (d >>> ((nI (24 - (8 * (k % 4)))) &&& 31)).toInt8.toInt32) hx hb dX2_feed_96 rfl ?_
                  refine M_bastJ (v := (d >>> ((nI (24 - (8 * (k % 4)))) &&& 31)).toInt8.toInt32) hx hb hG hS hM 32 rfl (AM.a 32 rfl) rfl rfl (show N 33 + k < 300 from by omega) (pk_vb _) dX2_feed_97 (fun H locs hM hz hS => ?_)
                  refine lv_aload_n hx hb dX2_feed_98 rfl (lv_at hl 1 rfl) ?_
                  refine lv_dup hx hb dX2_feed_99 rfl ?_
                  refine M_get (v := .int (nI (N 33 + k))) hx hb hts hown hG hM 33 (by decide) q1325 rfl rfl dX2_feed_100 ?_
                  refine lv_iconst (v := nI 1) hx hb dX2_feed_103 (by decide) ?_
                  refine kn_add hx hb dX2_feed_104 ?_
                  refine M_put hx hb hts hown hG hS AM.o hM 33 (by decide) q1325 rfl rfl rfl (up1 (up1 (up1 N 0 0) 33 (N 33 + k)) 33 (N 33 + k + 1)) I rfl dX2_feed_105 (fun H locs hM hz hS => ?_)
                  refine lv_iinc (v := nI (k + 1)) (lv' := [(6, .int (nI (k + 1))), (7, .int d), (0, .ref a0), (1, .int a), (2, .int b), (3, .int c), (4, .int d), (5, .int f)]) hx hb dX2_feed_108 hl (k := 7) rfl (show nI k + Int32.ofInt 1 = nI (k + 1) from nI_add _ 1) (by decide) rfl (fun ls hl => ?_)
                  refine lv_goto (tgt := 20) hx hb dX2_feed_111 (by decide) ?_
                  have hfb : (d >>> ((nI (24 - (8 * (k % 4)))) &&& 31)).toInt8.toInt32 = fdB a b c d f k := by unfold fdB fdW; simp [Nat.not_lt.mpr c_30, Nat.not_lt.mpr c_41, Nat.not_lt.mpr c_52, c_63]
                  have hM : RM D dA a0 ad (up1 (up1 N 0 0) 33 (N 33 + k + 1)) I G (sj J 32 (N 33) (k + 1) (fdB a b c d f)) H := by rw [← sj_s hfb]; exact hM
                  exact ih20 (k + 1) (by omega) (by omega) _ _ hM hS _ (lv_sub hl [2, 3, 4, 5, 6, 7, 0] rfl)
              · refine lv_iload_n hx hb dX2_feed_55 rfl (lv_at hl 3 rfl) ?_
                refine lv_goto (tgt := 73) hx hb dX2_feed_56 (by decide) ?_
                refine lv_istore (lv' := [(7, .int c), (0, .ref a0), (1, .int a), (2, .int b), (3, .int c), (4, .int d), (5, .int f), (6, .int (nI k))]) hx hb dX2_feed_73 hl (by decide) rfl (fun ls hl => ?_)
                refine lv_aload_n hx hb dX2_feed_75 rfl (lv_at hl 1 rfl) ?_
                refine M_get (v := .ref (ad 32)) hx hb hts hown hG hM 32 (by decide) q1324 rfl rfl dX2_feed_76 ?_
                refine lv_aload_n hx hb dX2_feed_79 rfl (lv_at hl 1 rfl) ?_
                refine M_get (v := .int (nI (N 33 + k))) hx hb hts hown hG hM 33 (by decide) q1325 rfl rfl dX2_feed_80 ?_
                refine lv_iload hx hb dX2_feed_83 (lv_at hl 0 rfl) ?_
                refine lv_bipush (v := nI 24) hx hb dX2_feed_85 (by decide) ?_
                refine lv_bipush (v := nI 8) hx hb dX2_feed_87 (by decide) ?_
                refine lv_iload hx hb dX2_feed_89 (lv_at hl 7 rfl) ?_
                refine lv_iconst (v := nI 4) hx hb dX2_feed_91 (by decide) ?_
                refine kn_rem hx hb dX2_feed_92 (by omega) (by omega) (by omega) ?_
                refine kn_mul hx hb dX2_feed_93 ?_
                refine kn_sub hx hb dX2_feed_94 (by omega) ?_
                refine lv_ishr hx hb dX2_feed_95 ?_
                refine lv_i2b (v := (c >>> ((nI (24 - (8 * (k % 4)))) &&& 31)).toInt8.toInt32) hx hb dX2_feed_96 rfl ?_
                refine M_bastJ (v := (c >>> ((nI (24 - (8 * (k % 4)))) &&& 31)).toInt8.toInt32) hx hb hG hS hM 32 rfl (AM.a 32 rfl) rfl rfl (show N 33 + k < 300 from by omega) (pk_vb _) dX2_feed_97 (fun H locs hM hz hS => ?_)
                refine lv_aload_n hx hb dX2_feed_98 rfl (lv_at hl 1 rfl) ?_
                refine lv_dup hx hb dX2_feed_99 rfl ?_
                refine M_get (v := .int (nI (N 33 + k))) hx hb hts hown hG hM 33 (by decide) q1325 rfl rfl dX2_feed_100 ?_
                refine lv_iconst (v := nI 1) hx hb dX2_feed_103 (by decide) ?_
                refine kn_add hx hb dX2_feed_104 ?_
                refine M_put hx hb hts hown hG hS AM.o hM 33 (by decide) q1325 rfl rfl rfl (up1 (up1 (up1 N 0 0) 33 (N 33 + k)) 33 (N 33 + k + 1)) I rfl dX2_feed_105 (fun H locs hM hz hS => ?_)
                refine lv_iinc (v := nI (k + 1)) (lv' := [(6, .int (nI (k + 1))), (7, .int c), (0, .ref a0), (1, .int a), (2, .int b), (3, .int c), (4, .int d), (5, .int f)]) hx hb dX2_feed_108 hl (k := 7) rfl (show nI k + Int32.ofInt 1 = nI (k + 1) from nI_add _ 1) (by decide) rfl (fun ls hl => ?_)
                refine lv_goto (tgt := 20) hx hb dX2_feed_111 (by decide) ?_
                have hfb : (c >>> ((nI (24 - (8 * (k % 4)))) &&& 31)).toInt8.toInt32 = fdB a b c d f k := by unfold fdB fdW; simp [Nat.not_lt.mpr c_30, Nat.not_lt.mpr c_41, c_52]
                have hM : RM D dA a0 ad (up1 (up1 N 0 0) 33 (N 33 + k + 1)) I G (sj J 32 (N 33) (k + 1) (fdB a b c d f)) H := by rw [← sj_s hfb]; exact hM
                exact ih20 (k + 1) (by omega) (by omega) _ _ hM hS _ (lv_sub hl [2, 3, 4, 5, 6, 7, 0] rfl)
            · refine lv_iload_n hx hb dX2_feed_44 rfl (lv_at hl 2 rfl) ?_
              refine lv_goto (tgt := 73) hx hb dX2_feed_45 (by decide) ?_
              refine lv_istore (lv' := [(7, .int b), (0, .ref a0), (1, .int a), (2, .int b), (3, .int c), (4, .int d), (5, .int f), (6, .int (nI k))]) hx hb dX2_feed_73 hl (by decide) rfl (fun ls hl => ?_)
              refine lv_aload_n hx hb dX2_feed_75 rfl (lv_at hl 1 rfl) ?_
              refine M_get (v := .ref (ad 32)) hx hb hts hown hG hM 32 (by decide) q1324 rfl rfl dX2_feed_76 ?_
              refine lv_aload_n hx hb dX2_feed_79 rfl (lv_at hl 1 rfl) ?_
              refine M_get (v := .int (nI (N 33 + k))) hx hb hts hown hG hM 33 (by decide) q1325 rfl rfl dX2_feed_80 ?_
              refine lv_iload hx hb dX2_feed_83 (lv_at hl 0 rfl) ?_
              refine lv_bipush (v := nI 24) hx hb dX2_feed_85 (by decide) ?_
              refine lv_bipush (v := nI 8) hx hb dX2_feed_87 (by decide) ?_
              refine lv_iload hx hb dX2_feed_89 (lv_at hl 7 rfl) ?_
              refine lv_iconst (v := nI 4) hx hb dX2_feed_91 (by decide) ?_
              refine kn_rem hx hb dX2_feed_92 (by omega) (by omega) (by omega) ?_
              refine kn_mul hx hb dX2_feed_93 ?_
              refine kn_sub hx hb dX2_feed_94 (by omega) ?_
              refine lv_ishr hx hb dX2_feed_95 ?_
              refine lv_i2b (v := (b >>> ((nI (24 - (8 * (k % 4)))) &&& 31)).toInt8.toInt32) hx hb dX2_feed_96 rfl ?_
              refine M_bastJ (v := (b >>> ((nI (24 - (8 * (k % 4)))) &&& 31)).toInt8.toInt32) hx hb hG hS hM 32 rfl (AM.a 32 rfl) rfl rfl (show N 33 + k < 300 from by omega) (pk_vb _) dX2_feed_97 (fun H locs hM hz hS => ?_)
              refine lv_aload_n hx hb dX2_feed_98 rfl (lv_at hl 1 rfl) ?_
              refine lv_dup hx hb dX2_feed_99 rfl ?_
              refine M_get (v := .int (nI (N 33 + k))) hx hb hts hown hG hM 33 (by decide) q1325 rfl rfl dX2_feed_100 ?_
              refine lv_iconst (v := nI 1) hx hb dX2_feed_103 (by decide) ?_
              refine kn_add hx hb dX2_feed_104 ?_
              refine M_put hx hb hts hown hG hS AM.o hM 33 (by decide) q1325 rfl rfl rfl (up1 (up1 (up1 N 0 0) 33 (N 33 + k)) 33 (N 33 + k + 1)) I rfl dX2_feed_105 (fun H locs hM hz hS => ?_)
              refine lv_iinc (v := nI (k + 1)) (lv' := [(6, .int (nI (k + 1))), (7, .int b), (0, .ref a0), (1, .int a), (2, .int b), (3, .int c), (4, .int d), (5, .int f)]) hx hb dX2_feed_108 hl (k := 7) rfl (show nI k + Int32.ofInt 1 = nI (k + 1) from nI_add _ 1) (by decide) rfl (fun ls hl => ?_)
              refine lv_goto (tgt := 20) hx hb dX2_feed_111 (by decide) ?_
              have hfb : (b >>> ((nI (24 - (8 * (k % 4)))) &&& 31)).toInt8.toInt32 = fdB a b c d f k := by unfold fdB fdW; simp [Nat.not_lt.mpr c_30, c_41]
              have hM : RM D dA a0 ad (up1 (up1 N 0 0) 33 (N 33 + k + 1)) I G (sj J 32 (N 33) (k + 1) (fdB a b c d f)) H := by rw [← sj_s hfb]; exact hM
              exact ih20 (k + 1) (by omega) (by omega) _ _ hM hS _ (lv_sub hl [2, 3, 4, 5, 6, 7, 0] rfl)
          · refine lv_iload_n hx hb dX2_feed_33 rfl (lv_at hl 1 rfl) ?_
            refine lv_goto (tgt := 73) hx hb dX2_feed_34 (by decide) ?_
            refine lv_istore (lv' := [(7, .int a), (0, .ref a0), (1, .int a), (2, .int b), (3, .int c), (4, .int d), (5, .int f), (6, .int (nI k))]) hx hb dX2_feed_73 hl (by decide) rfl (fun ls hl => ?_)
            refine lv_aload_n hx hb dX2_feed_75 rfl (lv_at hl 1 rfl) ?_
            refine M_get (v := .ref (ad 32)) hx hb hts hown hG hM 32 (by decide) q1324 rfl rfl dX2_feed_76 ?_
            refine lv_aload_n hx hb dX2_feed_79 rfl (lv_at hl 1 rfl) ?_
            refine M_get (v := .int (nI (N 33 + k))) hx hb hts hown hG hM 33 (by decide) q1325 rfl rfl dX2_feed_80 ?_
            refine lv_iload hx hb dX2_feed_83 (lv_at hl 0 rfl) ?_
            refine lv_bipush (v := nI 24) hx hb dX2_feed_85 (by decide) ?_
            refine lv_bipush (v := nI 8) hx hb dX2_feed_87 (by decide) ?_
            refine lv_iload hx hb dX2_feed_89 (lv_at hl 7 rfl) ?_
            refine lv_iconst (v := nI 4) hx hb dX2_feed_91 (by decide) ?_
            refine kn_rem hx hb dX2_feed_92 (by omega) (by omega) (by omega) ?_
            refine kn_mul hx hb dX2_feed_93 ?_
            refine kn_sub hx hb dX2_feed_94 (by omega) ?_
            refine lv_ishr hx hb dX2_feed_95 ?_
            refine lv_i2b (v := (a >>> ((nI (24 - (8 * (k % 4)))) &&& 31)).toInt8.toInt32) hx hb dX2_feed_96 rfl ?_
            refine M_bastJ (v := (a >>> ((nI (24 - (8 * (k % 4)))) &&& 31)).toInt8.toInt32) hx hb hG hS hM 32 rfl (AM.a 32 rfl) rfl rfl (show N 33 + k < 300 from by omega) (pk_vb _) dX2_feed_97 (fun H locs hM hz hS => ?_)
            refine lv_aload_n hx hb dX2_feed_98 rfl (lv_at hl 1 rfl) ?_
            refine lv_dup hx hb dX2_feed_99 rfl ?_
            refine M_get (v := .int (nI (N 33 + k))) hx hb hts hown hG hM 33 (by decide) q1325 rfl rfl dX2_feed_100 ?_
            refine lv_iconst (v := nI 1) hx hb dX2_feed_103 (by decide) ?_
            refine kn_add hx hb dX2_feed_104 ?_
            refine M_put hx hb hts hown hG hS AM.o hM 33 (by decide) q1325 rfl rfl rfl (up1 (up1 (up1 N 0 0) 33 (N 33 + k)) 33 (N 33 + k + 1)) I rfl dX2_feed_105 (fun H locs hM hz hS => ?_)
            refine lv_iinc (v := nI (k + 1)) (lv' := [(6, .int (nI (k + 1))), (7, .int a), (0, .ref a0), (1, .int a), (2, .int b), (3, .int c), (4, .int d), (5, .int f)]) hx hb dX2_feed_108 hl (k := 7) rfl (show nI k + Int32.ofInt 1 = nI (k + 1) from nI_add _ 1) (by decide) rfl (fun ls hl => ?_)
            refine lv_goto (tgt := 20) hx hb dX2_feed_111 (by decide) ?_
            have hfb : (a >>> ((nI (24 - (8 * (k % 4)))) &&& 31)).toInt8.toInt32 = fdB a b c d f k := by unfold fdB fdW; simp [c_30]
            have hM : RM D dA a0 ad (up1 (up1 N 0 0) 33 (N 33 + k + 1)) I G (sj J 32 (N 33) (k + 1) (fdB a b c d f)) H := by rw [← sj_s hfb]; exact hM
            exact ih20 (k + 1) (by omega) (by omega) _ _ hM hS _ (lv_sub hl [2, 3, 4, 5, 6, 7, 0] rfl)
    exact L20 _ 0 (by omega) (Nat.lt_succ_self _) _ _ (by rw [sj_0]; exact hM) hS _ (lv_sub hl [1, 2, 3, 4, 5, 6, 0] rfl)
  · refine lv_iconst (v := -1) hx hb dX2_feed_15 (by decide) ?_
    subst hQ
    exact W.iret (v := (-1)) hx hb hrt (fun t ht hW => ⟨⟨_, ((up1 N 0 0), I, G, J), rfl, (by dsimp only; rw [if_neg (by omega)]; exact ⟨rfl, rfl⟩), by rw [ht]; exact hM, GK.warm hW hG⟩, hS.F ht⟩) hS.2.2 dX2_feed_16
theorem w_X2_feed {R : Room} {s : State} {args : Array Value} {own : String} {idx : Nat} (hts : ∀ w ∈ lw_all, w.before args s = true) (h1 : Cond.methodLink own idx yX2_feed ∈ lw_all) {rm : Room} {mc ms : Nat} (hrc : rm.cells = mc) (hrs : rm.slots = ms) (hR : rm.frames + 1 ≤ R.frames ∧ 8 + (8 + 11) + rm.locals ≤ R.locals) : CallW R s args own RX2 idx yX2_feed cX2_feed 8 (some .int) (ws_ yX2_feed cX2_feed 8 (some .int)) rm mc ms 5 := cwV 5 hts (lw_V h1 q1516 q1517 q70 q1518) rfl hrc hrs (by decide +kernel) hR

abbrev r_X2_byteAt : Room := { frames := 0, cells := 0, slots := 0, locals := 0 }
set_option maxHeartbeats 400000 in
theorem c_X2_byteAt (lh : Launch) (D : va_G) (dA : Nat → ClassId) (a0 : Nat) (ad : Nat → Nat) (N : Nat → Nat) (I : Nat → Int32) (G : Nat → Nat → Nat) (J : Nat → Nat → Int32) (k : Nat) (h1 : N 33 ≤ 300) (h2 : k < 2 ^ 31) : Met lh yX2_byteAt (ws_ yX2_byteAt cX2_byteAt 2 (some .int)) r_X2_byteAt (PqM D dA a0 ad N I G J [.ref a0, .int (nI k)]) (vp_Si (fun rv => rv = nI (byS (N 33) (J 32) k))) 0 0 (fun _ => False) := by
  refine Met.ofW (cc := cX2_byteAt) (maxL := 2) (ret := (some .int)) (by decide) rfl ?_
  intro p e s m args below meth cd s₁ B hml hv
  obtain ⟨hargs, hM, hG⟩ := hv
  have hx := B.exec
  have hb := B.bytes
  have hrt := B.returns
  have hts := atoms_spec (ws := (ws_ yX2_byteAt cX2_byteAt 2 (some .int))) B.pre
  have hts : ∀ w ∈ lw_all, w.before _ s = true := fun w h => hts w (List.mem_cons_of_mem _ h)
  have hown : s.vm.findClass RX2 = some m.cls := findClass_of_methodNamed B.named
  have hlocks := B.notSynchronized
  have hE : entryFrame m args 2 = F0 m 0 ((lg_sl ([.ref a0, .int (nI k)]) ++ List.replicate (2 - (lg_sl ([.ref a0, .int (nI k)])).length) Slot.unset).toArray) [] := by rw [hargs]; exact lg_entry_eq m _ 2
  have hl := lv_entry ([.ref a0, .int (nI k)]) (n := 2) (Nat.le_of_ble_eq_true rfl)
  rw [hE]
  clear hE
  generalize (lg_sl ([.ref a0, .int (nI k)]) ++ List.replicate (2 - (lg_sl ([.ref a0, .int (nI k)])).length) Slot.unset).toArray = ls at hl ⊢
  have hl : lv_has ls 2 [(0, .ref a0), (1, .int (nI k))] := hl
  generalize hQ : MQ _ _ _ _ _ _ _ = Q
  refine lv_iload_n hx hb dX2_byteAt_0 rfl (lv_at hl 1 rfl) ?_
  refine lv_aload_n hx hb dX2_byteAt_1 rfl (lv_at hl 0 rfl) ?_
  refine M_get (v := .int (nI (N 33))) hx hb hts hown hG hM 33 (by decide) q1325 rfl rfl dX2_byteAt_2 ?_
  refine kn_cge (tgt := 21) hx hb dX2_byteAt_5 (by decide) (by omega) (by omega) (fun c_5 => ?_) (fun c_5 => ?_)
  · refine lv_iconst (v := nI 0) hx hb dX2_byteAt_21 (by decide) ?_
    subst hQ
    exact W.iret (v := nI 0) hx hb hrt (fun t ht _ => ⟨_, rfl, (show nI 0 = nI (byS (N 33) (J 32) k) from by rw [byS, if_neg (by omega)]), ht⟩) t_nil dX2_byteAt_22
  · refine lv_aload_n hx hb dX2_byteAt_8 rfl (lv_at hl 0 rfl) ?_
    refine M_get (v := .ref (ad 32)) hx hb hts hown hG hM 32 (by decide) q1324 rfl rfl dX2_byteAt_9 ?_
    refine lv_iload_n hx hb dX2_byteAt_12 rfl (lv_at hl 1 rfl) ?_
    refine M_bald (v := J 32 k) hx hb hG hM 32 rfl rfl (show k < 300 from by omega) (rfl) dX2_byteAt_13 ?_
    refine lv_sipush (v := nI 255) hx hb dX2_byteAt_14 (by decide) ?_
    refine lv_iand hx hb dX2_byteAt_17 ?_
    refine lv_goto (tgt := 22) hx hb dX2_byteAt_18 (by decide) ?_
    subst hQ
    exact W.iret (v := (J 32 k) &&& (nI 255)) hx hb hrt (fun t ht _ => ⟨_, rfl, (show (J 32 k) &&& (nI 255) = nI (byS (N 33) (J 32) k) from by rw [byS, if_pos c_5]; exact bv_eq _), ht⟩) t_nil dX2_byteAt_22
theorem w_X2_byteAt {R : Room} {s : State} {args : Array Value} {own : String} {idx : Nat} (hts : ∀ w ∈ lw_all, w.before args s = true) (h1 : Cond.methodLink own idx yX2_byteAt ∈ lw_all) {rm : Room} {mc ms : Nat} (hrc : rm.cells = mc) (hrs : rm.slots = ms) (hR : rm.frames + 1 ≤ R.frames ∧ 8 + (2 + 11) + rm.locals ≤ R.locals) : CallW R s args own RX2 idx yX2_byteAt cX2_byteAt 2 (some .int) (ws_ yX2_byteAt cX2_byteAt 2 (some .int)) rm mc ms 1 := cwV 1 hts (lw_V h1 q1533 qs37 q70 q1534) rfl hrc hrs (by decide +kernel) hR

theorem up1_i {α : Type} {f : Nat → α} {k : Nat} {a b : α} : up1 (up1 f k a) k b = up1 f k b := by
  funext z
  unfold up1
  split <;> rfl
theorem dg_s {b : Nat → Nat} {q o : Nat} (h : ∀ j, j < o - q → 48 ≤ b (q + j) ∧ b (q + j) ≤ 57) (hq : q ≤ o) (hw : 48 ≤ b o ∧ b o ≤ 57) : ∀ j, j < o + 1 - q → 48 ≤ b (q + j) ∧ b (q + j) ≤ 57 := by
  intro j hj
  rcases Nat.lt_or_ge j (o - q) with a | a
  · exact h j a
  · rw [show q + j = o by omega]; exact hw
theorem skW_stop {b : Nat → Nat} {n p : Nat} (h1 : ¬ b p = 32) (h2 : ¬ b p = 10) : skW b n p = p := by
  cases n with
  | zero => rfl
  | succ n => rw [skW, if_neg (fun q => q.elim h1 h2)]
theorem skW_go {b : Nat → Nat} {t p : Nat} (h : p < t) (h1 : b p = 32 ∨ b p = 10) : skW b (t - p) p = skW b (t - (p + 1)) (p + 1) := by
  rw [show t - p = (t - (p + 1)) + 1 by omega, skW, if_pos h1]
theorem ruC_stop {b : Nat → Nat} {lo hi n p : Nat} (h1 : ¬ (lo ≤ b p ∧ b p ≤ hi)) : ruC b lo hi n p = p := by
  cases n with
  | zero => rfl
  | succ n => rw [ruC, if_neg h1]
theorem ruC_go {b : Nat → Nat} {lo hi t p : Nat} (h : p < t) (h1 : lo ≤ b p ∧ b p ≤ hi) : ruC b lo hi (t - p) p = ruC b lo hi (t - (p + 1)) (p + 1) := by
  rw [show t - p = (t - (p + 1)) + 1 by omega, ruC, if_pos h1]
abbrev r_X2_token : Room := { frames := 1, cells := 0, slots := 0, locals := 22 }
set_option maxHeartbeats 400000 in
theorem c_X2_token (lh : Launch) (D : va_G) (dA : Nat → ClassId) (a0 : Nat) (ad : Nat → Nat) (N : Nat → Nat) (I : Nat → Int32) (G : Nat → Nat → Nat) (J : Nat → Nat → Int32) (sz : Nat) (h1 : N 33 ≤ 300) (h2 : N 38 ≤ N 33) : Met lh yX2_token (ws_ yX2_token cX2_token 2 none) r_X2_token (PmM D dA a0 ad N I G J sz [.ref a0]) (va_Qv (fun u : SgT => u = (tokN N J, I, G, J)) (BmM D dA a0 ad) (AM a0 ad sz)) 0 0 (AM a0 ad sz) := by
  refine Met.ofW (cc := cX2_token) (maxL := 2) (ret := none) (by decide) rfl ?_
  intro p e s m args below meth cd s₁ B hml hv
  obtain ⟨hargs, hsz, hM, hG⟩ := hv
  have hx := B.exec
  have hb := B.bytes
  have hrt := B.returns
  have hts := atoms_spec (ws := (ws_ yX2_token cX2_token 2 none)) B.pre
  have hts : ∀ w ∈ lw_all, w.before _ s = true := fun w h => hts w (List.mem_cons_of_mem _ h)
  have hown : s.vm.findClass RX2 = some m.cls := findClass_of_methodNamed B.named
  have hlocks := B.notSynchronized
  subst hsz
  have hS : va_S (AM a0 ad s.heap.size) s.heap s.heap [] := va_S.rf
  have hE : entryFrame m args 2 = F0 m 0 ((lg_sl ([.ref a0]) ++ List.replicate (2 - (lg_sl ([.ref a0])).length) Slot.unset).toArray) [] := by rw [hargs]; exact lg_entry_eq m _ 2
  have hl := lv_entry ([.ref a0]) (n := 2) (Nat.le_of_ble_eq_true rfl)
  rw [hE]
  clear hE
  generalize (lg_sl ([.ref a0]) ++ List.replicate (2 - (lg_sl ([.ref a0])).length) Slot.unset).toArray = ls at hl ⊢
  have hl : lv_has ls 2 [(0, .ref a0)] := hl
  generalize hQ : MQ _ _ _ _ _ _ _ = Q
  have hb6 := fun k => byS_lt (N 33) (J 32) k
  refine lv_aload_n hx hb dX2_token_0 rfl (lv_at hl 0 rfl) ?_
  refine lv_aload_n hx hb dX2_token_1 rfl (lv_at hl 0 rfl) ?_
  refine M_get (v := .int (nI (N 38))) hx hb hts hown hG hM 38 (by decide) q1330 rfl rfl dX2_token_2 ?_
  refine M_put hx hb hts hown hG hS AM.o hM 37 (by decide) q1329 rfl rfl rfl (up1 N 37 (N 38)) I rfl dX2_token_5 (fun H locs hM hz hS => ?_)
  have L8 : ∀ (nn8 : Nat) (q : Nat), (skW (byS (N 33) (J 32)) (N 33 - N 38) (N 38) = skW (byS (N 33) (J 32)) (N 33 - q) q) → (q ≤ N 33) → N 33 - q < nn8 → ∀ (H : Heap) (locs : List Loc), RM D dA a0 ad (up1 N 37 q) I G J H → va_S (AM a0 ad s.heap.size) s.heap H locs → ∀ (ls : Array Slot), lv_has ls 2 [(0, .ref a0)] → W p lh e r_X2_token s m args below meth cd H locs 0 0 Q (F0 m 8 ls []) := by
    intro nn8
    induction nn8 with
    | zero => intro q i8_0 i8_1 hm8; exact absurd hm8 (Nat.not_lt_zero _)
    | succ nn8 ih8 =>
      intro q i8_0 i8_1 hm8 H locs hM hS ls hl
      refine lv_aload_n hx hb dX2_token_8 rfl (lv_at hl 0 rfl) ?_
      refine lv_aload_n hx hb dX2_token_9 rfl (lv_at hl 0 rfl) ?_
      refine M_get (v := .int (nI q)) hx hb hts hown hG hM 37 (by decide) q1329 rfl rfl dX2_token_10 ?_
      refine vp_callSi (W.runV (As := [.int (nI q)]) (rest := []) ⟨hx, hb, hml, hown, hts⟩ (c_X2_byteAt lh D dA a0 ad (up1 N 37 q) I G J q (show (N 33) ≤ 300 from by first | omega | assumption | exact hB_up (by assumption) (by omega)) (show q < 2 ^ 31 from by first | omega | assumption | exact hB_up (by assumption) (by omega))) (w_X2_byteAt hts q1531 rfl rfl ⟨Nat.le_of_ble_eq_true rfl, Nat.le_of_ble_eq_true rfl⟩) ⟨PqM.blind, M_recv hG hM, PqM.pre hG hM⟩ rfl rfl hl.1 rfl (lv_room (Nat.le_of_ble_eq_true rfl)) dX2_token_13 ⟨Nat.le_of_ble_eq_true rfl, Nat.le_of_ble_eq_true rfl⟩) (fun rr hrr => ?_)
      subst hrr
      refine kx_int (y := nI (byS ((N 33)) (J 32) q)) rfl ?_
      refine lv_bipush (v := nI 32) hx hb dX2_token_16 (by decide) ?_
      refine kn_ceq (tgt := 34) hx hb dX2_token_18 (by decide) (by have := hb6 q; omega) (by omega) (fun c_18 => ?_) (fun c_18 => ?_)
      · refine lv_aload_n hx hb dX2_token_34 rfl (lv_at hl 0 rfl) ?_
        refine lv_dup hx hb dX2_token_35 rfl ?_
        refine M_get (v := .int (nI q)) hx hb hts hown hG hM 37 (by decide) q1329 rfl rfl dX2_token_36 ?_
        refine lv_iconst (v := nI 1) hx hb dX2_token_39 (by decide) ?_
        refine kn_add hx hb dX2_token_40 ?_
        refine M_put hx hb hts hown hG hS AM.o hM 37 (by decide) q1329 rfl rfl rfl (up1 (up1 N 37 q) 37 (q + 1)) I rfl dX2_token_41 (fun H locs hM hz hS => ?_)
        refine lv_goto (tgt := 8) hx hb dX2_token_44 (by decide) ?_
        have hsp : (byS (N 33) (J 32)) q = 32 ∨ (byS (N 33) (J 32)) q = 10 := by first | exact Or.inl c_18 | exact Or.inr c_31
        have hqt : q < N 33 := byS_in (t := N 33) (f := J 32) (by omega)
        exact ih8 (q + 1) (by rw [i8_0]; exact skW_go (by omega) hsp) (by omega) (by omega) _ _ hM hS _ (lv_sub hl [0] rfl)
      · refine lv_aload_n hx hb dX2_token_21 rfl (lv_at hl 0 rfl) ?_
        refine lv_aload_n hx hb dX2_token_22 rfl (lv_at hl 0 rfl) ?_
        refine M_get (v := .int (nI q)) hx hb hts hown hG hM 37 (by decide) q1329 rfl rfl dX2_token_23 ?_
        refine vp_callSi (W.runV (As := [.int (nI q)]) (rest := []) ⟨hx, hb, hml, hown, hts⟩ (c_X2_byteAt lh D dA a0 ad (up1 N 37 q) I G J q (show (N 33) ≤ 300 from by first | omega | assumption | exact hB_up (by assumption) (by omega)) (show q < 2 ^ 31 from by first | omega | assumption | exact hB_up (by assumption) (by omega))) (w_X2_byteAt hts q1531 rfl rfl ⟨Nat.le_of_ble_eq_true rfl, Nat.le_of_ble_eq_true rfl⟩) ⟨PqM.blind, M_recv hG hM, PqM.pre hG hM⟩ rfl rfl hl.1 rfl (lv_room (Nat.le_of_ble_eq_true rfl)) dX2_token_26 ⟨Nat.le_of_ble_eq_true rfl, Nat.le_of_ble_eq_true rfl⟩) (fun rr hrr => ?_)
        subst hrr
        refine kx_int (y := nI (byS ((N 33)) (J 32) q)) rfl ?_
        refine lv_bipush (v := nI 10) hx hb dX2_token_29 (by decide) ?_
        refine kn_cne (tgt := 47) hx hb dX2_token_31 (by decide) (by have := hb6 q; omega) (by omega) (fun c_31 => ?_) (fun c_31 => ?_)
        · have hf : skW (byS (N 33) (J 32)) (N 33 - N 38) (N 38) = q := by rw [i8_0]; exact skW_stop c_18 c_31
          have hsk := skW_le (byS (N 33) (J 32)) (N 33 - N 38) (N 38)
          refine lv_aload_n hx hb dX2_token_47 rfl (lv_at hl 0 rfl) ?_
          refine lv_aload_n hx hb dX2_token_48 rfl (lv_at hl 0 rfl) ?_
          refine M_get (v := .int (nI q)) hx hb hts hown hG hM 37 (by decide) q1329 rfl rfl dX2_token_49 ?_
          refine M_put hx hb hts hown hG hS AM.o hM 38 (by decide) q1330 rfl rfl rfl (up1 (up1 N 37 q) 38 q) I rfl dX2_token_52 (fun H locs hM hz hS => ?_)
          refine lv_aload_n hx hb dX2_token_55 rfl (lv_at hl 0 rfl) ?_
          refine lv_aload_n hx hb dX2_token_56 rfl (lv_at hl 0 rfl) ?_
          refine M_get (v := .int (nI q)) hx hb hts hown hG hM 37 (by decide) q1329 rfl rfl dX2_token_57 ?_
          refine vp_callSi (W.runV (As := [.int (nI q)]) (rest := []) ⟨hx, hb, hml, hown, hts⟩ (c_X2_byteAt lh D dA a0 ad (up1 (up1 N 37 q) 38 q) I G J q (show (N 33) ≤ 300 from by first | omega | assumption | exact hB_up (by assumption) (by omega)) (show q < 2 ^ 31 from by first | omega | assumption | exact hB_up (by assumption) (by omega))) (w_X2_byteAt hts q1531 rfl rfl ⟨Nat.le_of_ble_eq_true rfl, Nat.le_of_ble_eq_true rfl⟩) ⟨PqM.blind, M_recv hG hM, PqM.pre hG hM⟩ rfl rfl hl.1 rfl (lv_room (Nat.le_of_ble_eq_true rfl)) dX2_token_60 ⟨Nat.le_of_ble_eq_true rfl, Nat.le_of_ble_eq_true rfl⟩) (fun rr hrr => ?_)
          subst hrr
          refine kx_int (y := nI (byS ((N 33)) (J 32) q)) rfl ?_
          refine lv_istore_n (lv' := [(1, .int (nI (byS ((N 33)) (J 32) q))), (0, .ref a0)]) hx hb dX2_token_63 rfl hl (by decide) rfl (fun ls hl => ?_)
          refine lv_aload_n hx hb dX2_token_64 rfl (lv_at hl 1 rfl) ?_
          refine M_get (v := .int (nI q)) hx hb hts hown hG hM 37 (by decide) q1329 rfl rfl dX2_token_65 ?_
          refine lv_aload_n hx hb dX2_token_68 rfl (lv_at hl 1 rfl) ?_
          refine M_get (v := .int (nI (N 33))) hx hb hts hown hG hM 33 (by decide) q1325 rfl rfl dX2_token_69 ?_
          refine kn_clt (tgt := 83) hx hb dX2_token_72 (by decide) (by omega) (by omega) (fun c_72 => ?_) (fun c_72 => ?_)
          · refine lv_iload_n hx hb dX2_token_83 rfl (lv_at hl 0 rfl) ?_
            refine lv_bipush (v := nI 97) hx hb dX2_token_84 (by decide) ?_
            refine lv_bipush (v := nI 122) hx hb dX2_token_86 (by decide) ?_
            refine vp_callSi (W.runS (As := [.int (nI (byS ((N 33)) (J 32) q)), .int (nI 97), .int (nI 122)]) (rest := []) ⟨hx, hb, hml, hown, hts⟩ (c_X2_within lh (nI (byS ((N 33)) (J 32) q)) (nI 97) (nI 122)) (w_X2_within hts q1464 rfl rfl ⟨Nat.le_of_ble_eq_true rfl, Nat.le_of_ble_eq_true rfl⟩) ⟨P0.blind, P0.pre⟩ rfl rfl hl.1 rfl (lv_room (Nat.le_of_ble_eq_true rfl)) dX2_token_88 ⟨Nat.le_of_ble_eq_true rfl, Nat.le_of_ble_eq_true rfl⟩) (fun rr hrr => ?_)
            subst hrr
            refine kx_int (y := bI (wi (nI (byS ((N 33)) (J 32) q)) (nI 97) (nI 122))) rfl ?_
            refine kb_eq (tgt := 151) hx hb dX2_token_91 (by decide) (fun c_91 => ?_) (fun c_91 => ?_)
            · rw [wi_nat' (by have := byS_lt (N 33) (J 32) q; omega) (by decide) (by decide)] at c_91
              have ha : ¬ (97 ≤ (byS (N 33) (J 32)) q ∧ (byS (N 33) (J 32)) q ≤ 122) := fun q => by rw [decide_eq_true q.1, decide_eq_true q.2] at c_91; cases c_91
              refine lv_iload_n hx hb dX2_token_151 rfl (lv_at hl 0 rfl) ?_
              refine lv_bipush (v := nI 48) hx hb dX2_token_152 (by decide) ?_
              refine lv_bipush (v := nI 57) hx hb dX2_token_154 (by decide) ?_
              refine vp_callSi (W.runS (As := [.int (nI (byS ((N 33)) (J 32) q)), .int (nI 48), .int (nI 57)]) (rest := []) ⟨hx, hb, hml, hown, hts⟩ (c_X2_within lh (nI (byS ((N 33)) (J 32) q)) (nI 48) (nI 57)) (w_X2_within hts q1464 rfl rfl ⟨Nat.le_of_ble_eq_true rfl, Nat.le_of_ble_eq_true rfl⟩) ⟨P0.blind, P0.pre⟩ rfl rfl hl.1 rfl (lv_room (Nat.le_of_ble_eq_true rfl)) dX2_token_156 ⟨Nat.le_of_ble_eq_true rfl, Nat.le_of_ble_eq_true rfl⟩) (fun rr hrr => ?_)
              subst hrr
              refine kx_int (y := bI (wi (nI (byS ((N 33)) (J 32) q)) (nI 48) (nI 57))) rfl ?_
              refine kb_eq (tgt := 259) hx hb dX2_token_159 (by decide) (fun c_159 => ?_) (fun c_159 => ?_)
              · rw [wi_nat' (by have := byS_lt (N 33) (J 32) q; omega) (by decide) (by decide)] at c_159
                have hd : ¬ (48 ≤ (byS (N 33) (J 32)) q ∧ (byS (N 33) (J 32)) q ≤ 57) := fun q => by rw [decide_eq_true q.1, decide_eq_true q.2] at c_159; cases c_159
                refine lv_aload_n hx hb dX2_token_259 rfl (lv_at hl 1 rfl) ?_
                refine lv_dup hx hb dX2_token_260 rfl ?_
                refine M_get (v := .int (nI q)) hx hb hts hown hG hM 38 (by decide) q1330 rfl rfl dX2_token_261 ?_
                refine lv_iconst (v := nI 1) hx hb dX2_token_264 (by decide) ?_
                refine kn_add hx hb dX2_token_265 ?_
                refine M_put hx hb hts hown hG hS AM.o hM 38 (by decide) q1330 rfl rfl rfl (up1 (up1 (up1 N 37 q) 38 q) 38 (q + 1)) I rfl dX2_token_266 (fun H locs hM hz hS => ?_)
                refine lv_aload_n hx hb dX2_token_269 rfl (lv_at hl 1 rfl) ?_
                refine lv_iload_n hx hb dX2_token_270 rfl (lv_at hl 0 rfl) ?_
                refine lv_bipush (v := nI 60) hx hb dX2_token_271 (by decide) ?_
                refine kn_ceq (tgt := 300) hx hb dX2_token_273 (by decide) (by have := hb6 q; omega) (by omega) (fun c_273 => ?_) (fun c_273 => ?_)
                · refine lv_iconst (v := nI 3) hx hb dX2_token_300 (by decide) ?_
                  refine lv_goto (tgt := 305) hx hb dX2_token_301 (by decide) ?_
                  refine M_put hx hb hts hown hG hS AM.o hM 36 (by decide) q1328 rfl rfl rfl (up1 (up1 (up1 (up1 N 37 q) 38 q) 38 (q + 1)) 36 3) I rfl dX2_token_305 (fun H locs hM hz hS => ?_)
                  subst hQ
                  exact W.vret hx hb hrt (fun t ht hW => ⟨⟨((up1 (up1 (up1 (up1 N 37 q) 38 q) 38 (q + 1)) 36 3), I, G, J), rfl, (by rw [up1_i (k := 38), tokQ3]; simp only [tokN, tkQ, hf]; rw [if_neg (by omega)]; rw [if_neg ha]; rw [if_neg hd]; rw [if_pos (show sgnB ((byS (N 33) (J 32)) q) = true by simp [sgnB, c_273])]), by rw [ht]; exact hM, GK.warm hW hG⟩, hS.F ht⟩) hS.2.2 dX2_token_308
                · refine lv_iload_n hx hb dX2_token_276 rfl (lv_at hl 0 rfl) ?_
                  refine lv_bipush (v := nI 61) hx hb dX2_token_277 (by decide) ?_
                  refine kn_ceq (tgt := 300) hx hb dX2_token_279 (by decide) (by have := hb6 q; omega) (by omega) (fun c_279 => ?_) (fun c_279 => ?_)
                  · refine lv_iconst (v := nI 3) hx hb dX2_token_300 (by decide) ?_
                    refine lv_goto (tgt := 305) hx hb dX2_token_301 (by decide) ?_
                    refine M_put hx hb hts hown hG hS AM.o hM 36 (by decide) q1328 rfl rfl rfl (up1 (up1 (up1 (up1 N 37 q) 38 q) 38 (q + 1)) 36 3) I rfl dX2_token_305 (fun H locs hM hz hS => ?_)
                    subst hQ
                    exact W.vret hx hb hrt (fun t ht hW => ⟨⟨((up1 (up1 (up1 (up1 N 37 q) 38 q) 38 (q + 1)) 36 3), I, G, J), rfl, (by rw [up1_i (k := 38), tokQ3]; simp only [tokN, tkQ, hf]; rw [if_neg (by omega)]; rw [if_neg ha]; rw [if_neg hd]; rw [if_pos (show sgnB ((byS (N 33) (J 32)) q) = true by simp [sgnB, c_273, c_279])]), by rw [ht]; exact hM, GK.warm hW hG⟩, hS.F ht⟩) hS.2.2 dX2_token_308
                  · refine lv_iload_n hx hb dX2_token_282 rfl (lv_at hl 0 rfl) ?_
                    refine lv_bipush (v := nI 62) hx hb dX2_token_283 (by decide) ?_
                    refine kn_ceq (tgt := 300) hx hb dX2_token_285 (by decide) (by have := hb6 q; omega) (by omega) (fun c_285 => ?_) (fun c_285 => ?_)
                    · refine lv_iconst (v := nI 3) hx hb dX2_token_300 (by decide) ?_
                      refine lv_goto (tgt := 305) hx hb dX2_token_301 (by decide) ?_
                      refine M_put hx hb hts hown hG hS AM.o hM 36 (by decide) q1328 rfl rfl rfl (up1 (up1 (up1 (up1 N 37 q) 38 q) 38 (q + 1)) 36 3) I rfl dX2_token_305 (fun H locs hM hz hS => ?_)
                      subst hQ
                      exact W.vret hx hb hrt (fun t ht hW => ⟨⟨((up1 (up1 (up1 (up1 N 37 q) 38 q) 38 (q + 1)) 36 3), I, G, J), rfl, (by rw [up1_i (k := 38), tokQ3]; simp only [tokN, tkQ, hf]; rw [if_neg (by omega)]; rw [if_neg ha]; rw [if_neg hd]; rw [if_pos (show sgnB ((byS (N 33) (J 32)) q) = true by simp [sgnB, c_273, c_279, c_285])]), by rw [ht]; exact hM, GK.warm hW hG⟩, hS.F ht⟩) hS.2.2 dX2_token_308
                    · refine lv_iload_n hx hb dX2_token_288 rfl (lv_at hl 0 rfl) ?_
                      refine lv_bipush (v := nI 58) hx hb dX2_token_289 (by decide) ?_
                      refine kn_ceq (tgt := 300) hx hb dX2_token_291 (by decide) (by have := hb6 q; omega) (by omega) (fun c_291 => ?_) (fun c_291 => ?_)
                      · refine lv_iconst (v := nI 3) hx hb dX2_token_300 (by decide) ?_
                        refine lv_goto (tgt := 305) hx hb dX2_token_301 (by decide) ?_
                        refine M_put hx hb hts hown hG hS AM.o hM 36 (by decide) q1328 rfl rfl rfl (up1 (up1 (up1 (up1 N 37 q) 38 q) 38 (q + 1)) 36 3) I rfl dX2_token_305 (fun H locs hM hz hS => ?_)
                        subst hQ
                        exact W.vret hx hb hrt (fun t ht hW => ⟨⟨((up1 (up1 (up1 (up1 N 37 q) 38 q) 38 (q + 1)) 36 3), I, G, J), rfl, (by rw [up1_i (k := 38), tokQ3]; simp only [tokN, tkQ, hf]; rw [if_neg (by omega)]; rw [if_neg ha]; rw [if_neg hd]; rw [if_pos (show sgnB ((byS (N 33) (J 32)) q) = true by simp [sgnB, c_273, c_279, c_285, c_291])]), by rw [ht]; exact hM, GK.warm hW hG⟩, hS.F ht⟩) hS.2.2 dX2_token_308
                      · refine lv_iload_n hx hb dX2_token_294 rfl (lv_at hl 0 rfl) ?_
                        refine lv_bipush (v := nI 59) hx hb dX2_token_295 (by decide) ?_
                        refine kn_cne (tgt := 304) hx hb dX2_token_297 (by decide) (by have := hb6 q; omega) (by omega) (fun c_297 => ?_) (fun c_297 => ?_)
                        · refine lv_iconst (v := nI 4) hx hb dX2_token_304 (by decide) ?_
                          refine M_put hx hb hts hown hG hS AM.o hM 36 (by decide) q1328 rfl rfl rfl (up1 (up1 (up1 (up1 N 37 q) 38 q) 38 (q + 1)) 36 4) I rfl dX2_token_305 (fun H locs hM hz hS => ?_)
                          subst hQ
                          exact W.vret hx hb hrt (fun t ht hW => ⟨⟨((up1 (up1 (up1 (up1 N 37 q) 38 q) 38 (q + 1)) 36 4), I, G, J), rfl, (by rw [up1_i (k := 38), tokQ3]; simp only [tokN, tkQ, hf]; rw [if_neg (by omega)]; rw [if_neg ha]; rw [if_neg hd]; rw [if_neg (show ¬ sgnB ((byS (N 33) (J 32)) q) = true by simp [sgnB, c_273, c_279, c_285, c_291, c_297])]), by rw [ht]; exact hM, GK.warm hW hG⟩, hS.F ht⟩) hS.2.2 dX2_token_308
                        · refine lv_iconst (v := nI 3) hx hb dX2_token_300 (by decide) ?_
                          refine lv_goto (tgt := 305) hx hb dX2_token_301 (by decide) ?_
                          refine M_put hx hb hts hown hG hS AM.o hM 36 (by decide) q1328 rfl rfl rfl (up1 (up1 (up1 (up1 N 37 q) 38 q) 38 (q + 1)) 36 3) I rfl dX2_token_305 (fun H locs hM hz hS => ?_)
                          subst hQ
                          exact W.vret hx hb hrt (fun t ht hW => ⟨⟨((up1 (up1 (up1 (up1 N 37 q) 38 q) 38 (q + 1)) 36 3), I, G, J), rfl, (by rw [up1_i (k := 38), tokQ3]; simp only [tokN, tkQ, hf]; rw [if_neg (by omega)]; rw [if_neg ha]; rw [if_neg hd]; rw [if_pos (show sgnB ((byS (N 33) (J 32)) q) = true by simp [sgnB, c_273, c_279, c_285, c_291, c_297])]), by rw [ht]; exact hM, GK.warm hW hG⟩, hS.F ht⟩) hS.2.2 dX2_token_308
              · rw [wi_nat' (by have := byS_lt (N 33) (J 32) q; omega) (by decide) (by decide)] at c_159
                have hd : 48 ≤ (byS (N 33) (J 32)) q ∧ (byS (N 33) (J 32)) q ≤ 57 := by simpa using c_159
                refine lv_aload_n hx hb dX2_token_162 rfl (lv_at hl 1 rfl) ?_
                refine lv_iconst (v := nI 0) hx hb dX2_token_163 (by decide) ?_
                refine M_put hx hb hts hown hG hS AM.o hM 39 (by decide) q1331 rfl rfl rfl (up1 (up1 (up1 N 37 q) 38 q) 39 0) I rfl dX2_token_164 (fun H locs hM hz hS => ?_)
                have L167 : ∀ (nn167 : Nat) (o : Nat), (ruC (byS (N 33) (J 32)) 48 57 (N 33 - q) q = ruC (byS (N 33) (J 32)) 48 57 (N 33 - o) o) → (o ≤ N 33) → (q ≤ o) → (∀ j, j < o - q → 48 ≤ (byS (N 33) (J 32)) (q + j) ∧ (byS (N 33) (J 32)) (q + j) ≤ 57) → N 33 - o < nn167 → ∀ (H : Heap) (locs : List Loc), RM D dA a0 ad (up1 (up1 (up1 N 37 q) 38 o) 39 (vaC (byS (N 33) (J 32)) q (o - q))) I G J H → va_S (AM a0 ad s.heap.size) s.heap H locs → ∀ (ls : Array Slot), lv_has ls 2 [(0, .ref a0)] → W p lh e r_X2_token s m args below meth cd H locs 0 0 Q (F0 m 167 ls []) := by
                  intro nn167
                  induction nn167 with
                  | zero => intro o i167_0 i167_1 i167_2 i167_3 hm167; exact absurd hm167 (Nat.not_lt_zero _)
                  | succ nn167 ih167 =>
                    intro o i167_0 i167_1 i167_2 i167_3 hm167 H locs hM hS ls hl
                    refine lv_aload_n hx hb dX2_token_167 rfl (lv_at hl 0 rfl) ?_
                    refine lv_aload_n hx hb dX2_token_168 rfl (lv_at hl 0 rfl) ?_
                    refine M_get (v := .int (nI o)) hx hb hts hown hG hM 38 (by decide) q1330 rfl rfl dX2_token_169 ?_
                    refine vp_callSi (W.runV (As := [.int (nI o)]) (rest := []) ⟨hx, hb, hml, hown, hts⟩ (c_X2_byteAt lh D dA a0 ad (up1 (up1 (up1 N 37 q) 38 o) 39 (vaC (byS (N 33) (J 32)) q (o - q))) I G J o (show (N 33) ≤ 300 from by first | omega | assumption | exact hB_up (by assumption) (by omega)) (show o < 2 ^ 31 from by first | omega | assumption | exact hB_up (by assumption) (by omega))) (w_X2_byteAt hts q1531 rfl rfl ⟨Nat.le_of_ble_eq_true rfl, Nat.le_of_ble_eq_true rfl⟩) ⟨PqM.blind, M_recv hG hM, PqM.pre hG hM⟩ rfl rfl hl.1 rfl (lv_room (Nat.le_of_ble_eq_true rfl)) dX2_token_172 ⟨Nat.le_of_ble_eq_true rfl, Nat.le_of_ble_eq_true rfl⟩) (fun rr hrr => ?_)
                    subst hrr
                    refine kx_int (y := nI (byS ((N 33)) (J 32) o)) rfl ?_
                    refine lv_bipush (v := nI 48) hx hb dX2_token_175 (by decide) ?_
                    refine lv_bipush (v := nI 57) hx hb dX2_token_177 (by decide) ?_
                    refine vp_callSi (W.runS (As := [.int (nI (byS ((N 33)) (J 32) o)), .int (nI 48), .int (nI 57)]) (rest := []) ⟨hx, hb, hml, hown, hts⟩ (c_X2_within lh (nI (byS ((N 33)) (J 32) o)) (nI 48) (nI 57)) (w_X2_within hts q1464 rfl rfl ⟨Nat.le_of_ble_eq_true rfl, Nat.le_of_ble_eq_true rfl⟩) ⟨P0.blind, P0.pre⟩ rfl rfl hl.1 rfl (lv_room (Nat.le_of_ble_eq_true rfl)) dX2_token_179 ⟨Nat.le_of_ble_eq_true rfl, Nat.le_of_ble_eq_true rfl⟩) (fun rr hrr => ?_)
                    subst hrr
                    refine kx_int (y := bI (wi (nI (byS ((N 33)) (J 32) o)) (nI 48) (nI 57))) rfl ?_
                    refine kb_eq (tgt := 234) hx hb dX2_token_182 (by decide) (fun c_182 => ?_) (fun c_182 => ?_)
                    · rw [wi_nat' (by have := byS_lt (N 33) (J 32) o; omega) (by decide) (by decide)] at c_182
                      have hw : ¬ (48 ≤ (byS (N 33) (J 32)) o ∧ (byS (N 33) (J 32)) o ≤ 57) := fun q => by rw [decide_eq_true q.1, decide_eq_true q.2] at c_182; cases c_182
                      have hro : ruC (byS (N 33) (J 32)) 48 57 (N 33 - q) q = o := by rw [i167_0]; exact ruC_stop hw
                      refine lv_aload_n hx hb dX2_token_234 rfl (lv_at hl 0 rfl) ?_
                      refine lv_aload_n hx hb dX2_token_235 rfl (lv_at hl 0 rfl) ?_
                      refine M_get (v := .int (nI o)) hx hb hts hown hG hM 38 (by decide) q1330 rfl rfl dX2_token_236 ?_
                      refine lv_aload_n hx hb dX2_token_239 rfl (lv_at hl 0 rfl) ?_
                      refine M_get (v := .int (nI q)) hx hb hts hown hG hM 37 (by decide) q1329 rfl rfl dX2_token_240 ?_
                      refine kn_sub hx hb dX2_token_243 (by omega) ?_
                      refine lv_iconst (v := nI 4) hx hb dX2_token_244 (by decide) ?_
                      refine kn_cle (tgt := 252) hx hb dX2_token_245 (by decide) (by omega) (by omega) (fun c_245 => ?_) (fun c_245 => ?_)
                      · refine lv_iconst (v := nI 2) hx hb dX2_token_252 (by decide) ?_
                        refine M_put hx hb hts hown hG hS AM.o hM 36 (by decide) q1328 rfl rfl rfl (up1 (up1 (up1 (up1 N 37 q) 38 o) 39 (vaC (byS (N 33) (J 32)) q (o - q))) 36 2) I rfl dX2_token_253 (fun H locs hM hz hS => ?_)
                        refine lv_goto (tgt := 308) hx hb dX2_token_256 (by decide) ?_
                        subst hQ
                        exact W.vret hx hb hrt (fun t ht hW => ⟨⟨((up1 (up1 (up1 (up1 N 37 q) 38 o) 39 (vaC (byS (N 33) (J 32)) q (o - q))) 36 2), I, G, J), rfl, (by simp only [tokN, tkQ, hf]; rw [if_neg (by omega)]; rw [if_neg ha]; rw [if_pos hd]; simp only [hro]; rw [if_neg (by omega)]; rfl), by rw [ht]; exact hM, GK.warm hW hG⟩, hS.F ht⟩) hS.2.2 dX2_token_308
                      · refine lv_iconst (v := nI 4) hx hb dX2_token_248 (by decide) ?_
                        refine lv_goto (tgt := 253) hx hb dX2_token_249 (by decide) ?_
                        refine M_put hx hb hts hown hG hS AM.o hM 36 (by decide) q1328 rfl rfl rfl (up1 (up1 (up1 (up1 N 37 q) 38 o) 39 (vaC (byS (N 33) (J 32)) q (o - q))) 36 4) I rfl dX2_token_253 (fun H locs hM hz hS => ?_)
                        refine lv_goto (tgt := 308) hx hb dX2_token_256 (by decide) ?_
                        subst hQ
                        exact W.vret hx hb hrt (fun t ht hW => ⟨⟨((up1 (up1 (up1 (up1 N 37 q) 38 o) 39 (vaC (byS (N 33) (J 32)) q (o - q))) 36 4), I, G, J), rfl, (by simp only [tokN, tkQ, hf]; rw [if_neg (by omega)]; rw [if_neg ha]; rw [if_pos hd]; simp only [hro]; rw [if_pos c_245]; rfl), by rw [ht]; exact hM, GK.warm hW hG⟩, hS.F ht⟩) hS.2.2 dX2_token_308
                    · rw [wi_nat' (by have := byS_lt (N 33) (J 32) o; omega) (by decide) (by decide)] at c_182
                      have hw : 48 ≤ (byS (N 33) (J 32)) o ∧ (byS (N 33) (J 32)) o ≤ 57 := by simpa using c_182
                      refine lv_aload_n hx hb dX2_token_185 rfl (lv_at hl 0 rfl) ?_
                      refine M_get (v := .int (nI o)) hx hb hts hown hG hM 38 (by decide) q1330 rfl rfl dX2_token_186 ?_
                      refine lv_aload_n hx hb dX2_token_189 rfl (lv_at hl 0 rfl) ?_
                      refine M_get (v := .int (nI q)) hx hb hts hown hG hM 37 (by decide) q1329 rfl rfl dX2_token_190 ?_
                      refine kn_sub hx hb dX2_token_193 (by omega) ?_
                      refine lv_iconst (v := nI 4) hx hb dX2_token_194 (by decide) ?_
                      refine kn_cge (tgt := 221) hx hb dX2_token_195 (by decide) (by omega) (by omega) (fun c_195 => ?_) (fun c_195 => ?_)
                      · have hva : vaC (byS (N 33) (J 32)) q ((o - q) + 1) = vaC (byS (N 33) (J 32)) q (o - q) := by rw [vaC, if_neg (by omega)]
                        refine lv_aload_n hx hb dX2_token_221 rfl (lv_at hl 0 rfl) ?_
                        refine lv_dup hx hb dX2_token_222 rfl ?_
                        refine M_get (v := .int (nI o)) hx hb hts hown hG hM 38 (by decide) q1330 rfl rfl dX2_token_223 ?_
                        refine lv_iconst (v := nI 1) hx hb dX2_token_226 (by decide) ?_
                        refine kn_add hx hb dX2_token_227 ?_
                        refine M_put hx hb hts hown hG hS AM.o hM 38 (by decide) q1330 rfl rfl rfl (up1 (up1 (up1 (up1 N 37 q) 38 o) 39 (vaC (byS (N 33) (J 32)) q (o - q))) 38 (o + 1)) I rfl dX2_token_228 (fun H locs hM hz hS => ?_)
                        refine lv_goto (tgt := 167) hx hb dX2_token_231 (by decide) ?_
                        have hqt : o < N 33 := byS_in (t := N 33) (f := J 32) (by omega)
                        have hoq : o + 1 - q = (o - q) + 1 := (by omega)
                        exact ih167 (o + 1) (by rw [i167_0]; exact ruC_go (by omega) hw) (by omega) (by omega) (dg_s i167_3 i167_2 hw) (by omega) _ _ (by rw [hoq, hva]; exact hM) hS _ (lv_sub hl [0] rfl)
                      · refine lv_aload_n hx hb dX2_token_198 rfl (lv_at hl 0 rfl) ?_
                        refine lv_bipush (v := nI 10) hx hb dX2_token_199 (by decide) ?_
                        refine lv_aload_n hx hb dX2_token_201 rfl (lv_at hl 0 rfl) ?_
                        refine M_get (v := .int (nI (vaC (byS (N 33) (J 32)) q (o - q)))) hx hb hts hown hG hM 39 (by decide) q1331 rfl rfl dX2_token_202 ?_
                        refine kn_mul hx hb dX2_token_205 ?_
                        refine lv_aload_n hx hb dX2_token_206 rfl (lv_at hl 0 rfl) ?_
                        refine lv_aload_n hx hb dX2_token_207 rfl (lv_at hl 0 rfl) ?_
                        refine M_get (v := .int (nI o)) hx hb hts hown hG hM 38 (by decide) q1330 rfl rfl dX2_token_208 ?_
                        refine vp_callSi (W.runV (As := [.int (nI o)]) (rest := [.int (nI (10 * (vaC (byS (N 33) (J 32)) q (o - q)))), .ref a0]) ⟨hx, hb, hml, hown, hts⟩ (c_X2_byteAt lh D dA a0 ad (up1 (up1 (up1 N 37 q) 38 o) 39 (vaC (byS (N 33) (J 32)) q (o - q))) I G J o (show (N 33) ≤ 300 from by first | omega | assumption | exact hB_up (by assumption) (by omega)) (show o < 2 ^ 31 from by first | omega | assumption | exact hB_up (by assumption) (by omega))) (w_X2_byteAt hts q1531 rfl rfl ⟨Nat.le_of_ble_eq_true rfl, Nat.le_of_ble_eq_true rfl⟩) ⟨PqM.blind, M_recv hG hM, PqM.pre hG hM⟩ rfl rfl hl.1 rfl (lv_room (Nat.le_of_ble_eq_true rfl)) dX2_token_211 ⟨Nat.le_of_ble_eq_true rfl, Nat.le_of_ble_eq_true rfl⟩) (fun rr hrr => ?_)
                        subst hrr
                        refine kx_int (y := nI (byS ((N 33)) (J 32) o)) rfl ?_
                        refine kn_add hx hb dX2_token_214 ?_
                        refine lv_bipush (v := nI 48) hx hb dX2_token_215 (by decide) ?_
                        have hva := vaC_le (b := (byS (N 33) (J 32))) (f := q) (n := o - q) i167_3
                        refine kn_sub hx hb dX2_token_217 (by omega) ?_
                        refine M_put hx hb hts hown hG hS AM.o hM 39 (by decide) q1331 rfl rfl rfl (up1 (up1 (up1 (up1 N 37 q) 38 o) 39 (vaC (byS (N 33) (J 32)) q (o - q))) 39 (10 * (vaC (byS (N 33) (J 32)) q (o - q)) + (byS ((N 33)) (J 32) o) - 48)) I rfl dX2_token_218 (fun H locs hM hz hS => ?_)
                        have hva : vaC (byS (N 33) (J 32)) q ((o - q) + 1) = 10 * vaC (byS (N 33) (J 32)) q (o - q) + (byS (N 33) (J 32)) o - 48 := by rw [vaC, if_pos (by omega), show q + (o - q) = o by omega]
                        refine lv_aload_n hx hb dX2_token_221 rfl (lv_at hl 0 rfl) ?_
                        refine lv_dup hx hb dX2_token_222 rfl ?_
                        refine M_get (v := .int (nI o)) hx hb hts hown hG hM 38 (by decide) q1330 rfl rfl dX2_token_223 ?_
                        refine lv_iconst (v := nI 1) hx hb dX2_token_226 (by decide) ?_
                        refine kn_add hx hb dX2_token_227 ?_
                        refine M_put hx hb hts hown hG hS AM.o hM 38 (by decide) q1330 rfl rfl rfl (up1 (up1 (up1 (up1 (up1 N 37 q) 38 o) 39 (vaC (byS (N 33) (J 32)) q (o - q))) 39 (10 * (vaC (byS (N 33) (J 32)) q (o - q)) + (byS ((N 33)) (J 32) o) - 48)) 38 (o + 1)) I rfl dX2_token_228 (fun H locs hM hz hS => ?_)
                        refine lv_goto (tgt := 167) hx hb dX2_token_231 (by decide) ?_
                        have hqt : o < N 33 := byS_in (t := N 33) (f := J 32) (by omega)
                        have hoq : o + 1 - q = (o - q) + 1 := (by omega)
                        exact ih167 (o + 1) (by rw [i167_0]; exact ruC_go (by omega) hw) (by omega) (by omega) (dg_s i167_3 i167_2 hw) (by omega) _ _ (by rw [hoq, hva]; exact hM) hS _ (lv_sub hl [0] rfl)
                exact L167 _ q (rfl) (by omega) (Nat.le_refl _) (fun j hj => by omega) (Nat.lt_succ_self _) _ _ (by rw [Nat.sub_self]; exact hM) hS _ (lv_sub hl [1] rfl)
            · rw [wi_nat' (by have := byS_lt (N 33) (J 32) q; omega) (by decide) (by decide)] at c_91
              have ha : 97 ≤ (byS (N 33) (J 32)) q ∧ (byS (N 33) (J 32)) q ≤ 122 := by simpa using c_91
              have L94 : ∀ (nn94 : Nat) (o : Nat), (ruC (byS (N 33) (J 32)) 97 122 (N 33 - q) q = ruC (byS (N 33) (J 32)) 97 122 (N 33 - o) o) → (o ≤ N 33) → (q ≤ o) → N 33 - o < nn94 → ∀ (H : Heap) (locs : List Loc), RM D dA a0 ad (up1 (up1 N 37 q) 38 o) I G J H → va_S (AM a0 ad s.heap.size) s.heap H locs → ∀ (ls : Array Slot), lv_has ls 2 [(0, .ref a0)] → W p lh e r_X2_token s m args below meth cd H locs 0 0 Q (F0 m 94 ls []) := by
                intro nn94
                induction nn94 with
                | zero => intro o i94_0 i94_1 i94_2 hm94; exact absurd hm94 (Nat.not_lt_zero _)
                | succ nn94 ih94 =>
                  intro o i94_0 i94_1 i94_2 hm94 H locs hM hS ls hl
                  refine lv_aload_n hx hb dX2_token_94 rfl (lv_at hl 0 rfl) ?_
                  refine lv_aload_n hx hb dX2_token_95 rfl (lv_at hl 0 rfl) ?_
                  refine M_get (v := .int (nI o)) hx hb hts hown hG hM 38 (by decide) q1330 rfl rfl dX2_token_96 ?_
                  refine vp_callSi (W.runV (As := [.int (nI o)]) (rest := []) ⟨hx, hb, hml, hown, hts⟩ (c_X2_byteAt lh D dA a0 ad (up1 (up1 N 37 q) 38 o) I G J o (show (N 33) ≤ 300 from by first | omega | assumption | exact hB_up (by assumption) (by omega)) (show o < 2 ^ 31 from by first | omega | assumption | exact hB_up (by assumption) (by omega))) (w_X2_byteAt hts q1531 rfl rfl ⟨Nat.le_of_ble_eq_true rfl, Nat.le_of_ble_eq_true rfl⟩) ⟨PqM.blind, M_recv hG hM, PqM.pre hG hM⟩ rfl rfl hl.1 rfl (lv_room (Nat.le_of_ble_eq_true rfl)) dX2_token_99 ⟨Nat.le_of_ble_eq_true rfl, Nat.le_of_ble_eq_true rfl⟩) (fun rr hrr => ?_)
                  subst hrr
                  refine kx_int (y := nI (byS ((N 33)) (J 32) o)) rfl ?_
                  refine lv_bipush (v := nI 97) hx hb dX2_token_102 (by decide) ?_
                  refine lv_bipush (v := nI 122) hx hb dX2_token_104 (by decide) ?_
                  refine vp_callSi (W.runS (As := [.int (nI (byS ((N 33)) (J 32) o)), .int (nI 97), .int (nI 122)]) (rest := []) ⟨hx, hb, hml, hown, hts⟩ (c_X2_within lh (nI (byS ((N 33)) (J 32) o)) (nI 97) (nI 122)) (w_X2_within hts q1464 rfl rfl ⟨Nat.le_of_ble_eq_true rfl, Nat.le_of_ble_eq_true rfl⟩) ⟨P0.blind, P0.pre⟩ rfl rfl hl.1 rfl (lv_room (Nat.le_of_ble_eq_true rfl)) dX2_token_106 ⟨Nat.le_of_ble_eq_true rfl, Nat.le_of_ble_eq_true rfl⟩) (fun rr hrr => ?_)
                  subst hrr
                  refine kx_int (y := bI (wi (nI (byS ((N 33)) (J 32) o)) (nI 97) (nI 122))) rfl ?_
                  refine kb_eq (tgt := 125) hx hb dX2_token_109 (by decide) (fun c_109 => ?_) (fun c_109 => ?_)
                  · rw [wi_nat' (by have := byS_lt (N 33) (J 32) o; omega) (by decide) (by decide)] at c_109
                    have hw : ¬ (97 ≤ (byS (N 33) (J 32)) o ∧ (byS (N 33) (J 32)) o ≤ 122) := fun q => by rw [decide_eq_true q.1, decide_eq_true q.2] at c_109; cases c_109
                    have hro : ruC (byS (N 33) (J 32)) 97 122 (N 33 - q) q = o := by rw [i94_0]; exact ruC_stop hw
                    refine lv_aload_n hx hb dX2_token_125 rfl (lv_at hl 0 rfl) ?_
                    refine lv_aload_n hx hb dX2_token_126 rfl (lv_at hl 0 rfl) ?_
                    refine M_get (v := .int (nI o)) hx hb hts hown hG hM 38 (by decide) q1330 rfl rfl dX2_token_127 ?_
                    refine lv_aload_n hx hb dX2_token_130 rfl (lv_at hl 0 rfl) ?_
                    refine M_get (v := .int (nI q)) hx hb hts hown hG hM 37 (by decide) q1329 rfl rfl dX2_token_131 ?_
                    refine kn_sub hx hb dX2_token_134 (by omega) ?_
                    refine lv_bipush (v := nI 8) hx hb dX2_token_135 (by decide) ?_
                    refine kn_cle (tgt := 144) hx hb dX2_token_137 (by decide) (by omega) (by omega) (fun c_137 => ?_) (fun c_137 => ?_)
                    · refine lv_iconst (v := nI 1) hx hb dX2_token_144 (by decide) ?_
                      refine M_put hx hb hts hown hG hS AM.o hM 36 (by decide) q1328 rfl rfl rfl (up1 (up1 (up1 N 37 q) 38 o) 36 1) I rfl dX2_token_145 (fun H locs hM hz hS => ?_)
                      refine lv_goto (tgt := 308) hx hb dX2_token_148 (by decide) ?_
                      subst hQ
                      exact W.vret hx hb hrt (fun t ht hW => ⟨⟨((up1 (up1 (up1 N 37 q) 38 o) 36 1), I, G, J), rfl, (by rw [tokQ3]; simp only [tokN, tkQ, hf]; rw [if_neg (by omega)]; rw [if_pos ha]; simp only [hro]; rw [if_neg (by omega)]), by rw [ht]; exact hM, GK.warm hW hG⟩, hS.F ht⟩) hS.2.2 dX2_token_308
                    · refine lv_iconst (v := nI 4) hx hb dX2_token_140 (by decide) ?_
                      refine lv_goto (tgt := 145) hx hb dX2_token_141 (by decide) ?_
                      refine M_put hx hb hts hown hG hS AM.o hM 36 (by decide) q1328 rfl rfl rfl (up1 (up1 (up1 N 37 q) 38 o) 36 4) I rfl dX2_token_145 (fun H locs hM hz hS => ?_)
                      refine lv_goto (tgt := 308) hx hb dX2_token_148 (by decide) ?_
                      subst hQ
                      exact W.vret hx hb hrt (fun t ht hW => ⟨⟨((up1 (up1 (up1 N 37 q) 38 o) 36 4), I, G, J), rfl, (by rw [tokQ3]; simp only [tokN, tkQ, hf]; rw [if_neg (by omega)]; rw [if_pos ha]; simp only [hro]; rw [if_pos c_137]), by rw [ht]; exact hM, GK.warm hW hG⟩, hS.F ht⟩) hS.2.2 dX2_token_308
                  · rw [wi_nat' (by have := byS_lt (N 33) (J 32) o; omega) (by decide) (by decide)] at c_109
                    have hw : 97 ≤ (byS (N 33) (J 32)) o ∧ (byS (N 33) (J 32)) o ≤ 122 := by simpa using c_109
                    refine lv_aload_n hx hb dX2_token_112 rfl (lv_at hl 0 rfl) ?_
                    refine lv_dup hx hb dX2_token_113 rfl ?_
                    refine M_get (v := .int (nI o)) hx hb hts hown hG hM 38 (by decide) q1330 rfl rfl dX2_token_114 ?_
                    refine lv_iconst (v := nI 1) hx hb dX2_token_117 (by decide) ?_
                    refine kn_add hx hb dX2_token_118 ?_
                    refine M_put hx hb hts hown hG hS AM.o hM 38 (by decide) q1330 rfl rfl rfl (up1 (up1 (up1 N 37 q) 38 o) 38 (o + 1)) I rfl dX2_token_119 (fun H locs hM hz hS => ?_)
                    refine lv_goto (tgt := 94) hx hb dX2_token_122 (by decide) ?_
                    have hqt : o < N 33 := byS_in (t := N 33) (f := J 32) (by omega)
                    exact ih94 (o + 1) (by rw [i94_0]; exact ruC_go (by omega) hw) (by omega) (by omega) (by omega) _ _ hM hS _ (lv_sub hl [0] rfl)
              exact L94 _ q (rfl) (by omega) (Nat.le_refl _) (Nat.lt_succ_self _) _ _ hM hS _ (lv_sub hl [1] rfl)
          · refine lv_aload_n hx hb dX2_token_75 rfl (lv_at hl 1 rfl) ?_
            refine lv_iconst (v := nI 0) hx hb dX2_token_76 (by decide) ?_
            refine M_put hx hb hts hown hG hS AM.o hM 36 (by decide) q1328 rfl rfl rfl (up1 (up1 (up1 N 37 q) 38 q) 36 0) I rfl dX2_token_77 (fun H locs hM hz hS => ?_)
            refine lv_goto (tgt := 308) hx hb dX2_token_80 (by decide) ?_
            subst hQ
            exact W.vret hx hb hrt (fun t ht hW => ⟨⟨((up1 (up1 (up1 N 37 q) 38 q) 36 0), I, G, J), rfl, (by rw [tokQ3]; simp only [tokN, tkQ, hf]; rw [if_pos c_72]), by rw [ht]; exact hM, GK.warm hW hG⟩, hS.F ht⟩) hS.2.2 dX2_token_308
        · refine lv_aload_n hx hb dX2_token_34 rfl (lv_at hl 0 rfl) ?_
          refine lv_dup hx hb dX2_token_35 rfl ?_
          refine M_get (v := .int (nI q)) hx hb hts hown hG hM 37 (by decide) q1329 rfl rfl dX2_token_36 ?_
          refine lv_iconst (v := nI 1) hx hb dX2_token_39 (by decide) ?_
          refine kn_add hx hb dX2_token_40 ?_
          refine M_put hx hb hts hown hG hS AM.o hM 37 (by decide) q1329 rfl rfl rfl (up1 (up1 N 37 q) 37 (q + 1)) I rfl dX2_token_41 (fun H locs hM hz hS => ?_)
          refine lv_goto (tgt := 8) hx hb dX2_token_44 (by decide) ?_
          have hsp : (byS (N 33) (J 32)) q = 32 ∨ (byS (N 33) (J 32)) q = 10 := by first | exact Or.inl c_18 | exact Or.inr c_31
          have hqt : q < N 33 := byS_in (t := N 33) (f := J 32) (by omega)
          exact ih8 (q + 1) (by rw [i8_0]; exact skW_go (by omega) hsp) (by omega) (by omega) _ _ hM hS _ (lv_sub hl [0] rfl)
  exact L8 _ (N 38) (rfl) (h2) (Nat.lt_succ_self _) _ _ hM hS _ (lv_sub hl [0] rfl)
theorem w_X2_token {R : Room} {s : State} {args : Array Value} {own : String} {idx : Nat} (hts : ∀ w ∈ lw_all, w.before args s = true) (h1 : Cond.methodLink own idx yX2_token ∈ lw_all) {rm : Room} {mc ms : Nat} (hrc : rm.cells = mc) (hrs : rm.slots = ms) (hR : rm.frames + 1 ≤ R.frames ∧ 8 + (2 + 11) + rm.locals ≤ R.locals) : CallW R s args own RX2 idx yX2_token cX2_token 2 none (ws_ yX2_token cX2_token 2 none) rm mc ms 0 := cwV 0 hts (lw_V h1 q1529 qs36 q70 q1530) rfl hrc hrs (by decide +kernel) hR

abbrev r_X2_wrong : Room := { frames := 0, cells := 0, slots := 0, locals := 0 }
set_option maxHeartbeats 400000 in
theorem c_X2_wrong (lh : Launch) (D : va_G) (dA : Nat → ClassId) (a0 : Nat) (ad : Nat → Nat) (N : Nat → Nat) (I : Nat → Int32) (G : Nat → Nat → Nat) (J : Nat → Nat → Int32) (sz : Nat) (k : Nat) (h1 : N 34 < 2 ^ 31) : Met lh yX2_wrong (ws_ yX2_wrong cX2_wrong 2 (some .boolean)) r_X2_wrong (PmM D dA a0 ad N I G J sz [.ref a0, .int (nI k)]) (va_Qi (fun (r : Int32) (u : SgT) => r = nI 0 ∧ u = (wrN N k, wrI N I, G, J)) (BmM D dA a0 ad) (AM a0 ad sz)) 0 0 (AM a0 ad sz) := by
  refine Met.ofW (cc := cX2_wrong) (maxL := 2) (ret := (some .boolean)) (by decide) rfl ?_
  intro p e s m args below meth cd s₁ B hml hv
  obtain ⟨hargs, hsz, hM, hG⟩ := hv
  have hx := B.exec
  have hb := B.bytes
  have hrt := B.returns
  have hts := atoms_spec (ws := (ws_ yX2_wrong cX2_wrong 2 (some .boolean))) B.pre
  have hts : ∀ w ∈ lw_all, w.before _ s = true := fun w h => hts w (List.mem_cons_of_mem _ h)
  have hown : s.vm.findClass RX2 = some m.cls := findClass_of_methodNamed B.named
  have hlocks := B.notSynchronized
  subst hsz
  have hS : va_S (AM a0 ad s.heap.size) s.heap s.heap [] := va_S.rf
  have hE : entryFrame m args 2 = F0 m 0 ((lg_sl ([.ref a0, .int (nI k)]) ++ List.replicate (2 - (lg_sl ([.ref a0, .int (nI k)])).length) Slot.unset).toArray) [] := by rw [hargs]; exact lg_entry_eq m _ 2
  have hl := lv_entry ([.ref a0, .int (nI k)]) (n := 2) (Nat.le_of_ble_eq_true rfl)
  rw [hE]
  clear hE
  generalize (lg_sl ([.ref a0, .int (nI k)]) ++ List.replicate (2 - (lg_sl ([.ref a0, .int (nI k)])).length) Slot.unset).toArray = ls at hl ⊢
  have hl : lv_has ls 2 [(0, .ref a0), (1, .int (nI k))] := hl
  generalize hQ : MQ _ _ _ _ _ _ _ = Q
  refine lv_aload_n hx hb dX2_wrong_0 rfl (lv_at hl 0 rfl) ?_
  refine M_get (v := .int (nI (N 34))) hx hb hts hown hG hM 34 (by decide) q1326 rfl rfl dX2_wrong_1 ?_
  refine kn_zne (tgt := 20) hx hb dX2_wrong_4 (by decide) (by omega) (fun c_4 => ?_) (fun c_4 => ?_)
  · refine lv_iconst (v := nI 0) hx hb dX2_wrong_20 (by decide) ?_
    subst hQ
    exact W.zret (v := nI 0) hx hb hrt rfl (fun t ht hW => ⟨⟨_, (N, I, G, J), rfl, (by unfold wrN wrI; rw [if_neg c_4, if_neg c_4]; exact ⟨rfl, rfl⟩), by rw [ht]; exact hM, GK.warm hW hG⟩, hS.F ht⟩) hS.2.2 dX2_wrong_21
  · refine lv_aload_n hx hb dX2_wrong_7 rfl (lv_at hl 0 rfl) ?_
    refine lv_iload_n hx hb dX2_wrong_8 rfl (lv_at hl 1 rfl) ?_
    refine M_put hx hb hts hown hG hS AM.o hM 34 (by decide) q1326 rfl rfl rfl (up1 N 34 k) I rfl dX2_wrong_9 (fun H locs hM hz hS => ?_)
    refine lv_aload_n hx hb dX2_wrong_12 rfl (lv_at hl 0 rfl) ?_
    refine lv_aload_n hx hb dX2_wrong_13 rfl (lv_at hl 0 rfl) ?_
    refine M_get (v := .int (nI (N 37))) hx hb hts hown hG hM 37 (by decide) q1329 rfl rfl dX2_wrong_14 ?_
    refine M_put hx hb hts hown hG hS AM.o hM 35 (by decide) q1327 rfl rfl rfl (up1 N 34 k) (up1 I 35 (nI (N 37))) rfl dX2_wrong_17 (fun H locs hM hz hS => ?_)
    refine lv_iconst (v := nI 0) hx hb dX2_wrong_20 (by decide) ?_
    subst hQ
    exact W.zret (v := nI 0) hx hb hrt rfl (fun t ht hW => ⟨⟨_, ((up1 N 34 k), (up1 I 35 (nI (N 37))), G, J), rfl, (by unfold wrN wrI; rw [if_pos c_4, if_pos c_4]; exact ⟨rfl, rfl⟩), by rw [ht]; exact hM, GK.warm hW hG⟩, hS.F ht⟩) hS.2.2 dX2_wrong_21
theorem w_X2_wrong {R : Room} {s : State} {args : Array Value} {own : String} {idx : Nat} (hts : ∀ w ∈ lw_all, w.before args s = true) (h1 : Cond.methodLink own idx yX2_wrong ∈ lw_all) {rm : Room} {mc ms : Nat} (hrc : rm.cells = mc) (hrs : rm.slots = ms) (hR : rm.frames + 1 ≤ R.frames ∧ 8 + (2 + 11) + rm.locals ≤ R.locals) : CallW R s args own RX2 idx yX2_wrong cX2_wrong 2 (some .boolean) (ws_ yX2_wrong cX2_wrong 2 (some .boolean)) rm mc ms 1 := cwV 1 hts (lw_V h1 q1557 qs42 q70 q1558) rfl hrc hrs (by decide +kernel) hR

abbrev r_X2_number : Room := { frames := 2, cells := 0, slots := 0, locals := 43 }
set_option maxHeartbeats 400000 in
theorem c_X2_number (lh : Launch) (D : va_G) (dA : Nat → ClassId) (a0 : Nat) (ad : Nat → Nat) (N : Nat → Nat) (I : Nat → Int32) (G : Nat → Nat → Nat) (J : Nat → Nat → Int32) (sz : Nat) (h1 : N 33 ≤ 300) (h2 : N 38 ≤ N 33) (h3 : N 34 < 2 ^ 31) (h4 : N 36 < 2 ^ 31) : Met lh yX2_number (ws_ yX2_number cX2_number 2 (some .int)) r_X2_number (PmM D dA a0 ad N I G J sz [.ref a0]) (va_Qi (fun (r : Int32) (u : SgT) => r = nI (nuV N) ∧ u = (nuN N J, nuI N I, G, J)) (BmM D dA a0 ad) (AM a0 ad sz)) 0 0 (AM a0 ad sz) := by
  refine Met.ofW (cc := cX2_number) (maxL := 2) (ret := (some .int)) (by decide) rfl ?_
  intro p e s m args below meth cd s₁ B hml hv
  obtain ⟨hargs, hsz, hM, hG⟩ := hv
  have hx := B.exec
  have hb := B.bytes
  have hrt := B.returns
  have hts := atoms_spec (ws := (ws_ yX2_number cX2_number 2 (some .int))) B.pre
  have hts : ∀ w ∈ lw_all, w.before _ s = true := fun w h => hts w (List.mem_cons_of_mem _ h)
  have hown : s.vm.findClass RX2 = some m.cls := findClass_of_methodNamed B.named
  have hlocks := B.notSynchronized
  subst hsz
  have hS : va_S (AM a0 ad s.heap.size) s.heap s.heap [] := va_S.rf
  have hE : entryFrame m args 2 = F0 m 0 ((lg_sl ([.ref a0]) ++ List.replicate (2 - (lg_sl ([.ref a0])).length) Slot.unset).toArray) [] := by rw [hargs]; exact lg_entry_eq m _ 2
  have hl := lv_entry ([.ref a0]) (n := 2) (Nat.le_of_ble_eq_true rfl)
  rw [hE]
  clear hE
  generalize (lg_sl ([.ref a0]) ++ List.replicate (2 - (lg_sl ([.ref a0])).length) Slot.unset).toArray = ls at hl ⊢
  have hl : lv_has ls 2 [(0, .ref a0)] := hl
  generalize hQ : MQ _ _ _ _ _ _ _ = Q
  refine lv_aload_n hx hb dX2_number_0 rfl (lv_at hl 0 rfl) ?_
  refine M_get (v := .int (nI (N 36))) hx hb hts hown hG hM 36 (by decide) q1328 rfl rfl dX2_number_1 ?_
  refine lv_iconst (v := nI 2) hx hb dX2_number_4 (by decide) ?_
  refine kn_ceq (tgt := 16) hx hb dX2_number_5 (by decide) (by omega) (by omega) (fun c_5 => ?_) (fun c_5 => ?_)
  · refine lv_aload_n hx hb dX2_number_16 rfl (lv_at hl 0 rfl) ?_
    refine M_get (v := .int (nI (N 39))) hx hb hts hown hG hM 39 (by decide) q1331 rfl rfl dX2_number_17 ?_
    refine lv_istore_n (lv' := [(1, .int (nI (N 39))), (0, .ref a0)]) hx hb dX2_number_20 rfl hl (by decide) rfl (fun ls hl => ?_)
    refine lv_aload_n hx hb dX2_number_21 rfl (lv_at hl 1 rfl) ?_
    refine va_callv (va_runV (As := []) (rest := []) ⟨hx, hb, hml, hown, hts⟩ (c_X2_token lh D dA a0 ad N I G J s.heap.size (show (N 33) ≤ 300 from by first | omega | assumption | exact hB_up (by assumption) (by omega)) (show (N 38) ≤ (N 33) from by first | omega | assumption | exact hB_up (by assumption) (by omega))) (w_X2_token hts q1527 rfl rfl ⟨Nat.le_of_ble_eq_true rfl, Nat.le_of_ble_eq_true rfl⟩) ⟨PmM.blind, M_recv hG hM, PmM.pre hG hM⟩ rfl rfl hl.1 rfl (lv_room (Nat.le_of_ble_eq_true rfl)) dX2_number_22 ⟨Nat.le_of_ble_eq_true rfl, Nat.le_of_ble_eq_true rfl⟩) hS (fun q _ h => AM.up (hS.1) q h) (fun q h => AM.up (hS.1) q h) (fun u t H1 locs ht hvm hp hB hz hk hS => ?_)
    obtain ⟨hM, -⟩ := hB
    rw [ht] at hM
    clear ht hz hk
    generalize H1 = H at hM hS ⊢
    subst hp
    dsimp only at hM
    refine lv_iload_n hx hb dX2_number_25 rfl (lv_at hl 0 rfl) ?_
    subst hQ
    exact W.iret (v := nI (N 39)) hx hb hrt (fun t ht hW => ⟨⟨_, ((tokN N J), I, G, J), rfl, (by unfold nuV nuN nuI; rw [if_pos c_5, if_pos c_5, if_pos c_5]; exact ⟨rfl, rfl⟩), by rw [ht]; exact hM, GK.warm hW hG⟩, hS.F ht⟩) hS.2.2 dX2_number_26
  · refine lv_aload_n hx hb dX2_number_8 rfl (lv_at hl 0 rfl) ?_
    refine lv_iconst (v := nI 1) hx hb dX2_number_9 (by decide) ?_
    refine va_calli (va_runV (As := [.int (nI 1)]) (rest := []) ⟨hx, hb, hml, hown, hts⟩ (c_X2_wrong lh D dA a0 ad N I G J s.heap.size 1 (show (N 34) < 2 ^ 31 from by first | omega | assumption | exact hB_up (by assumption) (by omega))) (w_X2_wrong hts q1555 rfl rfl ⟨Nat.le_of_ble_eq_true rfl, Nat.le_of_ble_eq_true rfl⟩) ⟨PmM.blind, M_recv hG hM, PmM.pre hG hM⟩ rfl rfl hl.1 rfl (lv_room (Nat.le_of_ble_eq_true rfl)) dX2_number_10 ⟨Nat.le_of_ble_eq_true rfl, Nat.le_of_ble_eq_true rfl⟩) hS (fun q _ h => AM.up (hS.1) q h) (fun q h => AM.up (hS.1) q h) (fun rr u t H1 locs ht hvm hp hB hz hk hS => ?_)
    obtain ⟨hM, -⟩ := hB
    rw [ht] at hM
    clear ht hz hk
    generalize H1 = H at hM hS ⊢
    obtain ⟨hrr, hu⟩ := hp
    subst hrr hu
    dsimp only at hM
    refine lv_istore_n (lv' := [(1, .int (nI 0)), (0, .ref a0)]) hx hb dX2_number_13 rfl hl (by decide) rfl (fun ls hl => ?_)
    refine lv_iconst (v := nI 0) hx hb dX2_number_14 (by decide) ?_
    subst hQ
    exact W.iret (v := nI 0) hx hb hrt (fun t ht hW => ⟨⟨_, ((wrN N 1), (wrI N I), G, J), rfl, (by unfold nuV nuN nuI; rw [if_neg c_5, if_neg c_5, if_neg c_5]; exact ⟨rfl, rfl⟩), by rw [ht]; exact hM, GK.warm hW hG⟩, hS.F ht⟩) hS.2.2 dX2_number_15
theorem w_X2_number {R : Room} {s : State} {args : Array Value} {own : String} {idx : Nat} (hts : ∀ w ∈ lw_all, w.before args s = true) (h1 : Cond.methodLink own idx yX2_number ∈ lw_all) {rm : Room} {mc ms : Nat} (hrc : rm.cells = mc) (hrs : rm.slots = ms) (hR : rm.frames + 1 ≤ R.frames ∧ 8 + (2 + 11) + rm.locals ≤ R.locals) : CallW R s args own RX2 idx yX2_number cX2_number 2 (some .int) (ws_ yX2_number cX2_number 2 (some .int)) rm mc ms 0 := cwV 0 hts (lw_V h1 q1569 qs44 q70 q1570) rfl hrc hrs (by decide +kernel) hR
