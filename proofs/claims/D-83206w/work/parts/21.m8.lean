set_option maxRecDepth 100000
theorem w_X2_tries {R : Room} {s : State} {args : Array Value} {own : String} {idx : Nat} (hts : ∀ w ∈ lw_all, w.before args s = true) (h1 : Cond.methodLink own idx yX2_tries ∈ lw_all) {rm : Room} {mc ms : Nat} (hrc : rm.cells = mc) (hrs : rm.slots = ms) (hR : rm.frames + 1 ≤ R.frames ∧ 8 + (6 + 11) + rm.locals ≤ R.locals) : CallW R s args own RX2 idx yX2_tries cX2_tries 6 none (ws_ yX2_tries cX2_tries 6 none) rm mc ms 4 := cwV 4 hts (lw_V h1 q1680 qs60 q70 q1681) rfl hrc hrs (by decide +kernel) hR

set_option maxHeartbeats 400000 in
theorem c_X2_tries0 (lh : Launch) (D : va_G) (dA : Nat → ClassId) (a0 : Nat) (ad : Nat → Nat) (N : Nat → Nat) (I : Nat → Int32) (G : Nat → Nat → Nat) (J : Nat → Nat → Int32) (sz : Nat) (o : Nat) (u : Int32) (sm : Nat) (al : Nat) (x : TrT) (h1 : N 44 = o) (h2 : o ≤ 6) : Met lh yX2_tries (ws_ yX2_tries cX2_tries 6 none) (r_tr 0) (PmM D dA a0 ad N (trI I x) G (trJ J x) sz [.ref a0, .int (nI o), .int u, .int (nI sm), .int (nI al)]) (va_Qv (fun u' : SgT => u' = (N, trI I (trS N G 0 o u sm al x), G, trJ J (trS N G 0 o u sm al x))) (BmM D dA a0 ad) (AM a0 ad sz)) 0 0 (AM a0 ad sz) := by
  refine Met.ofW (cc := cX2_tries) (maxL := 6) (ret := none) (by decide) rfl ?_
  intro p e s m args below meth cd s₁ B hml hv
  obtain ⟨hargs, hsz, hM, hG⟩ := hv
  have hx := B.exec
  have hb := B.bytes
  have hrt := B.returns
  have hts := atoms_spec (ws := (ws_ yX2_tries cX2_tries 6 none)) B.pre
  have hts : ∀ w ∈ lw_all, w.before _ s = true := fun w h => hts w (List.mem_cons_of_mem _ h)
  have hown : s.vm.findClass RX2 = some m.cls := findClass_of_methodNamed B.named
  have hlocks := B.notSynchronized
  subst hsz
  have hS : va_S (AM a0 ad s.heap.size) s.heap s.heap [] := va_S.rf
  have hE : entryFrame m args 6 = F0 m 0 ((lg_sl ([.ref a0, .int (nI o), .int u, .int (nI sm), .int (nI al)]) ++ List.replicate (6 - (lg_sl ([.ref a0, .int (nI o), .int u, .int (nI sm), .int (nI al)])).length) Slot.unset).toArray) [] := by rw [hargs]; exact lg_entry_eq m _ 6
  have hl := lv_entry ([.ref a0, .int (nI o), .int u, .int (nI sm), .int (nI al)]) (n := 6) (Nat.le_of_ble_eq_true rfl)
  rw [hE]
  clear hE
  generalize (lg_sl ([.ref a0, .int (nI o), .int u, .int (nI sm), .int (nI al)]) ++ List.replicate (6 - (lg_sl ([.ref a0, .int (nI o), .int u, .int (nI sm), .int (nI al)])).length) Slot.unset).toArray = ls at hl ⊢
  have hl : lv_has ls 6 [(0, .ref a0), (1, .int (nI o)), (2, .int u), (3, .int (nI sm)), (4, .int (nI al))] := hl
  generalize hQ : MQ _ _ _ _ _ _ _ = Q
  refine lv_iload_n hx hb dX2_tries_0 rfl (lv_at hl 1 rfl) ?_
  refine lv_aload_n hx hb dX2_tries_1 rfl (lv_at hl 0 rfl) ?_
  refine M_get (v := .int (nI (N 44))) hx hb hts hown hG hM 44 (by decide) q1336 rfl rfl dX2_tries_2 ?_
  refine kn_cne (tgt := 78) hx hb dX2_tries_5 (by decide) (by omega) (by omega) (fun c_5 => ?_) (fun c_5 => ?_)
  · exact absurd h1.symm c_5
  · refine lv_iload_n hx hb dX2_tries_8 rfl (lv_at hl 3 rfl) ?_
    refine lv_aload_n hx hb dX2_tries_9 rfl (lv_at hl 0 rfl) ?_
    refine M_get (v := .int ((trI I x) 52)) hx hb hts hown hG hM 52 (by decide) q1344 rfl rfl dX2_tries_10 ?_
    refine lv_icmp_lt (tgt := 33) hx hb dX2_tries_13 (by decide) (fun c_13 => ?_) (fun c_13 => ?_)
    · subst hQ
      exact W.vret hx hb hrt (fun t ht hW => ⟨⟨(N, (trI I x), G, (trJ J x)), rfl, (by rw [show trS N G 0 o u sm al x = x from if_pos (Or.inl c_13)]), by rw [ht]; exact hM, GK.warm hW hG⟩, hS.F ht⟩) hS.2.2 dX2_tries_33
    · refine lv_iload_n hx hb dX2_tries_16 rfl (lv_at hl 3 rfl) ?_
      refine lv_aload_n hx hb dX2_tries_17 rfl (lv_at hl 0 rfl) ?_
      refine M_get (v := .int ((trI I x) 52)) hx hb hts hown hG hM 52 (by decide) q1344 rfl rfl dX2_tries_18 ?_
      refine lv_icmp_ne (tgt := 34) hx hb dX2_tries_21 (by decide) (fun c_21 => ?_) (fun c_21 => ?_)
      · refine lv_aload_n hx hb dX2_tries_34 rfl (lv_at hl 0 rfl) ?_
        refine lv_iload_n hx hb dX2_tries_35 rfl (lv_at hl 3 rfl) ?_
        refine M_put hx hb hts hown hG hS AM.o hM 52 (by decide) q1344 rfl rfl rfl N (up1 (trI I x) 52 (nI sm)) rfl dX2_tries_36 (fun H locs hM hz hS => ?_)
        refine lv_aload_n hx hb dX2_tries_39 rfl (lv_at hl 0 rfl) ?_
        refine lv_iload hx hb dX2_tries_40 (lv_at hl 4 rfl) ?_
        refine M_put hx hb hts hown hG hS AM.o hM 53 (by decide) q1345 rfl rfl rfl N (up1 (up1 (trI I x) 52 (nI sm)) 53 (nI al)) rfl dX2_tries_42 (fun H locs hM hz hS => ?_)
        refine lv_iconst (v := nI 0) hx hb dX2_tries_45 (by decide) ?_
        refine lv_istore (lv' := [(5, .int (nI 0)), (0, .ref a0), (1, .int (nI o)), (2, .int u), (3, .int (nI sm)), (4, .int (nI al))]) hx hb dX2_tries_46 hl (by decide) rfl (fun ls hl => ?_)
        have L48 : ∀ (nn48 : Nat) (k : Nat), (k ≤ N 44) → N 44 - k < nn48 → ∀ (H : Heap) (locs : List Loc), RM D dA a0 ad N (trI I (x.1, cpT x.1 x.2.1 k, nI sm, nI al)) G (trJ J (x.1, cpT x.1 x.2.1 k, nI sm, nI al)) H → va_S (AM a0 ad s.heap.size) s.heap H locs → ∀ (ls : Array Slot), lv_has ls 6 [(0, .ref a0), (5, .int (nI k))] → W p lh e (r_tr 0) s m args below meth cd H locs 0 0 Q (F0 m 48 ls []) := by
          intro nn48
          induction nn48 with
          | zero => intro k i48_0 hm48; exact absurd hm48 (Nat.not_lt_zero _)
          | succ nn48 ih48 =>
            intro k i48_0 hm48 H locs hM hS ls hl
            refine lv_iload hx hb dX2_tries_48 (lv_at hl 1 rfl) ?_
            refine lv_aload_n hx hb dX2_tries_50 rfl (lv_at hl 0 rfl) ?_
            refine M_get (v := .int (nI (N 44))) hx hb hts hown hG hM 44 (by decide) q1336 rfl rfl dX2_tries_51 ?_
            refine kn_cge (tgt := 77) hx hb dX2_tries_54 (by decide) (by omega) (by omega) (fun c_54 => ?_) (fun c_54 => ?_)
            · subst hQ
              exact W.vret hx hb hrt (fun t ht hW => ⟨⟨(N, (trI I (x.1, cpT x.1 x.2.1 k, nI sm, nI al)), G, (trJ J (x.1, cpT x.1 x.2.1 k, nI sm, nI al))), rfl, (by rw [show trS N G 0 o u sm al x = (x.1, cpT x.1 x.2.1 (N 44), nI sm, nI al) from if_neg (fun q => q.elim (fun q => c_13 q) (fun q => c_21 q.1)), show N 44 = k by omega]), by rw [ht]; exact hM, GK.warm hW hG⟩, hS.F ht⟩) hS.2.2 dX2_tries_77
            · refine lv_aload_n hx hb dX2_tries_57 rfl (lv_at hl 0 rfl) ?_
              refine M_get (v := .ref (ad 51)) hx hb hts hown hG hM 51 (by decide) q1343 rfl rfl dX2_tries_58 ?_
              refine lv_iload hx hb dX2_tries_61 (lv_at hl 1 rfl) ?_
              refine lv_aload_n hx hb dX2_tries_63 rfl (lv_at hl 0 rfl) ?_
              refine M_get (v := .ref (ad 50)) hx hb hts hown hG hM 50 (by decide) q1342 rfl rfl dX2_tries_64 ?_
              refine lv_iload hx hb dX2_tries_67 (lv_at hl 1 rfl) ?_
              refine M_iald (v := (trJ J (x.1, cpT x.1 x.2.1 k, nI sm, nI al)) 50 k) hx hb hG hM 50 rfl rfl (show k < 6 from by omega) (rfl) dX2_tries_69 ?_
              refine M_iastJ (v := (trJ J (x.1, cpT x.1 x.2.1 k, nI sm, nI al)) 50 k) hx hb hG hS hM 51 rfl (AM.a 51 rfl) rfl rfl (show k < 6 from by omega) dX2_tries_70 (fun H locs hM hz hS => ?_)
              refine lv_iinc (v := nI (k + 1)) (lv' := [(5, .int (nI (k + 1))), (0, .ref a0)]) hx hb dX2_tries_71 hl (k := 1) rfl (show nI k + Int32.ofInt 1 = nI (k + 1) from nI_add _ 1) (by decide) rfl (fun ls hl => ?_)
              refine lv_goto (tgt := 48) hx hb dX2_tries_74 (by decide) ?_
              exact ih48 (k + 1) (by omega) (by omega) _ _ (by rw [← trJ_cp]; exact hM) hS _ (lv_sub hl [1, 0] rfl)
        exact L48 _ 0 (by omega) (Nat.lt_succ_self _) _ _ (by rw [cpT_0, ← trI_up]; exact hM) hS _ (lv_sub hl [1, 0] rfl)
      · refine lv_iload hx hb dX2_tries_24 (lv_at hl 4 rfl) ?_
        refine lv_aload_n hx hb dX2_tries_26 rfl (lv_at hl 0 rfl) ?_
        refine M_get (v := .int ((trI I x) 53)) hx hb hts hown hG hM 53 (by decide) q1345 rfl rfl dX2_tries_27 ?_
        refine lv_icmp_lt (tgt := 34) hx hb dX2_tries_30 (by decide) (fun c_30 => ?_) (fun c_30 => ?_)
        · refine lv_aload_n hx hb dX2_tries_34 rfl (lv_at hl 0 rfl) ?_
          refine lv_iload_n hx hb dX2_tries_35 rfl (lv_at hl 3 rfl) ?_
          refine M_put hx hb hts hown hG hS AM.o hM 52 (by decide) q1344 rfl rfl rfl N (up1 (trI I x) 52 (nI sm)) rfl dX2_tries_36 (fun H locs hM hz hS => ?_)
          refine lv_aload_n hx hb dX2_tries_39 rfl (lv_at hl 0 rfl) ?_
          refine lv_iload hx hb dX2_tries_40 (lv_at hl 4 rfl) ?_
          refine M_put hx hb hts hown hG hS AM.o hM 53 (by decide) q1345 rfl rfl rfl N (up1 (up1 (trI I x) 52 (nI sm)) 53 (nI al)) rfl dX2_tries_42 (fun H locs hM hz hS => ?_)
          refine lv_iconst (v := nI 0) hx hb dX2_tries_45 (by decide) ?_
          refine lv_istore (lv' := [(5, .int (nI 0)), (0, .ref a0), (1, .int (nI o)), (2, .int u), (3, .int (nI sm)), (4, .int (nI al))]) hx hb dX2_tries_46 hl (by decide) rfl (fun ls hl => ?_)
          have L48 : ∀ (nn48 : Nat) (k : Nat), (k ≤ N 44) → N 44 - k < nn48 → ∀ (H : Heap) (locs : List Loc), RM D dA a0 ad N (trI I (x.1, cpT x.1 x.2.1 k, nI sm, nI al)) G (trJ J (x.1, cpT x.1 x.2.1 k, nI sm, nI al)) H → va_S (AM a0 ad s.heap.size) s.heap H locs → ∀ (ls : Array Slot), lv_has ls 6 [(0, .ref a0), (5, .int (nI k))] → W p lh e (r_tr 0) s m args below meth cd H locs 0 0 Q (F0 m 48 ls []) := by
            intro nn48
            induction nn48 with
            | zero => intro k i48_0 hm48; exact absurd hm48 (Nat.not_lt_zero _)
            | succ nn48 ih48 =>
              intro k i48_0 hm48 H locs hM hS ls hl
              refine lv_iload hx hb dX2_tries_48 (lv_at hl 1 rfl) ?_
              refine lv_aload_n hx hb dX2_tries_50 rfl (lv_at hl 0 rfl) ?_
              refine M_get (v := .int (nI (N 44))) hx hb hts hown hG hM 44 (by decide) q1336 rfl rfl dX2_tries_51 ?_
              refine kn_cge (tgt := 77) hx hb dX2_tries_54 (by decide) (by omega) (by omega) (fun c_54 => ?_) (fun c_54 => ?_)
              · subst hQ
                exact W.vret hx hb hrt (fun t ht hW => ⟨⟨(N, (trI I (x.1, cpT x.1 x.2.1 k, nI sm, nI al)), G, (trJ J (x.1, cpT x.1 x.2.1 k, nI sm, nI al))), rfl, (by rw [show trS N G 0 o u sm al x = (x.1, cpT x.1 x.2.1 (N 44), nI sm, nI al) from if_neg (fun q => q.elim (fun q => c_13 q) (fun q => q.2 c_30)), show N 44 = k by omega]), by rw [ht]; exact hM, GK.warm hW hG⟩, hS.F ht⟩) hS.2.2 dX2_tries_77
              · refine lv_aload_n hx hb dX2_tries_57 rfl (lv_at hl 0 rfl) ?_
                refine M_get (v := .ref (ad 51)) hx hb hts hown hG hM 51 (by decide) q1343 rfl rfl dX2_tries_58 ?_
                refine lv_iload hx hb dX2_tries_61 (lv_at hl 1 rfl) ?_
                refine lv_aload_n hx hb dX2_tries_63 rfl (lv_at hl 0 rfl) ?_
                refine M_get (v := .ref (ad 50)) hx hb hts hown hG hM 50 (by decide) q1342 rfl rfl dX2_tries_64 ?_
                refine lv_iload hx hb dX2_tries_67 (lv_at hl 1 rfl) ?_
                refine M_iald (v := (trJ J (x.1, cpT x.1 x.2.1 k, nI sm, nI al)) 50 k) hx hb hG hM 50 rfl rfl (show k < 6 from by omega) (rfl) dX2_tries_69 ?_
                refine M_iastJ (v := (trJ J (x.1, cpT x.1 x.2.1 k, nI sm, nI al)) 50 k) hx hb hG hS hM 51 rfl (AM.a 51 rfl) rfl rfl (show k < 6 from by omega) dX2_tries_70 (fun H locs hM hz hS => ?_)
                refine lv_iinc (v := nI (k + 1)) (lv' := [(5, .int (nI (k + 1))), (0, .ref a0)]) hx hb dX2_tries_71 hl (k := 1) rfl (show nI k + Int32.ofInt 1 = nI (k + 1) from nI_add _ 1) (by decide) rfl (fun ls hl => ?_)
                refine lv_goto (tgt := 48) hx hb dX2_tries_74 (by decide) ?_
                exact ih48 (k + 1) (by omega) (by omega) _ _ (by rw [← trJ_cp]; exact hM) hS _ (lv_sub hl [1, 0] rfl)
          exact L48 _ 0 (by omega) (Nat.lt_succ_self _) _ _ (by rw [cpT_0, ← trI_up]; exact hM) hS _ (lv_sub hl [1, 0] rfl)
        · subst hQ
          exact W.vret hx hb hrt (fun t ht hW => ⟨⟨(N, (trI I x), G, (trJ J x)), rfl, (by rw [show trS N G 0 o u sm al x = x from if_pos (Or.inr ⟨c_21, c_30⟩)]), by rw [ht]; exact hM, GK.warm hW hG⟩, hS.F ht⟩) hS.2.2 dX2_tries_33

set_option maxHeartbeats 400000 in
theorem c_X2_triesS (lh : Launch) (D : va_G) (dA : Nat → ClassId) (a0 : Nat) (ad : Nat → Nat) (N : Nat → Nat) (I : Nat → Int32) (G : Nat → Nat → Nat) (J : Nat → Nat → Int32) (sz : Nat) (o : Nat) (u : Int32) (sm : Nat) (al : Nat) (x : TrT) (d : Nat) (h1 : ∀ a b, G a b < 2 ^ 31) (h2 : N 3 ≤ 10) (h3 : N 44 = o + (d + 1)) (h4 : N 44 ≤ 6) (h5 : ∀ (sz o : Nat) (u : Int32) (sm al : Nat) (x : TrT), N 44 = o + d → o ≤ 6 → Met lh yX2_tries (ws_ yX2_tries cX2_tries 6 none) (r_tr d) (PmM D dA a0 ad N (trI I x) G (trJ J x) sz [.ref a0, .int (nI o), .int u, .int (nI sm), .int (nI al)]) (va_Qv (fun u' : SgT => u' = (N, trI I (trS N G d o u sm al x), G, trJ J (trS N G d o u sm al x))) (BmM D dA a0 ad) (AM a0 ad sz)) 0 0 (AM a0 ad sz)) : Met lh yX2_tries (ws_ yX2_tries cX2_tries 6 none) (r_tr (d + 1)) (PmM D dA a0 ad N (trI I x) G (trJ J x) sz [.ref a0, .int (nI o), .int u, .int (nI sm), .int (nI al)]) (va_Qv (fun u' : SgT => u' = (N, trI I (trS N G (d + 1) o u sm al x), G, trJ J (trS N G (d + 1) o u sm al x))) (BmM D dA a0 ad) (AM a0 ad sz)) 0 0 (AM a0 ad sz) := by
  refine Met.ofW (cc := cX2_tries) (maxL := 6) (ret := none) (by decide) rfl ?_
  intro p e s m args below meth cd s₁ B hml hv
  obtain ⟨hargs, hsz, hM, hG⟩ := hv
  have hx := B.exec
  have hb := B.bytes
  have hrt := B.returns
  have hts := atoms_spec (ws := (ws_ yX2_tries cX2_tries 6 none)) B.pre
  have hts : ∀ w ∈ lw_all, w.before _ s = true := fun w h => hts w (List.mem_cons_of_mem _ h)
  have hown : s.vm.findClass RX2 = some m.cls := findClass_of_methodNamed B.named
  have hlocks := B.notSynchronized
  subst hsz
  have hS : va_S (AM a0 ad s.heap.size) s.heap s.heap [] := va_S.rf
  have hE : entryFrame m args 6 = F0 m 0 ((lg_sl ([.ref a0, .int (nI o), .int u, .int (nI sm), .int (nI al)]) ++ List.replicate (6 - (lg_sl ([.ref a0, .int (nI o), .int u, .int (nI sm), .int (nI al)])).length) Slot.unset).toArray) [] := by rw [hargs]; exact lg_entry_eq m _ 6
  have hl := lv_entry ([.ref a0, .int (nI o), .int u, .int (nI sm), .int (nI al)]) (n := 6) (Nat.le_of_ble_eq_true rfl)
  rw [hE]
  clear hE
  generalize (lg_sl ([.ref a0, .int (nI o), .int u, .int (nI sm), .int (nI al)]) ++ List.replicate (6 - (lg_sl ([.ref a0, .int (nI o), .int u, .int (nI sm), .int (nI al)])).length) Slot.unset).toArray = ls at hl ⊢
  have hl : lv_has ls 6 [(0, .ref a0), (1, .int (nI o)), (2, .int u), (3, .int (nI sm)), (4, .int (nI al))] := hl
  generalize hQ : MQ _ _ _ _ _ _ _ = Q
  refine lv_iload_n hx hb dX2_tries_0 rfl (lv_at hl 1 rfl) ?_
  refine lv_aload_n hx hb dX2_tries_1 rfl (lv_at hl 0 rfl) ?_
  refine M_get (v := .int (nI (N 44))) hx hb hts hown hG hM 44 (by decide) q1336 rfl rfl dX2_tries_2 ?_
  refine kn_cne (tgt := 78) hx hb dX2_tries_5 (by decide) (by omega) (by omega) (fun c_5 => ?_) (fun c_5 => ?_)
  · refine lv_iconst (v := nI 0) hx hb dX2_tries_78 (by decide) ?_
    refine lv_istore (lv' := [(5, .int (nI 0)), (0, .ref a0), (1, .int (nI o)), (2, .int u), (3, .int (nI sm)), (4, .int (nI al))]) hx hb dX2_tries_79 hl (by decide) rfl (fun ls hl => ?_)
    have L81 : ∀ (nn81 : Nat) (c : Nat), (c ≤ N 3) → N 3 - c < nn81 → ∀ (H : Heap) (locs : List Loc), RM D dA a0 ad N (trI I (itN (trF N G d o u sm al) x c)) G (trJ J (itN (trF N G d o u sm al) x c)) H → va_S (AM a0 ad s.heap.size) s.heap H locs → ∀ (ls : Array Slot), lv_has ls 6 [(0, .ref a0), (1, .int (nI o)), (2, .int u), (3, .int (nI sm)), (4, .int (nI al)), (5, .int (nI c))] → W p lh e (r_tr (d + 1)) s m args below meth cd H locs 0 0 Q (F0 m 81 ls []) := by
      intro nn81
      induction nn81 with
      | zero => intro c i81_0 hm81; exact absurd hm81 (Nat.not_lt_zero _)
      | succ nn81 ih81 =>
        intro c i81_0 hm81 H locs hM hS ls hl
        refine lv_iload hx hb dX2_tries_81 (lv_at hl 5 rfl) ?_
        refine lv_aload_n hx hb dX2_tries_83 rfl (lv_at hl 0 rfl) ?_
        refine M_get (v := .int (nI (N 3))) hx hb hts hown hG hM 3 (by decide) q1295 rfl rfl dX2_tries_84 ?_
        refine kn_cge (tgt := 162) hx hb dX2_tries_87 (by decide) (by omega) (by omega) (fun c_87 => ?_) (fun c_87 => ?_)
        · have ec : c = N 3 := (by omega)
          subst ec
          refine lv_aload_n hx hb dX2_tries_162 rfl (lv_at hl 0 rfl) ?_
          refine M_get (v := .ref (ad 50)) hx hb hts hown hG hM 50 (by decide) q1342 rfl rfl dX2_tries_163 ?_
          refine lv_iload_n hx hb dX2_tries_166 rfl (lv_at hl 1 rfl) ?_
          refine lv_iconst (v := -1) hx hb dX2_tries_167 (by decide) ?_
          refine M_iastJ (v := (-1)) hx hb hG hS hM 50 rfl (AM.a 50 rfl) rfl rfl (show o < 6 from by omega) dX2_tries_168 (fun H locs hM hz hS => ?_)
          rw [trJ_up] at hM
          refine lv_aload_n hx hb dX2_tries_169 rfl (lv_at hl 0 rfl) ?_
          refine lv_iload_n hx hb dX2_tries_170 rfl (lv_at hl 1 rfl) ?_
          refine lv_iconst (v := nI 1) hx hb dX2_tries_171 (by decide) ?_
          refine kn_add hx hb dX2_tries_172 ?_
          refine lv_iload_n hx hb dX2_tries_173 rfl (lv_at hl 2 rfl) ?_
          refine lv_iload_n hx hb dX2_tries_174 rfl (lv_at hl 3 rfl) ?_
          refine lv_iload hx hb dX2_tries_175 (lv_at hl 4 rfl) ?_
          refine va_callv (va_runV (As := [.int (nI (o + 1)), .int u, .int (nI sm), .int (nI al)]) (rest := []) ⟨hx, hb, hml, hown, hts⟩ (h5 H.size (o + 1) u sm al (up1 (itN (trF N G d o u sm al) x (N 3)).1 o (-1), (itN (trF N G d o u sm al) x (N 3)).2) (by omega) (by omega)) (w_X2_tries hts q1678 rfl rfl ⟨by show d + 1 + 1 ≤ d + 1 + 1; omega, by show 8 + (6 + 11) + (25 * d + 25) ≤ 25 * (d + 1) + 25; omega⟩) ⟨PmM.blind, M_recv hG hM, PmM.pre hG hM⟩ rfl rfl hl.1 rfl (lv_room (Nat.le_of_ble_eq_true rfl)) dX2_tries_177 ⟨Nat.le_of_ble_eq_true rfl, Nat.le_of_ble_eq_true rfl⟩) hS (fun q _ h => AM.up (hS.1) q h) (fun q h => AM.up (hS.1) q h) (fun u t H1 locs ht hvm hp hB hz hk hS => ?_)
          obtain ⟨hM, -⟩ := hB
          rw [ht] at hM
          clear ht hz hk
          generalize H1 = H at hM hS ⊢
          subst hp
          dsimp only at hM
          subst hQ
          exact W.vret hx hb hrt (fun t ht hW => ⟨⟨(N, (trI I (trS N G d (o + 1) u sm al (up1 (itN (trF N G d o u sm al) x (N 3)).1 o (-1), (itN (trF N G d o u sm al) x (N 3)).2))), G, (trJ J (trS N G d (o + 1) u sm al (up1 (itN (trF N G d o u sm al) x (N 3)).1 o (-1), (itN (trF N G d o u sm al) x (N 3)).2)))), rfl, (rfl), by rw [ht]; exact hM, GK.warm hW hG⟩, hS.F ht⟩) hS.2.2 dX2_tries_180
        · refine lv_iload_n hx hb dX2_tries_90 rfl (lv_at hl 2 rfl) ?_
          refine lv_iload hx hb dX2_tries_91 (lv_at hl 5 rfl) ?_
          refine lv_ishr hx hb dX2_tries_93 ?_
          refine lv_iconst (v := nI 1) hx hb dX2_tries_94 (by decide) ?_
          refine lv_iand hx hb dX2_tries_95 ?_
          refine lv_iconst (v := nI 1) hx hb dX2_tries_96 (by decide) ?_
          refine lv_icmp_eq (tgt := 156) hx hb dX2_tries_97 (by decide) (fun c_97 => ?_) (fun c_97 => ?_)
          · refine lv_iinc (v := nI (c + 1)) (lv' := [(5, .int (nI (c + 1))), (0, .ref a0), (1, .int (nI o)), (2, .int u), (3, .int (nI sm)), (4, .int (nI al))]) hx hb dX2_tries_156 hl (k := 5) rfl (show nI c + Int32.ofInt 1 = nI (c + 1) from nI_add _ 1) (by decide) rfl (fun ls hl => ?_)
            refine lv_goto (tgt := 81) hx hb dX2_tries_159 (by decide) ?_
            have hYs : itN (trF N G d o u sm al) x (c + 1) = (itN (trF N G d o u sm al) x c) := if_pos (Or.inl (by simp [bitS, c_97]))
            exact ih81 (c + 1) (by omega) (by omega) _ _ (by rw [hYs]; exact hM) hS _ (lv_sub hl [1, 2, 3, 4, 5, 0] rfl)
          · refine lv_aload_n hx hb dX2_tries_100 rfl (lv_at hl 0 rfl) ?_
            refine M_get (v := .ref (ad 49)) hx hb hts hown hG hM 49 (by decide) q1341 rfl rfl dX2_tries_101 ?_
            refine lv_bipush (v := nI 10) hx hb dX2_tries_104 (by decide) ?_
            refine lv_iload_n hx hb dX2_tries_106 rfl (lv_at hl 1 rfl) ?_
            refine kn_mul hx hb dX2_tries_107 ?_
            refine lv_iload hx hb dX2_tries_108 (lv_at hl 5 rfl) ?_
            refine kn_add hx hb dX2_tries_110 ?_
            refine M_zald (v := nI (G 49 (10 * o + c))) hx hb hG hM 49 rfl rfl (show 10 * o + c < 60 from by omega) (rfl) dX2_tries_111 ?_
            refine kn_zne (tgt := 118) hx hb dX2_tries_112 (by decide) (h1 _ _) (fun c_112 => ?_) (fun c_112 => ?_)
            · refine lv_aload_n hx hb dX2_tries_118 rfl (lv_at hl 0 rfl) ?_
              refine M_get (v := .ref (ad 50)) hx hb hts hown hG hM 50 (by decide) q1342 rfl rfl dX2_tries_119 ?_
              refine lv_iload_n hx hb dX2_tries_122 rfl (lv_at hl 1 rfl) ?_
              refine lv_iload hx hb dX2_tries_123 (lv_at hl 5 rfl) ?_
              refine M_iastJ (v := nI c) hx hb hG hS hM 50 rfl (AM.a 50 rfl) rfl rfl (show o < 6 from by omega) dX2_tries_125 (fun H locs hM hz hS => ?_)
              rw [trJ_up] at hM
              refine lv_aload_n hx hb dX2_tries_126 rfl (lv_at hl 0 rfl) ?_
              refine lv_iload_n hx hb dX2_tries_127 rfl (lv_at hl 1 rfl) ?_
              refine lv_iconst (v := nI 1) hx hb dX2_tries_128 (by decide) ?_
              refine kn_add hx hb dX2_tries_129 ?_
              refine lv_iload_n hx hb dX2_tries_130 rfl (lv_at hl 2 rfl) ?_
              refine lv_iconst (v := nI 1) hx hb dX2_tries_131 (by decide) ?_
              refine lv_iload hx hb dX2_tries_132 (lv_at hl 5 rfl) ?_
              refine lv_ishl hx hb dX2_tries_134 ?_
              refine lv_ior hx hb dX2_tries_135 ?_
              refine lv_iload_n hx hb dX2_tries_136 rfl (lv_at hl 3 rfl) ?_
              refine lv_aload_n hx hb dX2_tries_137 rfl (lv_at hl 0 rfl) ?_
              refine M_get (v := .ref (ad 48)) hx hb hts hown hG hM 48 (by decide) q1340 rfl rfl dX2_tries_138 ?_
              refine lv_iload_n hx hb dX2_tries_141 rfl (lv_at hl 1 rfl) ?_
              refine M_iald (v := nI (G 48 o)) hx hb hG hM 48 rfl rfl (show o < 6 from by omega) (rfl) dX2_tries_142 ?_
              refine kn_add hx hb dX2_tries_143 ?_
              refine lv_iload hx hb dX2_tries_144 (lv_at hl 4 rfl) ?_
              refine lv_aload_n hx hb dX2_tries_146 rfl (lv_at hl 0 rfl) ?_
              refine lv_iload hx hb dX2_tries_147 (lv_at hl 5 rfl) ?_
              refine vp_callSi (W.runV (As := [.int (nI c)]) (rest := [.int (nI al), .int (nI (sm + (G 48 o))), .int (u ||| ((nI 1) <<< ((nI c) &&& 31))), .int (nI (o + 1)), .ref a0]) ⟨hx, hb, hml, hown, hts⟩ (c_X2_grams lh D dA a0 ad N (trI I (up1 (itN (trF N G d o u sm al) x c).1 o (nI c), (itN (trF N G d o u sm al) x c).2)) G (trJ J (up1 (itN (trF N G d o u sm al) x c).1 o (nI c), (itN (trF N G d o u sm al) x c).2)) c (show c < 10 from by first | omega | assumption | exact hB_up (by assumption) (by omega))) (w_X2_grams hts q1487 rfl rfl ⟨by show 0 + 1 ≤ d + 1 + 1; omega, by show 8 + (4 + 11) + 0 ≤ 25 * (d + 1) + 25; omega⟩) ⟨PqM.blind, M_recv hG hM, PqM.pre hG hM⟩ rfl rfl hl.1 rfl (lv_room (Nat.le_of_ble_eq_true rfl)) dX2_tries_149 ⟨Nat.le_of_ble_eq_true rfl, Nat.le_of_ble_eq_true rfl⟩) (fun rr hrr => ?_)
              subst hrr
              refine kn_add hx hb dX2_tries_152 ?_
              refine va_callv (va_runV (As := [.int (nI (o + 1)), .int (u ||| ((nI 1) <<< ((nI c) &&& 31))), .int (nI (sm + (G 48 o))), .int (nI (al + (gr G c)))]) (rest := []) ⟨hx, hb, hml, hown, hts⟩ (h5 H.size (o + 1) (u ||| (nI 1 <<< (nI c &&& 31))) (sm + G 48 o) (al + gr G c) (up1 (itN (trF N G d o u sm al) x c).1 o (nI c), (itN (trF N G d o u sm al) x c).2) (by omega) (by omega)) (w_X2_tries hts q1678 rfl rfl ⟨by show d + 1 + 1 ≤ d + 1 + 1; omega, by show 8 + (6 + 11) + (25 * d + 25) ≤ 25 * (d + 1) + 25; omega⟩) ⟨PmM.blind, M_recv hG hM, PmM.pre hG hM⟩ rfl rfl hl.1 rfl (lv_room (Nat.le_of_ble_eq_true rfl)) dX2_tries_153 ⟨Nat.le_of_ble_eq_true rfl, Nat.le_of_ble_eq_true rfl⟩) hS (fun q _ h => AM.up (hS.1) q h) (fun q h => AM.up (hS.1) q h) (fun u t H1 locs ht hvm hp hB hz hk hS => ?_)
              obtain ⟨hM, -⟩ := hB
              rw [ht] at hM
              clear ht hz hk
              generalize H1 = H at hM hS ⊢
              subst hp
              dsimp only at hM
              refine lv_iinc (v := nI (c + 1)) (lv' := [(5, .int (nI (c + 1))), (0, .ref a0), (1, .int (nI o)), (2, .int u), (3, .int (nI sm)), (4, .int (nI al))]) hx hb dX2_tries_156 hl (k := 5) rfl (show nI c + Int32.ofInt 1 = nI (c + 1) from nI_add _ 1) (by decide) rfl (fun ls hl => ?_)
              refine lv_goto (tgt := 81) hx hb dX2_tries_159 (by decide) ?_
              have hYs : itN (trF N G d o u sm al) x (c + 1) = (trS N G d (o + 1) (u ||| (nI 1 <<< (nI c &&& 31))) (sm + G 48 o) (al + gr G c) (up1 (itN (trF N G d o u sm al) x c).1 o (nI c), (itN (trF N G d o u sm al) x c).2)) := if_neg (fun q => q.elim (fun q => c_97 (by simpa [bitS] using q)) c_112)
              exact ih81 (c + 1) (by omega) (by omega) _ _ (by rw [hYs]; exact hM) hS _ (lv_sub hl [1, 2, 3, 4, 5, 0] rfl)
            · refine lv_goto (tgt := 156) hx hb dX2_tries_115 (by decide) ?_
              refine lv_iinc (v := nI (c + 1)) (lv' := [(5, .int (nI (c + 1))), (0, .ref a0), (1, .int (nI o)), (2, .int u), (3, .int (nI sm)), (4, .int (nI al))]) hx hb dX2_tries_156 hl (k := 5) rfl (show nI c + Int32.ofInt 1 = nI (c + 1) from nI_add _ 1) (by decide) rfl (fun ls hl => ?_)
              refine lv_goto (tgt := 81) hx hb dX2_tries_159 (by decide) ?_
              have hYs : itN (trF N G d o u sm al) x (c + 1) = (itN (trF N G d o u sm al) x c) := if_pos (Or.inr c_112)
              exact ih81 (c + 1) (by omega) (by omega) _ _ (by rw [hYs]; exact hM) hS _ (lv_sub hl [1, 2, 3, 4, 5, 0] rfl)
    exact L81 _ 0 (by omega) (Nat.lt_succ_self _) _ _ hM hS _ (lv_sub hl [1, 2, 3, 4, 5, 0] rfl)
  · exact absurd c_5 (by omega)

theorem c_X2_tries (lh : Launch) (D : va_G) (dA : Nat → ClassId) (a0 : Nat) (ad : Nat → Nat) (N : Nat → Nat) (I : Nat → Int32) (G : Nat → Nat → Nat) (J : Nat → Nat → Int32) (hB : ∀ a b, G a b < 2 ^ 31) (h3 : N 3 ≤ 10) (h44 : N 44 ≤ 6) : ∀ (d sz o : Nat) (u : Int32) (sm al : Nat) (x : TrT), N 44 = o + d → o ≤ 6 → Met lh yX2_tries (ws_ yX2_tries cX2_tries 6 none) (r_tr d) (PmM D dA a0 ad N (trI I x) G (trJ J x) sz [.ref a0, .int (nI o), .int u, .int (nI sm), .int (nI al)]) (va_Qv (fun u' : SgT => u' = (N, trI I (trS N G d o u sm al x), G, trJ J (trS N G d o u sm al x))) (BmM D dA a0 ad) (AM a0 ad sz)) 0 0 (AM a0 ad sz) := by
  intro d
  induction d with
  | zero => intro sz o u sm al x h1 h2; exact c_X2_tries0 lh D dA a0 ad N I G J sz o u sm al x h1 h2
  | succ d ih => intro sz o u sm al x h1 h2; exact c_X2_triesS lh D dA a0 ad N I G J sz o u sm al x d hB h3 h1 h44 ih
