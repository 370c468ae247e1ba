set_option maxRecDepth 100000
abbrev r_X2_recipe : Room := { frames := 7, cells := 0, slots := 0, locals := 158 }
set_option maxHeartbeats 400000 in
theorem c_X2_recipe (lh : Launch) (D : va_G) (dA : Nat → ClassId) (a0 : Nat) (ad : Nat → Nat) (N : Nat → Nat) (I : Nat → Int32) (G : Nat → Nat → Nat) (J : Nat → Nat → Int32) (sz : Nat) (K : Nat → Nat) (d : Int32) (h1 : OkS N G J) (h2 : N 39 ≤ 9999) : Met lh yX2_recipe (ws_ yX2_recipe cX2_recipe 6 (some .int)) r_X2_recipe (PX (fun U H => H.size = sz ∧ RM D dA a0 ad N I G J H ∧ GK D dA U ∧ KZ K (AM a0 ad sz) U H) [.ref a0, .int d]) (va_Qi (fun (r : Int32) (u : SgT) => if recB N d = true then (if 0 < (reT N I G J).2.1 34 then r = nI ((reT N I G J).2.1 34) - nI 10 ∧ u = (up1 (reT N I G J).2.1 33 0, (reT N I G J).2.2.1, (reT N I G J).2.2.2, J) else r = nI (N 23) ∧ u = (up1 (up1 (reT N I G J).2.1 33 0) 23 (N 23 + 1), (reT N I G J).2.2.1, reG N (reT N I G J).2.2.2 (tn d), J)) else r = -1 ∧ u = (up1 N 0 0, I, G, J)) (BmM D dA a0 ad) (AM a0 ad sz)) 0 0 (AM a0 ad sz) := by
  refine Met.ofW (cc := cX2_recipe) (maxL := 6) (ret := (some .int)) (by decide) rfl ?_
  intro p e s m args below meth cd s₁ B hml hv
  obtain ⟨hargs, hsz, hM, hG, hKZ⟩ := hv
  have hx := B.exec
  have hb := B.bytes
  have hrt := B.returns
  have hts := atoms_spec (ws := (ws_ yX2_recipe cX2_recipe 6 (some .int))) B.pre
  have hts : ∀ w ∈ lw_all, w.before _ s = true := fun w h => hts w (List.mem_cons_of_mem _ h)
  have hown : s.vm.findClass RX2 = some m.cls := findClass_of_methodNamed B.named
  have hlocks := B.notSynchronized
  subst hsz
  have hS : va_S (AM a0 ad s.heap.size) s.heap s.heap [] := va_S.rf
  have hE : entryFrame m args 6 = F0 m 0 ((lg_sl ([.ref a0, .int d]) ++ List.replicate (6 - (lg_sl ([.ref a0, .int d])).length) Slot.unset).toArray) [] := by rw [hargs]; exact lg_entry_eq m _ 6
  have hl := lv_entry ([.ref a0, .int d]) (n := 6) (Nat.le_of_ble_eq_true rfl)
  rw [hE]
  clear hE
  generalize (lg_sl ([.ref a0, .int d]) ++ List.replicate (6 - (lg_sl ([.ref a0, .int d])).length) Slot.unset).toArray = ls at hl ⊢
  have hl : lv_has ls 6 [(0, .ref a0), (1, .int d)] := hl
  generalize hQ : MQ _ _ _ _ _ _ _ = Q
  have hokk := h1
  obtain ⟨hB, ⟨hn1, hn3, hn14, hn19, hn23, hn33, hn40, hn44⟩, hcr, hst, hwm, hrc⟩ := hokk
  have hps0 : PsOk (reN N J) := PsOk.tok0 hn33 (Nat.zero_le _) (Nat.zero_le _) h2
  refine lv_aload_n hx hb dX2_recipe_0 rfl (lv_at hl 0 rfl) ?_
  refine lv_iconst (v := nI 0) hx hb dX2_recipe_1 (by decide) ?_
  refine M_put hx hb hts hown hG hS AM.o hM 0 (by decide) q1292 rfl rfl rfl (up1 N 0 0) I rfl dX2_recipe_2 (fun H locs hM hz hS => ?_)
  refine lv_iload_n hx hb dX2_recipe_5 rfl (lv_at hl 1 rfl) ?_
  refine lv_aload_n hx hb dX2_recipe_6 rfl (lv_at hl 0 rfl) ?_
  refine M_get (v := .int (nI (N 14))) hx hb hts hown hG hM 14 (by decide) q1306 rfl rfl dX2_recipe_7 ?_
  refine lv_bipush (v := nI 24) hx hb dX2_recipe_10 (by decide) ?_
  refine kn_div hx hb dX2_recipe_12 (by omega) (by omega) (by omega) ?_
  refine lv_bipush (v := nI 24) hx hb dX2_recipe_13 (by decide) ?_
  refine vp_callSi (W.runS (As := [.int d, .int (nI ((N 14) / 24)), .int (nI 24)]) (rest := []) ⟨hx, hb, hml, hown, hts⟩ (c_X2_within lh d (nI ((N 14) / 24)) (nI 24)) (w_X2_within hts q1464 rfl rfl ⟨Nat.le_of_ble_eq_true rfl, Nat.le_of_ble_eq_true rfl⟩) ⟨P0.blind, P0.pre⟩ rfl rfl hl.1 rfl (lv_room (Nat.le_of_ble_eq_true rfl)) dX2_recipe_15 ⟨Nat.le_of_ble_eq_true rfl, Nat.le_of_ble_eq_true rfl⟩) (fun rr hrr => ?_)
  subst hrr
  refine kx_int (y := bI (wi d (nI ((N 14) / 24)) (nI 24))) rfl ?_
  refine kb_eq (tgt := 30) hx hb dX2_recipe_18 (by decide) (fun c_18 => ?_) (fun c_18 => ?_)
  · refine lv_iconst (v := -1) hx hb dX2_recipe_30 (by decide) ?_
    subst hQ
    exact W.iret (v := (-1)) hx hb hrt (fun t ht hW => ⟨⟨_, ((up1 N 0 0), I, G, J), rfl, (by dsimp only; rw [if_neg (by simp [recB, c_18])]; exact ⟨rfl, rfl⟩), by rw [ht]; exact hM, GK.warm hW hG⟩, hS.F ht⟩) hS.2.2 dX2_recipe_31
  · obtain ⟨j, hj1, hj2, rfl⟩ := wi_nat (by omega) (by decide) c_18
    refine lv_aload_n hx hb dX2_recipe_21 rfl (lv_at hl 0 rfl) ?_
    refine M_get (v := .int (nI (N 23))) hx hb hts hown hG hM 23 (by decide) q1315 rfl rfl dX2_recipe_22 ?_
    refine lv_bipush (v := nI 10) hx hb dX2_recipe_25 (by decide) ?_
    refine kn_cne (tgt := 32) hx hb dX2_recipe_27 (by decide) (by omega) (by omega) (fun c_27 => ?_) (fun c_27 => ?_)
    · refine lv_aload_n hx hb dX2_recipe_32 rfl (lv_at hl 0 rfl) ?_
      refine lv_iconst (v := nI 0) hx hb dX2_recipe_33 (by decide) ?_
      refine M_put hx hb hts hown hG hS AM.o hM 34 (by decide) q1326 rfl rfl rfl (up1 (up1 N 0 0) 34 0) I rfl dX2_recipe_34 (fun H locs hM hz hS => ?_)
      refine lv_aload_n hx hb dX2_recipe_37 rfl (lv_at hl 0 rfl) ?_
      refine lv_iconst (v := -1) hx hb dX2_recipe_38 (by decide) ?_
      refine M_put hx hb hts hown hG hS AM.o hM 35 (by decide) q1327 rfl rfl rfl (up1 (up1 N 0 0) 34 0) (up1 I 35 (-1)) rfl dX2_recipe_39 (fun H locs hM hz hS => ?_)
      refine lv_aload_n hx hb dX2_recipe_42 rfl (lv_at hl 0 rfl) ?_
      refine M_get (v := .ref (ad 25)) hx hb hts hown hG hM 25 (by decide) q1317 rfl rfl dX2_recipe_43 ?_
      refine lv_bipush (v := nI 10) hx hb dX2_recipe_46 (by decide) ?_
      refine lv_iconst (v := nI 0) hx hb dX2_recipe_48 (by decide) ?_
      refine M_iastN (v := 0) hx hb hG hS hM 25 rfl (AM.a 25 rfl) rfl rfl (show 10 < 11 from by omega) dX2_recipe_49 (fun H locs hM hz hS => ?_)
      refine lv_aload_n hx hb dX2_recipe_50 rfl (lv_at hl 0 rfl) ?_
      refine lv_iconst (v := nI 0) hx hb dX2_recipe_51 (by decide) ?_
      refine M_put hx hb hts hown hG hS AM.o hM 38 (by decide) q1330 rfl rfl rfl (up1 (up1 (up1 N 0 0) 34 0) 38 0) (up1 I 35 (-1)) rfl dX2_recipe_52 (fun H locs hM hz hS => ?_)
      refine lv_aload_n hx hb dX2_recipe_55 rfl (lv_at hl 0 rfl) ?_
      refine va_callv (va_runV (As := []) (rest := []) ⟨hx, hb, hml, hown, hts⟩ (c_X2_token lh D dA a0 ad (up1 (up1 (up1 N 0 0) 34 0) 38 0) (up1 I 35 (-1)) (up2 G 25 10 0) J H.size (hn33) (Nat.zero_le _)) (w_X2_token hts q1527 rfl rfl ⟨Nat.le_of_ble_eq_true rfl, Nat.le_of_ble_eq_true rfl⟩) ⟨PmM.blind, M_recv hG hM, PmM.pre hG hM⟩ rfl rfl hl.1 rfl (lv_room (Nat.le_of_ble_eq_true rfl)) dX2_recipe_56 ⟨Nat.le_of_ble_eq_true rfl, Nat.le_of_ble_eq_true rfl⟩) hS (fun q _ h => AM.up (hS.1) q h) (fun q h => AM.up (hS.1) q h) (fun u t H1 locs ht hvm hp hB hz hk hS => ?_)
      obtain ⟨hM, -⟩ := hB
      rw [ht] at hM
      clear ht hz hk
      generalize H1 = H at hM hS ⊢
      subst hp
      dsimp only at hM
      refine lv_iconst (v := nI 1) hx hb dX2_recipe_59 (by decide) ?_
      refine lv_istore_n (lv' := [(2, .int (nI 1)), (0, .ref a0), (1, .int (nI j))]) hx hb dX2_recipe_60 rfl hl (by decide) rfl (fun ls hl => ?_)
      have L61 : ∀ (nn61 : Nat) (n : Nat) (g : Bool) (N1 : Nat → Nat) (I1 : Nat → Int32) (G1 : Nat → Nat → Nat), (reT N I G J = if g = true then rlT J n N1 I1 G1 else (false, N1, I1, G1)) → (PsOk N1) → (GrOk G1) → (g = true → G1 25 10 + n = 11) → n < nn61 → ∀ (H : Heap) (locs : List Loc), RM D dA a0 ad N1 I1 G1 J H → va_S (AM a0 ad s.heap.size) s.heap H locs → ∀ (ls : Array Slot), lv_has ls 6 [(0, .ref a0), (1, .int (nI j)), (2, .int (bI g))] → W p lh e r_X2_recipe s m args below meth cd H locs 0 0 Q (F0 m 61 ls []) := by
        intro nn61
        induction nn61 with
        | zero => intro n g N1 I1 G1 i61_0 i61_1 i61_2 i61_3 hm61; exact absurd hm61 (Nat.not_lt_zero _)
        | succ nn61 ih61 =>
          intro n g N1 I1 G1 i61_0 i61_1 i61_2 i61_3 hm61 H locs hM hS ls hl
          refine lv_iload_n hx hb dX2_recipe_61 rfl (lv_at hl 2 rfl) ?_
          refine kb_eq (tgt := 80) hx hb dX2_recipe_62 (by decide) (fun c_62 => ?_) (fun c_62 => ?_)
          · have hq : (reT N I G J).2 = (N1, I1, G1) := by rw [i61_0, if_neg (by rw [c_62]; decide)]
            have hk23 : N1 23 = N 23 := by have h := re_keep N I G J (k := 23) (by decide) (by decide) (by decide) (by decide) (by decide) (by decide); rw [hq] at h; exact h
            have h34 := i61_1.2.2.2.1
            refine lv_aload_n hx hb dX2_recipe_80 rfl (lv_at hl 0 rfl) ?_
            refine lv_iconst (v := nI 0) hx hb dX2_recipe_81 (by decide) ?_
            refine M_put hx hb hts hown hG hS AM.o hM 33 (by decide) q1325 rfl rfl rfl (up1 N1 33 0) I1 rfl dX2_recipe_82 (fun H locs hM hz hS => ?_)
            refine lv_aload_n hx hb dX2_recipe_85 rfl (lv_at hl 0 rfl) ?_
            refine M_get (v := .int (nI (N1 34))) hx hb hts hown hG hM 34 (by decide) q1326 rfl rfl dX2_recipe_86 ?_
            refine kn_zle (tgt := 100) hx hb dX2_recipe_89 (by decide) (by omega) (fun c_89 => ?_) (fun c_89 => ?_)
            · refine lv_aload_n hx hb dX2_recipe_100 rfl (lv_at hl 0 rfl) ?_
              refine M_get (v := .ref (ad 24)) hx hb hts hown hG hM 24 (by decide) q1316 rfl rfl dX2_recipe_101 ?_
              refine lv_aload_n hx hb dX2_recipe_104 rfl (lv_at hl 0 rfl) ?_
              refine M_get (v := .int (nI (N1 23))) hx hb hts hown hG hM 23 (by decide) q1315 rfl rfl dX2_recipe_105 ?_
              refine lv_iload_n hx hb dX2_recipe_108 rfl (lv_at hl 1 rfl) ?_
              refine M_iastN (v := j) hx hb hG hS hM 24 rfl (AM.a 24 rfl) rfl rfl (show N1 23 < 10 from by omega) dX2_recipe_109 (fun H locs hM hz hS => ?_)
              refine lv_aload_n hx hb dX2_recipe_110 rfl (lv_at hl 0 rfl) ?_
              refine M_get (v := .ref (ad 25)) hx hb hts hown hG hM 25 (by decide) q1317 rfl rfl dX2_recipe_111 ?_
              refine lv_aload_n hx hb dX2_recipe_114 rfl (lv_at hl 0 rfl) ?_
              refine M_get (v := .int (nI (N1 23))) hx hb hts hown hG hM 23 (by decide) q1315 rfl rfl dX2_recipe_115 ?_
              refine lv_aload_n hx hb dX2_recipe_118 rfl (lv_at hl 0 rfl) ?_
              refine M_get (v := .ref (ad 25)) hx hb hts hown hG hM 25 (by decide) q1317 rfl rfl dX2_recipe_119 ?_
              refine lv_bipush (v := nI 10) hx hb dX2_recipe_122 (by decide) ?_
              refine M_iald (v := nI (G1 25 10)) hx hb hG hM 25 rfl rfl (show 10 < 11 from by omega) (rfl) dX2_recipe_124 ?_
              refine M_iastN (v := G1 25 10) hx hb hG hS hM 25 rfl (AM.a 25 rfl) rfl rfl (show N1 23 < 11 from by omega) dX2_recipe_125 (fun H locs hM hz hS => ?_)
              refine lv_iconst (v := nI 0) hx hb dX2_recipe_126 (by decide) ?_
              refine lv_istore_n (lv' := [(3, .int (nI 0)), (0, .ref a0), (1, .int (nI j)), (2, .int (bI g))]) hx hb dX2_recipe_127 rfl hl (by decide) rfl (fun ls hl => ?_)
              have L128 : ∀ (nn128 : Nat) (k : Nat), (k ≤ 10) → 10 - k < nn128 → ∀ (H : Heap) (locs : List Loc), RM D dA a0 ad (up1 N1 33 0) I1 (cq2 (up2 (up2 G1 24 (N1 23) j) 25 (N1 23) (G1 25 10)) (N1 23) k (3 * k)) J H → va_S (AM a0 ad s.heap.size) s.heap H locs → ∀ (ls : Array Slot), lv_has ls 6 [(0, .ref a0), (1, .int (nI j)), (3, .int (nI k))] → W p lh e r_X2_recipe s m args below meth cd H locs 0 0 Q (F0 m 128 ls []) := by
                intro nn128
                induction nn128 with
                | zero => intro k i128_0 hm128; exact absurd hm128 (Nat.not_lt_zero _)
                | succ nn128 ih128 =>
                  intro k i128_0 hm128 H locs hM hS ls hl
                  refine lv_iload_n hx hb dX2_recipe_128 rfl (lv_at hl 2 rfl) ?_
                  refine lv_bipush (v := nI 10) hx hb dX2_recipe_129 (by decide) ?_
                  refine kn_cge (tgt := 292) hx hb dX2_recipe_131 (by decide) (by omega) (by omega) (fun c_131 => ?_) (fun c_131 => ?_)
                  · refine lv_aload_n hx hb dX2_recipe_292 rfl (lv_at hl 0 rfl) ?_
                    refine lv_dup hx hb dX2_recipe_293 rfl ?_
                    refine M_get (v := .int (nI (N1 23))) hx hb hts hown hG hM 23 (by decide) q1315 rfl rfl dX2_recipe_294 ?_
                    refine lv_iconst (v := nI 1) hx hb dX2_recipe_297 (by decide) ?_
                    refine kn_add hx hb dX2_recipe_298 ?_
                    refine M_put hx hb hts hown hG hS AM.o hM 23 (by decide) q1315 rfl rfl rfl (up1 (up1 N1 33 0) 23 (N1 23 + 1)) I1 rfl dX2_recipe_299 (fun H locs hM hz hS => ?_)
                    refine lv_aload_n hx hb dX2_recipe_302 rfl (lv_at hl 0 rfl) ?_
                    refine M_get (v := .int (nI (N1 23 + 1))) hx hb hts hown hG hM 23 (by decide) q1315 rfl rfl dX2_recipe_303 ?_
                    refine lv_iconst (v := nI 1) hx hb dX2_recipe_306 (by decide) ?_
                    refine kn_sub hx hb dX2_recipe_307 (by omega) ?_
                    subst hQ
                    exact W.iret (v := nI (N1 23 + 1 - 1)) hx hb hrt (fun t ht hW => ⟨⟨_, ((up1 (up1 N1 33 0) 23 (N1 23 + 1)), I1, (cq2 (up2 (up2 G1 24 (N1 23) j) 25 (N1 23) (G1 25 10)) (N1 23) k (3 * k)), J), rfl, (by dsimp only; rw [if_pos (show recB N (nI j) = true by simp [recB, c_18, c_27]), hq]; rw [if_neg (show ¬ 0 < N1 34 by omega), tn_nI (show j < 2 ^ 31 by omega)]; have ek : k = 10 := (by omega); subst ek; unfold reG; rw [← hk23]; exact ⟨rfl, rfl⟩), by rw [ht]; exact hM, GK.warm hW hG⟩, hS.F ht⟩) hS.2.2 dX2_recipe_308
                  · refine lv_bipush (v := nI 10) hx hb dX2_recipe_134 (by decide) ?_
                    refine lv_aload_n hx hb dX2_recipe_136 rfl (lv_at hl 0 rfl) ?_
                    refine M_get (v := .int (nI (N1 23))) hx hb hts hown hG hM 23 (by decide) q1315 rfl rfl dX2_recipe_137 ?_
                    refine kn_mul hx hb dX2_recipe_140 ?_
                    refine lv_iload_n hx hb dX2_recipe_141 rfl (lv_at hl 2 rfl) ?_
                    refine kn_add hx hb dX2_recipe_142 ?_
                    refine lv_istore (lv' := [(4, .int (nI (10 * (N1 23) + k))), (0, .ref a0), (1, .int (nI j)), (3, .int (nI k))]) hx hb dX2_recipe_143 hl (by decide) rfl (fun ls hl => ?_)
                    refine lv_aload_n hx hb dX2_recipe_145 rfl (lv_at hl 1 rfl) ?_
                    refine M_get (v := .ref (ad 26)) hx hb hts hown hG hM 26 (by decide) q1318 rfl rfl dX2_recipe_146 ?_
                    refine lv_iload hx hb dX2_recipe_149 (lv_at hl 0 rfl) ?_
                    refine lv_aload_n hx hb dX2_recipe_151 rfl (lv_at hl 1 rfl) ?_
                    refine M_get (v := .ref (ad 26)) hx hb hts hown hG hM 26 (by decide) q1318 rfl rfl dX2_recipe_152 ?_
                    refine lv_bipush (v := nI 100) hx hb dX2_recipe_155 (by decide) ?_
                    refine lv_iload_n hx hb dX2_recipe_157 rfl (lv_at hl 3 rfl) ?_
                    refine kn_add hx hb dX2_recipe_158 ?_
                    refine M_iald (v := nI ((up2 (up2 G1 24 (N1 23) j) 25 (N1 23) (G1 25 10)) 26 (100 + k))) hx hb hG hM 26 rfl rfl (show 100 + k < 110 from by omega) (show nI (cq2 (up2 (up2 G1 24 (N1 23) j) 25 (N1 23) (G1 25 10)) (N1 23) k (3 * k) 26 (100 + k)) = nI ((up2 (up2 G1 24 (N1 23) j) 25 (N1 23) (G1 25 10)) 26 (100 + k)) by rw [cq2_hi (by omega) (by omega) (by omega) (by omega)]) dX2_recipe_159 ?_
                    refine M_iastN (v := (up2 (up2 G1 24 (N1 23) j) 25 (N1 23) (G1 25 10)) 26 (100 + k)) hx hb hG hS hM 26 rfl (AM.a 26 rfl) rfl rfl (show 10 * (N1 23) + k < 110 from by omega) dX2_recipe_160 (fun H locs hM hz hS => ?_)
                    refine lv_aload_n hx hb dX2_recipe_161 rfl (lv_at hl 1 rfl) ?_
                    refine M_get (v := .ref (ad 27)) hx hb hts hown hG hM 27 (by decide) q1319 rfl rfl dX2_recipe_162 ?_
                    refine lv_iload hx hb dX2_recipe_165 (lv_at hl 0 rfl) ?_
                    refine lv_aload_n hx hb dX2_recipe_167 rfl (lv_at hl 1 rfl) ?_
                    refine M_get (v := .ref (ad 27)) hx hb hts hown hG hM 27 (by decide) q1319 rfl rfl dX2_recipe_168 ?_
                    refine lv_bipush (v := nI 100) hx hb dX2_recipe_171 (by decide) ?_
                    refine lv_iload_n hx hb dX2_recipe_173 rfl (lv_at hl 3 rfl) ?_
                    refine kn_add hx hb dX2_recipe_174 ?_
                    refine M_iald (v := nI ((up2 (up2 G1 24 (N1 23) j) 25 (N1 23) (G1 25 10)) 27 (100 + k))) hx hb hG hM 27 rfl rfl (show 100 + k < 110 from by omega) (show nI (cq2 (up2 (up2 G1 24 (N1 23) j) 25 (N1 23) (G1 25 10)) (N1 23) k (3 * k) 27 (100 + k)) = nI ((up2 (up2 G1 24 (N1 23) j) 25 (N1 23) (G1 25 10)) 27 (100 + k)) by rw [cq2_hi (by omega) (by omega) (by omega) (by omega)]) dX2_recipe_175 ?_
                    refine M_iastN (v := (up2 (up2 G1 24 (N1 23) j) 25 (N1 23) (G1 25 10)) 27 (100 + k)) hx hb hG hS hM 27 rfl (AM.a 27 rfl) rfl rfl (show 10 * (N1 23) + k < 110 from by omega) dX2_recipe_176 (fun H locs hM hz hS => ?_)
                    refine lv_aload_n hx hb dX2_recipe_177 rfl (lv_at hl 1 rfl) ?_
                    refine M_get (v := .ref (ad 28)) hx hb hts hown hG hM 28 (by decide) q1320 rfl rfl dX2_recipe_178 ?_
                    refine lv_iload hx hb dX2_recipe_181 (lv_at hl 0 rfl) ?_
                    refine lv_aload_n hx hb dX2_recipe_183 rfl (lv_at hl 1 rfl) ?_
                    refine M_get (v := .ref (ad 28)) hx hb hts hown hG hM 28 (by decide) q1320 rfl rfl dX2_recipe_184 ?_
                    refine lv_bipush (v := nI 100) hx hb dX2_recipe_187 (by decide) ?_
                    refine lv_iload_n hx hb dX2_recipe_189 rfl (lv_at hl 3 rfl) ?_
                    refine kn_add hx hb dX2_recipe_190 ?_
                    refine M_iald (v := nI ((up2 (up2 G1 24 (N1 23) j) 25 (N1 23) (G1 25 10)) 28 (100 + k))) hx hb hG hM 28 rfl rfl (show 100 + k < 110 from by omega) (show nI (cq2 (up2 (up2 G1 24 (N1 23) j) 25 (N1 23) (G1 25 10)) (N1 23) k (3 * k) 28 (100 + k)) = nI ((up2 (up2 G1 24 (N1 23) j) 25 (N1 23) (G1 25 10)) 28 (100 + k)) by rw [cq2_hi (by omega) (by omega) (by omega) (by omega)]) dX2_recipe_191 ?_
                    refine M_iastN (v := (up2 (up2 G1 24 (N1 23) j) 25 (N1 23) (G1 25 10)) 28 (100 + k)) hx hb hG hS hM 28 rfl (AM.a 28 rfl) rfl rfl (show 10 * (N1 23) + k < 110 from by omega) dX2_recipe_192 (fun H locs hM hz hS => ?_)
                    refine lv_iconst (v := nI 0) hx hb dX2_recipe_193 (by decide) ?_
                    refine lv_istore (lv' := [(5, .int (nI 0)), (4, .int (nI (10 * (N1 23) + k))), (0, .ref a0), (1, .int (nI j)), (3, .int (nI k))]) hx hb dX2_recipe_194 hl (by decide) rfl (fun ls hl => ?_)
                    have L196 : ∀ (nn196 : Nat) (q : Nat), (q ≤ 3) → 3 - q < nn196 → ∀ (H : Heap) (locs : List Loc), RM D dA a0 ad (up1 N1 33 0) I1 (cq2 (up2 (up2 G1 24 (N1 23) j) 25 (N1 23) (G1 25 10)) (N1 23) (k + 1) (3 * k + q)) J H → va_S (AM a0 ad s.heap.size) s.heap H locs → ∀ (ls : Array Slot), lv_has ls 6 [(0, .ref a0), (1, .int (nI j)), (3, .int (nI k)), (4, .int (nI (10 * (N1 23) + k))), (5, .int (nI q))] → W p lh e r_X2_recipe s m args below meth cd H locs 0 0 Q (F0 m 196 ls []) := by
                      intro nn196
                      induction nn196 with
                      | zero => intro q i196_0 hm196; exact absurd hm196 (Nat.not_lt_zero _)
                      | succ nn196 ih196 =>
                        intro q i196_0 hm196 H locs hM hS ls hl
                        refine lv_iload hx hb dX2_recipe_196 (lv_at hl 4 rfl) ?_
                        refine lv_iconst (v := nI 3) hx hb dX2_recipe_198 (by decide) ?_
                        refine kn_cge (tgt := 286) hx hb dX2_recipe_199 (by decide) (by omega) (by omega) (fun c_199 => ?_) (fun c_199 => ?_)
                        · refine lv_iinc (v := nI (k + 1)) (lv' := [(3, .int (nI (k + 1))), (0, .ref a0), (1, .int (nI j)), (4, .int (nI (10 * (N1 23) + k))), (5, .int (nI q))]) hx hb dX2_recipe_286 hl (k := 2) rfl (show nI k + Int32.ofInt 1 = nI (k + 1) from nI_add _ 1) (by decide) rfl (fun ls hl => ?_)
                          refine lv_goto (tgt := 128) hx hb dX2_recipe_289 (by decide) ?_
                          exact ih128 (k + 1) (by omega) (by omega) _ _ (by rw [show 3 * (k + 1) = 3 * k + q by omega]; exact hM) hS _ (lv_sub hl [1, 2, 0] rfl)
                        · refine lv_aload_n hx hb dX2_recipe_202 rfl (lv_at hl 0 rfl) ?_
                          refine M_get (v := .ref (ad 29)) hx hb hts hown hG hM 29 (by decide) q1321 rfl rfl dX2_recipe_203 ?_
                          refine lv_iconst (v := nI 3) hx hb dX2_recipe_206 (by decide) ?_
                          refine lv_iload hx hb dX2_recipe_207 (lv_at hl 3 rfl) ?_
                          refine kn_mul hx hb dX2_recipe_209 ?_
                          refine lv_iload hx hb dX2_recipe_210 (lv_at hl 4 rfl) ?_
                          refine kn_add hx hb dX2_recipe_212 ?_
                          refine lv_aload_n hx hb dX2_recipe_213 rfl (lv_at hl 0 rfl) ?_
                          refine M_get (v := .ref (ad 29)) hx hb hts hown hG hM 29 (by decide) q1321 rfl rfl dX2_recipe_214 ?_
                          refine lv_iconst (v := nI 3) hx hb dX2_recipe_217 (by decide) ?_
                          refine lv_bipush (v := nI 100) hx hb dX2_recipe_218 (by decide) ?_
                          refine lv_iload_n hx hb dX2_recipe_220 rfl (lv_at hl 2 rfl) ?_
                          refine kn_add hx hb dX2_recipe_221 ?_
                          refine kn_mul hx hb dX2_recipe_222 ?_
                          refine lv_iload hx hb dX2_recipe_223 (lv_at hl 4 rfl) ?_
                          refine kn_add hx hb dX2_recipe_225 ?_
                          refine M_iald (v := nI ((up2 (up2 G1 24 (N1 23) j) 25 (N1 23) (G1 25 10)) 29 (3 * (100 + k) + q))) hx hb hG hM 29 rfl rfl (show 3 * (100 + k) + q < 330 from by omega) (show nI (cq2 (up2 (up2 G1 24 (N1 23) j) 25 (N1 23) (G1 25 10)) (N1 23) (k + 1) (3 * k + q) 29 (3 * (100 + k) + q)) = nI ((up2 (up2 G1 24 (N1 23) j) 25 (N1 23) (G1 25 10)) 29 (3 * (100 + k) + q)) by rw [cq2_hi (by omega) (by omega) (by omega) (by omega)]) dX2_recipe_226 ?_
                          refine M_iastN (v := (up2 (up2 G1 24 (N1 23) j) 25 (N1 23) (G1 25 10)) 29 (3 * (100 + k) + q)) hx hb hG hS hM 29 rfl (AM.a 29 rfl) rfl rfl (show 3 * (10 * (N1 23) + k) + q < 330 from by omega) dX2_recipe_227 (fun H locs hM hz hS => ?_)
                          refine lv_aload_n hx hb dX2_recipe_228 rfl (lv_at hl 0 rfl) ?_
                          refine M_get (v := .ref (ad 30)) hx hb hts hown hG hM 30 (by decide) q1322 rfl rfl dX2_recipe_229 ?_
                          refine lv_iconst (v := nI 3) hx hb dX2_recipe_232 (by decide) ?_
                          refine lv_iload hx hb dX2_recipe_233 (lv_at hl 3 rfl) ?_
                          refine kn_mul hx hb dX2_recipe_235 ?_
                          refine lv_iload hx hb dX2_recipe_236 (lv_at hl 4 rfl) ?_
                          refine kn_add hx hb dX2_recipe_238 ?_
                          refine lv_aload_n hx hb dX2_recipe_239 rfl (lv_at hl 0 rfl) ?_
                          refine M_get (v := .ref (ad 30)) hx hb hts hown hG hM 30 (by decide) q1322 rfl rfl dX2_recipe_240 ?_
                          refine lv_iconst (v := nI 3) hx hb dX2_recipe_243 (by decide) ?_
                          refine lv_bipush (v := nI 100) hx hb dX2_recipe_244 (by decide) ?_
                          refine lv_iload_n hx hb dX2_recipe_246 rfl (lv_at hl 2 rfl) ?_
                          refine kn_add hx hb dX2_recipe_247 ?_
                          refine kn_mul hx hb dX2_recipe_248 ?_
                          refine lv_iload hx hb dX2_recipe_249 (lv_at hl 4 rfl) ?_
                          refine kn_add hx hb dX2_recipe_251 ?_
                          refine M_iald (v := nI ((up2 (up2 G1 24 (N1 23) j) 25 (N1 23) (G1 25 10)) 30 (3 * (100 + k) + q))) hx hb hG hM 30 rfl rfl (show 3 * (100 + k) + q < 330 from by omega) (show nI (cq2 (up2 (up2 G1 24 (N1 23) j) 25 (N1 23) (G1 25 10)) (N1 23) (k + 1) (3 * k + q) 30 (3 * (100 + k) + q)) = nI ((up2 (up2 G1 24 (N1 23) j) 25 (N1 23) (G1 25 10)) 30 (3 * (100 + k) + q)) by rw [cq2_hi (by omega) (by omega) (by omega) (by omega)]) dX2_recipe_252 ?_
                          refine M_iastN (v := (up2 (up2 G1 24 (N1 23) j) 25 (N1 23) (G1 25 10)) 30 (3 * (100 + k) + q)) hx hb hG hS hM 30 rfl (AM.a 30 rfl) rfl rfl (show 3 * (10 * (N1 23) + k) + q < 330 from by omega) dX2_recipe_253 (fun H locs hM hz hS => ?_)
                          refine lv_aload_n hx hb dX2_recipe_254 rfl (lv_at hl 0 rfl) ?_
                          refine M_get (v := .ref (ad 31)) hx hb hts hown hG hM 31 (by decide) q1323 rfl rfl dX2_recipe_255 ?_
                          refine lv_iconst (v := nI 3) hx hb dX2_recipe_258 (by decide) ?_
                          refine lv_iload hx hb dX2_recipe_259 (lv_at hl 3 rfl) ?_
                          refine kn_mul hx hb dX2_recipe_261 ?_
                          refine lv_iload hx hb dX2_recipe_262 (lv_at hl 4 rfl) ?_
                          refine kn_add hx hb dX2_recipe_264 ?_
                          refine lv_aload_n hx hb dX2_recipe_265 rfl (lv_at hl 0 rfl) ?_
                          refine M_get (v := .ref (ad 31)) hx hb hts hown hG hM 31 (by decide) q1323 rfl rfl dX2_recipe_266 ?_
                          refine lv_iconst (v := nI 3) hx hb dX2_recipe_269 (by decide) ?_
                          refine lv_bipush (v := nI 100) hx hb dX2_recipe_270 (by decide) ?_
                          refine lv_iload_n hx hb dX2_recipe_272 rfl (lv_at hl 2 rfl) ?_
                          refine kn_add hx hb dX2_recipe_273 ?_
                          refine kn_mul hx hb dX2_recipe_274 ?_
                          refine lv_iload hx hb dX2_recipe_275 (lv_at hl 4 rfl) ?_
                          refine kn_add hx hb dX2_recipe_277 ?_
                          refine M_iald (v := nI ((up2 (up2 G1 24 (N1 23) j) 25 (N1 23) (G1 25 10)) 31 (3 * (100 + k) + q))) hx hb hG hM 31 rfl rfl (show 3 * (100 + k) + q < 330 from by omega) (show nI (cq2 (up2 (up2 G1 24 (N1 23) j) 25 (N1 23) (G1 25 10)) (N1 23) (k + 1) (3 * k + q) 31 (3 * (100 + k) + q)) = nI ((up2 (up2 G1 24 (N1 23) j) 25 (N1 23) (G1 25 10)) 31 (3 * (100 + k) + q)) by rw [cq2_hi (by omega) (by omega) (by omega) (by omega)]) dX2_recipe_278 ?_
                          refine M_iastN (v := (up2 (up2 G1 24 (N1 23) j) 25 (N1 23) (G1 25 10)) 31 (3 * (100 + k) + q)) hx hb hG hS hM 31 rfl (AM.a 31 rfl) rfl rfl (show 3 * (10 * (N1 23) + k) + q < 330 from by omega) dX2_recipe_279 (fun H locs hM hz hS => ?_)
                          refine lv_iinc (v := nI (q + 1)) (lv' := [(5, .int (nI (q + 1))), (0, .ref a0), (1, .int (nI j)), (3, .int (nI k)), (4, .int (nI (10 * (N1 23) + k)))]) hx hb dX2_recipe_280 hl (k := 4) rfl (show nI q + Int32.ofInt 1 = nI (q + 1) from nI_add _ 1) (by decide) rfl (fun ls hl => ?_)
                          refine lv_goto (tgt := 196) hx hb dX2_recipe_283 (by decide) ?_
                          exact ih196 (q + 1) (by omega) (by omega) _ _ (by rw [← cq2_3]; exact hM) hS _ (lv_sub hl [1, 2, 3, 4, 0] rfl)
                    exact L196 _ 0 (by omega) (Nat.lt_succ_self _) _ _ (by rw [← cq2_1]; exact hM) hS _ (lv_sub hl [2, 3, 4, 1, 0] rfl)
              exact L128 _ 0 (by omega) (Nat.lt_succ_self _) _ _ (by rw [cq2_0]; exact hM) hS _ (lv_sub hl [1, 2, 0] rfl)
            · refine lv_aload_n hx hb dX2_recipe_92 rfl (lv_at hl 0 rfl) ?_
              refine M_get (v := .int (nI (N1 34))) hx hb hts hown hG hM 34 (by decide) q1326 rfl rfl dX2_recipe_93 ?_
              refine lv_bipush (v := nI 10) hx hb dX2_recipe_96 (by decide) ?_
              refine lv_isub hx hb dX2_recipe_98 ?_
              subst hQ
              exact W.iret (v := nI (N1 34) - (nI 10)) hx hb hrt (fun t ht hW => ⟨⟨_, ((up1 N1 33 0), I1, G1, J), rfl, (by dsimp only; rw [if_pos (show recB N (nI j) = true by simp [recB, c_18, c_27]), hq]; rw [if_pos c_89]; exact ⟨rfl, rfl⟩), by rw [ht]; exact hM, GK.warm hW hG⟩, hS.F ht⟩) hS.2.2 dX2_recipe_99
          · have hfu := i61_3 c_62
            have hgr1 := i61_2.2
            refine lv_aload_n hx hb dX2_recipe_65 rfl (lv_at hl 0 rfl) ?_
            refine M_get (v := .int (nI (N1 36))) hx hb hts hown hG hM 36 (by decide) q1328 rfl rfl dX2_recipe_66 ?_
            refine kn_zeq (tgt := 80) hx hb dX2_recipe_69 (by decide) (by have := i61_1.2.2.2.2.1; omega) (fun c_69 => ?_) (fun c_69 => ?_)
            · have hq : (reT N I G J).2 = (N1, I1, G1) := by obtain ⟨m, rfl⟩ : ∃ m, n = m + 1 := ⟨n - 1, by omega⟩; rw [i61_0, if_pos c_62, rlT, if_pos c_69]
              have hk23 : N1 23 = N 23 := by have h := re_keep N I G J (k := 23) (by decide) (by decide) (by decide) (by decide) (by decide) (by decide); rw [hq] at h; exact h
              have h34 := i61_1.2.2.2.1
              refine lv_aload_n hx hb dX2_recipe_80 rfl (lv_at hl 0 rfl) ?_
              refine lv_iconst (v := nI 0) hx hb dX2_recipe_81 (by decide) ?_
              refine M_put hx hb hts hown hG hS AM.o hM 33 (by decide) q1325 rfl rfl rfl (up1 N1 33 0) I1 rfl dX2_recipe_82 (fun H locs hM hz hS => ?_)
              refine lv_aload_n hx hb dX2_recipe_85 rfl (lv_at hl 0 rfl) ?_
              refine M_get (v := .int (nI (N1 34))) hx hb hts hown hG hM 34 (by decide) q1326 rfl rfl dX2_recipe_86 ?_
              refine kn_zle (tgt := 100) hx hb dX2_recipe_89 (by decide) (by omega) (fun c_89 => ?_) (fun c_89 => ?_)
              · refine lv_aload_n hx hb dX2_recipe_100 rfl (lv_at hl 0 rfl) ?_
                refine M_get (v := .ref (ad 24)) hx hb hts hown hG hM 24 (by decide) q1316 rfl rfl dX2_recipe_101 ?_
                refine lv_aload_n hx hb dX2_recipe_104 rfl (lv_at hl 0 rfl) ?_
                refine M_get (v := .int (nI (N1 23))) hx hb hts hown hG hM 23 (by decide) q1315 rfl rfl dX2_recipe_105 ?_
                refine lv_iload_n hx hb dX2_recipe_108 rfl (lv_at hl 1 rfl) ?_
                refine M_iastN (v := j) hx hb hG hS hM 24 rfl (AM.a 24 rfl) rfl rfl (show N1 23 < 10 from by omega) dX2_recipe_109 (fun H locs hM hz hS => ?_)
                refine lv_aload_n hx hb dX2_recipe_110 rfl (lv_at hl 0 rfl) ?_
                refine M_get (v := .ref (ad 25)) hx hb hts hown hG hM 25 (by decide) q1317 rfl rfl dX2_recipe_111 ?_
                refine lv_aload_n hx hb dX2_recipe_114 rfl (lv_at hl 0 rfl) ?_
                refine M_get (v := .int (nI (N1 23))) hx hb hts hown hG hM 23 (by decide) q1315 rfl rfl dX2_recipe_115 ?_
                refine lv_aload_n hx hb dX2_recipe_118 rfl (lv_at hl 0 rfl) ?_
                refine M_get (v := .ref (ad 25)) hx hb hts hown hG hM 25 (by decide) q1317 rfl rfl dX2_recipe_119 ?_
                refine lv_bipush (v := nI 10) hx hb dX2_recipe_122 (by decide) ?_
                refine M_iald (v := nI (G1 25 10)) hx hb hG hM 25 rfl rfl (show 10 < 11 from by omega) (rfl) dX2_recipe_124 ?_
                refine M_iastN (v := G1 25 10) hx hb hG hS hM 25 rfl (AM.a 25 rfl) rfl rfl (show N1 23 < 11 from by omega) dX2_recipe_125 (fun H locs hM hz hS => ?_)
                refine lv_iconst (v := nI 0) hx hb dX2_recipe_126 (by decide) ?_
                refine lv_istore_n (lv' := [(3, .int (nI 0)), (0, .ref a0), (1, .int (nI j)), (2, .int (bI g))]) hx hb dX2_recipe_127 rfl hl (by decide) rfl (fun ls hl => ?_)
                have L128 : ∀ (nn128 : Nat) (k : Nat), (k ≤ 10) → 10 - k < nn128 → ∀ (H : Heap) (locs : List Loc), RM D dA a0 ad (up1 N1 33 0) I1 (cq2 (up2 (up2 G1 24 (N1 23) j) 25 (N1 23) (G1 25 10)) (N1 23) k (3 * k)) J H → va_S (AM a0 ad s.heap.size) s.heap H locs → ∀ (ls : Array Slot), lv_has ls 6 [(0, .ref a0), (1, .int (nI j)), (3, .int (nI k))] → W p lh e r_X2_recipe s m args below meth cd H locs 0 0 Q (F0 m 128 ls []) := by
                  intro nn128
                  induction nn128 with
                  | zero => intro k i128_0 hm128; exact absurd hm128 (Nat.not_lt_zero _)
                  | succ nn128 ih128 =>
                    intro k i128_0 hm128 H locs hM hS ls hl
                    refine lv_iload_n hx hb dX2_recipe_128 rfl (lv_at hl 2 rfl) ?_
                    refine lv_bipush (v := nI 10) hx hb dX2_recipe_129 (by decide) ?_
                    refine kn_cge (tgt := 292) hx hb dX2_recipe_131 (by decide) (by omega) (by omega) (fun c_131 => ?_) (fun c_131 => ?_)
                    · refine lv_aload_n hx hb dX2_recipe_292 rfl (lv_at hl 0 rfl) ?_
                      refine lv_dup hx hb dX2_recipe_293 rfl ?_
                      refine M_get (v := .int (nI (N1 23))) hx hb hts hown hG hM 23 (by decide) q1315 rfl rfl dX2_recipe_294 ?_
                      refine lv_iconst (v := nI 1) hx hb dX2_recipe_297 (by decide) ?_
                      refine kn_add hx hb dX2_recipe_298 ?_
                      refine M_put hx hb hts hown hG hS AM.o hM 23 (by decide) q1315 rfl rfl rfl (up1 (up1 N1 33 0) 23 (N1 23 + 1)) I1 rfl dX2_recipe_299 (fun H locs hM hz hS => ?_)
                      refine lv_aload_n hx hb dX2_recipe_302 rfl (lv_at hl 0 rfl) ?_
                      refine M_get (v := .int (nI (N1 23 + 1))) hx hb hts hown hG hM 23 (by decide) q1315 rfl rfl dX2_recipe_303 ?_
                      refine lv_iconst (v := nI 1) hx hb dX2_recipe_306 (by decide) ?_
                      refine kn_sub hx hb dX2_recipe_307 (by omega) ?_
                      subst hQ
                      exact W.iret (v := nI (N1 23 + 1 - 1)) hx hb hrt (fun t ht hW => ⟨⟨_, ((up1 (up1 N1 33 0) 23 (N1 23 + 1)), I1, (cq2 (up2 (up2 G1 24 (N1 23) j) 25 (N1 23) (G1 25 10)) (N1 23) k (3 * k)), J), rfl, (by dsimp only; rw [if_pos (show recB N (nI j) = true by simp [recB, c_18, c_27]), hq]; rw [if_neg (show ¬ 0 < N1 34 by omega), tn_nI (show j < 2 ^ 31 by omega)]; have ek : k = 10 := (by omega); subst ek; unfold reG; rw [← hk23]; exact ⟨rfl, rfl⟩), by rw [ht]; exact hM, GK.warm hW hG⟩, hS.F ht⟩) hS.2.2 dX2_recipe_308
                    · refine lv_bipush (v := nI 10) hx hb dX2_recipe_134 (by decide) ?_
                      refine lv_aload_n hx hb dX2_recipe_136 rfl (lv_at hl 0 rfl) ?_
                      refine M_get (v := .int (nI (N1 23))) hx hb hts hown hG hM 23 (by decide) q1315 rfl rfl dX2_recipe_137 ?_
                      refine kn_mul hx hb dX2_recipe_140 ?_
                      refine lv_iload_n hx hb dX2_recipe_141 rfl (lv_at hl 2 rfl) ?_
                      refine kn_add hx hb dX2_recipe_142 ?_
                      refine lv_istore (lv' := [(4, .int (nI (10 * (N1 23) + k))), (0, .ref a0), (1, .int (nI j)), (3, .int (nI k))]) hx hb dX2_recipe_143 hl (by decide) rfl (fun ls hl => ?_)
                      refine lv_aload_n hx hb dX2_recipe_145 rfl (lv_at hl 1 rfl) ?_
                      refine M_get (v := .ref (ad 26)) hx hb hts hown hG hM 26 (by decide) q1318 rfl rfl dX2_recipe_146 ?_
                      refine lv_iload hx hb dX2_recipe_149 (lv_at hl 0 rfl) ?_
                      refine lv_aload_n hx hb dX2_recipe_151 rfl (lv_at hl 1 rfl) ?_
                      refine M_get (v := .ref (ad 26)) hx hb hts hown hG hM 26 (by decide) q1318 rfl rfl dX2_recipe_152 ?_
                      refine lv_bipush (v := nI 100) hx hb dX2_recipe_155 (by decide) ?_
                      refine lv_iload_n hx hb dX2_recipe_157 rfl (lv_at hl 3 rfl) ?_
                      refine kn_add hx hb dX2_recipe_158 ?_
                      refine M_iald (v := nI ((up2 (up2 G1 24 (N1 23) j) 25 (N1 23) (G1 25 10)) 26 (100 + k))) hx hb hG hM 26 rfl rfl (show 100 + k < 110 from by omega) (show nI (cq2 (up2 (up2 G1 24 (N1 23) j) 25 (N1 23) (G1 25 10)) (N1 23) k (3 * k) 26 (100 + k)) = nI ((up2 (up2 G1 24 (N1 23) j) 25 (N1 23) (G1 25 10)) 26 (100 + k)) by rw [cq2_hi (by omega) (by omega) (by omega) (by omega)]) dX2_recipe_159 ?_
                      refine M_iastN (v := (up2 (up2 G1 24 (N1 23) j) 25 (N1 23) (G1 25 10)) 26 (100 + k)) hx hb hG hS hM 26 rfl (AM.a 26 rfl) rfl rfl (show 10 * (N1 23) + k < 110 from by omega) dX2_recipe_160 (fun H locs hM hz hS => ?_)
                      refine lv_aload_n hx hb dX2_recipe_161 rfl (lv_at hl 1 rfl) ?_
                      refine M_get (v := .ref (ad 27)) hx hb hts hown hG hM 27 (by decide) q1319 rfl rfl dX2_recipe_162 ?_
                      refine lv_iload hx hb dX2_recipe_165 (lv_at hl 0 rfl) ?_
                      refine lv_aload_n hx hb dX2_recipe_167 rfl (lv_at hl 1 rfl) ?_
                      refine M_get (v := .ref (ad 27)) hx hb hts hown hG hM 27 (by decide) q1319 rfl rfl dX2_recipe_168 ?_
                      refine lv_bipush (v := nI 100) hx hb dX2_recipe_171 (by decide) ?_
                      refine lv_iload_n hx hb dX2_recipe_173 rfl (lv_at hl 3 rfl) ?_
                      refine kn_add hx hb dX2_recipe_174 ?_
                      refine M_iald (v := nI ((up2 (up2 G1 24 (N1 23) j) 25 (N1 23) (G1 25 10)) 27 (100 + k))) hx hb hG hM 27 rfl rfl (show 100 + k < 110 from by omega) (show nI (cq2 (up2 (up2 G1 24 (N1 23) j) 25 (N1 23) (G1 25 10)) (N1 23) k (3 * k) 27 (100 + k)) = nI ((up2 (up2 G1 24 (N1 23) j) 25 (N1 23) (G1 25 10)) 27 (100 + k)) by rw [cq2_hi (by omega) (by omega) (by omega) (by omega)]) dX2_recipe_175 ?_
                      refine M_iastN (v := (up2 (up2 G1 24 (N1 23) j) 25 (N1 23) (G1 25 10)) 27 (100 + k)) hx hb hG hS hM 27 rfl (AM.a 27 rfl) rfl rfl (show 10 * (N1 23) + k < 110 from by omega) dX2_recipe_176 (fun H locs hM hz hS => ?_)
                      refine lv_aload_n hx hb dX2_recipe_177 rfl (lv_at hl 1 rfl) ?_
                      refine M_get (v := .ref (ad 28)) hx hb hts hown hG hM 28 (by decide) q1320 rfl rfl dX2_recipe_178 ?_
                      refine lv_iload hx hb dX2_recipe_181 (lv_at hl 0 rfl) ?_
                      refine lv_aload_n hx hb dX2_recipe_183 rfl (lv_at hl 1 rfl) ?_
                      refine M_get (v := .ref (ad 28)) hx hb hts hown hG hM 28 (by decide) q1320 rfl rfl dX2_recipe_184 ?_
                      refine lv_bipush (v := nI 100) hx hb dX2_recipe_187 (by decide) ?_
                      refine lv_iload_n hx hb dX2_recipe_189 rfl (lv_at hl 3 rfl) ?_
                      refine kn_add hx hb dX2_recipe_190 ?_
                      refine M_iald (v := nI ((up2 (up2 G1 24 (N1 23) j) 25 (N1 23) (G1 25 10)) 28 (100 + k))) hx hb hG hM 28 rfl rfl (show 100 + k < 110 from by omega) (show nI (cq2 (up2 (up2 G1 24 (N1 23) j) 25 (N1 23) (G1 25 10)) (N1 23) k (3 * k) 28 (100 + k)) = nI ((up2 (up2 G1 24 (N1 23) j) 25 (N1 23) (G1 25 10)) 28 (100 + k)) by rw [cq2_hi (by omega) (by omega) (by omega) (by omega)]) dX2_recipe_191 ?_
                      refine M_iastN (v := (up2 (up2 G1 24 (N1 23) j) 25 (N1 23) (G1 25 10)) 28 (100 + k)) hx hb hG hS hM 28 rfl (AM.a 28 rfl) rfl rfl (show 10 * (N1 23) + k < 110 from by omega) dX2_recipe_192 (fun H locs hM hz hS => ?_)
                      refine lv_iconst (v := nI 0) hx hb dX2_recipe_193 (by decide) ?_
                      refine lv_istore (lv' := [(5, .int (nI 0)), (4, .int (nI (10 * (N1 23) + k))), (0, .ref a0), (1, .int (nI j)), (3, .int (nI k))]) hx hb dX2_recipe_194 hl (by decide) rfl (fun ls hl => ?_)
                      have L196 : ∀ (nn196 : Nat) (q : Nat), (q ≤ 3) → 3 - q < nn196 → ∀ (H : Heap) (locs : List Loc), RM D dA a0 ad (up1 N1 33 0) I1 (cq2 (up2 (up2 G1 24 (N1 23) j) 25 (N1 23) (G1 25 10)) (N1 23) (k + 1) (3 * k + q)) J H → va_S (AM a0 ad s.heap.size) s.heap H locs → ∀ (ls : Array Slot), lv_has ls 6 [(0, .ref a0), (1, .int (nI j)), (3, .int (nI k)), (4, .int (nI (10 * (N1 23) + k))), (5, .int (nI q))] → W p lh e r_X2_recipe s m args below meth cd H locs 0 0 Q (F0 m 196 ls []) := by
                        intro nn196
                        induction nn196 with
                        | zero => intro q i196_0 hm196; exact absurd hm196 (Nat.not_lt_zero _)
                        | succ nn196 ih196 =>
                          intro q i196_0 hm196 H locs hM hS ls hl
                          refine lv_iload hx hb dX2_recipe_196 (lv_at hl 4 rfl) ?_
                          refine lv_iconst (v := nI 3) hx hb dX2_recipe_198 (by decide) ?_
                          refine kn_cge (tgt := 286) hx hb dX2_recipe_199 (by decide) (by omega) (by omega) (fun c_199 => ?_) (fun c_199 => ?_)
                          · refine lv_iinc (v := nI (k + 1)) (lv' := [(3, .int (nI (k + 1))), (0, .ref a0), (1, .int (nI j)), (4, .int (nI (10 * (N1 23) + k))), (5, .int (nI q))]) hx hb dX2_recipe_286 hl (k := 2) rfl (show nI k + Int32.ofInt 1 = nI (k + 1) from nI_add _ 1) (by decide) rfl (fun ls hl => ?_)
                            refine lv_goto (tgt := 128) hx hb dX2_recipe_289 (by decide) ?_
                            exact ih128 (k + 1) (by omega) (by omega) _ _ (by rw [show 3 * (k + 1) = 3 * k + q by omega]; exact hM) hS _ (lv_sub hl [1, 2, 0] rfl)
                          · refine lv_aload_n hx hb dX2_recipe_202 rfl (lv_at hl 0 rfl) ?_
                            refine M_get (v := .ref (ad 29)) hx hb hts hown hG hM 29 (by decide) q1321 rfl rfl dX2_recipe_203 ?_
                            refine lv_iconst (v := nI 3) hx hb dX2_recipe_206 (by decide) ?_
                            refine lv_iload hx hb dX2_recipe_207 (lv_at hl 3 rfl) ?_
                            refine kn_mul hx hb dX2_recipe_209 ?_
                            refine lv_iload hx hb dX2_recipe_210 (lv_at hl 4 rfl) ?_
                            refine kn_add hx hb dX2_recipe_212 ?_
                            refine lv_aload_n hx hb dX2_recipe_213 rfl (lv_at hl 0 rfl) ?_
                            refine M_get (v := .ref (ad 29)) hx hb hts hown hG hM 29 (by decide) q1321 rfl rfl dX2_recipe_214 ?_
                            refine lv_iconst (v := nI 3) hx hb dX2_recipe_217 (by decide) ?_
                            refine lv_bipush (v := nI 100) hx hb dX2_recipe_218 (by decide) ?_
                            refine lv_iload_n hx hb dX2_recipe_220 rfl (lv_at hl 2 rfl) ?_
                            refine kn_add hx hb dX2_recipe_221 ?_
                            refine kn_mul hx hb dX2_recipe_222 ?_
                            refine lv_iload hx hb dX2_recipe_223 (lv_at hl 4 rfl) ?_
                            refine kn_add hx hb dX2_recipe_225 ?_
                            refine M_iald (v := nI ((up2 (up2 G1 24 (N1 23) j) 25 (N1 23) (G1 25 10)) 29 (3 * (100 + k) + q))) hx hb hG hM 29 rfl rfl (show 3 * (100 + k) + q < 330 from by omega) (show nI (cq2 (up2 (up2 G1 24 (N1 23) j) 25 (N1 23) (G1 25 10)) (N1 23) (k + 1) (3 * k + q) 29 (3 * (100 + k) + q)) = nI ((up2 (up2 G1 24 (N1 23) j) 25 (N1 23) (G1 25 10)) 29 (3 * (100 + k) + q)) by rw [cq2_hi (by omega) (by omega) (by omega) (by omega)]) dX2_recipe_226 ?_
                            refine M_iastN (v := (up2 (up2 G1 24 (N1 23) j) 25 (N1 23) (G1 25 10)) 29 (3 * (100 + k) + q)) hx hb hG hS hM 29 rfl (AM.a 29 rfl) rfl rfl (show 3 * (10 * (N1 23) + k) + q < 330 from by omega) dX2_recipe_227 (fun H locs hM hz hS => ?_)
                            refine lv_aload_n hx hb dX2_recipe_228 rfl (lv_at hl 0 rfl) ?_
                            refine M_get (v := .ref (ad 30)) hx hb hts hown hG hM 30 (by decide) q1322 rfl rfl dX2_recipe_229 ?_
                            refine lv_iconst (v := nI 3) hx hb dX2_recipe_232 (by decide) ?_
                            refine lv_iload hx hb dX2_recipe_233 (lv_at hl 3 rfl) ?_
                            refine kn_mul hx hb dX2_recipe_235 ?_
                            refine lv_iload hx hb dX2_recipe_236 (lv_at hl 4 rfl) ?_
                            refine kn_add hx hb dX2_recipe_238 ?_
                            refine lv_aload_n hx hb dX2_recipe_239 rfl (lv_at hl 0 rfl) ?_
                            refine M_get (v := .ref (ad 30)) hx hb hts hown hG hM 30 (by decide) q1322 rfl rfl dX2_recipe_240 ?_
                            refine lv_iconst (v := nI 3) hx hb dX2_recipe_243 (by decide) ?_
                            refine lv_bipush (v := nI 100) hx hb dX2_recipe_244 (by decide) ?_
                            refine lv_iload_n hx hb dX2_recipe_246 rfl (lv_at hl 2 rfl) ?_
                            refine kn_add hx hb dX2_recipe_247 ?_
                            refine kn_mul hx hb dX2_recipe_248 ?_
                            refine lv_iload hx hb dX2_recipe_249 (lv_at hl 4 rfl) ?_
                            refine kn_add hx hb dX2_recipe_251 ?_
                            refine M_iald (v := nI ((up2 (up2 G1 24 (N1 23) j) 25 (N1 23) (G1 25 10)) 30 (3 * (100 + k) + q))) hx hb hG hM 30 rfl rfl (show 3 * (100 + k) + q < 330 from by omega) (show nI (cq2 (up2 (up2 G1 24 (N1 23) j) 25 (N1 23) (G1 25 10)) (N1 23) (k + 1) (3 * k + q) 30 (3 * (100 + k) + q)) = nI ((up2 (up2 G1 24 (N1 23) j) 25 (N1 23) (G1 25 10)) 30 (3 * (100 + k) + q)) by rw [cq2_hi (by omega) (by omega) (by omega) (by omega)]) dX2_recipe_252 ?_
                            refine M_iastN (v := (up2 (up2 G1 24 (N1 23) j) 25 (N1 23) (G1 25 10)) 30 (3 * (100 + k) + q)) hx hb hG hS hM 30 rfl (AM.a 30 rfl) rfl rfl (show 3 * (10 * (N1 23) + k) + q < 330 from by omega) dX2_recipe_253 (fun H locs hM hz hS => ?_)
                            refine lv_aload_n hx hb dX2_recipe_254 rfl (lv_at hl 0 rfl) ?_
                            refine M_get (v := .ref (ad 31)) hx hb hts hown hG hM 31 (by decide) q1323 rfl rfl dX2_recipe_255 ?_
                            refine lv_iconst (v := nI 3) hx hb dX2_recipe_258 (by decide) ?_
                            refine lv_iload hx hb dX2_recipe_259 (lv_at hl 3 rfl) ?_
                            refine kn_mul hx hb dX2_recipe_261 ?_
                            refine lv_iload hx hb dX2_recipe_262 (lv_at hl 4 rfl) ?_
                            refine kn_add hx hb dX2_recipe_264 ?_
                            refine lv_aload_n hx hb dX2_recipe_265 rfl (lv_at hl 0 rfl) ?_
                            refine M_get (v := .ref (ad 31)) hx hb hts hown hG hM 31 (by decide) q1323 rfl rfl dX2_recipe_266 ?_
                            refine lv_iconst (v := nI 3) hx hb dX2_recipe_269 (by decide) ?_
                            refine lv_bipush (v := nI 100) hx hb dX2_recipe_270 (by decide) ?_
                            refine lv_iload_n hx hb dX2_recipe_272 rfl (lv_at hl 2 rfl) ?_
                            refine kn_add hx hb dX2_recipe_273 ?_
                            refine kn_mul hx hb dX2_recipe_274 ?_
                            refine lv_iload hx hb dX2_recipe_275 (lv_at hl 4 rfl) ?_
                            refine kn_add hx hb dX2_recipe_277 ?_
                            refine M_iald (v := nI ((up2 (up2 G1 24 (N1 23) j) 25 (N1 23) (G1 25 10)) 31 (3 * (100 + k) + q))) hx hb hG hM 31 rfl rfl (show 3 * (100 + k) + q < 330 from by omega) (show nI (cq2 (up2 (up2 G1 24 (N1 23) j) 25 (N1 23) (G1 25 10)) (N1 23) (k + 1) (3 * k + q) 31 (3 * (100 + k) + q)) = nI ((up2 (up2 G1 24 (N1 23) j) 25 (N1 23) (G1 25 10)) 31 (3 * (100 + k) + q)) by rw [cq2_hi (by omega) (by omega) (by omega) (by omega)]) dX2_recipe_278 ?_
                            refine M_iastN (v := (up2 (up2 G1 24 (N1 23) j) 25 (N1 23) (G1 25 10)) 31 (3 * (100 + k) + q)) hx hb hG hS hM 31 rfl (AM.a 31 rfl) rfl rfl (show 3 * (10 * (N1 23) + k) + q < 330 from by omega) dX2_recipe_279 (fun H locs hM hz hS => ?_)
                            refine lv_iinc (v := nI (q + 1)) (lv' := [(5, .int (nI (q + 1))), (0, .ref a0), (1, .int (nI j)), (3, .int (nI k)), (4, .int (nI (10 * (N1 23) + k)))]) hx hb dX2_recipe_280 hl (k := 4) rfl (show nI q + Int32.ofInt 1 = nI (q + 1) from nI_add _ 1) (by decide) rfl (fun ls hl => ?_)
                            refine lv_goto (tgt := 196) hx hb dX2_recipe_283 (by decide) ?_
                            exact ih196 (q + 1) (by omega) (by omega) _ _ (by rw [← cq2_3]; exact hM) hS _ (lv_sub hl [1, 2, 3, 4, 0] rfl)
                      exact L196 _ 0 (by omega) (Nat.lt_succ_self _) _ _ (by rw [← cq2_1]; exact hM) hS _ (lv_sub hl [2, 3, 4, 1, 0] rfl)
                exact L128 _ 0 (by omega) (Nat.lt_succ_self _) _ _ (by rw [cq2_0]; exact hM) hS _ (lv_sub hl [1, 2, 0] rfl)
              · refine lv_aload_n hx hb dX2_recipe_92 rfl (lv_at hl 0 rfl) ?_
                refine M_get (v := .int (nI (N1 34))) hx hb hts hown hG hM 34 (by decide) q1326 rfl rfl dX2_recipe_93 ?_
                refine lv_bipush (v := nI 10) hx hb dX2_recipe_96 (by decide) ?_
                refine lv_isub hx hb dX2_recipe_98 ?_
                subst hQ
                exact W.iret (v := nI (N1 34) - (nI 10)) hx hb hrt (fun t ht hW => ⟨⟨_, ((up1 N1 33 0), I1, G1, J), rfl, (by dsimp only; rw [if_pos (show recB N (nI j) = true by simp [recB, c_18, c_27]), hq]; rw [if_pos c_89]; exact ⟨rfl, rfl⟩), by rw [ht]; exact hM, GK.warm hW hG⟩, hS.F ht⟩) hS.2.2 dX2_recipe_99
            · refine lv_aload_n hx hb dX2_recipe_72 rfl (lv_at hl 0 rfl) ?_
              refine va_calli (va_runV (As := []) (rest := []) ⟨hx, hb, hml, hown, hts⟩ (c_X2_rule lh D dA a0 ad N1 I1 G1 J H.size K (i61_1) (i61_2)) (w_X2_rule hts q1535 rfl rfl ⟨Nat.le_of_ble_eq_true rfl, Nat.le_of_ble_eq_true rfl⟩) ⟨PX.blind (Mv.and Mv.heap (Mv.and Mv.heap (Mv.and Mv.gk KZ.mv))), M_recv hG hM, PX.pre (Mv.and Mv.heap (Mv.and Mv.heap (Mv.and Mv.gk KZ.mv))) ⟨rfl, hM, hG, (KZ.at hKZ hS (AM.up hS.1))⟩⟩ rfl rfl hl.1 rfl (lv_room (Nat.le_of_ble_eq_true rfl)) dX2_recipe_73 ⟨Nat.le_of_ble_eq_true rfl, Nat.le_of_ble_eq_true rfl⟩) hS (fun q _ h => AM.up (hS.1) q h) (fun q h => AM.up (hS.1) q h) (fun rr u t H1 locs ht hvm hp hB hz hk hS => ?_)
              obtain ⟨hM, -⟩ := hB
              rw [ht] at hM
              clear ht hz hk
              generalize H1 = H at hM hS ⊢
              obtain ⟨hrr, hu⟩ := hp
              subst hrr hu
              dsimp only at hM
              have hru := ruT_ok (I := I1) (J := J) i61_1 i61_2
              refine lv_istore_n (lv' := [(2, .int (bI ((ruT N1 I1 G1 J).1))), (0, .ref a0), (1, .int (nI j))]) hx hb dX2_recipe_76 rfl hl (by decide) rfl (fun ls hl => ?_)
              refine lv_goto (tgt := 61) hx hb dX2_recipe_77 (by decide) ?_
              exact ih61 (n - 1) ((ruT N1 I1 G1 J).1) ((ruT N1 I1 G1 J).2.1) ((ruT N1 I1 G1 J).2.2.1) ((ruT N1 I1 G1 J).2.2.2) (by obtain ⟨m, rfl⟩ : ∃ m, n = m + 1 := ⟨n - 1, by omega⟩; exact (i61_0.trans (if_pos c_62)).trans (rlT_s c_69)) (hru.1) (hru.2.1) (fun q => by have := hru.2.2 q; omega) (by omega) _ _ hM hS _ (lv_sub hl [1, 2, 0] rfl)
      exact L61 _ 11 true (reN N J) (up1 I 35 (-1)) (up2 G 25 10 0) (rfl) (hps0) (⟨hB_up hB (by decide), by rw [up2_s]; decide⟩) (fun _ => by rw [up2_s]) (Nat.lt_succ_self _) _ _ hM hS _ (lv_conv (show lv_has ls 6 [(0, .ref a0), (1, .int (nI j)), (2, .int (nI 1))] from (lv_sub hl [1, 2, 0] rfl)) (rfl))
    · refine lv_iconst (v := -1) hx hb dX2_recipe_30 (by decide) ?_
      subst hQ
      exact W.iret (v := (-1)) hx hb hrt (fun t ht hW => ⟨⟨_, ((up1 N 0 0), I, G, J), rfl, (by dsimp only; rw [if_neg (by simp [recB, c_18, c_27])]; exact ⟨rfl, rfl⟩), by rw [ht]; exact hM, GK.warm hW hG⟩, hS.F ht⟩) hS.2.2 dX2_recipe_31
theorem w_X2_recipe {R : Room} {s : State} {args : Array Value} {own : String} {idx : Nat} (hts : ∀ w ∈ lw_all, w.before args s = true) (h1 : Cond.methodLink own idx yX2_recipe ∈ lw_all) {rm : Room} {mc ms : Nat} (hrc : rm.cells = mc) (hrs : rm.slots = ms) (hR : rm.frames + 1 ≤ R.frames ∧ 8 + (6 + 11) + rm.locals ≤ R.locals) : CallW R s args own RX2 idx yX2_recipe cX2_recipe 6 (some .int) (ws_ yX2_recipe cX2_recipe 6 (some .int)) rm mc ms 1 := cwV 1 hts (lw_V h1 q1524 q1525 q70 q1526) rfl hrc hrs (by decide +kernel) hR
