set_option maxRecDepth 100000
theorem clT_s {J : Nat → Nat → Int32} {r n : Nat} {N : Nat → Nat} {I : Nat → Int32} {G : Nat → Nat → Nat} (h : (coT (tokN N J) I G J r).1 = true) : clT J r (n + 1) N I G = if isQ (coT (tokN N J) I G J r).2.1 J 18 = true then clT J r n (coT (tokN N J) I G J r).2.1 (coT (tokN N J) I G J r).2.2.1 (coT (tokN N J) I G J r).2.2.2 else (true, (coT (tokN N J) I G J r).2.1, (coT (tokN N J) I G J r).2.2.1, (coT (tokN N J) I G J r).2.2.2) := by
  rw [clT, if_neg (by rw [h]; decide)]
  split
  · rfl
  · rw [← h]

abbrev r_X2_rule : Room := { frames := 6, cells := 0, slots := 0, locals := 134 }
set_option maxHeartbeats 400000 in
theorem c_X2_rule (lh : Launch) (D : va_G) (dA : Nat → ClassId) (a0 : Nat) (ad : Nat → Nat) (N : Nat → Nat) (I : Nat → Int32) (G : Nat → Nat → Nat) (J : Nat → Nat → Int32) (sz : Nat) (K : Nat → Nat) (h1 : PsOk N) (h2 : GrOk G) : Met lh yX2_rule (ws_ yX2_rule cX2_rule 5 (some .boolean)) r_X2_rule (PX (fun U H => H.size = sz ∧ RM D dA a0 ad N I G J H ∧ GK D dA U ∧ KZ K (AM a0 ad sz) U H) [.ref a0]) (va_Qi (fun (r : Int32) (u : SgT) => r = bI (ruT N I G J).1 ∧ u = ((ruT N I G J).2.1, (ruT N I G J).2.2.1, (ruT N I G J).2.2.2, J)) (BmM D dA a0 ad) (AM a0 ad sz)) 0 0 (AM a0 ad sz) := by
  refine Met.ofW (cc := cX2_rule) (maxL := 5) (ret := (some .boolean)) (by decide) rfl ?_
  intro p e s m args below meth cd s₁ B hml hv
  obtain ⟨hargs, hsz, hM, hG, hKZ⟩ := hv
  have hx := B.exec
  have hb := B.bytes
  have hrt := B.returns
  have hts := atoms_spec (ws := (ws_ yX2_rule cX2_rule 5 (some .boolean))) B.pre
  have hts : ∀ w ∈ lw_all, w.before _ s = true := fun w h => hts w (List.mem_cons_of_mem _ h)
  have hown : s.vm.findClass RX2 = some m.cls := findClass_of_methodNamed B.named
  have hlocks := B.notSynchronized
  subst hsz
  have hS : va_S (AM a0 ad s.heap.size) s.heap s.heap [] := va_S.rf
  have hE : entryFrame m args 5 = F0 m 0 ((lg_sl ([.ref a0]) ++ List.replicate (5 - (lg_sl ([.ref a0])).length) Slot.unset).toArray) [] := by rw [hargs]; exact lg_entry_eq m _ 5
  have hl := lv_entry ([.ref a0]) (n := 5) (Nat.le_of_ble_eq_true rfl)
  rw [hE]
  clear hE
  generalize (lg_sl ([.ref a0]) ++ List.replicate (5 - (lg_sl ([.ref a0])).length) Slot.unset).toArray = ls at hl ⊢
  have hl : lv_has ls 5 [(0, .ref a0)] := hl
  generalize hQ : MQ _ _ _ _ _ _ _ = Q
  have hgr := h2.2
  refine lv_aload_n hx hb dX2_rule_0 rfl (lv_at hl 0 rfl) ?_
  refine va_ldcS hx hb hown (show vk_R RX2 228 "if" (K 12) s from hKZ.2.2 12 (by decide)) dX2_rule_1 ?_
  refine vp_callSi (W.runV (As := [.ref (K 12)]) (rest := []) ⟨hx, hb, hml, hown, hts⟩ (c_X2_is lh D dA a0 ad N I G J (K 12) (K (100 + 12)) (klen 12) (kch 12) (h1)) (w_X2_is hts q1540 rfl rfl ⟨Nat.le_of_ble_eq_true rfl, Nat.le_of_ble_eq_true rfl⟩) ⟨PX.blind (Mv.and Mv.heap (Mv.and Mv.gk (Mv.and KC.mv SA.mv))), M_recv hG hM, PX.pre (Mv.and Mv.heap (Mv.and Mv.gk (Mv.and KC.mv SA.mv))) ⟨hM, hG, (KZ.kc hKZ hS), (KZ.str hKZ hS 12 (by decide))⟩⟩ rfl rfl hl.1 rfl (lv_room (Nat.le_of_ble_eq_true rfl)) dX2_rule_3 ⟨Nat.le_of_ble_eq_true rfl, Nat.le_of_ble_eq_true rfl⟩) (fun rr hrr => ?_)
  subst hrr
  refine kx_int (y := bI (isQ N J 12)) rfl ?_
  refine lv_istore_n (lv' := [(1, .int (bI (isQ N J 12))), (0, .ref a0)]) hx hb dX2_rule_6 rfl hl (by decide) rfl (fun ls hl => ?_)
  refine lv_aload_n hx hb dX2_rule_7 rfl (lv_at hl 1 rfl) ?_
  refine vp_callSi (W.runV (As := []) (rest := []) ⟨hx, hb, hml, hown, hts⟩ (c_X2_actAtHand lh D dA a0 ad N I G J K (h1)) (w_X2_actAtHand hts q1546 rfl rfl ⟨Nat.le_of_ble_eq_true rfl, Nat.le_of_ble_eq_true rfl⟩) ⟨PX.blind (Mv.and Mv.heap (Mv.and Mv.gk KZ.mv)), M_recv hG hM, PX.pre (Mv.and Mv.heap (Mv.and Mv.gk KZ.mv)) ⟨hM, hG, (KZ.at hKZ hS (fun _ h => h.elim))⟩⟩ rfl rfl hl.1 rfl (lv_room (Nat.le_of_ble_eq_true rfl)) dX2_rule_8 ⟨Nat.le_of_ble_eq_true rfl, Nat.le_of_ble_eq_true rfl⟩) (fun rr hrr => ?_)
  subst hrr
  rcases ho8 : whQ N J 13 with _ | k8
  · show W p lh e r_X2_rule s m args below meth cd _ _ _ _ Q (F0 m _ ls (.int (-1) :: _))
    refine lv_istore_n (lv' := [(2, .int (-1)), (1, .int (bI (isQ N J 12))), (0, .ref a0)]) hx hb dX2_rule_11 rfl hl (by decide) rfl (fun ls hl => ?_)
    refine lv_iload_n hx hb dX2_rule_12 rfl (lv_at hl 1 rfl) ?_
    refine kb_ne (tgt := 27) hx hb dX2_rule_13 (by decide) (fun c_13 => ?_) (fun c_13 => ?_)
    · refine lv_aload_n hx hb dX2_rule_27 rfl (lv_at hl 2 rfl) ?_
      refine M_get (v := .ref (ad 25)) hx hb hts hown hG hM 25 (by decide) q1317 rfl rfl dX2_rule_28 ?_
      refine lv_bipush (v := nI 10) hx hb dX2_rule_31 (by decide) ?_
      refine M_iald (v := nI (G 25 10)) hx hb hG hM 25 rfl rfl (show 10 < 11 from by omega) (rfl) dX2_rule_33 ?_
      refine lv_bipush (v := nI 10) hx hb dX2_rule_34 (by decide) ?_
      refine kn_cne (tgt := 45) hx hb dX2_rule_36 (by decide) (by omega) (by omega) (fun c_36 => ?_) (fun c_36 => ?_)
      · have hr10 : G 25 10 < 10 := (by omega)
        refine lv_bipush (v := nI 100) hx hb dX2_rule_45 (by decide) ?_
        refine lv_aload_n hx hb dX2_rule_47 rfl (lv_at hl 2 rfl) ?_
        refine M_get (v := .ref (ad 25)) hx hb hts hown hG hM 25 (by decide) q1317 rfl rfl dX2_rule_48 ?_
        refine lv_bipush (v := nI 10) hx hb dX2_rule_51 (by decide) ?_
        refine M_iald (v := nI (G 25 10)) hx hb hG hM 25 rfl rfl (show 10 < 11 from by omega) (rfl) dX2_rule_53 ?_
        refine kn_add hx hb dX2_rule_54 ?_
        refine lv_istore_n (lv' := [(3, .int (nI (100 + (G 25 10)))), (2, .int (-1)), (1, .int (bI (isQ N J 12))), (0, .ref a0)]) hx hb dX2_rule_55 rfl hl (by decide) rfl (fun ls hl => ?_)
        refine lv_aload_n hx hb dX2_rule_56 rfl (lv_at hl 3 rfl) ?_
        refine M_get (v := .ref (ad 28)) hx hb hts hown hG hM 28 (by decide) q1320 rfl rfl dX2_rule_57 ?_
        refine lv_iload_n hx hb dX2_rule_60 rfl (lv_at hl 0 rfl) ?_
        refine lv_iconst (v := nI 0) hx hb dX2_rule_61 (by decide) ?_
        refine M_iastN (v := 0) hx hb hG hS hM 28 rfl (AM.a 28 rfl) rfl rfl (show 100 + (G 25 10) < 110 from by omega) dX2_rule_62 (fun H locs hM hz hS => ?_)
        refine lv_iload_n hx hb dX2_rule_63 rfl (lv_at hl 2 rfl) ?_
        refine kb_eq (tgt := 127) hx hb dX2_rule_64 (by decide) (fun c => absurd (c.symm.trans c_13) (by decide)) (fun _ => ?_)
        refine lv_iconst (v := nI 1) hx hb dX2_rule_67 (by decide) ?_
        refine lv_istore (lv' := [(4, .int (nI 1)), (3, .int (nI (100 + (G 25 10)))), (2, .int (-1)), (1, .int (bI (isQ N J 12))), (0, .ref a0)]) hx hb dX2_rule_68 hl (by decide) rfl (fun ls hl => ?_)
        have L70 : ∀ (nn70 : Nat) (n : Nat) (g : Bool) (N1 : Nat → Nat) (I1 : Nat → Int32) (G1 : Nat → Nat → Nat), (clT J (100 + G 25 10) 4 N I (up2 G 28 (100 + G 25 10) 0) = if g = true then clT J (100 + G 25 10) n N1 I1 G1 else (true, N1, I1, G1)) → (PsOk N1) → (∀ a b, G1 a b < 2 ^ 31) → (G1 28 (100 + G 25 10) ≤ 3) → (G1 28 (100 + G 25 10) + n = 4) → (G1 25 = G 25) → n < nn70 → ∀ (H : Heap) (locs : List Loc), RM D dA a0 ad N1 I1 G1 J H → va_S (AM a0 ad s.heap.size) s.heap H locs → ∀ (ls : Array Slot), lv_has ls 5 [(0, .ref a0), (3, .int (nI (100 + (G 25 10)))), (4, .int (bI g))] → W p lh e r_X2_rule s m args below meth cd H locs 0 0 Q (F0 m 70 ls []) := by
          intro nn70
          induction nn70 with
          | zero => intro n g N1 I1 G1 i70_0 i70_1 i70_2 i70_3 i70_4 i70_5 hm70; exact absurd hm70 (Nat.not_lt_zero _)
          | succ nn70 ih70 =>
            intro n g N1 I1 G1 i70_0 i70_1 i70_2 i70_3 i70_4 i70_5 hm70 H locs hM hS ls hl
            refine lv_iload hx hb dX2_rule_70 (lv_at hl 2 rfl) ?_
            refine kb_eq (tgt := 100) hx hb dX2_rule_72 (by decide) (fun c_72 => ?_) (fun c_72 => ?_)
            · have hg25 : G1 25 10 = G 25 10 := by rw [i70_5]
              refine lv_aload_n hx hb dX2_rule_100 rfl (lv_at hl 0 rfl) ?_
              refine va_ldcS hx hb hown (show vk_R RX2 238 ":" (K 19) s from hKZ.2.2 19 (by decide)) dX2_rule_101 ?_
              refine va_calli (va_runV (As := [.ref (K 19)]) (rest := []) ⟨hx, hb, hml, hown, hts⟩ (c_X2_must lh D dA a0 ad N1 I1 G1 J H.size (K 19) (K (100 + 19)) (klen 19) (kch 19) (i70_1)) (w_X2_must hts q1573 rfl rfl ⟨Nat.le_of_ble_eq_true rfl, Nat.le_of_ble_eq_true rfl⟩) ⟨PX.blind (Mv.and Mv.heap (Mv.and Mv.heap (Mv.and Mv.gk (Mv.and KC.mv SA.mv)))), M_recv hG hM, PX.pre (Mv.and Mv.heap (Mv.and Mv.heap (Mv.and Mv.gk (Mv.and KC.mv SA.mv)))) ⟨rfl, hM, hG, (KZ.kc hKZ hS), (KZ.str hKZ hS 19 (by decide))⟩⟩ rfl rfl hl.1 rfl (lv_room (Nat.le_of_ble_eq_true rfl)) dX2_rule_103 ⟨Nat.le_of_ble_eq_true rfl, Nat.le_of_ble_eq_true rfl⟩) hS (fun q _ h => AM.up (hS.1) q h) (fun q h => AM.up (hS.1) q h) (fun rr u t H1 locs ht hvm hp hB hz hk hS => ?_)
              obtain ⟨hM, -⟩ := hB
              rw [ht] at hM
              clear ht hz hk
              generalize H1 = H at hM hS ⊢
              obtain ⟨hrr, hu⟩ := hp
              subst hrr hu
              refine kx_int (y := bI (isQ N1 J 19)) rfl ?_
              dsimp only at hM
              refine kb_ne (tgt := 111) hx hb dX2_rule_106 (by decide) (fun c_106 => ?_) (fun c_106 => ?_)
              · have hM : RM D dA a0 ad (muN N1 J true) (muI N1 I1 true) G1 J H := by rw [← c_106]; exact hM
                refine lv_aload_n hx hb dX2_rule_111 rfl (lv_at hl 0 rfl) ?_
                refine vp_callSi (W.runV (As := []) (rest := []) ⟨hx, hb, hml, hown, hts⟩ (c_X2_actAtHand lh D dA a0 ad (muN N1 J true) (muI N1 I1 true) G1 J K ((PsOk.mu (J := J) (w := true) i70_1))) (w_X2_actAtHand hts q1546 rfl rfl ⟨Nat.le_of_ble_eq_true rfl, Nat.le_of_ble_eq_true rfl⟩) ⟨PX.blind (Mv.and Mv.heap (Mv.and Mv.gk KZ.mv)), M_recv hG hM, PX.pre (Mv.and Mv.heap (Mv.and Mv.gk KZ.mv)) ⟨hM, hG, (KZ.at hKZ hS (fun _ h => h.elim))⟩⟩ rfl rfl hl.1 rfl (lv_room (Nat.le_of_ble_eq_true rfl)) dX2_rule_112 ⟨Nat.le_of_ble_eq_true rfl, Nat.le_of_ble_eq_true rfl⟩) (fun rr hrr => ?_)
                subst hrr
                rcases ho112 : whQ (muN N1 J true) J 13 with _ | k112
                · show W p lh e r_X2_rule s m args below meth cd _ _ _ _ Q (F0 m _ ls (.int (-1) :: _))
                  refine lv_istore_n (lv' := [(2, .int (-1)), (0, .ref a0), (3, .int (nI (100 + (G 25 10)))), (4, .int (bI g))]) hx hb dX2_rule_115 rfl hl (by decide) rfl (fun ls hl => ?_)
                  refine lv_iload_n hx hb dX2_rule_116 rfl (lv_at hl 0 rfl) ?_
                  refine lv_iconst (v := -1) hx hb dX2_rule_117 (by decide) ?_
                  refine lv_icmp_ne (tgt := 127) hx hb dX2_rule_118 (by decide) (fun c => absurd rfl c) (fun _ => ?_)
                  refine lv_aload_n hx hb dX2_rule_121 rfl (lv_at hl 1 rfl) ?_
                  refine lv_iconst (v := nI 1) hx hb dX2_rule_122 (by decide) ?_
                  refine va_calli (va_runV (As := [.int (nI 1)]) (rest := []) ⟨hx, hb, hml, hown, hts⟩ (c_X2_wrong lh D dA a0 ad (muN N1 J true) (muI N1 I1 true) G1 J H.size 1 (by have := (PsOk.mu (J := J) (w := true) i70_1).2.2.2.1; omega)) (w_X2_wrong hts q1555 rfl rfl ⟨Nat.le_of_ble_eq_true rfl, Nat.le_of_ble_eq_true rfl⟩) ⟨PmM.blind, M_recv hG hM, PmM.pre hG hM⟩ rfl rfl hl.1 rfl (lv_room (Nat.le_of_ble_eq_true rfl)) dX2_rule_123 ⟨Nat.le_of_ble_eq_true rfl, Nat.le_of_ble_eq_true rfl⟩) hS (fun q _ h => AM.up (hS.1) q h) (fun q h => AM.up (hS.1) q h) (fun rr u t H1 locs ht hvm hp hB hz hk hS => ?_)
                  obtain ⟨hM, -⟩ := hB
                  rw [ht] at hM
                  clear ht hz hk
                  generalize H1 = H at hM hS ⊢
                  obtain ⟨hrr, hu⟩ := hp
                  subst hrr hu
                  dsimp only at hM
                  subst hQ
                  exact W.zret (v := nI 0) hx hb hrt rfl (fun t ht hW => ⟨⟨_, ((wrN (muN N1 J true) 1), (wrI (muN N1 J true) (muI N1 I1 true)), G1, J), rfl, (by have hR : ruT N I G J = coA (clT J (100 + G 25 10) 4 N I (up2 G 28 (100 + G 25 10) 0)) J (100 + G 25 10) := (if_neg (fun q => absurd (q.1.symm.trans c_13) (by decide))).trans ((if_neg c_36).trans (if_pos c_13)); have hR2 : ruT N I G J = coA (true, N1, I1, G1) J (100 + G 25 10) := (by rw [hR, i70_0, if_neg (by rw [c_72]; decide)]); have hR3 : ruT N I G J = acT (muN N1 J true) (muI N1 I1 true) G1 J (100 + G 25 10) := hR2.trans ((if_neg (fun q => Bool.noConfusion q)).trans (if_neg (fun q => absurd (c_106.symm.trans q) (by decide)))); rw [show acT (muN N1 J true) (muI N1 I1 true) G1 J (100 + G 25 10) = (false, wrN (muN N1 J true) 1, wrI (muN N1 J true) (muI N1 I1 true), G1) from by unfold acT; rw [ho112]] at hR3; rw [hR3]; exact ⟨rfl, rfl⟩), by rw [ht]; exact hM, GK.warm hW hG⟩, hS.F ht⟩) hS.2.2 dX2_rule_126
                · show W p lh e r_X2_rule s m args below meth cd _ _ _ _ Q (F0 m _ ls (.int (nI k112) :: _))
                  have hk112 := whQ13 ho112
                  refine lv_istore_n (lv' := [(2, .int (nI k112)), (0, .ref a0), (3, .int (nI (100 + (G 25 10)))), (4, .int (bI g))]) hx hb dX2_rule_115 rfl hl (by decide) rfl (fun ls hl => ?_)
                  refine lv_iload_n hx hb dX2_rule_116 rfl (lv_at hl 0 rfl) ?_
                  refine lv_iconst (v := -1) hx hb dX2_rule_117 (by decide) ?_
                  refine lv_icmp_ne (tgt := 127) hx hb dX2_rule_118 (by decide) (fun _ => ?_) (fun c => absurd c (nI_nm1 (by omega)))
                  refine lv_aload_n hx hb dX2_rule_127 rfl (lv_at hl 1 rfl) ?_
                  refine M_get (v := .ref (ad 26)) hx hb hts hown hG hM 26 (by decide) q1318 rfl rfl dX2_rule_128 ?_
                  refine lv_iload_n hx hb dX2_rule_131 rfl (lv_at hl 2 rfl) ?_
                  refine lv_iload_n hx hb dX2_rule_132 rfl (lv_at hl 0 rfl) ?_
                  refine M_iastN (v := k112) hx hb hG hS hM 26 rfl (AM.a 26 rfl) rfl rfl (show 100 + (G 25 10) < 110 from by omega) dX2_rule_133 (fun H locs hM hz hS => ?_)
                  refine lv_aload_n hx hb dX2_rule_134 rfl (lv_at hl 1 rfl) ?_
                  refine va_callv (va_runV (As := []) (rest := []) ⟨hx, hb, hml, hown, hts⟩ (c_X2_token lh D dA a0 ad (muN N1 J true) (muI N1 I1 true) (up2 G1 26 (100 + (G 25 10)) k112) J H.size ((PsOk.mu (J := J) (w := true) i70_1).1) ((PsOk.mu (J := J) (w := true) i70_1).2.2.1)) (w_X2_token hts q1527 rfl rfl ⟨Nat.le_of_ble_eq_true rfl, Nat.le_of_ble_eq_true rfl⟩) ⟨PmM.blind, M_recv hG hM, PmM.pre hG hM⟩ rfl rfl hl.1 rfl (lv_room (Nat.le_of_ble_eq_true rfl)) dX2_rule_135 ⟨Nat.le_of_ble_eq_true rfl, Nat.le_of_ble_eq_true rfl⟩) hS (fun q _ h => AM.up (hS.1) q h) (fun q h => AM.up (hS.1) q h) (fun u t H1 locs ht hvm hp hB hz hk hS => ?_)
                  obtain ⟨hM, -⟩ := hB
                  rw [ht] at hM
                  clear ht hz hk
                  generalize H1 = H at hM hS ⊢
                  subst hp
                  dsimp only at hM
                  refine lv_aload_n hx hb dX2_rule_138 rfl (lv_at hl 1 rfl) ?_
                  refine M_get (v := .ref (ad 27)) hx hb hts hown hG hM 27 (by decide) q1319 rfl rfl dX2_rule_139 ?_
                  refine lv_iload_n hx hb dX2_rule_142 rfl (lv_at hl 2 rfl) ?_
                  refine lv_iload_n hx hb dX2_rule_143 rfl (lv_at hl 0 rfl) ?_
                  refine lv_iconst (v := nI 5) hx hb dX2_rule_144 (by decide) ?_
                  refine kn_cne (tgt := 155) hx hb dX2_rule_145 (by decide) (by omega) (by omega) (fun c_145 => ?_) (fun c_145 => ?_)
                  · refine lv_iconst (v := nI 0) hx hb dX2_rule_155 (by decide) ?_
                    refine M_iastN (v := 0) hx hb hG hS hM 27 rfl (AM.a 27 rfl) rfl rfl (show 100 + (G 25 10) < 110 from by omega) dX2_rule_156 (fun H locs hM hz hS => ?_)
                    refine lv_aload_n hx hb dX2_rule_157 rfl (lv_at hl 1 rfl) ?_
                    refine va_ldcS hx hb hown (show vk_R RX2 243 ";" (K 20) s from hKZ.2.2 20 (by decide)) dX2_rule_158 ?_
                    refine va_calli (va_runV (As := [.ref (K 20)]) (rest := []) ⟨hx, hb, hml, hown, hts⟩ (c_X2_must lh D dA a0 ad (tokN (muN N1 J true) J) (muI N1 I1 true) (up2 (up2 G1 26 (100 + (G 25 10)) k112) 27 (100 + (G 25 10)) 0) J H.size (K 20) (K (100 + 20)) (klen 20) (kch 20) ((PsOk.tok (J := J) (PsOk.mu (J := J) (w := true) i70_1)))) (w_X2_must hts q1573 rfl rfl ⟨Nat.le_of_ble_eq_true rfl, Nat.le_of_ble_eq_true rfl⟩) ⟨PX.blind (Mv.and Mv.heap (Mv.and Mv.heap (Mv.and Mv.gk (Mv.and KC.mv SA.mv)))), M_recv hG hM, PX.pre (Mv.and Mv.heap (Mv.and Mv.heap (Mv.and Mv.gk (Mv.and KC.mv SA.mv)))) ⟨rfl, hM, hG, (KZ.kc hKZ hS), (KZ.str hKZ hS 20 (by decide))⟩⟩ rfl rfl hl.1 rfl (lv_room (Nat.le_of_ble_eq_true rfl)) dX2_rule_160 ⟨Nat.le_of_ble_eq_true rfl, Nat.le_of_ble_eq_true rfl⟩) hS (fun q _ h => AM.up (hS.1) q h) (fun q h => AM.up (hS.1) q h) (fun rr u t H1 locs ht hvm hp hB hz hk hS => ?_)
                    obtain ⟨hM, -⟩ := hB
                    rw [ht] at hM
                    clear ht hz hk
                    generalize H1 = H at hM hS ⊢
                    obtain ⟨hrr, hu⟩ := hp
                    subst hrr hu
                    refine kx_int (y := bI (isQ (tokN (muN N1 J true) J) J 20)) rfl ?_
                    dsimp only at hM
                    refine kb_ne (tgt := 168) hx hb dX2_rule_163 (by decide) (fun c_163 => ?_) (fun c_163 => ?_)
                    · refine lv_aload_n hx hb dX2_rule_168 rfl (lv_at hl 1 rfl) ?_
                      refine M_get (v := .ref (ad 25)) hx hb hts hown hG hM 25 (by decide) q1317 rfl rfl dX2_rule_169 ?_
                      refine lv_bipush (v := nI 10) hx hb dX2_rule_172 (by decide) ?_
                      refine lv_dup2_11 hx hb dX2_rule_174 rfl rfl ?_
                      refine M_iald (v := nI (G1 25 10)) hx hb hG hM 25 rfl rfl (show 10 < 11 from by omega) (rfl) dX2_rule_175 ?_
                      refine lv_iconst (v := nI 1) hx hb dX2_rule_176 (by decide) ?_
                      refine kn_add hx hb dX2_rule_177 ?_
                      refine M_iastN (v := G1 25 10 + 1) hx hb hG hS hM 25 rfl (AM.a 25 rfl) rfl rfl (show 10 < 11 from by omega) dX2_rule_178 (fun H locs hM hz hS => ?_)
                      refine lv_iconst (v := nI 1) hx hb dX2_rule_179 (by decide) ?_
                      subst hQ
                      exact W.zret (v := nI 1) hx hb hrt rfl (fun t ht hW => ⟨⟨_, ((muN (tokN (muN N1 J true) J) J (isQ (tokN (muN N1 J true) J) J 20)), (muI (tokN (muN N1 J true) J) (muI N1 I1 true) (isQ (tokN (muN N1 J true) J) J 20)), (up2 (up2 (up2 G1 26 (100 + (G 25 10)) k112) 27 (100 + (G 25 10)) 0) 25 10 (G1 25 10 + 1)), J), rfl, (by have hR : ruT N I G J = coA (clT J (100 + G 25 10) 4 N I (up2 G 28 (100 + G 25 10) 0)) J (100 + G 25 10) := (if_neg (fun q => absurd (q.1.symm.trans c_13) (by decide))).trans ((if_neg c_36).trans (if_pos c_13)); have hR2 : ruT N I G J = coA (true, N1, I1, G1) J (100 + G 25 10) := (by rw [hR, i70_0, if_neg (by rw [c_72]; decide)]); have hR3 : ruT N I G J = acT (muN N1 J true) (muI N1 I1 true) G1 J (100 + G 25 10) := hR2.trans ((if_neg (fun q => Bool.noConfusion q)).trans (if_neg (fun q => absurd (c_106.symm.trans q) (by decide)))); rw [show acT (muN N1 J true) (muI N1 I1 true) G1 J (100 + G 25 10) = enT (muN N1 J true) (muI N1 I1 true) G1 J (100 + G 25 10) k112 from by unfold acT; rw [ho112]] at hR3; unfold enT at hR3; rw [show mo3 (muN N1 J true) (muI N1 I1 true) J k112 = (0, (tokN (muN N1 J true) J), (muI N1 I1 true)) from if_neg c_145] at hR3; dsimp only at hR3; rw [if_pos c_163, c_163] at hR3; rw [hR3, c_163]; exact ⟨rfl, rfl⟩), by rw [ht]; exact hM, GK.warm hW hG⟩, hS.F ht⟩) hS.2.2 dX2_rule_180
                    · refine lv_iconst (v := nI 0) hx hb dX2_rule_166 (by decide) ?_
                      subst hQ
                      exact W.zret (v := nI 0) hx hb hrt rfl (fun t ht hW => ⟨⟨_, ((muN (tokN (muN N1 J true) J) J (isQ (tokN (muN N1 J true) J) J 20)), (muI (tokN (muN N1 J true) J) (muI N1 I1 true) (isQ (tokN (muN N1 J true) J) J 20)), (up2 (up2 G1 26 (100 + (G 25 10)) k112) 27 (100 + (G 25 10)) 0), J), rfl, (by have hR : ruT N I G J = coA (clT J (100 + G 25 10) 4 N I (up2 G 28 (100 + G 25 10) 0)) J (100 + G 25 10) := (if_neg (fun q => absurd (q.1.symm.trans c_13) (by decide))).trans ((if_neg c_36).trans (if_pos c_13)); have hR2 : ruT N I G J = coA (true, N1, I1, G1) J (100 + G 25 10) := (by rw [hR, i70_0, if_neg (by rw [c_72]; decide)]); have hR3 : ruT N I G J = acT (muN N1 J true) (muI N1 I1 true) G1 J (100 + G 25 10) := hR2.trans ((if_neg (fun q => Bool.noConfusion q)).trans (if_neg (fun q => absurd (c_106.symm.trans q) (by decide)))); rw [show acT (muN N1 J true) (muI N1 I1 true) G1 J (100 + G 25 10) = enT (muN N1 J true) (muI N1 I1 true) G1 J (100 + G 25 10) k112 from by unfold acT; rw [ho112]] at hR3; unfold enT at hR3; rw [show mo3 (muN N1 J true) (muI N1 I1 true) J k112 = (0, (tokN (muN N1 J true) J), (muI N1 I1 true)) from if_neg c_145] at hR3; dsimp only at hR3; rw [if_neg (fun q => absurd (c_163.symm.trans q) (by decide)), c_163] at hR3; rw [hR3, c_163]; exact ⟨rfl, rfl⟩), by rw [ht]; exact hM, GK.warm hW hG⟩, hS.F ht⟩) hS.2.2 dX2_rule_167
                  · refine lv_aload_n hx hb dX2_rule_148 rfl (lv_at hl 1 rfl) ?_
                    refine va_calli (va_runV (As := []) (rest := [.int (nI (100 + (G 25 10))), .ref (ad 27)]) ⟨hx, hb, hml, hown, hts⟩ (c_X2_number lh D dA a0 ad (tokN (muN N1 J true) J) (muI N1 I1 true) (up2 G1 26 (100 + (G 25 10)) k112) J H.size ((PsOk.tok (J := J) (PsOk.mu (J := J) (w := true) i70_1)).1) ((PsOk.tok (J := J) (PsOk.mu (J := J) (w := true) i70_1)).2.2.1) (by have := (PsOk.tok (J := J) (PsOk.mu (J := J) (w := true) i70_1)).2.2.2.1; omega) (by have := (PsOk.tok (J := J) (PsOk.mu (J := J) (w := true) i70_1)).2.2.2.2.1; omega)) (w_X2_number hts q1567 rfl rfl ⟨Nat.le_of_ble_eq_true rfl, Nat.le_of_ble_eq_true rfl⟩) ⟨PmM.blind, M_recv hG hM, PmM.pre hG hM⟩ rfl rfl hl.1 rfl (lv_room (Nat.le_of_ble_eq_true rfl)) dX2_rule_149 ⟨Nat.le_of_ble_eq_true rfl, Nat.le_of_ble_eq_true rfl⟩) hS (fun q _ h => AM.up (hS.1) q h) (fun q h => AM.up (hS.1) q h) (fun rr u t H1 locs ht hvm hp hB hz hk hS => ?_)
                    obtain ⟨hM, -⟩ := hB
                    rw [ht] at hM
                    clear ht hz hk
                    generalize H1 = H at hM hS ⊢
                    obtain ⟨hrr, hu⟩ := hp
                    subst hrr hu
                    dsimp only at hM
                    refine lv_goto (tgt := 156) hx hb dX2_rule_152 (by decide) ?_
                    refine M_iastN (v := nuV (tokN (muN N1 J true) J)) hx hb hG hS hM 27 rfl (AM.a 27 rfl) rfl rfl (show 100 + (G 25 10) < 110 from by omega) dX2_rule_156 (fun H locs hM hz hS => ?_)
                    refine lv_aload_n hx hb dX2_rule_157 rfl (lv_at hl 1 rfl) ?_
                    refine va_ldcS hx hb hown (show vk_R RX2 243 ";" (K 20) s from hKZ.2.2 20 (by decide)) dX2_rule_158 ?_
                    refine va_calli (va_runV (As := [.ref (K 20)]) (rest := []) ⟨hx, hb, hml, hown, hts⟩ (c_X2_must lh D dA a0 ad (nuN (tokN (muN N1 J true) J) J) (nuI (tokN (muN N1 J true) J) (muI N1 I1 true)) (up2 (up2 G1 26 (100 + (G 25 10)) k112) 27 (100 + (G 25 10)) (nuV (tokN (muN N1 J true) J))) J H.size (K 20) (K (100 + 20)) (klen 20) (kch 20) ((PsOk.nu (J := J) (PsOk.tok (J := J) (PsOk.mu (J := J) (w := true) i70_1))))) (w_X2_must hts q1573 rfl rfl ⟨Nat.le_of_ble_eq_true rfl, Nat.le_of_ble_eq_true rfl⟩) ⟨PX.blind (Mv.and Mv.heap (Mv.and Mv.heap (Mv.and Mv.gk (Mv.and KC.mv SA.mv)))), M_recv hG hM, PX.pre (Mv.and Mv.heap (Mv.and Mv.heap (Mv.and Mv.gk (Mv.and KC.mv SA.mv)))) ⟨rfl, hM, hG, (KZ.kc hKZ hS), (KZ.str hKZ hS 20 (by decide))⟩⟩ rfl rfl hl.1 rfl (lv_room (Nat.le_of_ble_eq_true rfl)) dX2_rule_160 ⟨Nat.le_of_ble_eq_true rfl, Nat.le_of_ble_eq_true rfl⟩) hS (fun q _ h => AM.up (hS.1) q h) (fun q h => AM.up (hS.1) q h) (fun rr u t H1 locs ht hvm hp hB hz hk hS => ?_)
                    obtain ⟨hM, -⟩ := hB
                    rw [ht] at hM
                    clear ht hz hk
                    generalize H1 = H at hM hS ⊢
                    obtain ⟨hrr, hu⟩ := hp
                    subst hrr hu
                    refine kx_int (y := bI (isQ (nuN (tokN (muN N1 J true) J) J) J 20)) rfl ?_
                    dsimp only at hM
                    refine kb_ne (tgt := 168) hx hb dX2_rule_163 (by decide) (fun c_163 => ?_) (fun c_163 => ?_)
                    · refine lv_aload_n hx hb dX2_rule_168 rfl (lv_at hl 1 rfl) ?_
                      refine M_get (v := .ref (ad 25)) hx hb hts hown hG hM 25 (by decide) q1317 rfl rfl dX2_rule_169 ?_
                      refine lv_bipush (v := nI 10) hx hb dX2_rule_172 (by decide) ?_
                      refine lv_dup2_11 hx hb dX2_rule_174 rfl rfl ?_
                      refine M_iald (v := nI (G1 25 10)) hx hb hG hM 25 rfl rfl (show 10 < 11 from by omega) (rfl) dX2_rule_175 ?_
                      refine lv_iconst (v := nI 1) hx hb dX2_rule_176 (by decide) ?_
                      refine kn_add hx hb dX2_rule_177 ?_
                      refine M_iastN (v := G1 25 10 + 1) hx hb hG hS hM 25 rfl (AM.a 25 rfl) rfl rfl (show 10 < 11 from by omega) dX2_rule_178 (fun H locs hM hz hS => ?_)
                      refine lv_iconst (v := nI 1) hx hb dX2_rule_179 (by decide) ?_
                      subst hQ
                      exact W.zret (v := nI 1) hx hb hrt rfl (fun t ht hW => ⟨⟨_, ((muN (nuN (tokN (muN N1 J true) J) J) J (isQ (nuN (tokN (muN N1 J true) J) J) J 20)), (muI (nuN (tokN (muN N1 J true) J) J) (nuI (tokN (muN N1 J true) J) (muI N1 I1 true)) (isQ (nuN (tokN (muN N1 J true) J) J) J 20)), (up2 (up2 (up2 G1 26 (100 + (G 25 10)) k112) 27 (100 + (G 25 10)) (nuV (tokN (muN N1 J true) J))) 25 10 (G1 25 10 + 1)), J), rfl, (by have hR : ruT N I G J = coA (clT J (100 + G 25 10) 4 N I (up2 G 28 (100 + G 25 10) 0)) J (100 + G 25 10) := (if_neg (fun q => absurd (q.1.symm.trans c_13) (by decide))).trans ((if_neg c_36).trans (if_pos c_13)); have hR2 : ruT N I G J = coA (true, N1, I1, G1) J (100 + G 25 10) := (by rw [hR, i70_0, if_neg (by rw [c_72]; decide)]); have hR3 : ruT N I G J = acT (muN N1 J true) (muI N1 I1 true) G1 J (100 + G 25 10) := hR2.trans ((if_neg (fun q => Bool.noConfusion q)).trans (if_neg (fun q => absurd (c_106.symm.trans q) (by decide)))); rw [show acT (muN N1 J true) (muI N1 I1 true) G1 J (100 + G 25 10) = enT (muN N1 J true) (muI N1 I1 true) G1 J (100 + G 25 10) k112 from by unfold acT; rw [ho112]] at hR3; unfold enT at hR3; rw [show mo3 (muN N1 J true) (muI N1 I1 true) J k112 = (nuV (tokN (muN N1 J true) J), nuN (tokN (muN N1 J true) J) J, nuI (tokN (muN N1 J true) J) (muI N1 I1 true)) from if_pos c_145] at hR3; dsimp only at hR3; rw [if_pos c_163, c_163] at hR3; rw [hR3, c_163]; exact ⟨rfl, rfl⟩), by rw [ht]; exact hM, GK.warm hW hG⟩, hS.F ht⟩) hS.2.2 dX2_rule_180
                    · refine lv_iconst (v := nI 0) hx hb dX2_rule_166 (by decide) ?_
                      subst hQ
                      exact W.zret (v := nI 0) hx hb hrt rfl (fun t ht hW => ⟨⟨_, ((muN (nuN (tokN (muN N1 J true) J) J) J (isQ (nuN (tokN (muN N1 J true) J) J) J 20)), (muI (nuN (tokN (muN N1 J true) J) J) (nuI (tokN (muN N1 J true) J) (muI N1 I1 true)) (isQ (nuN (tokN (muN N1 J true) J) J) J 20)), (up2 (up2 G1 26 (100 + (G 25 10)) k112) 27 (100 + (G 25 10)) (nuV (tokN (muN N1 J true) J))), J), rfl, (by have hR : ruT N I G J = coA (clT J (100 + G 25 10) 4 N I (up2 G 28 (100 + G 25 10) 0)) J (100 + G 25 10) := (if_neg (fun q => absurd (q.1.symm.trans c_13) (by decide))).trans ((if_neg c_36).trans (if_pos c_13)); have hR2 : ruT N I G J = coA (true, N1, I1, G1) J (100 + G 25 10) := (by rw [hR, i70_0, if_neg (by rw [c_72]; decide)]); have hR3 : ruT N I G J = acT (muN N1 J true) (muI N1 I1 true) G1 J (100 + G 25 10) := hR2.trans ((if_neg (fun q => Bool.noConfusion q)).trans (if_neg (fun q => absurd (c_106.symm.trans q) (by decide)))); rw [show acT (muN N1 J true) (muI N1 I1 true) G1 J (100 + G 25 10) = enT (muN N1 J true) (muI N1 I1 true) G1 J (100 + G 25 10) k112 from by unfold acT; rw [ho112]] at hR3; unfold enT at hR3; rw [show mo3 (muN N1 J true) (muI N1 I1 true) J k112 = (nuV (tokN (muN N1 J true) J), nuN (tokN (muN N1 J true) J) J, nuI (tokN (muN N1 J true) J) (muI N1 I1 true)) from if_pos c_145] at hR3; dsimp only at hR3; rw [if_neg (fun q => absurd (c_163.symm.trans q) (by decide)), c_163] at hR3; rw [hR3, c_163]; exact ⟨rfl, rfl⟩), by rw [ht]; exact hM, GK.warm hW hG⟩, hS.F ht⟩) hS.2.2 dX2_rule_167
              · refine lv_iconst (v := nI 0) hx hb dX2_rule_109 (by decide) ?_
                subst hQ
                exact W.zret (v := nI 0) hx hb hrt rfl (fun t ht hW => ⟨⟨_, ((muN N1 J (isQ N1 J 19)), (muI N1 I1 (isQ N1 J 19)), G1, J), rfl, (by have hR : ruT N I G J = coA (clT J (100 + G 25 10) 4 N I (up2 G 28 (100 + G 25 10) 0)) J (100 + G 25 10) := (if_neg (fun q => absurd (q.1.symm.trans c_13) (by decide))).trans ((if_neg c_36).trans (if_pos c_13)); have hR2 : ruT N I G J = coA (true, N1, I1, G1) J (100 + G 25 10) := (by rw [hR, i70_0, if_neg (by rw [c_72]; decide)]); have hR3 : ruT N I G J = (false, muN N1 J false, muI N1 I1 false, G1) := hR2.trans ((if_neg (fun q => Bool.noConfusion q)).trans (if_pos c_106)); rw [hR3, c_106]; exact ⟨rfl, rfl⟩), by rw [ht]; exact hM, GK.warm hW hG⟩, hS.F ht⟩) hS.2.2 dX2_rule_110
            · refine lv_aload_n hx hb dX2_rule_75 rfl (lv_at hl 0 rfl) ?_
              refine va_callv (va_runV (As := []) (rest := []) ⟨hx, hb, hml, hown, hts⟩ (c_X2_token lh D dA a0 ad N1 I1 G1 J H.size (i70_1.1) (i70_1.2.2.1)) (w_X2_token hts q1527 rfl rfl ⟨Nat.le_of_ble_eq_true rfl, Nat.le_of_ble_eq_true rfl⟩) ⟨PmM.blind, M_recv hG hM, PmM.pre hG hM⟩ rfl rfl hl.1 rfl (lv_room (Nat.le_of_ble_eq_true rfl)) dX2_rule_76 ⟨Nat.le_of_ble_eq_true rfl, Nat.le_of_ble_eq_true rfl⟩) hS (fun q _ h => AM.up (hS.1) q h) (fun q h => AM.up (hS.1) q h) (fun u t H1 locs ht hvm hp hB hz hk hS => ?_)
              obtain ⟨hM, -⟩ := hB
              rw [ht] at hM
              clear ht hz hk
              generalize H1 = H at hM hS ⊢
              subst hp
              dsimp only at hM
              refine lv_aload_n hx hb dX2_rule_79 rfl (lv_at hl 0 rfl) ?_
              refine lv_iload_n hx hb dX2_rule_80 rfl (lv_at hl 1 rfl) ?_
              refine va_calli (va_runV (As := [.int (nI (100 + (G 25 10)))]) (rest := []) ⟨hx, hb, hml, hown, hts⟩ (c_X2_condition lh D dA a0 ad (tokN N1 J) I1 G1 J H.size K (100 + (G 25 10)) ((PsOk.tok (J := J) i70_1)) (i70_2) (by omega) (i70_3)) (w_X2_condition hts q1559 rfl rfl ⟨Nat.le_of_ble_eq_true rfl, Nat.le_of_ble_eq_true rfl⟩) ⟨PX.blind (Mv.and Mv.heap (Mv.and Mv.heap (Mv.and Mv.gk KZ.mv))), M_recv hG hM, PX.pre (Mv.and Mv.heap (Mv.and Mv.heap (Mv.and Mv.gk KZ.mv))) ⟨rfl, hM, hG, (KZ.at hKZ hS (AM.up hS.1))⟩⟩ rfl rfl hl.1 rfl (lv_room (Nat.le_of_ble_eq_true rfl)) dX2_rule_81 ⟨Nat.le_of_ble_eq_true rfl, Nat.le_of_ble_eq_true rfl⟩) hS (fun q _ h => AM.up (hS.1) q h) (fun q h => AM.up (hS.1) q h) (fun rr u t H1 locs ht hvm hp hB hz hk hS => ?_)
              obtain ⟨hM, -⟩ := hB
              rw [ht] at hM
              clear ht hz hk
              generalize H1 = H at hM hS ⊢
              obtain ⟨hrr, hu⟩ := hp
              subst hrr hu
              dsimp only at hM
              have hco := coT_ok (I := I1) (J := J) (r := (100 + G 25 10)) (PsOk.tok (J := J) i70_1) i70_2 i70_3
              refine kb_ne (tgt := 89) hx hb dX2_rule_84 (by decide) (fun c_84 => ?_) (fun c_84 => ?_)
              · refine lv_aload_n hx hb dX2_rule_89 rfl (lv_at hl 0 rfl) ?_
                refine va_ldcS hx hb hown (show vk_R RX2 236 "and" (K 18) s from hKZ.2.2 18 (by decide)) dX2_rule_90 ?_
                refine vp_callSi (W.runV (As := [.ref (K 18)]) (rest := []) ⟨hx, hb, hml, hown, hts⟩ (c_X2_is lh D dA a0 ad ((coT (tokN N1 J) I1 G1 J (100 + (G 25 10))).2.1) ((coT (tokN N1 J) I1 G1 J (100 + (G 25 10))).2.2.1) ((coT (tokN N1 J) I1 G1 J (100 + (G 25 10))).2.2.2) J (K 18) (K (100 + 18)) (klen 18) (kch 18) (hco.1)) (w_X2_is hts q1540 rfl rfl ⟨Nat.le_of_ble_eq_true rfl, Nat.le_of_ble_eq_true rfl⟩) ⟨PX.blind (Mv.and Mv.heap (Mv.and Mv.gk (Mv.and KC.mv SA.mv))), M_recv hG hM, PX.pre (Mv.and Mv.heap (Mv.and Mv.gk (Mv.and KC.mv SA.mv))) ⟨hM, hG, (KZ.kc hKZ hS), (KZ.str hKZ hS 18 (by decide))⟩⟩ rfl rfl hl.1 rfl (lv_room (Nat.le_of_ble_eq_true rfl)) dX2_rule_92 ⟨Nat.le_of_ble_eq_true rfl, Nat.le_of_ble_eq_true rfl⟩) (fun rr hrr => ?_)
                subst hrr
                refine kx_int (y := bI (isQ ((coT (tokN N1 J) I1 G1 J (100 + (G 25 10))).2.1) J 18)) rfl ?_
                refine lv_istore (lv' := [(4, .int (bI (isQ ((coT (tokN N1 J) I1 G1 J (100 + (G 25 10))).2.1) J 18))), (0, .ref a0), (3, .int (nI (100 + (G 25 10))))]) hx hb dX2_rule_95 hl (by decide) rfl (fun ls hl => ?_)
                refine lv_goto (tgt := 70) hx hb dX2_rule_97 (by decide) ?_
                exact ih70 (n - 1) (isQ ((coT (tokN N1 J) I1 G1 J (100 + (G 25 10))).2.1) J 18) ((coT (tokN N1 J) I1 G1 J (100 + (G 25 10))).2.1) ((coT (tokN N1 J) I1 G1 J (100 + (G 25 10))).2.2.1) ((coT (tokN N1 J) I1 G1 J (100 + (G 25 10))).2.2.2) (by obtain ⟨m, rfl⟩ : ∃ m, n = m + 1 := ⟨n - 1, by omega⟩; exact (i70_0.trans (if_pos c_72)).trans (clT_s c_84)) (hco.1) (hco.2.1) (hco.2.2.1) (by have := hco.2.2.2.2 c_84; omega) (by rw [hco.2.2.2.1]; exact i70_5) (by omega) _ _ hM hS _ (lv_sub hl [1, 2, 0] rfl)
              · refine lv_iconst (v := nI 0) hx hb dX2_rule_87 (by decide) ?_
                subst hQ
                exact W.zret (v := nI 0) hx hb hrt rfl (fun t ht hW => ⟨⟨_, (((coT (tokN N1 J) I1 G1 J (100 + (G 25 10))).2.1), ((coT (tokN N1 J) I1 G1 J (100 + (G 25 10))).2.2.1), ((coT (tokN N1 J) I1 G1 J (100 + (G 25 10))).2.2.2), J), rfl, (by have hR : ruT N I G J = coA (clT J (100 + G 25 10) 4 N I (up2 G 28 (100 + G 25 10) 0)) J (100 + G 25 10) := (if_neg (fun q => absurd (q.1.symm.trans c_13) (by decide))).trans ((if_neg c_36).trans (if_pos c_13)); rw [hR, i70_0, if_pos c_72, show n = (n - 1) + 1 by omega, clT, if_pos c_84]; rw [show coA (coT (tokN N1 J) I1 G1 J (100 + G 25 10)) J (100 + G 25 10) = (coT (tokN N1 J) I1 G1 J (100 + G 25 10)) from if_pos c_84, c_84]; exact ⟨rfl, rfl⟩), by rw [ht]; exact hM, GK.warm hW hG⟩, hS.F ht⟩) hS.2.2 dX2_rule_88
        exact L70 _ 4 true N I (up2 G 28 (100 + (G 25 10)) 0) (rfl) (h1) (hB_up h2.1 (by decide)) (by rw [up2_s]; decide) (by rw [up2_s]) (up2_o (by decide)) (Nat.lt_succ_self _) _ _ hM hS _ (lv_conv (show lv_has ls 5 [(0, .ref a0), (3, .int (nI (100 + (G 25 10)))), (4, .int (nI 1))] from (lv_sub hl [4, 1, 0] rfl)) (rfl))
      · refine lv_aload_n hx hb dX2_rule_39 rfl (lv_at hl 2 rfl) ?_
        refine lv_iconst (v := nI 2) hx hb dX2_rule_40 (by decide) ?_
        refine va_calli (va_runV (As := [.int (nI 2)]) (rest := []) ⟨hx, hb, hml, hown, hts⟩ (c_X2_wrong lh D dA a0 ad N I G J s.heap.size 2 (by have := h1.2.2.2.1; omega)) (w_X2_wrong hts q1555 rfl rfl ⟨Nat.le_of_ble_eq_true rfl, Nat.le_of_ble_eq_true rfl⟩) ⟨PmM.blind, M_recv hG hM, PmM.pre hG hM⟩ rfl rfl hl.1 rfl (lv_room (Nat.le_of_ble_eq_true rfl)) dX2_rule_41 ⟨Nat.le_of_ble_eq_true rfl, Nat.le_of_ble_eq_true rfl⟩) hS (fun q _ h => AM.up (hS.1) q h) (fun q h => AM.up (hS.1) q h) (fun rr u t H1 locs ht hvm hp hB hz hk hS => ?_)
        obtain ⟨hM, -⟩ := hB
        rw [ht] at hM
        clear ht hz hk
        generalize H1 = H at hM hS ⊢
        obtain ⟨hrr, hu⟩ := hp
        subst hrr hu
        dsimp only at hM
        subst hQ
        exact W.zret (v := nI 0) hx hb hrt rfl (fun t ht hW => ⟨⟨_, ((wrN N 2), (wrI N I), G, J), rfl, (by rw [show ruT N I G J = (false, wrN N 2, wrI N I, G) from (if_neg (fun q => absurd (q.1.symm.trans c_13) (by decide))).trans (if_pos c_36)]; exact ⟨rfl, rfl⟩), by rw [ht]; exact hM, GK.warm hW hG⟩, hS.F ht⟩) hS.2.2 dX2_rule_44
    · refine lv_iload_n hx hb dX2_rule_16 rfl (lv_at hl 0 rfl) ?_
      refine lv_iconst (v := -1) hx hb dX2_rule_17 (by decide) ?_
      refine lv_icmp_ne (tgt := 27) hx hb dX2_rule_18 (by decide) (fun c => absurd rfl c) (fun _ => ?_)
      refine lv_aload_n hx hb dX2_rule_21 rfl (lv_at hl 2 rfl) ?_
      refine lv_iconst (v := nI 1) hx hb dX2_rule_22 (by decide) ?_
      refine va_calli (va_runV (As := [.int (nI 1)]) (rest := []) ⟨hx, hb, hml, hown, hts⟩ (c_X2_wrong lh D dA a0 ad N I G J s.heap.size 1 (by have := h1.2.2.2.1; omega)) (w_X2_wrong hts q1555 rfl rfl ⟨Nat.le_of_ble_eq_true rfl, Nat.le_of_ble_eq_true rfl⟩) ⟨PmM.blind, M_recv hG hM, PmM.pre hG hM⟩ rfl rfl hl.1 rfl (lv_room (Nat.le_of_ble_eq_true rfl)) dX2_rule_23 ⟨Nat.le_of_ble_eq_true rfl, Nat.le_of_ble_eq_true rfl⟩) hS (fun q _ h => AM.up (hS.1) q h) (fun q h => AM.up (hS.1) q h) (fun rr u t H1 locs ht hvm hp hB hz hk hS => ?_)
      obtain ⟨hM, -⟩ := hB
      rw [ht] at hM
      clear ht hz hk
      generalize H1 = H at hM hS ⊢
      obtain ⟨hrr, hu⟩ := hp
      subst hrr hu
      dsimp only at hM
      subst hQ
      exact W.zret (v := nI 0) hx hb hrt rfl (fun t ht hW => ⟨⟨_, ((wrN N 1), (wrI N I), G, J), rfl, (by rw [show ruT N I G J = (false, wrN N 1, wrI N I, G) from if_pos ⟨c_13, ho8⟩]; exact ⟨rfl, rfl⟩), by rw [ht]; exact hM, GK.warm hW hG⟩, hS.F ht⟩) hS.2.2 dX2_rule_26
  · show W p lh e r_X2_rule s m args below meth cd _ _ _ _ Q (F0 m _ ls (.int (nI k8) :: _))
    have hk8 := whQ13 ho8
    refine lv_istore_n (lv' := [(2, .int (nI k8)), (1, .int (bI (isQ N J 12))), (0, .ref a0)]) hx hb dX2_rule_11 rfl hl (by decide) rfl (fun ls hl => ?_)
    refine lv_iload_n hx hb dX2_rule_12 rfl (lv_at hl 1 rfl) ?_
    refine kb_ne (tgt := 27) hx hb dX2_rule_13 (by decide) (fun c_13 => ?_) (fun c_13 => ?_)
    · refine lv_aload_n hx hb dX2_rule_27 rfl (lv_at hl 2 rfl) ?_
      refine M_get (v := .ref (ad 25)) hx hb hts hown hG hM 25 (by decide) q1317 rfl rfl dX2_rule_28 ?_
      refine lv_bipush (v := nI 10) hx hb dX2_rule_31 (by decide) ?_
      refine M_iald (v := nI (G 25 10)) hx hb hG hM 25 rfl rfl (show 10 < 11 from by omega) (rfl) dX2_rule_33 ?_
      refine lv_bipush (v := nI 10) hx hb dX2_rule_34 (by decide) ?_
      refine kn_cne (tgt := 45) hx hb dX2_rule_36 (by decide) (by omega) (by omega) (fun c_36 => ?_) (fun c_36 => ?_)
      · have hr10 : G 25 10 < 10 := (by omega)
        refine lv_bipush (v := nI 100) hx hb dX2_rule_45 (by decide) ?_
        refine lv_aload_n hx hb dX2_rule_47 rfl (lv_at hl 2 rfl) ?_
        refine M_get (v := .ref (ad 25)) hx hb hts hown hG hM 25 (by decide) q1317 rfl rfl dX2_rule_48 ?_
        refine lv_bipush (v := nI 10) hx hb dX2_rule_51 (by decide) ?_
        refine M_iald (v := nI (G 25 10)) hx hb hG hM 25 rfl rfl (show 10 < 11 from by omega) (rfl) dX2_rule_53 ?_
        refine kn_add hx hb dX2_rule_54 ?_
        refine lv_istore_n (lv' := [(3, .int (nI (100 + (G 25 10)))), (2, .int (nI k8)), (1, .int (bI (isQ N J 12))), (0, .ref a0)]) hx hb dX2_rule_55 rfl hl (by decide) rfl (fun ls hl => ?_)
        refine lv_aload_n hx hb dX2_rule_56 rfl (lv_at hl 3 rfl) ?_
        refine M_get (v := .ref (ad 28)) hx hb hts hown hG hM 28 (by decide) q1320 rfl rfl dX2_rule_57 ?_
        refine lv_iload_n hx hb dX2_rule_60 rfl (lv_at hl 0 rfl) ?_
        refine lv_iconst (v := nI 0) hx hb dX2_rule_61 (by decide) ?_
        refine M_iastN (v := 0) hx hb hG hS hM 28 rfl (AM.a 28 rfl) rfl rfl (show 100 + (G 25 10) < 110 from by omega) dX2_rule_62 (fun H locs hM hz hS => ?_)
        refine lv_iload_n hx hb dX2_rule_63 rfl (lv_at hl 2 rfl) ?_
        refine kb_eq (tgt := 127) hx hb dX2_rule_64 (by decide) (fun c => absurd (c.symm.trans c_13) (by decide)) (fun _ => ?_)
        refine lv_iconst (v := nI 1) hx hb dX2_rule_67 (by decide) ?_
        refine lv_istore (lv' := [(4, .int (nI 1)), (3, .int (nI (100 + (G 25 10)))), (2, .int (nI k8)), (1, .int (bI (isQ N J 12))), (0, .ref a0)]) hx hb dX2_rule_68 hl (by decide) rfl (fun ls hl => ?_)
        have L70 : ∀ (nn70 : Nat) (n : Nat) (g : Bool) (N1 : Nat → Nat) (I1 : Nat → Int32) (G1 : Nat → Nat → Nat), (clT J (100 + G 25 10) 4 N I (up2 G 28 (100 + G 25 10) 0) = if g = true then clT J (100 + G 25 10) n N1 I1 G1 else (true, N1, I1, G1)) → (PsOk N1) → (∀ a b, G1 a b < 2 ^ 31) → (G1 28 (100 + G 25 10) ≤ 3) → (G1 28 (100 + G 25 10) + n = 4) → (G1 25 = G 25) → n < nn70 → ∀ (H : Heap) (locs : List Loc), RM D dA a0 ad N1 I1 G1 J H → va_S (AM a0 ad s.heap.size) s.heap H locs → ∀ (ls : Array Slot), lv_has ls 5 [(0, .ref a0), (3, .int (nI (100 + (G 25 10)))), (4, .int (bI g))] → W p lh e r_X2_rule s m args below meth cd H locs 0 0 Q (F0 m 70 ls []) := by
          intro nn70
          induction nn70 with
          | zero => intro n g N1 I1 G1 i70_0 i70_1 i70_2 i70_3 i70_4 i70_5 hm70; exact absurd hm70 (Nat.not_lt_zero _)
          | succ nn70 ih70 =>
            intro n g N1 I1 G1 i70_0 i70_1 i70_2 i70_3 i70_4 i70_5 hm70 H locs hM hS ls hl
            refine lv_iload hx hb dX2_rule_70 (lv_at hl 2 rfl) ?_
            refine kb_eq (tgt := 100) hx hb dX2_rule_72 (by decide) (fun c_72 => ?_) (fun c_72 => ?_)
            · have hg25 : G1 25 10 = G 25 10 := by rw [i70_5]
              refine lv_aload_n hx hb dX2_rule_100 rfl (lv_at hl 0 rfl) ?_
              refine va_ldcS hx hb hown (show vk_R RX2 238 ":" (K 19) s from hKZ.2.2 19 (by decide)) dX2_rule_101 ?_
              refine va_calli (va_runV (As := [.ref (K 19)]) (rest := []) ⟨hx, hb, hml, hown, hts⟩ (c_X2_must lh D dA a0 ad N1 I1 G1 J H.size (K 19) (K (100 + 19)) (klen 19) (kch 19) (i70_1)) (w_X2_must hts q1573 rfl rfl ⟨Nat.le_of_ble_eq_true rfl, Nat.le_of_ble_eq_true rfl⟩) ⟨PX.blind (Mv.and Mv.heap (Mv.and Mv.heap (Mv.and Mv.gk (Mv.and KC.mv SA.mv)))), M_recv hG hM, PX.pre (Mv.and Mv.heap (Mv.and Mv.heap (Mv.and Mv.gk (Mv.and KC.mv SA.mv)))) ⟨rfl, hM, hG, (KZ.kc hKZ hS), (KZ.str hKZ hS 19 (by decide))⟩⟩ rfl rfl hl.1 rfl (lv_room (Nat.le_of_ble_eq_true rfl)) dX2_rule_103 ⟨Nat.le_of_ble_eq_true rfl, Nat.le_of_ble_eq_true rfl⟩) hS (fun q _ h => AM.up (hS.1) q h) (fun q h => AM.up (hS.1) q h) (fun rr u t H1 locs ht hvm hp hB hz hk hS => ?_)
              obtain ⟨hM, -⟩ := hB
              rw [ht] at hM
              clear ht hz hk
              generalize H1 = H at hM hS ⊢
              obtain ⟨hrr, hu⟩ := hp
              subst hrr hu
              refine kx_int (y := bI (isQ N1 J 19)) rfl ?_
              dsimp only at hM
              refine kb_ne (tgt := 111) hx hb dX2_rule_106 (by decide) (fun c_106 => ?_) (fun c_106 => ?_)
              · have hM : RM D dA a0 ad (muN N1 J true) (muI N1 I1 true) G1 J H := by rw [← c_106]; exact hM
                refine lv_aload_n hx hb dX2_rule_111 rfl (lv_at hl 0 rfl) ?_
                refine vp_callSi (W.runV (As := []) (rest := []) ⟨hx, hb, hml, hown, hts⟩ (c_X2_actAtHand lh D dA a0 ad (muN N1 J true) (muI N1 I1 true) G1 J K ((PsOk.mu (J := J) (w := true) i70_1))) (w_X2_actAtHand hts q1546 rfl rfl ⟨Nat.le_of_ble_eq_true rfl, Nat.le_of_ble_eq_true rfl⟩) ⟨PX.blind (Mv.and Mv.heap (Mv.and Mv.gk KZ.mv)), M_recv hG hM, PX.pre (Mv.and Mv.heap (Mv.and Mv.gk KZ.mv)) ⟨hM, hG, (KZ.at hKZ hS (fun _ h => h.elim))⟩⟩ rfl rfl hl.1 rfl (lv_room (Nat.le_of_ble_eq_true rfl)) dX2_rule_112 ⟨Nat.le_of_ble_eq_true rfl, Nat.le_of_ble_eq_true rfl⟩) (fun rr hrr => ?_)
                subst hrr
                rcases ho112 : whQ (muN N1 J true) J 13 with _ | k112
                · show W p lh e r_X2_rule s m args below meth cd _ _ _ _ Q (F0 m _ ls (.int (-1) :: _))
                  refine lv_istore_n (lv' := [(2, .int (-1)), (0, .ref a0), (3, .int (nI (100 + (G 25 10)))), (4, .int (bI g))]) hx hb dX2_rule_115 rfl hl (by decide) rfl (fun ls hl => ?_)
                  refine lv_iload_n hx hb dX2_rule_116 rfl (lv_at hl 0 rfl) ?_
                  refine lv_iconst (v := -1) hx hb dX2_rule_117 (by decide) ?_
                  refine lv_icmp_ne (tgt := 127) hx hb dX2_rule_118 (by decide) (fun c => absurd rfl c) (fun _ => ?_)
                  refine lv_aload_n hx hb dX2_rule_121 rfl (lv_at hl 1 rfl) ?_
                  refine lv_iconst (v := nI 1) hx hb dX2_rule_122 (by decide) ?_
                  refine va_calli (va_runV (As := [.int (nI 1)]) (rest := []) ⟨hx, hb, hml, hown, hts⟩ (c_X2_wrong lh D dA a0 ad (muN N1 J true) (muI N1 I1 true) G1 J H.size 1 (by have := (PsOk.mu (J := J) (w := true) i70_1).2.2.2.1; omega)) (w_X2_wrong hts q1555 rfl rfl ⟨Nat.le_of_ble_eq_true rfl, Nat.le_of_ble_eq_true rfl⟩) ⟨PmM.blind, M_recv hG hM, PmM.pre hG hM⟩ rfl rfl hl.1 rfl (lv_room (Nat.le_of_ble_eq_true rfl)) dX2_rule_123 ⟨Nat.le_of_ble_eq_true rfl, Nat.le_of_ble_eq_true rfl⟩) hS (fun q _ h => AM.up (hS.1) q h) (fun q h => AM.up (hS.1) q h) (fun rr u t H1 locs ht hvm hp hB hz hk hS => ?_)
                  obtain ⟨hM, -⟩ := hB
                  rw [ht] at hM
                  clear ht hz hk
                  generalize H1 = H at hM hS ⊢
                  obtain ⟨hrr, hu⟩ := hp
                  subst hrr hu
                  dsimp only at hM
                  subst hQ
                  exact W.zret (v := nI 0) hx hb hrt rfl (fun t ht hW => ⟨⟨_, ((wrN (muN N1 J true) 1), (wrI (muN N1 J true) (muI N1 I1 true)), G1, J), rfl, (by have hR : ruT N I G J = coA (clT J (100 + G 25 10) 4 N I (up2 G 28 (100 + G 25 10) 0)) J (100 + G 25 10) := (if_neg (fun q => absurd (q.1.symm.trans c_13) (by decide))).trans ((if_neg c_36).trans (if_pos c_13)); have hR2 : ruT N I G J = coA (true, N1, I1, G1) J (100 + G 25 10) := (by rw [hR, i70_0, if_neg (by rw [c_72]; decide)]); have hR3 : ruT N I G J = acT (muN N1 J true) (muI N1 I1 true) G1 J (100 + G 25 10) := hR2.trans ((if_neg (fun q => Bool.noConfusion q)).trans (if_neg (fun q => absurd (c_106.symm.trans q) (by decide)))); rw [show acT (muN N1 J true) (muI N1 I1 true) G1 J (100 + G 25 10) = (false, wrN (muN N1 J true) 1, wrI (muN N1 J true) (muI N1 I1 true), G1) from by unfold acT; rw [ho112]] at hR3; rw [hR3]; exact ⟨rfl, rfl⟩), by rw [ht]; exact hM, GK.warm hW hG⟩, hS.F ht⟩) hS.2.2 dX2_rule_126
                · show W p lh e r_X2_rule s m args below meth cd _ _ _ _ Q (F0 m _ ls (.int (nI k112) :: _))
                  have hk112 := whQ13 ho112
                  refine lv_istore_n (lv' := [(2, .int (nI k112)), (0, .ref a0), (3, .int (nI (100 + (G 25 10)))), (4, .int (bI g))]) hx hb dX2_rule_115 rfl hl (by decide) rfl (fun ls hl => ?_)
                  refine lv_iload_n hx hb dX2_rule_116 rfl (lv_at hl 0 rfl) ?_
                  refine lv_iconst (v := -1) hx hb dX2_rule_117 (by decide) ?_
                  refine lv_icmp_ne (tgt := 127) hx hb dX2_rule_118 (by decide) (fun _ => ?_) (fun c => absurd c (nI_nm1 (by omega)))
                  refine lv_aload_n hx hb dX2_rule_127 rfl (lv_at hl 1 rfl) ?_
                  refine M_get (v := .ref (ad 26)) hx hb hts hown hG hM 26 (by decide) q1318 rfl rfl dX2_rule_128 ?_
                  refine lv_iload_n hx hb dX2_rule_131 rfl (lv_at hl 2 rfl) ?_
                  refine lv_iload_n hx hb dX2_rule_132 rfl (lv_at hl 0 rfl) ?_
                  refine M_iastN (v := k112) hx hb hG hS hM 26 rfl (AM.a 26 rfl) rfl rfl (show 100 + (G 25 10) < 110 from by omega) dX2_rule_133 (fun H locs hM hz hS => ?_)
                  refine lv_aload_n hx hb dX2_rule_134 rfl (lv_at hl 1 rfl) ?_
                  refine va_callv (va_runV (As := []) (rest := []) ⟨hx, hb, hml, hown, hts⟩ (c_X2_token lh D dA a0 ad (muN N1 J true) (muI N1 I1 true) (up2 G1 26 (100 + (G 25 10)) k112) J H.size ((PsOk.mu (J := J) (w := true) i70_1).1) ((PsOk.mu (J := J) (w := true) i70_1).2.2.1)) (w_X2_token hts q1527 rfl rfl ⟨Nat.le_of_ble_eq_true rfl, Nat.le_of_ble_eq_true rfl⟩) ⟨PmM.blind, M_recv hG hM, PmM.pre hG hM⟩ rfl rfl hl.1 rfl (lv_room (Nat.le_of_ble_eq_true rfl)) dX2_rule_135 ⟨Nat.le_of_ble_eq_true rfl, Nat.le_of_ble_eq_true rfl⟩) hS (fun q _ h => AM.up (hS.1) q h) (fun q h => AM.up (hS.1) q h) (fun u t H1 locs ht hvm hp hB hz hk hS => ?_)
                  obtain ⟨hM, -⟩ := hB
                  rw [ht] at hM
                  clear ht hz hk
                  generalize H1 = H at hM hS ⊢
                  subst hp
                  dsimp only at hM
                  refine lv_aload_n hx hb dX2_rule_138 rfl (lv_at hl 1 rfl) ?_
                  refine M_get (v := .ref (ad 27)) hx hb hts hown hG hM 27 (by decide) q1319 rfl rfl dX2_rule_139 ?_
                  refine lv_iload_n hx hb dX2_rule_142 rfl (lv_at hl 2 rfl) ?_
                  refine lv_iload_n hx hb dX2_rule_143 rfl (lv_at hl 0 rfl) ?_
                  refine lv_iconst (v := nI 5) hx hb dX2_rule_144 (by decide) ?_
                  refine kn_cne (tgt := 155) hx hb dX2_rule_145 (by decide) (by omega) (by omega) (fun c_145 => ?_) (fun c_145 => ?_)
                  · refine lv_iconst (v := nI 0) hx hb dX2_rule_155 (by decide) ?_
                    refine M_iastN (v := 0) hx hb hG hS hM 27 rfl (AM.a 27 rfl) rfl rfl (show 100 + (G 25 10) < 110 from by omega) dX2_rule_156 (fun H locs hM hz hS => ?_)
                    refine lv_aload_n hx hb dX2_rule_157 rfl (lv_at hl 1 rfl) ?_
                    refine va_ldcS hx hb hown (show vk_R RX2 243 ";" (K 20) s from hKZ.2.2 20 (by decide)) dX2_rule_158 ?_
                    refine va_calli (va_runV (As := [.ref (K 20)]) (rest := []) ⟨hx, hb, hml, hown, hts⟩ (c_X2_must lh D dA a0 ad (tokN (muN N1 J true) J) (muI N1 I1 true) (up2 (up2 G1 26 (100 + (G 25 10)) k112) 27 (100 + (G 25 10)) 0) J H.size (K 20) (K (100 + 20)) (klen 20) (kch 20) ((PsOk.tok (J := J) (PsOk.mu (J := J) (w := true) i70_1)))) (w_X2_must hts q1573 rfl rfl ⟨Nat.le_of_ble_eq_true rfl, Nat.le_of_ble_eq_true rfl⟩) ⟨PX.blind (Mv.and Mv.heap (Mv.and Mv.heap (Mv.and Mv.gk (Mv.and KC.mv SA.mv)))), M_recv hG hM, PX.pre (Mv.and Mv.heap (Mv.and Mv.heap (Mv.and Mv.gk (Mv.and KC.mv SA.mv)))) ⟨rfl, hM, hG, (KZ.kc hKZ hS), (KZ.str hKZ hS 20 (by decide))⟩⟩ rfl rfl hl.1 rfl (lv_room (Nat.le_of_ble_eq_true rfl)) dX2_rule_160 ⟨Nat.le_of_ble_eq_true rfl, Nat.le_of_ble_eq_true rfl⟩) hS (fun q _ h => AM.up (hS.1) q h) (fun q h => AM.up (hS.1) q h) (fun rr u t H1 locs ht hvm hp hB hz hk hS => ?_)
                    obtain ⟨hM, -⟩ := hB
                    rw [ht] at hM
                    clear ht hz hk
                    generalize H1 = H at hM hS ⊢
                    obtain ⟨hrr, hu⟩ := hp
                    subst hrr hu
                    refine kx_int (y := bI (isQ (tokN (muN N1 J true) J) J 20)) rfl ?_
                    dsimp only at hM
                    refine kb_ne (tgt := 168) hx hb dX2_rule_163 (by decide) (fun c_163 => ?_) (fun c_163 => ?_)
                    · refine lv_aload_n hx hb dX2_rule_168 rfl (lv_at hl 1 rfl) ?_
                      refine M_get (v := .ref (ad 25)) hx hb hts hown hG hM 25 (by decide) q1317 rfl rfl dX2_rule_169 ?_
                      refine lv_bipush (v := nI 10) hx hb dX2_rule_172 (by decide) ?_
                      refine lv_dup2_11 hx hb dX2_rule_174 rfl rfl ?_
                      refine M_iald (v := nI (G1 25 10)) hx hb hG hM 25 rfl rfl (show 10 < 11 from by omega) (rfl) dX2_rule_175 ?_
                      refine lv_iconst (v := nI 1) hx hb dX2_rule_176 (by decide) ?_
                      refine kn_add hx hb dX2_rule_177 ?_
                      refine M_iastN (v := G1 25 10 + 1) hx hb hG hS hM 25 rfl (AM.a 25 rfl) rfl rfl (show 10 < 11 from by omega) dX2_rule_178 (fun H locs hM hz hS => ?_)
                      refine lv_iconst (v := nI 1) hx hb dX2_rule_179 (by decide) ?_
                      subst hQ
                      exact W.zret (v := nI 1) hx hb hrt rfl (fun t ht hW => ⟨⟨_, ((muN (tokN (muN N1 J true) J) J (isQ (tokN (muN N1 J true) J) J 20)), (muI (tokN (muN N1 J true) J) (muI N1 I1 true) (isQ (tokN (muN N1 J true) J) J 20)), (up2 (up2 (up2 G1 26 (100 + (G 25 10)) k112) 27 (100 + (G 25 10)) 0) 25 10 (G1 25 10 + 1)), J), rfl, (by have hR : ruT N I G J = coA (clT J (100 + G 25 10) 4 N I (up2 G 28 (100 + G 25 10) 0)) J (100 + G 25 10) := (if_neg (fun q => absurd (q.1.symm.trans c_13) (by decide))).trans ((if_neg c_36).trans (if_pos c_13)); have hR2 : ruT N I G J = coA (true, N1, I1, G1) J (100 + G 25 10) := (by rw [hR, i70_0, if_neg (by rw [c_72]; decide)]); have hR3 : ruT N I G J = acT (muN N1 J true) (muI N1 I1 true) G1 J (100 + G 25 10) := hR2.trans ((if_neg (fun q => Bool.noConfusion q)).trans (if_neg (fun q => absurd (c_106.symm.trans q) (by decide)))); rw [show acT (muN N1 J true) (muI N1 I1 true) G1 J (100 + G 25 10) = enT (muN N1 J true) (muI N1 I1 true) G1 J (100 + G 25 10) k112 from by unfold acT; rw [ho112]] at hR3; unfold enT at hR3; rw [show mo3 (muN N1 J true) (muI N1 I1 true) J k112 = (0, (tokN (muN N1 J true) J), (muI N1 I1 true)) from if_neg c_145] at hR3; dsimp only at hR3; rw [if_pos c_163, c_163] at hR3; rw [hR3, c_163]; exact ⟨rfl, rfl⟩), by rw [ht]; exact hM, GK.warm hW hG⟩, hS.F ht⟩) hS.2.2 dX2_rule_180
                    · refine lv_iconst (v := nI 0) hx hb dX2_rule_166 (by decide) ?_
                      subst hQ
                      exact W.zret (v := nI 0) hx hb hrt rfl (fun t ht hW => ⟨⟨_, ((muN (tokN (muN N1 J true) J) J (isQ (tokN (muN N1 J true) J) J 20)), (muI (tokN (muN N1 J true) J) (muI N1 I1 true) (isQ (tokN (muN N1 J true) J) J 20)), (up2 (up2 G1 26 (100 + (G 25 10)) k112) 27 (100 + (G 25 10)) 0), J), rfl, (by have hR : ruT N I G J = coA (clT J (100 + G 25 10) 4 N I (up2 G 28 (100 + G 25 10) 0)) J (100 + G 25 10) := (if_neg (fun q => absurd (q.1.symm.trans c_13) (by decide))).trans ((if_neg c_36).trans (if_pos c_13)); have hR2 : ruT N I G J = coA (true, N1, I1, G1) J (100 + G 25 10) := (by rw [hR, i70_0, if_neg (by rw [c_72]; decide)]); have hR3 : ruT N I G J = acT (muN N1 J true) (muI N1 I1 true) G1 J (100 + G 25 10) := hR2.trans ((if_neg (fun q => Bool.noConfusion q)).trans (if_neg (fun q => absurd (c_106.symm.trans q) (by decide)))); rw [show acT (muN N1 J true) (muI N1 I1 true) G1 J (100 + G 25 10) = enT (muN N1 J true) (muI N1 I1 true) G1 J (100 + G 25 10) k112 from by unfold acT; rw [ho112]] at hR3; unfold enT at hR3; rw [show mo3 (muN N1 J true) (muI N1 I1 true) J k112 = (0, (tokN (muN N1 J true) J), (muI N1 I1 true)) from if_neg c_145] at hR3; dsimp only at hR3; rw [if_neg (fun q => absurd (c_163.symm.trans q) (by decide)), c_163] at hR3; rw [hR3, c_163]; exact ⟨rfl, rfl⟩), by rw [ht]; exact hM, GK.warm hW hG⟩, hS.F ht⟩) hS.2.2 dX2_rule_167
                  · refine lv_aload_n hx hb dX2_rule_148 rfl (lv_at hl 1 rfl) ?_
                    refine va_calli (va_runV (As := []) (rest := [.int (nI (100 + (G 25 10))), .ref (ad 27)]) ⟨hx, hb, hml, hown, hts⟩ (c_X2_number lh D dA a0 ad (tokN (muN N1 J true) J) (muI N1 I1 true) (up2 G1 26 (100 + (G 25 10)) k112) J H.size ((PsOk.tok (J := J) (PsOk.mu (J := J) (w := true) i70_1)).1) ((PsOk.tok (J := J) (PsOk.mu (J := J) (w := true) i70_1)).2.2.1) (by have := (PsOk.tok (J := J) (PsOk.mu (J := J) (w := true) i70_1)).2.2.2.1; omega) (by have := (PsOk.tok (J := J) (PsOk.mu (J := J) (w := true) i70_1)).2.2.2.2.1; omega)) (w_X2_number hts q1567 rfl rfl ⟨Nat.le_of_ble_eq_true rfl, Nat.le_of_ble_eq_true rfl⟩) ⟨PmM.blind, M_recv hG hM, PmM.pre hG hM⟩ rfl rfl hl.1 rfl (lv_room (Nat.le_of_ble_eq_true rfl)) dX2_rule_149 ⟨Nat.le_of_ble_eq_true rfl, Nat.le_of_ble_eq_true rfl⟩) hS (fun q _ h => AM.up (hS.1) q h) (fun q h => AM.up (hS.1) q h) (fun rr u t H1 locs ht hvm hp hB hz hk hS => ?_)
                    obtain ⟨hM, -⟩ := hB
                    rw [ht] at hM
                    clear ht hz hk
                    generalize H1 = H at hM hS ⊢
                    obtain ⟨hrr, hu⟩ := hp
                    subst hrr hu
                    dsimp only at hM
                    refine lv_goto (tgt := 156) hx hb dX2_rule_152 (by decide) ?_
                    refine M_iastN (v := nuV (tokN (muN N1 J true) J)) hx hb hG hS hM 27 rfl (AM.a 27 rfl) rfl rfl (show 100 + (G 25 10) < 110 from by omega) dX2_rule_156 (fun H locs hM hz hS => ?_)
                    refine lv_aload_n hx hb dX2_rule_157 rfl (lv_at hl 1 rfl) ?_
                    refine va_ldcS hx hb hown (show vk_R RX2 243 ";" (K 20) s from hKZ.2.2 20 (by decide)) dX2_rule_158 ?_
                    refine va_calli (va_runV (As := [.ref (K 20)]) (rest := []) ⟨hx, hb, hml, hown, hts⟩ (c_X2_must lh D dA a0 ad (nuN (tokN (muN N1 J true) J) J) (nuI (tokN (muN N1 J true) J) (muI N1 I1 true)) (up2 (up2 G1 26 (100 + (G 25 10)) k112) 27 (100 + (G 25 10)) (nuV (tokN (muN N1 J true) J))) J H.size (K 20) (K (100 + 20)) (klen 20) (kch 20) ((PsOk.nu (J := J) (PsOk.tok (J := J) (PsOk.mu (J := J) (w := true) i70_1))))) (w_X2_must hts q1573 rfl rfl ⟨Nat.le_of_ble_eq_true rfl, Nat.le_of_ble_eq_true rfl⟩) ⟨PX.blind (Mv.and Mv.heap (Mv.and Mv.heap (Mv.and Mv.gk (Mv.and KC.mv SA.mv)))), M_recv hG hM, PX.pre (Mv.and Mv.heap (Mv.and Mv.heap (Mv.and Mv.gk (Mv.and KC.mv SA.mv)))) ⟨rfl, hM, hG, (KZ.kc hKZ hS), (KZ.str hKZ hS 20 (by decide))⟩⟩ rfl rfl hl.1 rfl (lv_room (Nat.le_of_ble_eq_true rfl)) dX2_rule_160 ⟨Nat.le_of_ble_eq_true rfl, Nat.le_of_ble_eq_true rfl⟩) hS (fun q _ h => AM.up (hS.1) q h) (fun q h => AM.up (hS.1) q h) (fun rr u t H1 locs ht hvm hp hB hz hk hS => ?_)
                    obtain ⟨hM, -⟩ := hB
                    rw [ht] at hM
                    clear ht hz hk
                    generalize H1 = H at hM hS ⊢
                    obtain ⟨hrr, hu⟩ := hp
                    subst hrr hu
                    refine kx_int (y := bI (isQ (nuN (tokN (muN N1 J true) J) J) J 20)) rfl ?_
                    dsimp only at hM
                    refine kb_ne (tgt := 168) hx hb dX2_rule_163 (by decide) (fun c_163 => ?_) (fun c_163 => ?_)
                    · refine lv_aload_n hx hb dX2_rule_168 rfl (lv_at hl 1 rfl) ?_
                      refine M_get (v := .ref (ad 25)) hx hb hts hown hG hM 25 (by decide) q1317 rfl rfl dX2_rule_169 ?_
                      refine lv_bipush (v := nI 10) hx hb dX2_rule_172 (by decide) ?_
                      refine lv_dup2_11 hx hb dX2_rule_174 rfl rfl ?_
                      refine M_iald (v := nI (G1 25 10)) hx hb hG hM 25 rfl rfl (show 10 < 11 from by omega) (rfl) dX2_rule_175 ?_
                      refine lv_iconst (v := nI 1) hx hb dX2_rule_176 (by decide) ?_
                      refine kn_add hx hb dX2_rule_177 ?_
                      refine M_iastN (v := G1 25 10 + 1) hx hb hG hS hM 25 rfl (AM.a 25 rfl) rfl rfl (show 10 < 11 from by omega) dX2_rule_178 (fun H locs hM hz hS => ?_)
                      refine lv_iconst (v := nI 1) hx hb dX2_rule_179 (by decide) ?_
                      subst hQ
                      exact W.zret (v := nI 1) hx hb hrt rfl (fun t ht hW => ⟨⟨_, ((muN (nuN (tokN (muN N1 J true) J) J) J (isQ (nuN (tokN (muN N1 J true) J) J) J 20)), (muI (nuN (tokN (muN N1 J true) J) J) (nuI (tokN (muN N1 J true) J) (muI N1 I1 true)) (isQ (nuN (tokN (muN N1 J true) J) J) J 20)), (up2 (up2 (up2 G1 26 (100 + (G 25 10)) k112) 27 (100 + (G 25 10)) (nuV (tokN (muN N1 J true) J))) 25 10 (G1 25 10 + 1)), J), rfl, (by have hR : ruT N I G J = coA (clT J (100 + G 25 10) 4 N I (up2 G 28 (100 + G 25 10) 0)) J (100 + G 25 10) := (if_neg (fun q => absurd (q.1.symm.trans c_13) (by decide))).trans ((if_neg c_36).trans (if_pos c_13)); have hR2 : ruT N I G J = coA (true, N1, I1, G1) J (100 + G 25 10) := (by rw [hR, i70_0, if_neg (by rw [c_72]; decide)]); have hR3 : ruT N I G J = acT (muN N1 J true) (muI N1 I1 true) G1 J (100 + G 25 10) := hR2.trans ((if_neg (fun q => Bool.noConfusion q)).trans (if_neg (fun q => absurd (c_106.symm.trans q) (by decide)))); rw [show acT (muN N1 J true) (muI N1 I1 true) G1 J (100 + G 25 10) = enT (muN N1 J true) (muI N1 I1 true) G1 J (100 + G 25 10) k112 from by unfold acT; rw [ho112]] at hR3; unfold enT at hR3; rw [show mo3 (muN N1 J true) (muI N1 I1 true) J k112 = (nuV (tokN (muN N1 J true) J), nuN (tokN (muN N1 J true) J) J, nuI (tokN (muN N1 J true) J) (muI N1 I1 true)) from if_pos c_145] at hR3; dsimp only at hR3; rw [if_pos c_163, c_163] at hR3; rw [hR3, c_163]; exact ⟨rfl, rfl⟩), by rw [ht]; exact hM, GK.warm hW hG⟩, hS.F ht⟩) hS.2.2 dX2_rule_180
                    · refine lv_iconst (v := nI 0) hx hb dX2_rule_166 (by decide) ?_
                      subst hQ
                      exact W.zret (v := nI 0) hx hb hrt rfl (fun t ht hW => ⟨⟨_, ((muN (nuN (tokN (muN N1 J true) J) J) J (isQ (nuN (tokN (muN N1 J true) J) J) J 20)), (muI (nuN (tokN (muN N1 J true) J) J) (nuI (tokN (muN N1 J true) J) (muI N1 I1 true)) (isQ (nuN (tokN (muN N1 J true) J) J) J 20)), (up2 (up2 G1 26 (100 + (G 25 10)) k112) 27 (100 + (G 25 10)) (nuV (tokN (muN N1 J true) J))), J), rfl, (by have hR : ruT N I G J = coA (clT J (100 + G 25 10) 4 N I (up2 G 28 (100 + G 25 10) 0)) J (100 + G 25 10) := (if_neg (fun q => absurd (q.1.symm.trans c_13) (by decide))).trans ((if_neg c_36).trans (if_pos c_13)); have hR2 : ruT N I G J = coA (true, N1, I1, G1) J (100 + G 25 10) := (by rw [hR, i70_0, if_neg (by rw [c_72]; decide)]); have hR3 : ruT N I G J = acT (muN N1 J true) (muI N1 I1 true) G1 J (100 + G 25 10) := hR2.trans ((if_neg (fun q => Bool.noConfusion q)).trans (if_neg (fun q => absurd (c_106.symm.trans q) (by decide)))); rw [show acT (muN N1 J true) (muI N1 I1 true) G1 J (100 + G 25 10) = enT (muN N1 J true) (muI N1 I1 true) G1 J (100 + G 25 10) k112 from by unfold acT; rw [ho112]] at hR3; unfold enT at hR3; rw [show mo3 (muN N1 J true) (muI N1 I1 true) J k112 = (nuV (tokN (muN N1 J true) J), nuN (tokN (muN N1 J true) J) J, nuI (tokN (muN N1 J true) J) (muI N1 I1 true)) from if_pos c_145] at hR3; dsimp only at hR3; rw [if_neg (fun q => absurd (c_163.symm.trans q) (by decide)), c_163] at hR3; rw [hR3, c_163]; exact ⟨rfl, rfl⟩), by rw [ht]; exact hM, GK.warm hW hG⟩, hS.F ht⟩) hS.2.2 dX2_rule_167
              · refine lv_iconst (v := nI 0) hx hb dX2_rule_109 (by decide) ?_
                subst hQ
                exact W.zret (v := nI 0) hx hb hrt rfl (fun t ht hW => ⟨⟨_, ((muN N1 J (isQ N1 J 19)), (muI N1 I1 (isQ N1 J 19)), G1, J), rfl, (by have hR : ruT N I G J = coA (clT J (100 + G 25 10) 4 N I (up2 G 28 (100 + G 25 10) 0)) J (100 + G 25 10) := (if_neg (fun q => absurd (q.1.symm.trans c_13) (by decide))).trans ((if_neg c_36).trans (if_pos c_13)); have hR2 : ruT N I G J = coA (true, N1, I1, G1) J (100 + G 25 10) := (by rw [hR, i70_0, if_neg (by rw [c_72]; decide)]); have hR3 : ruT N I G J = (false, muN N1 J false, muI N1 I1 false, G1) := hR2.trans ((if_neg (fun q => Bool.noConfusion q)).trans (if_pos c_106)); rw [hR3, c_106]; exact ⟨rfl, rfl⟩), by rw [ht]; exact hM, GK.warm hW hG⟩, hS.F ht⟩) hS.2.2 dX2_rule_110
            · refine lv_aload_n hx hb dX2_rule_75 rfl (lv_at hl 0 rfl) ?_
              refine va_callv (va_runV (As := []) (rest := []) ⟨hx, hb, hml, hown, hts⟩ (c_X2_token lh D dA a0 ad N1 I1 G1 J H.size (i70_1.1) (i70_1.2.2.1)) (w_X2_token hts q1527 rfl rfl ⟨Nat.le_of_ble_eq_true rfl, Nat.le_of_ble_eq_true rfl⟩) ⟨PmM.blind, M_recv hG hM, PmM.pre hG hM⟩ rfl rfl hl.1 rfl (lv_room (Nat.le_of_ble_eq_true rfl)) dX2_rule_76 ⟨Nat.le_of_ble_eq_true rfl, Nat.le_of_ble_eq_true rfl⟩) hS (fun q _ h => AM.up (hS.1) q h) (fun q h => AM.up (hS.1) q h) (fun u t H1 locs ht hvm hp hB hz hk hS => ?_)
              obtain ⟨hM, -⟩ := hB
              rw [ht] at hM
              clear ht hz hk
              generalize H1 = H at hM hS ⊢
              subst hp
              dsimp only at hM
              refine lv_aload_n hx hb dX2_rule_79 rfl (lv_at hl 0 rfl) ?_
              refine lv_iload_n hx hb dX2_rule_80 rfl (lv_at hl 1 rfl) ?_
              refine va_calli (va_runV (As := [.int (nI (100 + (G 25 10)))]) (rest := []) ⟨hx, hb, hml, hown, hts⟩ (c_X2_condition lh D dA a0 ad (tokN N1 J) I1 G1 J H.size K (100 + (G 25 10)) ((PsOk.tok (J := J) i70_1)) (i70_2) (by omega) (i70_3)) (w_X2_condition hts q1559 rfl rfl ⟨Nat.le_of_ble_eq_true rfl, Nat.le_of_ble_eq_true rfl⟩) ⟨PX.blind (Mv.and Mv.heap (Mv.and Mv.heap (Mv.and Mv.gk KZ.mv))), M_recv hG hM, PX.pre (Mv.and Mv.heap (Mv.and Mv.heap (Mv.and Mv.gk KZ.mv))) ⟨rfl, hM, hG, (KZ.at hKZ hS (AM.up hS.1))⟩⟩ rfl rfl hl.1 rfl (lv_room (Nat.le_of_ble_eq_true rfl)) dX2_rule_81 ⟨Nat.le_of_ble_eq_true rfl, Nat.le_of_ble_eq_true rfl⟩) hS (fun q _ h => AM.up (hS.1) q h) (fun q h => AM.up (hS.1) q h) (fun rr u t H1 locs ht hvm hp hB hz hk hS => ?_)
              obtain ⟨hM, -⟩ := hB
              rw [ht] at hM
              clear ht hz hk
              generalize H1 = H at hM hS ⊢
              obtain ⟨hrr, hu⟩ := hp
              subst hrr hu
              dsimp only at hM
              have hco := coT_ok (I := I1) (J := J) (r := (100 + G 25 10)) (PsOk.tok (J := J) i70_1) i70_2 i70_3
              refine kb_ne (tgt := 89) hx hb dX2_rule_84 (by decide) (fun c_84 => ?_) (fun c_84 => ?_)
              · refine lv_aload_n hx hb dX2_rule_89 rfl (lv_at hl 0 rfl) ?_
                refine va_ldcS hx hb hown (show vk_R RX2 236 "and" (K 18) s from hKZ.2.2 18 (by decide)) dX2_rule_90 ?_
                refine vp_callSi (W.runV (As := [.ref (K 18)]) (rest := []) ⟨hx, hb, hml, hown, hts⟩ (c_X2_is lh D dA a0 ad ((coT (tokN N1 J) I1 G1 J (100 + (G 25 10))).2.1) ((coT (tokN N1 J) I1 G1 J (100 + (G 25 10))).2.2.1) ((coT (tokN N1 J) I1 G1 J (100 + (G 25 10))).2.2.2) J (K 18) (K (100 + 18)) (klen 18) (kch 18) (hco.1)) (w_X2_is hts q1540 rfl rfl ⟨Nat.le_of_ble_eq_true rfl, Nat.le_of_ble_eq_true rfl⟩) ⟨PX.blind (Mv.and Mv.heap (Mv.and Mv.gk (Mv.and KC.mv SA.mv))), M_recv hG hM, PX.pre (Mv.and Mv.heap (Mv.and Mv.gk (Mv.and KC.mv SA.mv))) ⟨hM, hG, (KZ.kc hKZ hS), (KZ.str hKZ hS 18 (by decide))⟩⟩ rfl rfl hl.1 rfl (lv_room (Nat.le_of_ble_eq_true rfl)) dX2_rule_92 ⟨Nat.le_of_ble_eq_true rfl, Nat.le_of_ble_eq_true rfl⟩) (fun rr hrr => ?_)
                subst hrr
                refine kx_int (y := bI (isQ ((coT (tokN N1 J) I1 G1 J (100 + (G 25 10))).2.1) J 18)) rfl ?_
                refine lv_istore (lv' := [(4, .int (bI (isQ ((coT (tokN N1 J) I1 G1 J (100 + (G 25 10))).2.1) J 18))), (0, .ref a0), (3, .int (nI (100 + (G 25 10))))]) hx hb dX2_rule_95 hl (by decide) rfl (fun ls hl => ?_)
                refine lv_goto (tgt := 70) hx hb dX2_rule_97 (by decide) ?_
                exact ih70 (n - 1) (isQ ((coT (tokN N1 J) I1 G1 J (100 + (G 25 10))).2.1) J 18) ((coT (tokN N1 J) I1 G1 J (100 + (G 25 10))).2.1) ((coT (tokN N1 J) I1 G1 J (100 + (G 25 10))).2.2.1) ((coT (tokN N1 J) I1 G1 J (100 + (G 25 10))).2.2.2) (by obtain ⟨m, rfl⟩ : ∃ m, n = m + 1 := ⟨n - 1, by omega⟩; exact (i70_0.trans (if_pos c_72)).trans (clT_s c_84)) (hco.1) (hco.2.1) (hco.2.2.1) (by have := hco.2.2.2.2 c_84; omega) (by rw [hco.2.2.2.1]; exact i70_5) (by omega) _ _ hM hS _ (lv_sub hl [1, 2, 0] rfl)
              · refine lv_iconst (v := nI 0) hx hb dX2_rule_87 (by decide) ?_
                subst hQ
                exact W.zret (v := nI 0) hx hb hrt rfl (fun t ht hW => ⟨⟨_, (((coT (tokN N1 J) I1 G1 J (100 + (G 25 10))).2.1), ((coT (tokN N1 J) I1 G1 J (100 + (G 25 10))).2.2.1), ((coT (tokN N1 J) I1 G1 J (100 + (G 25 10))).2.2.2), J), rfl, (by have hR : ruT N I G J = coA (clT J (100 + G 25 10) 4 N I (up2 G 28 (100 + G 25 10) 0)) J (100 + G 25 10) := (if_neg (fun q => absurd (q.1.symm.trans c_13) (by decide))).trans ((if_neg c_36).trans (if_pos c_13)); rw [hR, i70_0, if_pos c_72, show n = (n - 1) + 1 by omega, clT, if_pos c_84]; rw [show coA (coT (tokN N1 J) I1 G1 J (100 + G 25 10)) J (100 + G 25 10) = (coT (tokN N1 J) I1 G1 J (100 + G 25 10)) from if_pos c_84, c_84]; exact ⟨rfl, rfl⟩), by rw [ht]; exact hM, GK.warm hW hG⟩, hS.F ht⟩) hS.2.2 dX2_rule_88
        exact L70 _ 4 true N I (up2 G 28 (100 + (G 25 10)) 0) (rfl) (h1) (hB_up h2.1 (by decide)) (by rw [up2_s]; decide) (by rw [up2_s]) (up2_o (by decide)) (Nat.lt_succ_self _) _ _ hM hS _ (lv_conv (show lv_has ls 5 [(0, .ref a0), (3, .int (nI (100 + (G 25 10)))), (4, .int (nI 1))] from (lv_sub hl [4, 1, 0] rfl)) (rfl))
      · refine lv_aload_n hx hb dX2_rule_39 rfl (lv_at hl 2 rfl) ?_
        refine lv_iconst (v := nI 2) hx hb dX2_rule_40 (by decide) ?_
        refine va_calli (va_runV (As := [.int (nI 2)]) (rest := []) ⟨hx, hb, hml, hown, hts⟩ (c_X2_wrong lh D dA a0 ad N I G J s.heap.size 2 (by have := h1.2.2.2.1; omega)) (w_X2_wrong hts q1555 rfl rfl ⟨Nat.le_of_ble_eq_true rfl, Nat.le_of_ble_eq_true rfl⟩) ⟨PmM.blind, M_recv hG hM, PmM.pre hG hM⟩ rfl rfl hl.1 rfl (lv_room (Nat.le_of_ble_eq_true rfl)) dX2_rule_41 ⟨Nat.le_of_ble_eq_true rfl, Nat.le_of_ble_eq_true rfl⟩) hS (fun q _ h => AM.up (hS.1) q h) (fun q h => AM.up (hS.1) q h) (fun rr u t H1 locs ht hvm hp hB hz hk hS => ?_)
        obtain ⟨hM, -⟩ := hB
        rw [ht] at hM
        clear ht hz hk
        generalize H1 = H at hM hS ⊢
        obtain ⟨hrr, hu⟩ := hp
        subst hrr hu
        dsimp only at hM
        subst hQ
        exact W.zret (v := nI 0) hx hb hrt rfl (fun t ht hW => ⟨⟨_, ((wrN N 2), (wrI N I), G, J), rfl, (by rw [show ruT N I G J = (false, wrN N 2, wrI N I, G) from (if_neg (fun q => absurd (q.1.symm.trans c_13) (by decide))).trans (if_pos c_36)]; exact ⟨rfl, rfl⟩), by rw [ht]; exact hM, GK.warm hW hG⟩, hS.F ht⟩) hS.2.2 dX2_rule_44
    · refine lv_iload_n hx hb dX2_rule_16 rfl (lv_at hl 0 rfl) ?_
      refine lv_iconst (v := -1) hx hb dX2_rule_17 (by decide) ?_
      refine lv_icmp_ne (tgt := 27) hx hb dX2_rule_18 (by decide) (fun _ => ?_) (fun c => absurd c (nI_nm1 (by omega)))
      refine lv_aload_n hx hb dX2_rule_27 rfl (lv_at hl 2 rfl) ?_
      refine M_get (v := .ref (ad 25)) hx hb hts hown hG hM 25 (by decide) q1317 rfl rfl dX2_rule_28 ?_
      refine lv_bipush (v := nI 10) hx hb dX2_rule_31 (by decide) ?_
      refine M_iald (v := nI (G 25 10)) hx hb hG hM 25 rfl rfl (show 10 < 11 from by omega) (rfl) dX2_rule_33 ?_
      refine lv_bipush (v := nI 10) hx hb dX2_rule_34 (by decide) ?_
      refine kn_cne (tgt := 45) hx hb dX2_rule_36 (by decide) (by omega) (by omega) (fun c_36 => ?_) (fun c_36 => ?_)
      · have hr10 : G 25 10 < 10 := (by omega)
        refine lv_bipush (v := nI 100) hx hb dX2_rule_45 (by decide) ?_
        refine lv_aload_n hx hb dX2_rule_47 rfl (lv_at hl 2 rfl) ?_
        refine M_get (v := .ref (ad 25)) hx hb hts hown hG hM 25 (by decide) q1317 rfl rfl dX2_rule_48 ?_
        refine lv_bipush (v := nI 10) hx hb dX2_rule_51 (by decide) ?_
        refine M_iald (v := nI (G 25 10)) hx hb hG hM 25 rfl rfl (show 10 < 11 from by omega) (rfl) dX2_rule_53 ?_
        refine kn_add hx hb dX2_rule_54 ?_
        refine lv_istore_n (lv' := [(3, .int (nI (100 + (G 25 10)))), (2, .int (nI k8)), (1, .int (bI (isQ N J 12))), (0, .ref a0)]) hx hb dX2_rule_55 rfl hl (by decide) rfl (fun ls hl => ?_)
        refine lv_aload_n hx hb dX2_rule_56 rfl (lv_at hl 3 rfl) ?_
        refine M_get (v := .ref (ad 28)) hx hb hts hown hG hM 28 (by decide) q1320 rfl rfl dX2_rule_57 ?_
        refine lv_iload_n hx hb dX2_rule_60 rfl (lv_at hl 0 rfl) ?_
        refine lv_iconst (v := nI 0) hx hb dX2_rule_61 (by decide) ?_
        refine M_iastN (v := 0) hx hb hG hS hM 28 rfl (AM.a 28 rfl) rfl rfl (show 100 + (G 25 10) < 110 from by omega) dX2_rule_62 (fun H locs hM hz hS => ?_)
        refine lv_iload_n hx hb dX2_rule_63 rfl (lv_at hl 2 rfl) ?_
        refine kb_eq (tgt := 127) hx hb dX2_rule_64 (by decide) (fun _ => ?_) (fun c => absurd (c.symm.trans c_13) (by decide))
        refine lv_aload_n hx hb dX2_rule_127 rfl (lv_at hl 3 rfl) ?_
        refine M_get (v := .ref (ad 26)) hx hb hts hown hG hM 26 (by decide) q1318 rfl rfl dX2_rule_128 ?_
        refine lv_iload_n hx hb dX2_rule_131 rfl (lv_at hl 0 rfl) ?_
        refine lv_iload_n hx hb dX2_rule_132 rfl (lv_at hl 1 rfl) ?_
        refine M_iastN (v := k8) hx hb hG hS hM 26 rfl (AM.a 26 rfl) rfl rfl (show 100 + (G 25 10) < 110 from by omega) dX2_rule_133 (fun H locs hM hz hS => ?_)
        refine lv_aload_n hx hb dX2_rule_134 rfl (lv_at hl 3 rfl) ?_
        refine va_callv (va_runV (As := []) (rest := []) ⟨hx, hb, hml, hown, hts⟩ (c_X2_token lh D dA a0 ad N I (up2 (up2 G 28 (100 + (G 25 10)) 0) 26 (100 + (G 25 10)) k8) J H.size (h1.1) (h1.2.2.1)) (w_X2_token hts q1527 rfl rfl ⟨Nat.le_of_ble_eq_true rfl, Nat.le_of_ble_eq_true rfl⟩) ⟨PmM.blind, M_recv hG hM, PmM.pre hG hM⟩ rfl rfl hl.1 rfl (lv_room (Nat.le_of_ble_eq_true rfl)) dX2_rule_135 ⟨Nat.le_of_ble_eq_true rfl, Nat.le_of_ble_eq_true rfl⟩) hS (fun q _ h => AM.up (hS.1) q h) (fun q h => AM.up (hS.1) q h) (fun u t H1 locs ht hvm hp hB hz hk hS => ?_)
        obtain ⟨hM, -⟩ := hB
        rw [ht] at hM
        clear ht hz hk
        generalize H1 = H at hM hS ⊢
        subst hp
        dsimp only at hM
        refine lv_aload_n hx hb dX2_rule_138 rfl (lv_at hl 3 rfl) ?_
        refine M_get (v := .ref (ad 27)) hx hb hts hown hG hM 27 (by decide) q1319 rfl rfl dX2_rule_139 ?_
        refine lv_iload_n hx hb dX2_rule_142 rfl (lv_at hl 0 rfl) ?_
        refine lv_iload_n hx hb dX2_rule_143 rfl (lv_at hl 1 rfl) ?_
        refine lv_iconst (v := nI 5) hx hb dX2_rule_144 (by decide) ?_
        refine kn_cne (tgt := 155) hx hb dX2_rule_145 (by decide) (by omega) (by omega) (fun c_145 => ?_) (fun c_145 => ?_)
        · refine lv_iconst (v := nI 0) hx hb dX2_rule_155 (by decide) ?_
          refine M_iastN (v := 0) hx hb hG hS hM 27 rfl (AM.a 27 rfl) rfl rfl (show 100 + (G 25 10) < 110 from by omega) dX2_rule_156 (fun H locs hM hz hS => ?_)
          refine lv_aload_n hx hb dX2_rule_157 rfl (lv_at hl 3 rfl) ?_
          refine va_ldcS hx hb hown (show vk_R RX2 243 ";" (K 20) s from hKZ.2.2 20 (by decide)) dX2_rule_158 ?_
          refine va_calli (va_runV (As := [.ref (K 20)]) (rest := []) ⟨hx, hb, hml, hown, hts⟩ (c_X2_must lh D dA a0 ad (tokN N J) I (up2 (up2 (up2 G 28 (100 + (G 25 10)) 0) 26 (100 + (G 25 10)) k8) 27 (100 + (G 25 10)) 0) J H.size (K 20) (K (100 + 20)) (klen 20) (kch 20) ((PsOk.tok (J := J) h1))) (w_X2_must hts q1573 rfl rfl ⟨Nat.le_of_ble_eq_true rfl, Nat.le_of_ble_eq_true rfl⟩) ⟨PX.blind (Mv.and Mv.heap (Mv.and Mv.heap (Mv.and Mv.gk (Mv.and KC.mv SA.mv)))), M_recv hG hM, PX.pre (Mv.and Mv.heap (Mv.and Mv.heap (Mv.and Mv.gk (Mv.and KC.mv SA.mv)))) ⟨rfl, hM, hG, (KZ.kc hKZ hS), (KZ.str hKZ hS 20 (by decide))⟩⟩ rfl rfl hl.1 rfl (lv_room (Nat.le_of_ble_eq_true rfl)) dX2_rule_160 ⟨Nat.le_of_ble_eq_true rfl, Nat.le_of_ble_eq_true rfl⟩) hS (fun q _ h => AM.up (hS.1) q h) (fun q h => AM.up (hS.1) q h) (fun rr u t H1 locs ht hvm hp hB hz hk hS => ?_)
          obtain ⟨hM, -⟩ := hB
          rw [ht] at hM
          clear ht hz hk
          generalize H1 = H at hM hS ⊢
          obtain ⟨hrr, hu⟩ := hp
          subst hrr hu
          refine kx_int (y := bI (isQ (tokN N J) J 20)) rfl ?_
          dsimp only at hM
          refine kb_ne (tgt := 168) hx hb dX2_rule_163 (by decide) (fun c_163 => ?_) (fun c_163 => ?_)
          · refine lv_aload_n hx hb dX2_rule_168 rfl (lv_at hl 3 rfl) ?_
            refine M_get (v := .ref (ad 25)) hx hb hts hown hG hM 25 (by decide) q1317 rfl rfl dX2_rule_169 ?_
            refine lv_bipush (v := nI 10) hx hb dX2_rule_172 (by decide) ?_
            refine lv_dup2_11 hx hb dX2_rule_174 rfl rfl ?_
            refine M_iald (v := nI (G 25 10)) hx hb hG hM 25 rfl rfl (show 10 < 11 from by omega) (rfl) dX2_rule_175 ?_
            refine lv_iconst (v := nI 1) hx hb dX2_rule_176 (by decide) ?_
            refine kn_add hx hb dX2_rule_177 ?_
            refine M_iastN (v := G 25 10 + 1) hx hb hG hS hM 25 rfl (AM.a 25 rfl) rfl rfl (show 10 < 11 from by omega) dX2_rule_178 (fun H locs hM hz hS => ?_)
            refine lv_iconst (v := nI 1) hx hb dX2_rule_179 (by decide) ?_
            subst hQ
            exact W.zret (v := nI 1) hx hb hrt rfl (fun t ht hW => ⟨⟨_, ((muN (tokN N J) J (isQ (tokN N J) J 20)), (muI (tokN N J) I (isQ (tokN N J) J 20)), (up2 (up2 (up2 (up2 G 28 (100 + (G 25 10)) 0) 26 (100 + (G 25 10)) k8) 27 (100 + (G 25 10)) 0) 25 10 (G 25 10 + 1)), J), rfl, (by have hR : ruT N I G J = acT N I (up2 G 28 (100 + G 25 10) 0) J (100 + G 25 10) := (if_neg (fun q => absurd (ho8.symm.trans q.2) (by simp))).trans ((if_neg c_36).trans (if_neg (fun q => absurd (c_13.symm.trans q) (by decide)))); have hR3 := hR; rw [show acT N I (up2 G 28 (100 + G 25 10) 0) J (100 + G 25 10) = enT N I (up2 G 28 (100 + G 25 10) 0) J (100 + G 25 10) k8 from by unfold acT; rw [ho8]] at hR3; unfold enT at hR3; rw [show mo3 N I J k8 = (0, (tokN N J), I) from if_neg c_145] at hR3; dsimp only at hR3; rw [if_pos c_163, c_163] at hR3; rw [hR3, c_163]; exact ⟨rfl, rfl⟩), by rw [ht]; exact hM, GK.warm hW hG⟩, hS.F ht⟩) hS.2.2 dX2_rule_180
          · refine lv_iconst (v := nI 0) hx hb dX2_rule_166 (by decide) ?_
            subst hQ
            exact W.zret (v := nI 0) hx hb hrt rfl (fun t ht hW => ⟨⟨_, ((muN (tokN N J) J (isQ (tokN N J) J 20)), (muI (tokN N J) I (isQ (tokN N J) J 20)), (up2 (up2 (up2 G 28 (100 + (G 25 10)) 0) 26 (100 + (G 25 10)) k8) 27 (100 + (G 25 10)) 0), J), rfl, (by have hR : ruT N I G J = acT N I (up2 G 28 (100 + G 25 10) 0) J (100 + G 25 10) := (if_neg (fun q => absurd (ho8.symm.trans q.2) (by simp))).trans ((if_neg c_36).trans (if_neg (fun q => absurd (c_13.symm.trans q) (by decide)))); have hR3 := hR; rw [show acT N I (up2 G 28 (100 + G 25 10) 0) J (100 + G 25 10) = enT N I (up2 G 28 (100 + G 25 10) 0) J (100 + G 25 10) k8 from by unfold acT; rw [ho8]] at hR3; unfold enT at hR3; rw [show mo3 N I J k8 = (0, (tokN N J), I) from if_neg c_145] at hR3; dsimp only at hR3; rw [if_neg (fun q => absurd (c_163.symm.trans q) (by decide)), c_163] at hR3; rw [hR3, c_163]; exact ⟨rfl, rfl⟩), by rw [ht]; exact hM, GK.warm hW hG⟩, hS.F ht⟩) hS.2.2 dX2_rule_167
        · refine lv_aload_n hx hb dX2_rule_148 rfl (lv_at hl 3 rfl) ?_
          refine va_calli (va_runV (As := []) (rest := [.int (nI (100 + (G 25 10))), .ref (ad 27)]) ⟨hx, hb, hml, hown, hts⟩ (c_X2_number lh D dA a0 ad (tokN N J) I (up2 (up2 G 28 (100 + (G 25 10)) 0) 26 (100 + (G 25 10)) k8) J H.size ((PsOk.tok (J := J) h1).1) ((PsOk.tok (J := J) h1).2.2.1) (by have := (PsOk.tok (J := J) h1).2.2.2.1; omega) (by have := (PsOk.tok (J := J) h1).2.2.2.2.1; omega)) (w_X2_number hts q1567 rfl rfl ⟨Nat.le_of_ble_eq_true rfl, Nat.le_of_ble_eq_true rfl⟩) ⟨PmM.blind, M_recv hG hM, PmM.pre hG hM⟩ rfl rfl hl.1 rfl (lv_room (Nat.le_of_ble_eq_true rfl)) dX2_rule_149 ⟨Nat.le_of_ble_eq_true rfl, Nat.le_of_ble_eq_true rfl⟩) hS (fun q _ h => AM.up (hS.1) q h) (fun q h => AM.up (hS.1) q h) (fun rr u t H1 locs ht hvm hp hB hz hk hS => ?_)
          obtain ⟨hM, -⟩ := hB
          rw [ht] at hM
          clear ht hz hk
          generalize H1 = H at hM hS ⊢
          obtain ⟨hrr, hu⟩ := hp
          subst hrr hu
          dsimp only at hM
          refine lv_goto (tgt := 156) hx hb dX2_rule_152 (by decide) ?_
          refine M_iastN (v := nuV (tokN N J)) hx hb hG hS hM 27 rfl (AM.a 27 rfl) rfl rfl (show 100 + (G 25 10) < 110 from by omega) dX2_rule_156 (fun H locs hM hz hS => ?_)
          refine lv_aload_n hx hb dX2_rule_157 rfl (lv_at hl 3 rfl) ?_
          refine va_ldcS hx hb hown (show vk_R RX2 243 ";" (K 20) s from hKZ.2.2 20 (by decide)) dX2_rule_158 ?_
          refine va_calli (va_runV (As := [.ref (K 20)]) (rest := []) ⟨hx, hb, hml, hown, hts⟩ (c_X2_must lh D dA a0 ad (nuN (tokN N J) J) (nuI (tokN N J) I) (up2 (up2 (up2 G 28 (100 + (G 25 10)) 0) 26 (100 + (G 25 10)) k8) 27 (100 + (G 25 10)) (nuV (tokN N J))) J H.size (K 20) (K (100 + 20)) (klen 20) (kch 20) ((PsOk.nu (J := J) (PsOk.tok (J := J) h1)))) (w_X2_must hts q1573 rfl rfl ⟨Nat.le_of_ble_eq_true rfl, Nat.le_of_ble_eq_true rfl⟩) ⟨PX.blind (Mv.and Mv.heap (Mv.and Mv.heap (Mv.and Mv.gk (Mv.and KC.mv SA.mv)))), M_recv hG hM, PX.pre (Mv.and Mv.heap (Mv.and Mv.heap (Mv.and Mv.gk (Mv.and KC.mv SA.mv)))) ⟨rfl, hM, hG, (KZ.kc hKZ hS), (KZ.str hKZ hS 20 (by decide))⟩⟩ rfl rfl hl.1 rfl (lv_room (Nat.le_of_ble_eq_true rfl)) dX2_rule_160 ⟨Nat.le_of_ble_eq_true rfl, Nat.le_of_ble_eq_true rfl⟩) hS (fun q _ h => AM.up (hS.1) q h) (fun q h => AM.up (hS.1) q h) (fun rr u t H1 locs ht hvm hp hB hz hk hS => ?_)
          obtain ⟨hM, -⟩ := hB
          rw [ht] at hM
          clear ht hz hk
          generalize H1 = H at hM hS ⊢
          obtain ⟨hrr, hu⟩ := hp
          subst hrr hu
          refine kx_int (y := bI (isQ (nuN (tokN N J) J) J 20)) rfl ?_
          dsimp only at hM
          refine kb_ne (tgt := 168) hx hb dX2_rule_163 (by decide) (fun c_163 => ?_) (fun c_163 => ?_)
          · refine lv_aload_n hx hb dX2_rule_168 rfl (lv_at hl 3 rfl) ?_
            refine M_get (v := .ref (ad 25)) hx hb hts hown hG hM 25 (by decide) q1317 rfl rfl dX2_rule_169 ?_
            refine lv_bipush (v := nI 10) hx hb dX2_rule_172 (by decide) ?_
            refine lv_dup2_11 hx hb dX2_rule_174 rfl rfl ?_
            refine M_iald (v := nI (G 25 10)) hx hb hG hM 25 rfl rfl (show 10 < 11 from by omega) (rfl) dX2_rule_175 ?_
            refine lv_iconst (v := nI 1) hx hb dX2_rule_176 (by decide) ?_
            refine kn_add hx hb dX2_rule_177 ?_
            refine M_iastN (v := G 25 10 + 1) hx hb hG hS hM 25 rfl (AM.a 25 rfl) rfl rfl (show 10 < 11 from by omega) dX2_rule_178 (fun H locs hM hz hS => ?_)
            refine lv_iconst (v := nI 1) hx hb dX2_rule_179 (by decide) ?_
            subst hQ
            exact W.zret (v := nI 1) hx hb hrt rfl (fun t ht hW => ⟨⟨_, ((muN (nuN (tokN N J) J) J (isQ (nuN (tokN N J) J) J 20)), (muI (nuN (tokN N J) J) (nuI (tokN N J) I) (isQ (nuN (tokN N J) J) J 20)), (up2 (up2 (up2 (up2 G 28 (100 + (G 25 10)) 0) 26 (100 + (G 25 10)) k8) 27 (100 + (G 25 10)) (nuV (tokN N J))) 25 10 (G 25 10 + 1)), J), rfl, (by have hR : ruT N I G J = acT N I (up2 G 28 (100 + G 25 10) 0) J (100 + G 25 10) := (if_neg (fun q => absurd (ho8.symm.trans q.2) (by simp))).trans ((if_neg c_36).trans (if_neg (fun q => absurd (c_13.symm.trans q) (by decide)))); have hR3 := hR; rw [show acT N I (up2 G 28 (100 + G 25 10) 0) J (100 + G 25 10) = enT N I (up2 G 28 (100 + G 25 10) 0) J (100 + G 25 10) k8 from by unfold acT; rw [ho8]] at hR3; unfold enT at hR3; rw [show mo3 N I J k8 = (nuV (tokN N J), nuN (tokN N J) J, nuI (tokN N J) I) from if_pos c_145] at hR3; dsimp only at hR3; rw [if_pos c_163, c_163] at hR3; rw [hR3, c_163]; exact ⟨rfl, rfl⟩), by rw [ht]; exact hM, GK.warm hW hG⟩, hS.F ht⟩) hS.2.2 dX2_rule_180
          · refine lv_iconst (v := nI 0) hx hb dX2_rule_166 (by decide) ?_
            subst hQ
            exact W.zret (v := nI 0) hx hb hrt rfl (fun t ht hW => ⟨⟨_, ((muN (nuN (tokN N J) J) J (isQ (nuN (tokN N J) J) J 20)), (muI (nuN (tokN N J) J) (nuI (tokN N J) I) (isQ (nuN (tokN N J) J) J 20)), (up2 (up2 (up2 G 28 (100 + (G 25 10)) 0) 26 (100 + (G 25 10)) k8) 27 (100 + (G 25 10)) (nuV (tokN N J))), J), rfl, (by have hR : ruT N I G J = acT N I (up2 G 28 (100 + G 25 10) 0) J (100 + G 25 10) := (if_neg (fun q => absurd (ho8.symm.trans q.2) (by simp))).trans ((if_neg c_36).trans (if_neg (fun q => absurd (c_13.symm.trans q) (by decide)))); have hR3 := hR; rw [show acT N I (up2 G 28 (100 + G 25 10) 0) J (100 + G 25 10) = enT N I (up2 G 28 (100 + G 25 10) 0) J (100 + G 25 10) k8 from by unfold acT; rw [ho8]] at hR3; unfold enT at hR3; rw [show mo3 N I J k8 = (nuV (tokN N J), nuN (tokN N J) J, nuI (tokN N J) I) from if_pos c_145] at hR3; dsimp only at hR3; rw [if_neg (fun q => absurd (c_163.symm.trans q) (by decide)), c_163] at hR3; rw [hR3, c_163]; exact ⟨rfl, rfl⟩), by rw [ht]; exact hM, GK.warm hW hG⟩, hS.F ht⟩) hS.2.2 dX2_rule_167
      · refine lv_aload_n hx hb dX2_rule_39 rfl (lv_at hl 2 rfl) ?_
        refine lv_iconst (v := nI 2) hx hb dX2_rule_40 (by decide) ?_
        refine va_calli (va_runV (As := [.int (nI 2)]) (rest := []) ⟨hx, hb, hml, hown, hts⟩ (c_X2_wrong lh D dA a0 ad N I G J s.heap.size 2 (by have := h1.2.2.2.1; omega)) (w_X2_wrong hts q1555 rfl rfl ⟨Nat.le_of_ble_eq_true rfl, Nat.le_of_ble_eq_true rfl⟩) ⟨PmM.blind, M_recv hG hM, PmM.pre hG hM⟩ rfl rfl hl.1 rfl (lv_room (Nat.le_of_ble_eq_true rfl)) dX2_rule_41 ⟨Nat.le_of_ble_eq_true rfl, Nat.le_of_ble_eq_true rfl⟩) hS (fun q _ h => AM.up (hS.1) q h) (fun q h => AM.up (hS.1) q h) (fun rr u t H1 locs ht hvm hp hB hz hk hS => ?_)
        obtain ⟨hM, -⟩ := hB
        rw [ht] at hM
        clear ht hz hk
        generalize H1 = H at hM hS ⊢
        obtain ⟨hrr, hu⟩ := hp
        subst hrr hu
        dsimp only at hM
        subst hQ
        exact W.zret (v := nI 0) hx hb hrt rfl (fun t ht hW => ⟨⟨_, ((wrN N 2), (wrI N I), G, J), rfl, (by rw [show ruT N I G J = (false, wrN N 2, wrI N I, G) from (if_neg (fun q => absurd (ho8.symm.trans q.2) (by simp))).trans (if_pos c_36)]; exact ⟨rfl, rfl⟩), by rw [ht]; exact hM, GK.warm hW hG⟩, hS.F ht⟩) hS.2.2 dX2_rule_44
theorem w_X2_rule {R : Room} {s : State} {args : Array Value} {own : String} {idx : Nat} (hts : ∀ w ∈ lw_all, w.before args s = true) (h1 : Cond.methodLink own idx yX2_rule ∈ lw_all) {rm : Room} {mc ms : Nat} (hrc : rm.cells = mc) (hrs : rm.slots = ms) (hR : rm.frames + 1 ≤ R.frames ∧ 8 + (5 + 11) + rm.locals ≤ R.locals) : CallW R s args own RX2 idx yX2_rule cX2_rule 5 (some .boolean) (ws_ yX2_rule cX2_rule 5 (some .boolean)) rm mc ms 0 := cwV 0 hts (lw_V h1 q1537 qs38 q70 q1538) rfl hrc hrs (by decide +kernel) hR
