set_option maxRecDepth 100000
abbrev r_X2_is : Room := { frames := 4, cells := 0, slots := 0, locals := 85 }
set_option maxHeartbeats 400000 in
theorem c_X2_is (lh : Launch) (D : va_G) (dA : Nat → ClassId) (a0 : Nat) (ad : Nat → Nat) (N : Nat → Nat) (I : Nat → Int32) (G : Nat → Nat → Nat) (J : Nat → Nat → Int32) (w : Nat) (b : Nat) (n : Nat) (f : Nat → Nat) (h1 : PsOk N) : Met lh yX2_is (ws_ yX2_is cX2_is 4 (some .boolean)) r_X2_is (PX (fun U H => RM D dA a0 ad N I G J H ∧ GK D dA U ∧ KC nA U H ∧ SA nA w b n f U H) [.ref a0, .ref w]) (vp_Si (fun rv => rv = bI (isT N J n f n))) 0 0 (fun _ => False) := by
  refine Met.ofW (cc := cX2_is) (maxL := 4) (ret := (some .boolean)) (by decide) rfl ?_
  intro p e s m args below meth cd s₁ B hml hv
  obtain ⟨hargs, hM, hG, hKC, h_w⟩ := hv
  have hS : va_S nA s.heap s.heap [] := va_S.rf
  have hx := B.exec
  have hb := B.bytes
  have hrt := B.returns
  have hts := atoms_spec (ws := (ws_ yX2_is cX2_is 4 (some .boolean))) B.pre
  have hts : ∀ w ∈ lw_all, w.before _ s = true := fun w h => hts w (List.mem_cons_of_mem _ h)
  have hown : s.vm.findClass RX2 = some m.cls := findClass_of_methodNamed B.named
  have hlocks := B.notSynchronized
  have hE : entryFrame m args 4 = F0 m 0 ((lg_sl ([.ref a0, .ref w]) ++ List.replicate (4 - (lg_sl ([.ref a0, .ref w])).length) Slot.unset).toArray) [] := by rw [hargs]; exact lg_entry_eq m _ 4
  have hl := lv_entry ([.ref a0, .ref w]) (n := 4) (Nat.le_of_ble_eq_true rfl)
  rw [hE]
  clear hE
  generalize (lg_sl ([.ref a0, .ref w]) ++ List.replicate (4 - (lg_sl ([.ref a0, .ref w])).length) Slot.unset).toArray = ls at hl ⊢
  have hl : lv_has ls 4 [(0, .ref a0), (1, .ref w)] := hl
  generalize hQ : MQ _ _ _ _ _ _ _ = Q
  obtain ⟨p33, p37, p38, p34, p36, p39⟩ := h1
  have hn := h_w.2.2.2.2.1
  refine lv_aload_n hx hb dX2_is_0 rfl (lv_at hl 0 rfl) ?_
  refine M_get (v := .int (nI (N 34))) hx hb hts hown hG hM 34 (by decide) q1326 rfl rfl dX2_is_1 ?_
  refine kn_zne (tgt := 27) hx hb dX2_is_4 (by decide) (by omega) (fun c_4 => ?_) (fun c_4 => ?_)
  · refine lv_iconst (v := nI 0) hx hb dX2_is_27 (by decide) ?_
    refine lv_istore_n (lv' := [(2, .int (nI 0)), (0, .ref a0), (1, .ref w)]) hx hb dX2_is_28 rfl hl (by decide) rfl (fun ls hl => ?_)
    refine lv_iconst (v := nI 0) hx hb dX2_is_29 (by decide) ?_
    refine lv_istore_n (lv' := [(3, .int (nI 0)), (2, .int (nI 0)), (0, .ref a0), (1, .ref w)]) hx hb dX2_is_30 rfl hl (by decide) rfl (fun ls hl => ?_)
    have L31 : ∀ (nn31 : Nat) (k : Nat), (k ≤ n) → n - k < nn31 → ∀ (ls : Array Slot), lv_has ls 4 [(0, .ref a0), (1, .ref w), (2, .int (bI (isT N J n f k))), (3, .int (nI k))] → W p lh e r_X2_is s m args below meth cd s.heap [] 0 0 Q (F0 m 31 ls []) := by
      intro nn31
      induction nn31 with
      | zero => intro k i31_0 hm31; exact absurd hm31 (Nat.not_lt_zero _)
      | succ nn31 ih31 =>
        intro k i31_0 hm31 ls hl
        refine lv_iload_n hx hb dX2_is_31 rfl (lv_at hl 3 rfl) ?_
        refine lv_aload_n hx hb dX2_is_32 rfl (lv_at hl 1 rfl) ?_
        refine vp_callSi (W.runV (As := []) (rest := [.int (nI k)]) ⟨hx, hb, hml, hown, hts⟩ (c_J3_length lh w b n f) (w_J3_length hts q1544 rfl rfl ⟨Nat.le_of_ble_eq_true rfl, Nat.le_of_ble_eq_true rfl⟩) ⟨PX.blind (Mv.and KC.mv SA.mv), (SA.recv h_w), PX.pre (Mv.and KC.mv SA.mv) ⟨hKC, h_w⟩⟩ rfl rfl hl.1 rfl (lv_room (Nat.le_of_ble_eq_true rfl)) dX2_is_33 ⟨Nat.le_of_ble_eq_true rfl, Nat.le_of_ble_eq_true rfl⟩) (fun rr hrr => ?_)
        subst hrr
        refine kn_cge (tgt := 73) hx hb dX2_is_36 (by decide) (by omega) (by omega) (fun c_36 => ?_) (fun c_36 => ?_)
        · refine lv_iload_n hx hb dX2_is_73 rfl (lv_at hl 2 rfl) ?_
          subst hQ
          exact W.zret (v := bI (isT N J n f k)) hx hb hrt (narB _) (fun t ht _ => ⟨_, rfl, (show bI (isT N J n f k) = bI (isT N J n f n) from by rw [show k = n by omega]), ht⟩) t_nil dX2_is_74
        · refine lv_iload_n hx hb dX2_is_39 rfl (lv_at hl 2 rfl) ?_
          refine kb_eq (tgt := 73) hx hb dX2_is_40 (by decide) (fun c_40 => ?_) (fun c_40 => ?_)
          · refine lv_iload_n hx hb dX2_is_73 rfl (lv_at hl 2 rfl) ?_
            subst hQ
            exact W.zret (v := bI (isT N J n f k)) hx hb hrt (narB _) (fun t ht _ => ⟨_, rfl, (show bI (isT N J n f k) = bI (isT N J n f n) from by rw [c_40, isT_no c_40 (by omega)]), ht⟩) t_nil dX2_is_74
          · refine lv_aload_n hx hb dX2_is_43 rfl (lv_at hl 0 rfl) ?_
            refine lv_aload_n hx hb dX2_is_44 rfl (lv_at hl 0 rfl) ?_
            refine M_get (v := .int (nI (N 37))) hx hb hts hown hG hM 37 (by decide) q1329 rfl rfl dX2_is_45 ?_
            refine lv_iload_n hx hb dX2_is_48 rfl (lv_at hl 3 rfl) ?_
            refine kn_add hx hb dX2_is_49 ?_
            refine vp_callSi (W.runV (As := [.int (nI (N 37 + k))]) (rest := []) ⟨hx, hb, hml, hown, hts⟩ (c_X2_byteAt lh D dA a0 ad N I G J (N 37 + k) (p33) (by have h := c_40; simp only [isT, Bool.and_eq_true, decide_eq_true_eq] at h; omega)) (w_X2_byteAt hts q1531 rfl rfl ⟨Nat.le_of_ble_eq_true rfl, Nat.le_of_ble_eq_true rfl⟩) ⟨PqM.blind, M_recv hG hM, PqM.pre hG hM⟩ rfl rfl hl.1 rfl (lv_room (Nat.le_of_ble_eq_true rfl)) dX2_is_50 ⟨Nat.le_of_ble_eq_true rfl, Nat.le_of_ble_eq_true rfl⟩) (fun rr hrr => ?_)
            subst hrr
            refine lv_aload_n hx hb dX2_is_53 rfl (lv_at hl 1 rfl) ?_
            refine lv_iload_n hx hb dX2_is_54 rfl (lv_at hl 3 rfl) ?_
            refine vp_callSi (W.runV (As := [.int (nI k)]) (rest := [.int (nI (byS ((N 33)) (J 32) (N 37 + k)))]) ⟨hx, hb, hml, hown, hts⟩ (c_J3_charAt lh w b n f k (show k < n from by first | omega | assumption | exact hB_up (by assumption) (by omega))) (w_J3_charAt hts q1545 rfl rfl ⟨Nat.le_of_ble_eq_true rfl, Nat.le_of_ble_eq_true rfl⟩) ⟨PX.blind (Mv.and KC.mv SA.mv), (SA.recv h_w), PX.pre (Mv.and KC.mv SA.mv) ⟨hKC, h_w⟩⟩ rfl rfl hl.1 rfl (lv_room (Nat.le_of_ble_eq_true rfl)) dX2_is_55 ⟨Nat.le_of_ble_eq_true rfl, Nat.le_of_ble_eq_true rfl⟩) (fun rr hrr => ?_)
            subst hrr
            refine kn_cne (tgt := 65) hx hb dX2_is_58 (by decide) (by have := byS_lt (N 33) (J 32) (N 37 + k); omega) (by have := h_w.2.2.2.2.2 k (by omega); omega) (fun c_58 => ?_) (fun c_58 => ?_)
            · refine lv_iconst (v := nI 0) hx hb dX2_is_65 (by decide) ?_
              refine lv_istore_n (lv' := [(2, .int (nI 0)), (0, .ref a0), (1, .ref w), (3, .int (nI k))]) hx hb dX2_is_66 rfl hl (by decide) rfl (fun ls hl => ?_)
              refine lv_iinc (v := nI (k + 1)) (lv' := [(3, .int (nI (k + 1))), (2, .int (nI 0)), (0, .ref a0), (1, .ref w)]) hx hb dX2_is_67 hl (k := 3) rfl (show nI k + Int32.ofInt 1 = nI (k + 1) from nI_add _ 1) (by decide) rfl (fun ls hl => ?_)
              refine lv_goto (tgt := 31) hx hb dX2_is_70 (by decide) ?_
              exact ih31 (k + 1) (by omega) (by omega) _ (lv_conv (show lv_has ls 4 [(0, .ref a0), (1, .ref w), (2, .int (nI 0)), (3, .int (nI (k + 1)))] from (lv_sub hl [2, 3, 1, 0] rfl)) (by rw [show isT N J n f (k + 1) = false from by have h := c_40; simp only [isT, eqT, Bool.and_eq_true, decide_eq_true_eq] at h ⊢; simp [h.1, h.2.1, h.2.2, c_58]]; rfl))
            · refine lv_iconst (v := nI 1) hx hb dX2_is_61 (by decide) ?_
              refine lv_goto (tgt := 66) hx hb dX2_is_62 (by decide) ?_
              refine lv_istore_n (lv' := [(2, .int (nI 1)), (0, .ref a0), (1, .ref w), (3, .int (nI k))]) hx hb dX2_is_66 rfl hl (by decide) rfl (fun ls hl => ?_)
              refine lv_iinc (v := nI (k + 1)) (lv' := [(3, .int (nI (k + 1))), (2, .int (nI 1)), (0, .ref a0), (1, .ref w)]) hx hb dX2_is_67 hl (k := 3) rfl (show nI k + Int32.ofInt 1 = nI (k + 1) from nI_add _ 1) (by decide) rfl (fun ls hl => ?_)
              refine lv_goto (tgt := 31) hx hb dX2_is_70 (by decide) ?_
              exact ih31 (k + 1) (by omega) (by omega) _ (lv_conv (show lv_has ls 4 [(0, .ref a0), (1, .ref w), (2, .int (nI 1)), (3, .int (nI (k + 1)))] from (lv_sub hl [2, 3, 1, 0] rfl)) (by rw [show isT N J n f (k + 1) = true from by have h := c_40; simp only [isT, eqT, Bool.and_eq_true, decide_eq_true_eq] at h ⊢; simp [h.1, h.2.1, h.2.2, c_58]]; rfl))
    exact L31 _ 0 (by omega) (Nat.lt_succ_self _) _ (lv_conv (show lv_has ls 4 [(0, .ref a0), (1, .ref w), (2, .int (nI 0)), (3, .int (nI 0))] from (lv_sub hl [2, 3, 1, 0] rfl)) (by rw [show isT N J n f 0 = false from by simp [isT, eqT, c_4]]; rfl))
  · refine lv_aload_n hx hb dX2_is_7 rfl (lv_at hl 0 rfl) ?_
    refine M_get (v := .int (nI (N 38))) hx hb hts hown hG hM 38 (by decide) q1330 rfl rfl dX2_is_8 ?_
    refine lv_aload_n hx hb dX2_is_11 rfl (lv_at hl 0 rfl) ?_
    refine M_get (v := .int (nI (N 37))) hx hb hts hown hG hM 37 (by decide) q1329 rfl rfl dX2_is_12 ?_
    refine kn_sub hx hb dX2_is_15 (by omega) ?_
    refine lv_aload_n hx hb dX2_is_16 rfl (lv_at hl 1 rfl) ?_
    refine vp_callSi (W.runV (As := []) (rest := [.int (nI (N 38 - (N 37)))]) ⟨hx, hb, hml, hown, hts⟩ (c_J3_length lh w b n f) (w_J3_length hts q1544 rfl rfl ⟨Nat.le_of_ble_eq_true rfl, Nat.le_of_ble_eq_true rfl⟩) ⟨PX.blind (Mv.and KC.mv SA.mv), (SA.recv h_w), PX.pre (Mv.and KC.mv SA.mv) ⟨hKC, h_w⟩⟩ rfl rfl hl.1 rfl (lv_room (Nat.le_of_ble_eq_true rfl)) dX2_is_17 ⟨Nat.le_of_ble_eq_true rfl, Nat.le_of_ble_eq_true rfl⟩) (fun rr hrr => ?_)
    subst hrr
    refine kn_cne (tgt := 27) hx hb dX2_is_20 (by decide) (by omega) (by omega) (fun c_20 => ?_) (fun c_20 => ?_)
    · refine lv_iconst (v := nI 0) hx hb dX2_is_27 (by decide) ?_
      refine lv_istore_n (lv' := [(2, .int (nI 0)), (0, .ref a0), (1, .ref w)]) hx hb dX2_is_28 rfl hl (by decide) rfl (fun ls hl => ?_)
      refine lv_iconst (v := nI 0) hx hb dX2_is_29 (by decide) ?_
      refine lv_istore_n (lv' := [(3, .int (nI 0)), (2, .int (nI 0)), (0, .ref a0), (1, .ref w)]) hx hb dX2_is_30 rfl hl (by decide) rfl (fun ls hl => ?_)
      have L31 : ∀ (nn31 : Nat) (k : Nat), (k ≤ n) → n - k < nn31 → ∀ (ls : Array Slot), lv_has ls 4 [(0, .ref a0), (1, .ref w), (2, .int (bI (isT N J n f k))), (3, .int (nI k))] → W p lh e r_X2_is s m args below meth cd s.heap [] 0 0 Q (F0 m 31 ls []) := by
        intro nn31
        induction nn31 with
        | zero => intro k i31_0 hm31; exact absurd hm31 (Nat.not_lt_zero _)
        | succ nn31 ih31 =>
          intro k i31_0 hm31 ls hl
          refine lv_iload_n hx hb dX2_is_31 rfl (lv_at hl 3 rfl) ?_
          refine lv_aload_n hx hb dX2_is_32 rfl (lv_at hl 1 rfl) ?_
          refine vp_callSi (W.runV (As := []) (rest := [.int (nI k)]) ⟨hx, hb, hml, hown, hts⟩ (c_J3_length lh w b n f) (w_J3_length hts q1544 rfl rfl ⟨Nat.le_of_ble_eq_true rfl, Nat.le_of_ble_eq_true rfl⟩) ⟨PX.blind (Mv.and KC.mv SA.mv), (SA.recv h_w), PX.pre (Mv.and KC.mv SA.mv) ⟨hKC, h_w⟩⟩ rfl rfl hl.1 rfl (lv_room (Nat.le_of_ble_eq_true rfl)) dX2_is_33 ⟨Nat.le_of_ble_eq_true rfl, Nat.le_of_ble_eq_true rfl⟩) (fun rr hrr => ?_)
          subst hrr
          refine kn_cge (tgt := 73) hx hb dX2_is_36 (by decide) (by omega) (by omega) (fun c_36 => ?_) (fun c_36 => ?_)
          · refine lv_iload_n hx hb dX2_is_73 rfl (lv_at hl 2 rfl) ?_
            subst hQ
            exact W.zret (v := bI (isT N J n f k)) hx hb hrt (narB _) (fun t ht _ => ⟨_, rfl, (show bI (isT N J n f k) = bI (isT N J n f n) from by rw [show k = n by omega]), ht⟩) t_nil dX2_is_74
          · refine lv_iload_n hx hb dX2_is_39 rfl (lv_at hl 2 rfl) ?_
            refine kb_eq (tgt := 73) hx hb dX2_is_40 (by decide) (fun c_40 => ?_) (fun c_40 => ?_)
            · refine lv_iload_n hx hb dX2_is_73 rfl (lv_at hl 2 rfl) ?_
              subst hQ
              exact W.zret (v := bI (isT N J n f k)) hx hb hrt (narB _) (fun t ht _ => ⟨_, rfl, (show bI (isT N J n f k) = bI (isT N J n f n) from by rw [c_40, isT_no c_40 (by omega)]), ht⟩) t_nil dX2_is_74
            · refine lv_aload_n hx hb dX2_is_43 rfl (lv_at hl 0 rfl) ?_
              refine lv_aload_n hx hb dX2_is_44 rfl (lv_at hl 0 rfl) ?_
              refine M_get (v := .int (nI (N 37))) hx hb hts hown hG hM 37 (by decide) q1329 rfl rfl dX2_is_45 ?_
              refine lv_iload_n hx hb dX2_is_48 rfl (lv_at hl 3 rfl) ?_
              refine kn_add hx hb dX2_is_49 ?_
              refine vp_callSi (W.runV (As := [.int (nI (N 37 + k))]) (rest := []) ⟨hx, hb, hml, hown, hts⟩ (c_X2_byteAt lh D dA a0 ad N I G J (N 37 + k) (p33) (by have h := c_40; simp only [isT, Bool.and_eq_true, decide_eq_true_eq] at h; omega)) (w_X2_byteAt hts q1531 rfl rfl ⟨Nat.le_of_ble_eq_true rfl, Nat.le_of_ble_eq_true rfl⟩) ⟨PqM.blind, M_recv hG hM, PqM.pre hG hM⟩ rfl rfl hl.1 rfl (lv_room (Nat.le_of_ble_eq_true rfl)) dX2_is_50 ⟨Nat.le_of_ble_eq_true rfl, Nat.le_of_ble_eq_true rfl⟩) (fun rr hrr => ?_)
              subst hrr
              refine lv_aload_n hx hb dX2_is_53 rfl (lv_at hl 1 rfl) ?_
              refine lv_iload_n hx hb dX2_is_54 rfl (lv_at hl 3 rfl) ?_
              refine vp_callSi (W.runV (As := [.int (nI k)]) (rest := [.int (nI (byS ((N 33)) (J 32) (N 37 + k)))]) ⟨hx, hb, hml, hown, hts⟩ (c_J3_charAt lh w b n f k (show k < n from by first | omega | assumption | exact hB_up (by assumption) (by omega))) (w_J3_charAt hts q1545 rfl rfl ⟨Nat.le_of_ble_eq_true rfl, Nat.le_of_ble_eq_true rfl⟩) ⟨PX.blind (Mv.and KC.mv SA.mv), (SA.recv h_w), PX.pre (Mv.and KC.mv SA.mv) ⟨hKC, h_w⟩⟩ rfl rfl hl.1 rfl (lv_room (Nat.le_of_ble_eq_true rfl)) dX2_is_55 ⟨Nat.le_of_ble_eq_true rfl, Nat.le_of_ble_eq_true rfl⟩) (fun rr hrr => ?_)
              subst hrr
              refine kn_cne (tgt := 65) hx hb dX2_is_58 (by decide) (by have := byS_lt (N 33) (J 32) (N 37 + k); omega) (by have := h_w.2.2.2.2.2 k (by omega); omega) (fun c_58 => ?_) (fun c_58 => ?_)
              · refine lv_iconst (v := nI 0) hx hb dX2_is_65 (by decide) ?_
                refine lv_istore_n (lv' := [(2, .int (nI 0)), (0, .ref a0), (1, .ref w), (3, .int (nI k))]) hx hb dX2_is_66 rfl hl (by decide) rfl (fun ls hl => ?_)
                refine lv_iinc (v := nI (k + 1)) (lv' := [(3, .int (nI (k + 1))), (2, .int (nI 0)), (0, .ref a0), (1, .ref w)]) hx hb dX2_is_67 hl (k := 3) rfl (show nI k + Int32.ofInt 1 = nI (k + 1) from nI_add _ 1) (by decide) rfl (fun ls hl => ?_)
                refine lv_goto (tgt := 31) hx hb dX2_is_70 (by decide) ?_
                exact ih31 (k + 1) (by omega) (by omega) _ (lv_conv (show lv_has ls 4 [(0, .ref a0), (1, .ref w), (2, .int (nI 0)), (3, .int (nI (k + 1)))] from (lv_sub hl [2, 3, 1, 0] rfl)) (by rw [show isT N J n f (k + 1) = false from by have h := c_40; simp only [isT, eqT, Bool.and_eq_true, decide_eq_true_eq] at h ⊢; simp [h.1, h.2.1, h.2.2, c_58]]; rfl))
              · refine lv_iconst (v := nI 1) hx hb dX2_is_61 (by decide) ?_
                refine lv_goto (tgt := 66) hx hb dX2_is_62 (by decide) ?_
                refine lv_istore_n (lv' := [(2, .int (nI 1)), (0, .ref a0), (1, .ref w), (3, .int (nI k))]) hx hb dX2_is_66 rfl hl (by decide) rfl (fun ls hl => ?_)
                refine lv_iinc (v := nI (k + 1)) (lv' := [(3, .int (nI (k + 1))), (2, .int (nI 1)), (0, .ref a0), (1, .ref w)]) hx hb dX2_is_67 hl (k := 3) rfl (show nI k + Int32.ofInt 1 = nI (k + 1) from nI_add _ 1) (by decide) rfl (fun ls hl => ?_)
                refine lv_goto (tgt := 31) hx hb dX2_is_70 (by decide) ?_
                exact ih31 (k + 1) (by omega) (by omega) _ (lv_conv (show lv_has ls 4 [(0, .ref a0), (1, .ref w), (2, .int (nI 1)), (3, .int (nI (k + 1)))] from (lv_sub hl [2, 3, 1, 0] rfl)) (by rw [show isT N J n f (k + 1) = true from by have h := c_40; simp only [isT, eqT, Bool.and_eq_true, decide_eq_true_eq] at h ⊢; simp [h.1, h.2.1, h.2.2, c_58]]; rfl))
      exact L31 _ 0 (by omega) (Nat.lt_succ_self _) _ (lv_conv (show lv_has ls 4 [(0, .ref a0), (1, .ref w), (2, .int (nI 0)), (3, .int (nI 0))] from (lv_sub hl [2, 3, 1, 0] rfl)) (by rw [show isT N J n f 0 = false from by simp [isT, eqT, c_4, c_20]]; rfl))
    · refine lv_iconst (v := nI 1) hx hb dX2_is_23 (by decide) ?_
      refine lv_goto (tgt := 28) hx hb dX2_is_24 (by decide) ?_
      refine lv_istore_n (lv' := [(2, .int (nI 1)), (0, .ref a0), (1, .ref w)]) hx hb dX2_is_28 rfl hl (by decide) rfl (fun ls hl => ?_)
      refine lv_iconst (v := nI 0) hx hb dX2_is_29 (by decide) ?_
      refine lv_istore_n (lv' := [(3, .int (nI 0)), (2, .int (nI 1)), (0, .ref a0), (1, .ref w)]) hx hb dX2_is_30 rfl hl (by decide) rfl (fun ls hl => ?_)
      have L31 : ∀ (nn31 : Nat) (k : Nat), (k ≤ n) → n - k < nn31 → ∀ (ls : Array Slot), lv_has ls 4 [(0, .ref a0), (1, .ref w), (2, .int (bI (isT N J n f k))), (3, .int (nI k))] → W p lh e r_X2_is s m args below meth cd s.heap [] 0 0 Q (F0 m 31 ls []) := by
        intro nn31
        induction nn31 with
        | zero => intro k i31_0 hm31; exact absurd hm31 (Nat.not_lt_zero _)
        | succ nn31 ih31 =>
          intro k i31_0 hm31 ls hl
          refine lv_iload_n hx hb dX2_is_31 rfl (lv_at hl 3 rfl) ?_
          refine lv_aload_n hx hb dX2_is_32 rfl (lv_at hl 1 rfl) ?_
          refine vp_callSi (W.runV (As := []) (rest := [.int (nI k)]) ⟨hx, hb, hml, hown, hts⟩ (c_J3_length lh w b n f) (w_J3_length hts q1544 rfl rfl ⟨Nat.le_of_ble_eq_true rfl, Nat.le_of_ble_eq_true rfl⟩) ⟨PX.blind (Mv.and KC.mv SA.mv), (SA.recv h_w), PX.pre (Mv.and KC.mv SA.mv) ⟨hKC, h_w⟩⟩ rfl rfl hl.1 rfl (lv_room (Nat.le_of_ble_eq_true rfl)) dX2_is_33 ⟨Nat.le_of_ble_eq_true rfl, Nat.le_of_ble_eq_true rfl⟩) (fun rr hrr => ?_)
          subst hrr
          refine kn_cge (tgt := 73) hx hb dX2_is_36 (by decide) (by omega) (by omega) (fun c_36 => ?_) (fun c_36 => ?_)
          · refine lv_iload_n hx hb dX2_is_73 rfl (lv_at hl 2 rfl) ?_
            subst hQ
            exact W.zret (v := bI (isT N J n f k)) hx hb hrt (narB _) (fun t ht _ => ⟨_, rfl, (show bI (isT N J n f k) = bI (isT N J n f n) from by rw [show k = n by omega]), ht⟩) t_nil dX2_is_74
          · refine lv_iload_n hx hb dX2_is_39 rfl (lv_at hl 2 rfl) ?_
            refine kb_eq (tgt := 73) hx hb dX2_is_40 (by decide) (fun c_40 => ?_) (fun c_40 => ?_)
            · refine lv_iload_n hx hb dX2_is_73 rfl (lv_at hl 2 rfl) ?_
              subst hQ
              exact W.zret (v := bI (isT N J n f k)) hx hb hrt (narB _) (fun t ht _ => ⟨_, rfl, (show bI (isT N J n f k) = bI (isT N J n f n) from by rw [c_40, isT_no c_40 (by omega)]), ht⟩) t_nil dX2_is_74
            · refine lv_aload_n hx hb dX2_is_43 rfl (lv_at hl 0 rfl) ?_
              refine lv_aload_n hx hb dX2_is_44 rfl (lv_at hl 0 rfl) ?_
              refine M_get (v := .int (nI (N 37))) hx hb hts hown hG hM 37 (by decide) q1329 rfl rfl dX2_is_45 ?_
              refine lv_iload_n hx hb dX2_is_48 rfl (lv_at hl 3 rfl) ?_
              refine kn_add hx hb dX2_is_49 ?_
              refine vp_callSi (W.runV (As := [.int (nI (N 37 + k))]) (rest := []) ⟨hx, hb, hml, hown, hts⟩ (c_X2_byteAt lh D dA a0 ad N I G J (N 37 + k) (p33) (by have h := c_40; simp only [isT, Bool.and_eq_true, decide_eq_true_eq] at h; omega)) (w_X2_byteAt hts q1531 rfl rfl ⟨Nat.le_of_ble_eq_true rfl, Nat.le_of_ble_eq_true rfl⟩) ⟨PqM.blind, M_recv hG hM, PqM.pre hG hM⟩ rfl rfl hl.1 rfl (lv_room (Nat.le_of_ble_eq_true rfl)) dX2_is_50 ⟨Nat.le_of_ble_eq_true rfl, Nat.le_of_ble_eq_true rfl⟩) (fun rr hrr => ?_)
              subst hrr
              refine lv_aload_n hx hb dX2_is_53 rfl (lv_at hl 1 rfl) ?_
              refine lv_iload_n hx hb dX2_is_54 rfl (lv_at hl 3 rfl) ?_
              refine vp_callSi (W.runV (As := [.int (nI k)]) (rest := [.int (nI (byS ((N 33)) (J 32) (N 37 + k)))]) ⟨hx, hb, hml, hown, hts⟩ (c_J3_charAt lh w b n f k (show k < n from by first | omega | assumption | exact hB_up (by assumption) (by omega))) (w_J3_charAt hts q1545 rfl rfl ⟨Nat.le_of_ble_eq_true rfl, Nat.le_of_ble_eq_true rfl⟩) ⟨PX.blind (Mv.and KC.mv SA.mv), (SA.recv h_w), PX.pre (Mv.and KC.mv SA.mv) ⟨hKC, h_w⟩⟩ rfl rfl hl.1 rfl (lv_room (Nat.le_of_ble_eq_true rfl)) dX2_is_55 ⟨Nat.le_of_ble_eq_true rfl, Nat.le_of_ble_eq_true rfl⟩) (fun rr hrr => ?_)
              subst hrr
              refine kn_cne (tgt := 65) hx hb dX2_is_58 (by decide) (by have := byS_lt (N 33) (J 32) (N 37 + k); omega) (by have := h_w.2.2.2.2.2 k (by omega); omega) (fun c_58 => ?_) (fun c_58 => ?_)
              · refine lv_iconst (v := nI 0) hx hb dX2_is_65 (by decide) ?_
                refine lv_istore_n (lv' := [(2, .int (nI 0)), (0, .ref a0), (1, .ref w), (3, .int (nI k))]) hx hb dX2_is_66 rfl hl (by decide) rfl (fun ls hl => ?_)
                refine lv_iinc (v := nI (k + 1)) (lv' := [(3, .int (nI (k + 1))), (2, .int (nI 0)), (0, .ref a0), (1, .ref w)]) hx hb dX2_is_67 hl (k := 3) rfl (show nI k + Int32.ofInt 1 = nI (k + 1) from nI_add _ 1) (by decide) rfl (fun ls hl => ?_)
                refine lv_goto (tgt := 31) hx hb dX2_is_70 (by decide) ?_
                exact ih31 (k + 1) (by omega) (by omega) _ (lv_conv (show lv_has ls 4 [(0, .ref a0), (1, .ref w), (2, .int (nI 0)), (3, .int (nI (k + 1)))] from (lv_sub hl [2, 3, 1, 0] rfl)) (by rw [show isT N J n f (k + 1) = false from by have h := c_40; simp only [isT, eqT, Bool.and_eq_true, decide_eq_true_eq] at h ⊢; simp [h.1, h.2.1, h.2.2, c_58]]; rfl))
              · refine lv_iconst (v := nI 1) hx hb dX2_is_61 (by decide) ?_
                refine lv_goto (tgt := 66) hx hb dX2_is_62 (by decide) ?_
                refine lv_istore_n (lv' := [(2, .int (nI 1)), (0, .ref a0), (1, .ref w), (3, .int (nI k))]) hx hb dX2_is_66 rfl hl (by decide) rfl (fun ls hl => ?_)
                refine lv_iinc (v := nI (k + 1)) (lv' := [(3, .int (nI (k + 1))), (2, .int (nI 1)), (0, .ref a0), (1, .ref w)]) hx hb dX2_is_67 hl (k := 3) rfl (show nI k + Int32.ofInt 1 = nI (k + 1) from nI_add _ 1) (by decide) rfl (fun ls hl => ?_)
                refine lv_goto (tgt := 31) hx hb dX2_is_70 (by decide) ?_
                exact ih31 (k + 1) (by omega) (by omega) _ (lv_conv (show lv_has ls 4 [(0, .ref a0), (1, .ref w), (2, .int (nI 1)), (3, .int (nI (k + 1)))] from (lv_sub hl [2, 3, 1, 0] rfl)) (by rw [show isT N J n f (k + 1) = true from by have h := c_40; simp only [isT, eqT, Bool.and_eq_true, decide_eq_true_eq] at h ⊢; simp [h.1, h.2.1, h.2.2, c_58]]; rfl))
      exact L31 _ 0 (by omega) (Nat.lt_succ_self _) _ (lv_conv (show lv_has ls 4 [(0, .ref a0), (1, .ref w), (2, .int (nI 1)), (3, .int (nI 0))] from (lv_sub hl [2, 3, 1, 0] rfl)) (by rw [show isT N J n f 0 = true from by simp [isT, eqT, c_4, c_20]]; rfl))
theorem w_X2_is {R : Room} {s : State} {args : Array Value} {own : String} {idx : Nat} (hts : ∀ w ∈ lw_all, w.before args s = true) (h1 : Cond.methodLink own idx yX2_is ∈ lw_all) {rm : Room} {mc ms : Nat} (hrc : rm.cells = mc) (hrs : rm.slots = ms) (hR : rm.frames + 1 ≤ R.frames ∧ 8 + (4 + 11) + rm.locals ≤ R.locals) : CallW R s args own RX2 idx yX2_is cX2_is 4 (some .boolean) (ws_ yX2_is cX2_is 4 (some .boolean)) rm mc ms 1 := cwV 1 hts (lw_V h1 q1542 qs39 q70 q1543) rfl hrc hrs (by decide +kernel) hR

abbrev r_X2_which : Room := { frames := 4, cells := 0, slots := 0, locals := 85 }
set_option maxHeartbeats 400000 in
theorem c_X2_which (lh : Launch) (D : va_G) (dA : Nat → ClassId) (a0 : Nat) (ad : Nat → Nat) (N : Nat → Nat) (I : Nat → Int32) (G : Nat → Nat → Nat) (J : Nat → Nat → Int32) (w : Nat) (b : Nat) (n : Nat) (f : Nat → Nat) (h1 : PsOk N) : Met lh yX2_which (ws_ yX2_which cX2_which 7 (some .int)) r_X2_which (PX (fun U H => RM D dA a0 ad N I G J H ∧ GK D dA U ∧ KC nA U H ∧ SA nA w b n f U H) [.ref a0, .ref w]) (vp_Si (fun rv => rv = oI (whT N J f n))) 0 0 (fun _ => False) := by
  refine Met.ofW (cc := cX2_which) (maxL := 7) (ret := (some .int)) (by decide) rfl ?_
  intro p e s m args below meth cd s₁ B hml hv
  obtain ⟨hargs, hM, hG, hKC, h_w⟩ := hv
  have hS : va_S nA s.heap s.heap [] := va_S.rf
  have hx := B.exec
  have hb := B.bytes
  have hrt := B.returns
  have hts := atoms_spec (ws := (ws_ yX2_which cX2_which 7 (some .int))) B.pre
  have hts : ∀ w ∈ lw_all, w.before _ s = true := fun w h => hts w (List.mem_cons_of_mem _ h)
  have hown : s.vm.findClass RX2 = some m.cls := findClass_of_methodNamed B.named
  have hlocks := B.notSynchronized
  have hE : entryFrame m args 7 = F0 m 0 ((lg_sl ([.ref a0, .ref w]) ++ List.replicate (7 - (lg_sl ([.ref a0, .ref w])).length) Slot.unset).toArray) [] := by rw [hargs]; exact lg_entry_eq m _ 7
  have hl := lv_entry ([.ref a0, .ref w]) (n := 7) (Nat.le_of_ble_eq_true rfl)
  rw [hE]
  clear hE
  generalize (lg_sl ([.ref a0, .ref w]) ++ List.replicate (7 - (lg_sl ([.ref a0, .ref w])).length) Slot.unset).toArray = ls at hl ⊢
  have hl : lv_has ls 7 [(0, .ref a0), (1, .ref w)] := hl
  generalize hQ : MQ _ _ _ _ _ _ _ = Q
  obtain ⟨p33, p37, p38, p34, p36, p39⟩ := h1
  have hn := h_w.2.2.2.2.1
  refine lv_iconst (v := nI 0) hx hb dX2_which_0 (by decide) ?_
  refine lv_istore_n (lv' := [(2, .int (nI 0)), (0, .ref a0), (1, .ref w)]) hx hb dX2_which_1 rfl hl (by decide) rfl (fun ls hl => ?_)
  refine lv_iconst (v := nI 0) hx hb dX2_which_2 (by decide) ?_
  refine lv_istore_n (lv' := [(3, .int (nI 0)), (2, .int (nI 0)), (0, .ref a0), (1, .ref w)]) hx hb dX2_which_3 rfl hl (by decide) rfl (fun ls hl => ?_)
  refine lv_iconst (v := nI 0) hx hb dX2_which_4 (by decide) ?_
  refine lv_istore (lv' := [(4, .int (nI 0)), (3, .int (nI 0)), (2, .int (nI 0)), (0, .ref a0), (1, .ref w)]) hx hb dX2_which_5 hl (by decide) rfl (fun ls hl => ?_)
  have L7 : ∀ (nn7 : Nat) (k : Nat), (k ≤ n) → (whT N J f k = none) → n - k < nn7 → ∀ (ls : Array Slot), lv_has ls 7 [(0, .ref a0), (1, .ref w), (2, .int (nI (spN f k))), (3, .int (nI (spA f k))), (4, .int (nI k))] → W p lh e r_X2_which s m args below meth cd s.heap [] 0 0 Q (F0 m 7 ls []) := by
    intro nn7
    induction nn7 with
    | zero => intro k i7_0 i7_1 hm7; exact absurd hm7 (Nat.not_lt_zero _)
    | succ nn7 ih7 =>
      intro k i7_0 i7_1 hm7 ls hl
      have hsn := spN_le f k
      have hsa := spA_le f k
      refine lv_iload hx hb dX2_which_7 (lv_at hl 4 rfl) ?_
      refine lv_aload_n hx hb dX2_which_9 rfl (lv_at hl 1 rfl) ?_
      refine vp_callSi (W.runV (As := []) (rest := [.int (nI k)]) ⟨hx, hb, hml, hown, hts⟩ (c_J3_length lh w b n f) (w_J3_length hts q1544 rfl rfl ⟨Nat.le_of_ble_eq_true rfl, Nat.le_of_ble_eq_true rfl⟩) ⟨PX.blind (Mv.and KC.mv SA.mv), (SA.recv h_w), PX.pre (Mv.and KC.mv SA.mv) ⟨hKC, h_w⟩⟩ rfl rfl hl.1 rfl (lv_room (Nat.le_of_ble_eq_true rfl)) dX2_which_10 ⟨Nat.le_of_ble_eq_true rfl, Nat.le_of_ble_eq_true rfl⟩) (fun rr hrr => ?_)
      subst hrr
      refine kn_cge (tgt := 141) hx hb dX2_which_13 (by decide) (by omega) (by omega) (fun c_13 => ?_) (fun c_13 => ?_)
      · refine lv_iconst (v := -1) hx hb dX2_which_141 (by decide) ?_
        subst hQ
        exact W.iret (v := (-1)) hx hb hrt (fun t ht _ => ⟨_, rfl, (show (-1) = oI (whT N J f n) from by rw [show k = n by omega] at i7_1; rw [i7_1]; rfl), ht⟩) t_nil dX2_which_142
      · refine lv_aload_n hx hb dX2_which_16 rfl (lv_at hl 1 rfl) ?_
        refine lv_iload hx hb dX2_which_17 (lv_at hl 4 rfl) ?_
        refine vp_callSi (W.runV (As := [.int (nI k)]) (rest := []) ⟨hx, hb, hml, hown, hts⟩ (c_J3_charAt lh w b n f k (show k < n from by first | omega | assumption | exact hB_up (by assumption) (by omega))) (w_J3_charAt hts q1545 rfl rfl ⟨Nat.le_of_ble_eq_true rfl, Nat.le_of_ble_eq_true rfl⟩) ⟨PX.blind (Mv.and KC.mv SA.mv), (SA.recv h_w), PX.pre (Mv.and KC.mv SA.mv) ⟨hKC, h_w⟩⟩ rfl rfl hl.1 rfl (lv_room (Nat.le_of_ble_eq_true rfl)) dX2_which_19 ⟨Nat.le_of_ble_eq_true rfl, Nat.le_of_ble_eq_true rfl⟩) (fun rr hrr => ?_)
        subst hrr
        refine lv_bipush (v := nI 32) hx hb dX2_which_22 (by decide) ?_
        refine kn_ceq (tgt := 30) hx hb dX2_which_24 (by decide) (by have := h_w.2.2.2.2.2 k (by omega); omega) (by omega) (fun c_24 => ?_) (fun c_24 => ?_)
        · refine lv_aload_n hx hb dX2_which_30 rfl (lv_at hl 0 rfl) ?_
          refine M_get (v := .int (nI (N 36))) hx hb hts hown hG hM 36 (by decide) q1328 rfl rfl dX2_which_31 ?_
          refine lv_iconst (v := nI 1) hx hb dX2_which_34 (by decide) ?_
          refine kn_cne (tgt := 65) hx hb dX2_which_35 (by decide) (by omega) (by omega) (fun c_35 => ?_) (fun c_35 => ?_)
          · refine lv_iconst (v := nI 0) hx hb dX2_which_65 (by decide) ?_
            refine lv_istore (lv' := [(5, .int (nI 0)), (0, .ref a0), (1, .ref w), (2, .int (nI (spN f k))), (3, .int (nI (spA f k))), (4, .int (nI k))]) hx hb dX2_which_66 hl (by decide) rfl (fun ls hl => ?_)
            refine lv_iconst (v := nI 0) hx hb dX2_which_68 (by decide) ?_
            refine lv_istore (lv' := [(6, .int (nI 0)), (5, .int (nI 0)), (0, .ref a0), (1, .ref w), (2, .int (nI (spN f k))), (3, .int (nI (spA f k))), (4, .int (nI k))]) hx hb dX2_which_69 hl (by decide) rfl (fun ls hl => ?_)
            have L71 : ∀ (nn71 : Nat) (j : Nat), (j ≤ k - spA f k) → k - spA f k - j < nn71 → ∀ (ls : Array Slot), lv_has ls 7 [(0, .ref a0), (1, .ref w), (2, .int (nI (spN f k))), (3, .int (nI (spA f k))), (4, .int (nI k)), (5, .int (bI (maT N J f (spA f k) k j))), (6, .int (nI j))] → W p lh e r_X2_which s m args below meth cd s.heap [] 0 0 Q (F0 m 71 ls []) := by
              intro nn71
              induction nn71 with
              | zero => intro j i71_0 hm71; exact absurd hm71 (Nat.not_lt_zero _)
              | succ nn71 ih71 =>
                intro j i71_0 hm71 ls hl
                refine lv_iload hx hb dX2_which_71 (lv_at hl 6 rfl) ?_
                refine lv_iload hx hb dX2_which_73 (lv_at hl 4 rfl) ?_
                refine lv_iload_n hx hb dX2_which_75 rfl (lv_at hl 3 rfl) ?_
                refine kn_sub hx hb dX2_which_76 (by omega) ?_
                refine kn_cge (tgt := 120) hx hb dX2_which_77 (by decide) (by omega) (by omega) (fun c_77 => ?_) (fun c_77 => ?_)
                · refine lv_iload hx hb dX2_which_120 (lv_at hl 5 rfl) ?_
                  refine kb_eq (tgt := 127) hx hb dX2_which_122 (by decide) (fun c_122 => ?_) (fun c_122 => ?_)
                  · refine lv_iinc (v := nI (spN f k + 1)) (lv' := [(2, .int (nI (spN f k + 1))), (0, .ref a0), (1, .ref w), (3, .int (nI (spA f k))), (4, .int (nI k)), (5, .int (bI (maT N J f (spA f k) k j))), (6, .int (nI j))]) hx hb dX2_which_127 hl (k := 2) rfl (show nI (spN f k) + Int32.ofInt 1 = nI (spN f k + 1) from nI_add _ 1) (by decide) rfl (fun ls hl => ?_)
                    refine lv_iload hx hb dX2_which_130 (lv_at hl 4 rfl) ?_
                    refine lv_iconst (v := nI 1) hx hb dX2_which_132 (by decide) ?_
                    refine kn_add hx hb dX2_which_133 ?_
                    refine lv_istore_n (lv' := [(3, .int (nI (k + 1))), (2, .int (nI (spN f k + 1))), (0, .ref a0), (1, .ref w), (4, .int (nI k)), (5, .int (bI (maT N J f (spA f k) k j))), (6, .int (nI j))]) hx hb dX2_which_134 rfl hl (by decide) rfl (fun ls hl => ?_)
                    refine lv_iinc (v := nI (k + 1)) (lv' := [(4, .int (nI (k + 1))), (3, .int (nI (k + 1))), (2, .int (nI (spN f k + 1))), (0, .ref a0), (1, .ref w), (5, .int (bI (maT N J f (spA f k) k j))), (6, .int (nI j))]) hx hb dX2_which_135 hl (k := 4) rfl (show nI k + Int32.ofInt 1 = nI (k + 1) from nI_add _ 1) (by decide) rfl (fun ls hl => ?_)
                    refine lv_goto (tgt := 7) hx hb dX2_which_138 (by decide) ?_
                    exact ih7 (k + 1) (by omega) (whT_miss i7_1 (fun q => by rw [show maT N J f (spA f k) k (k - spA f k) = false from (show k - spA f k = j by omega) ▸ c_122] at q; exact absurd q.2 (by decide))) (by omega) _ (lv_conv (show lv_has ls 7 [(0, .ref a0), (1, .ref w), (2, .int (nI (spN f k + 1))), (3, .int (nI (k + 1))), (4, .int (nI (k + 1)))] from (lv_sub hl [3, 4, 2, 1, 0] rfl)) (by rw [spN, if_pos c_24, spA, if_pos c_24]))
                  · refine lv_iload_n hx hb dX2_which_125 rfl (lv_at hl 2 rfl) ?_
                    subst hQ
                    exact W.iret (v := nI (spN f k)) hx hb hrt (fun t ht _ => ⟨_, rfl, (show nI (spN f k) = oI (whT N J f n) from by rw [whT_hit i7_1 c_24 ((show k - spA f k = j by omega) ▸ c_122) (by omega)]; rfl), ht⟩) t_nil dX2_which_126
                · refine lv_iload hx hb dX2_which_80 (lv_at hl 5 rfl) ?_
                  refine kb_eq (tgt := 120) hx hb dX2_which_82 (by decide) (fun c_82 => ?_) (fun c_82 => ?_)
                  · refine lv_iload hx hb dX2_which_120 (lv_at hl 5 rfl) ?_
                    refine kb_eq (tgt := 127) hx hb dX2_which_122 (by decide) (fun c_122 => ?_) (fun c_122 => ?_)
                    · refine lv_iinc (v := nI (spN f k + 1)) (lv' := [(2, .int (nI (spN f k + 1))), (0, .ref a0), (1, .ref w), (3, .int (nI (spA f k))), (4, .int (nI k)), (5, .int (bI (maT N J f (spA f k) k j))), (6, .int (nI j))]) hx hb dX2_which_127 hl (k := 2) rfl (show nI (spN f k) + Int32.ofInt 1 = nI (spN f k + 1) from nI_add _ 1) (by decide) rfl (fun ls hl => ?_)
                      refine lv_iload hx hb dX2_which_130 (lv_at hl 4 rfl) ?_
                      refine lv_iconst (v := nI 1) hx hb dX2_which_132 (by decide) ?_
                      refine kn_add hx hb dX2_which_133 ?_
                      refine lv_istore_n (lv' := [(3, .int (nI (k + 1))), (2, .int (nI (spN f k + 1))), (0, .ref a0), (1, .ref w), (4, .int (nI k)), (5, .int (bI (maT N J f (spA f k) k j))), (6, .int (nI j))]) hx hb dX2_which_134 rfl hl (by decide) rfl (fun ls hl => ?_)
                      refine lv_iinc (v := nI (k + 1)) (lv' := [(4, .int (nI (k + 1))), (3, .int (nI (k + 1))), (2, .int (nI (spN f k + 1))), (0, .ref a0), (1, .ref w), (5, .int (bI (maT N J f (spA f k) k j))), (6, .int (nI j))]) hx hb dX2_which_135 hl (k := 4) rfl (show nI k + Int32.ofInt 1 = nI (k + 1) from nI_add _ 1) (by decide) rfl (fun ls hl => ?_)
                      refine lv_goto (tgt := 7) hx hb dX2_which_138 (by decide) ?_
                      exact ih7 (k + 1) (by omega) (whT_miss i7_1 (fun q => by rw [show maT N J f (spA f k) k (k - spA f k) = false from maT_no c_82 (by omega)] at q; exact absurd q.2 (by decide))) (by omega) _ (lv_conv (show lv_has ls 7 [(0, .ref a0), (1, .ref w), (2, .int (nI (spN f k + 1))), (3, .int (nI (k + 1))), (4, .int (nI (k + 1)))] from (lv_sub hl [3, 4, 2, 1, 0] rfl)) (by rw [spN, if_pos c_24, spA, if_pos c_24]))
                    · refine lv_iload_n hx hb dX2_which_125 rfl (lv_at hl 2 rfl) ?_
                      subst hQ
                      exact W.iret (v := nI (spN f k)) hx hb hrt (fun t ht _ => ⟨_, rfl, (show nI (spN f k) = oI (whT N J f n) from by rw [whT_hit i7_1 c_24 (absurd c_122 (by rw [c_82]; decide)) (by omega)]; rfl), ht⟩) t_nil dX2_which_126
                  · refine lv_aload_n hx hb dX2_which_85 rfl (lv_at hl 0 rfl) ?_
                    refine lv_aload_n hx hb dX2_which_86 rfl (lv_at hl 0 rfl) ?_
                    refine M_get (v := .int (nI (N 37))) hx hb hts hown hG hM 37 (by decide) q1329 rfl rfl dX2_which_87 ?_
                    refine lv_iload hx hb dX2_which_90 (lv_at hl 6 rfl) ?_
                    refine kn_add hx hb dX2_which_92 ?_
                    refine vp_callSi (W.runV (As := [.int (nI (N 37 + j))]) (rest := []) ⟨hx, hb, hml, hown, hts⟩ (c_X2_byteAt lh D dA a0 ad N I G J (N 37 + j) (p33) (by have h := c_82; simp only [maT, Bool.and_eq_true, decide_eq_true_eq] at h; omega)) (w_X2_byteAt hts q1531 rfl rfl ⟨Nat.le_of_ble_eq_true rfl, Nat.le_of_ble_eq_true rfl⟩) ⟨PqM.blind, M_recv hG hM, PqM.pre hG hM⟩ rfl rfl hl.1 rfl (lv_room (Nat.le_of_ble_eq_true rfl)) dX2_which_93 ⟨Nat.le_of_ble_eq_true rfl, Nat.le_of_ble_eq_true rfl⟩) (fun rr hrr => ?_)
                    subst hrr
                    refine lv_aload_n hx hb dX2_which_96 rfl (lv_at hl 1 rfl) ?_
                    refine lv_iload_n hx hb dX2_which_97 rfl (lv_at hl 3 rfl) ?_
                    refine lv_iload hx hb dX2_which_98 (lv_at hl 6 rfl) ?_
                    refine kn_add hx hb dX2_which_100 ?_
                    refine vp_callSi (W.runV (As := [.int (nI (spA f k + j))]) (rest := [.int (nI (byS ((N 33)) (J 32) (N 37 + j)))]) ⟨hx, hb, hml, hown, hts⟩ (c_J3_charAt lh w b n f (spA f k + j) (show (spA f k + j) < n from by first | omega | assumption | exact hB_up (by assumption) (by omega))) (w_J3_charAt hts q1545 rfl rfl ⟨Nat.le_of_ble_eq_true rfl, Nat.le_of_ble_eq_true rfl⟩) ⟨PX.blind (Mv.and KC.mv SA.mv), (SA.recv h_w), PX.pre (Mv.and KC.mv SA.mv) ⟨hKC, h_w⟩⟩ rfl rfl hl.1 rfl (lv_room (Nat.le_of_ble_eq_true rfl)) dX2_which_101 ⟨Nat.le_of_ble_eq_true rfl, Nat.le_of_ble_eq_true rfl⟩) (fun rr hrr => ?_)
                    subst hrr
                    refine kn_cne (tgt := 111) hx hb dX2_which_104 (by decide) (by have := byS_lt (N 33) (J 32) (N 37 + j); omega) (by have := h_w.2.2.2.2.2 (spA f k + j) (by omega); omega) (fun c_104 => ?_) (fun c_104 => ?_)
                    · refine lv_iconst (v := nI 0) hx hb dX2_which_111 (by decide) ?_
                      refine lv_istore (lv' := [(5, .int (nI 0)), (0, .ref a0), (1, .ref w), (2, .int (nI (spN f k))), (3, .int (nI (spA f k))), (4, .int (nI k)), (6, .int (nI j))]) hx hb dX2_which_112 hl (by decide) rfl (fun ls hl => ?_)
                      refine lv_iinc (v := nI (j + 1)) (lv' := [(6, .int (nI (j + 1))), (5, .int (nI 0)), (0, .ref a0), (1, .ref w), (2, .int (nI (spN f k))), (3, .int (nI (spA f k))), (4, .int (nI k))]) hx hb dX2_which_114 hl (k := 6) rfl (show nI j + Int32.ofInt 1 = nI (j + 1) from nI_add _ 1) (by decide) rfl (fun ls hl => ?_)
                      refine lv_goto (tgt := 71) hx hb dX2_which_117 (by decide) ?_
                      exact ih71 (j + 1) (by omega) (by omega) _ (lv_conv (show lv_has ls 7 [(0, .ref a0), (1, .ref w), (2, .int (nI (spN f k))), (3, .int (nI (spA f k))), (4, .int (nI k)), (5, .int (nI 0)), (6, .int (nI (j + 1)))] from (lv_sub hl [2, 3, 4, 5, 6, 1, 0] rfl)) (by rw [show maT N J f (spA f k) k (j + 1) = false from by have h := c_82; simp only [maT, eqT, Bool.and_eq_true, decide_eq_true_eq] at h ⊢; simp [h.1, h.2.1, h.2.2.1, h.2.2.2, c_104]]; rfl))
                    · refine lv_iconst (v := nI 1) hx hb dX2_which_107 (by decide) ?_
                      refine lv_goto (tgt := 112) hx hb dX2_which_108 (by decide) ?_
                      refine lv_istore (lv' := [(5, .int (nI 1)), (0, .ref a0), (1, .ref w), (2, .int (nI (spN f k))), (3, .int (nI (spA f k))), (4, .int (nI k)), (6, .int (nI j))]) hx hb dX2_which_112 hl (by decide) rfl (fun ls hl => ?_)
                      refine lv_iinc (v := nI (j + 1)) (lv' := [(6, .int (nI (j + 1))), (5, .int (nI 1)), (0, .ref a0), (1, .ref w), (2, .int (nI (spN f k))), (3, .int (nI (spA f k))), (4, .int (nI k))]) hx hb dX2_which_114 hl (k := 6) rfl (show nI j + Int32.ofInt 1 = nI (j + 1) from nI_add _ 1) (by decide) rfl (fun ls hl => ?_)
                      refine lv_goto (tgt := 71) hx hb dX2_which_117 (by decide) ?_
                      exact ih71 (j + 1) (by omega) (by omega) _ (lv_conv (show lv_has ls 7 [(0, .ref a0), (1, .ref w), (2, .int (nI (spN f k))), (3, .int (nI (spA f k))), (4, .int (nI k)), (5, .int (nI 1)), (6, .int (nI (j + 1)))] from (lv_sub hl [2, 3, 4, 5, 6, 1, 0] rfl)) (by rw [show maT N J f (spA f k) k (j + 1) = true from by have h := c_82; simp only [maT, eqT, Bool.and_eq_true, decide_eq_true_eq] at h ⊢; simp [h.1, h.2.1, h.2.2.1, h.2.2.2, c_104]]; rfl))
            exact L71 _ 0 (by omega) (Nat.lt_succ_self _) _ (lv_conv (show lv_has ls 7 [(0, .ref a0), (1, .ref w), (2, .int (nI (spN f k))), (3, .int (nI (spA f k))), (4, .int (nI k)), (5, .int (nI 0)), (6, .int (nI 0))] from (lv_sub hl [2, 3, 4, 5, 6, 1, 0] rfl)) (by rw [show maT N J f (spA f k) k 0 = false from by simp [maT, eqT, c_35]]; rfl))
          · refine lv_aload_n hx hb dX2_which_38 rfl (lv_at hl 0 rfl) ?_
            refine M_get (v := .int (nI (N 34))) hx hb hts hown hG hM 34 (by decide) q1326 rfl rfl dX2_which_39 ?_
            refine kn_zne (tgt := 65) hx hb dX2_which_42 (by decide) (by omega) (fun c_42 => ?_) (fun c_42 => ?_)
            · refine lv_iconst (v := nI 0) hx hb dX2_which_65 (by decide) ?_
              refine lv_istore (lv' := [(5, .int (nI 0)), (0, .ref a0), (1, .ref w), (2, .int (nI (spN f k))), (3, .int (nI (spA f k))), (4, .int (nI k))]) hx hb dX2_which_66 hl (by decide) rfl (fun ls hl => ?_)
              refine lv_iconst (v := nI 0) hx hb dX2_which_68 (by decide) ?_
              refine lv_istore (lv' := [(6, .int (nI 0)), (5, .int (nI 0)), (0, .ref a0), (1, .ref w), (2, .int (nI (spN f k))), (3, .int (nI (spA f k))), (4, .int (nI k))]) hx hb dX2_which_69 hl (by decide) rfl (fun ls hl => ?_)
              have L71 : ∀ (nn71 : Nat) (j : Nat), (j ≤ k - spA f k) → k - spA f k - j < nn71 → ∀ (ls : Array Slot), lv_has ls 7 [(0, .ref a0), (1, .ref w), (2, .int (nI (spN f k))), (3, .int (nI (spA f k))), (4, .int (nI k)), (5, .int (bI (maT N J f (spA f k) k j))), (6, .int (nI j))] → W p lh e r_X2_which s m args below meth cd s.heap [] 0 0 Q (F0 m 71 ls []) := by
                intro nn71
                induction nn71 with
                | zero => intro j i71_0 hm71; exact absurd hm71 (Nat.not_lt_zero _)
                | succ nn71 ih71 =>
                  intro j i71_0 hm71 ls hl
                  refine lv_iload hx hb dX2_which_71 (lv_at hl 6 rfl) ?_
                  refine lv_iload hx hb dX2_which_73 (lv_at hl 4 rfl) ?_
                  refine lv_iload_n hx hb dX2_which_75 rfl (lv_at hl 3 rfl) ?_
                  refine kn_sub hx hb dX2_which_76 (by omega) ?_
                  refine kn_cge (tgt := 120) hx hb dX2_which_77 (by decide) (by omega) (by omega) (fun c_77 => ?_) (fun c_77 => ?_)
                  · refine lv_iload hx hb dX2_which_120 (lv_at hl 5 rfl) ?_
                    refine kb_eq (tgt := 127) hx hb dX2_which_122 (by decide) (fun c_122 => ?_) (fun c_122 => ?_)
                    · refine lv_iinc (v := nI (spN f k + 1)) (lv' := [(2, .int (nI (spN f k + 1))), (0, .ref a0), (1, .ref w), (3, .int (nI (spA f k))), (4, .int (nI k)), (5, .int (bI (maT N J f (spA f k) k j))), (6, .int (nI j))]) hx hb dX2_which_127 hl (k := 2) rfl (show nI (spN f k) + Int32.ofInt 1 = nI (spN f k + 1) from nI_add _ 1) (by decide) rfl (fun ls hl => ?_)
                      refine lv_iload hx hb dX2_which_130 (lv_at hl 4 rfl) ?_
                      refine lv_iconst (v := nI 1) hx hb dX2_which_132 (by decide) ?_
                      refine kn_add hx hb dX2_which_133 ?_
                      refine lv_istore_n (lv' := [(3, .int (nI (k + 1))), (2, .int (nI (spN f k + 1))), (0, .ref a0), (1, .ref w), (4, .int (nI k)), (5, .int (bI (maT N J f (spA f k) k j))), (6, .int (nI j))]) hx hb dX2_which_134 rfl hl (by decide) rfl (fun ls hl => ?_)
                      refine lv_iinc (v := nI (k + 1)) (lv' := [(4, .int (nI (k + 1))), (3, .int (nI (k + 1))), (2, .int (nI (spN f k + 1))), (0, .ref a0), (1, .ref w), (5, .int (bI (maT N J f (spA f k) k j))), (6, .int (nI j))]) hx hb dX2_which_135 hl (k := 4) rfl (show nI k + Int32.ofInt 1 = nI (k + 1) from nI_add _ 1) (by decide) rfl (fun ls hl => ?_)
                      refine lv_goto (tgt := 7) hx hb dX2_which_138 (by decide) ?_
                      exact ih7 (k + 1) (by omega) (whT_miss i7_1 (fun q => by rw [show maT N J f (spA f k) k (k - spA f k) = false from (show k - spA f k = j by omega) ▸ c_122] at q; exact absurd q.2 (by decide))) (by omega) _ (lv_conv (show lv_has ls 7 [(0, .ref a0), (1, .ref w), (2, .int (nI (spN f k + 1))), (3, .int (nI (k + 1))), (4, .int (nI (k + 1)))] from (lv_sub hl [3, 4, 2, 1, 0] rfl)) (by rw [spN, if_pos c_24, spA, if_pos c_24]))
                    · refine lv_iload_n hx hb dX2_which_125 rfl (lv_at hl 2 rfl) ?_
                      subst hQ
                      exact W.iret (v := nI (spN f k)) hx hb hrt (fun t ht _ => ⟨_, rfl, (show nI (spN f k) = oI (whT N J f n) from by rw [whT_hit i7_1 c_24 ((show k - spA f k = j by omega) ▸ c_122) (by omega)]; rfl), ht⟩) t_nil dX2_which_126
                  · refine lv_iload hx hb dX2_which_80 (lv_at hl 5 rfl) ?_
                    refine kb_eq (tgt := 120) hx hb dX2_which_82 (by decide) (fun c_82 => ?_) (fun c_82 => ?_)
                    · refine lv_iload hx hb dX2_which_120 (lv_at hl 5 rfl) ?_
                      refine kb_eq (tgt := 127) hx hb dX2_which_122 (by decide) (fun c_122 => ?_) (fun c_122 => ?_)
                      · refine lv_iinc (v := nI (spN f k + 1)) (lv' := [(2, .int (nI (spN f k + 1))), (0, .ref a0), (1, .ref w), (3, .int (nI (spA f k))), (4, .int (nI k)), (5, .int (bI (maT N J f (spA f k) k j))), (6, .int (nI j))]) hx hb dX2_which_127 hl (k := 2) rfl (show nI (spN f k) + Int32.ofInt 1 = nI (spN f k + 1) from nI_add _ 1) (by decide) rfl (fun ls hl => ?_)
                        refine lv_iload hx hb dX2_which_130 (lv_at hl 4 rfl) ?_
                        refine lv_iconst (v := nI 1) hx hb dX2_which_132 (by decide) ?_
                        refine kn_add hx hb dX2_which_133 ?_
                        refine lv_istore_n (lv' := [(3, .int (nI (k + 1))), (2, .int (nI (spN f k + 1))), (0, .ref a0), (1, .ref w), (4, .int (nI k)), (5, .int (bI (maT N J f (spA f k) k j))), (6, .int (nI j))]) hx hb dX2_which_134 rfl hl (by decide) rfl (fun ls hl => ?_)
                        refine lv_iinc (v := nI (k + 1)) (lv' := [(4, .int (nI (k + 1))), (3, .int (nI (k + 1))), (2, .int (nI (spN f k + 1))), (0, .ref a0), (1, .ref w), (5, .int (bI (maT N J f (spA f k) k j))), (6, .int (nI j))]) hx hb dX2_which_135 hl (k := 4) rfl (show nI k + Int32.ofInt 1 = nI (k + 1) from nI_add _ 1) (by decide) rfl (fun ls hl => ?_)
                        refine lv_goto (tgt := 7) hx hb dX2_which_138 (by decide) ?_
                        exact ih7 (k + 1) (by omega) (whT_miss i7_1 (fun q => by rw [show maT N J f (spA f k) k (k - spA f k) = false from maT_no c_82 (by omega)] at q; exact absurd q.2 (by decide))) (by omega) _ (lv_conv (show lv_has ls 7 [(0, .ref a0), (1, .ref w), (2, .int (nI (spN f k + 1))), (3, .int (nI (k + 1))), (4, .int (nI (k + 1)))] from (lv_sub hl [3, 4, 2, 1, 0] rfl)) (by rw [spN, if_pos c_24, spA, if_pos c_24]))
                      · refine lv_iload_n hx hb dX2_which_125 rfl (lv_at hl 2 rfl) ?_
                        subst hQ
                        exact W.iret (v := nI (spN f k)) hx hb hrt (fun t ht _ => ⟨_, rfl, (show nI (spN f k) = oI (whT N J f n) from by rw [whT_hit i7_1 c_24 (absurd c_122 (by rw [c_82]; decide)) (by omega)]; rfl), ht⟩) t_nil dX2_which_126
                    · refine lv_aload_n hx hb dX2_which_85 rfl (lv_at hl 0 rfl) ?_
                      refine lv_aload_n hx hb dX2_which_86 rfl (lv_at hl 0 rfl) ?_
                      refine M_get (v := .int (nI (N 37))) hx hb hts hown hG hM 37 (by decide) q1329 rfl rfl dX2_which_87 ?_
                      refine lv_iload hx hb dX2_which_90 (lv_at hl 6 rfl) ?_
                      refine kn_add hx hb dX2_which_92 ?_
                      refine vp_callSi (W.runV (As := [.int (nI (N 37 + j))]) (rest := []) ⟨hx, hb, hml, hown, hts⟩ (c_X2_byteAt lh D dA a0 ad N I G J (N 37 + j) (p33) (by have h := c_82; simp only [maT, Bool.and_eq_true, decide_eq_true_eq] at h; omega)) (w_X2_byteAt hts q1531 rfl rfl ⟨Nat.le_of_ble_eq_true rfl, Nat.le_of_ble_eq_true rfl⟩) ⟨PqM.blind, M_recv hG hM, PqM.pre hG hM⟩ rfl rfl hl.1 rfl (lv_room (Nat.le_of_ble_eq_true rfl)) dX2_which_93 ⟨Nat.le_of_ble_eq_true rfl, Nat.le_of_ble_eq_true rfl⟩) (fun rr hrr => ?_)
                      subst hrr
                      refine lv_aload_n hx hb dX2_which_96 rfl (lv_at hl 1 rfl) ?_
                      refine lv_iload_n hx hb dX2_which_97 rfl (lv_at hl 3 rfl) ?_
                      refine lv_iload hx hb dX2_which_98 (lv_at hl 6 rfl) ?_
                      refine kn_add hx hb dX2_which_100 ?_
                      refine vp_callSi (W.runV (As := [.int (nI (spA f k + j))]) (rest := [.int (nI (byS ((N 33)) (J 32) (N 37 + j)))]) ⟨hx, hb, hml, hown, hts⟩ (c_J3_charAt lh w b n f (spA f k + j) (show (spA f k + j) < n from by first | omega | assumption | exact hB_up (by assumption) (by omega))) (w_J3_charAt hts q1545 rfl rfl ⟨Nat.le_of_ble_eq_true rfl, Nat.le_of_ble_eq_true rfl⟩) ⟨PX.blind (Mv.and KC.mv SA.mv), (SA.recv h_w), PX.pre (Mv.and KC.mv SA.mv) ⟨hKC, h_w⟩⟩ rfl rfl hl.1 rfl (lv_room (Nat.le_of_ble_eq_true rfl)) dX2_which_101 ⟨Nat.le_of_ble_eq_true rfl, Nat.le_of_ble_eq_true rfl⟩) (fun rr hrr => ?_)
                      subst hrr
                      refine kn_cne (tgt := 111) hx hb dX2_which_104 (by decide) (by have := byS_lt (N 33) (J 32) (N 37 + j); omega) (by have := h_w.2.2.2.2.2 (spA f k + j) (by omega); omega) (fun c_104 => ?_) (fun c_104 => ?_)
                      · refine lv_iconst (v := nI 0) hx hb dX2_which_111 (by decide) ?_
                        refine lv_istore (lv' := [(5, .int (nI 0)), (0, .ref a0), (1, .ref w), (2, .int (nI (spN f k))), (3, .int (nI (spA f k))), (4, .int (nI k)), (6, .int (nI j))]) hx hb dX2_which_112 hl (by decide) rfl (fun ls hl => ?_)
                        refine lv_iinc (v := nI (j + 1)) (lv' := [(6, .int (nI (j + 1))), (5, .int (nI 0)), (0, .ref a0), (1, .ref w), (2, .int (nI (spN f k))), (3, .int (nI (spA f k))), (4, .int (nI k))]) hx hb dX2_which_114 hl (k := 6) rfl (show nI j + Int32.ofInt 1 = nI (j + 1) from nI_add _ 1) (by decide) rfl (fun ls hl => ?_)
                        refine lv_goto (tgt := 71) hx hb dX2_which_117 (by decide) ?_
                        exact ih71 (j + 1) (by omega) (by omega) _ (lv_conv (show lv_has ls 7 [(0, .ref a0), (1, .ref w), (2, .int (nI (spN f k))), (3, .int (nI (spA f k))), (4, .int (nI k)), (5, .int (nI 0)), (6, .int (nI (j + 1)))] from (lv_sub hl [2, 3, 4, 5, 6, 1, 0] rfl)) (by rw [show maT N J f (spA f k) k (j + 1) = false from by have h := c_82; simp only [maT, eqT, Bool.and_eq_true, decide_eq_true_eq] at h ⊢; simp [h.1, h.2.1, h.2.2.1, h.2.2.2, c_104]]; rfl))
                      · refine lv_iconst (v := nI 1) hx hb dX2_which_107 (by decide) ?_
                        refine lv_goto (tgt := 112) hx hb dX2_which_108 (by decide) ?_
                        refine lv_istore (lv' := [(5, .int (nI 1)), (0, .ref a0), (1, .ref w), (2, .int (nI (spN f k))), (3, .int (nI (spA f k))), (4, .int (nI k)), (6, .int (nI j))]) hx hb dX2_which_112 hl (by decide) rfl (fun ls hl => ?_)
                        refine lv_iinc (v := nI (j + 1)) (lv' := [(6, .int (nI (j + 1))), (5, .int (nI 1)), (0, .ref a0), (1, .ref w), (2, .int (nI (spN f k))), (3, .int (nI (spA f k))), (4, .int (nI k))]) hx hb dX2_which_114 hl (k := 6) rfl (show nI j + Int32.ofInt 1 = nI (j + 1) from nI_add _ 1) (by decide) rfl (fun ls hl => ?_)
                        refine lv_goto (tgt := 71) hx hb dX2_which_117 (by decide) ?_
                        exact ih71 (j + 1) (by omega) (by omega) _ (lv_conv (show lv_has ls 7 [(0, .ref a0), (1, .ref w), (2, .int (nI (spN f k))), (3, .int (nI (spA f k))), (4, .int (nI k)), (5, .int (nI 1)), (6, .int (nI (j + 1)))] from (lv_sub hl [2, 3, 4, 5, 6, 1, 0] rfl)) (by rw [show maT N J f (spA f k) k (j + 1) = true from by have h := c_82; simp only [maT, eqT, Bool.and_eq_true, decide_eq_true_eq] at h ⊢; simp [h.1, h.2.1, h.2.2.1, h.2.2.2, c_104]]; rfl))
              exact L71 _ 0 (by omega) (Nat.lt_succ_self _) _ (lv_conv (show lv_has ls 7 [(0, .ref a0), (1, .ref w), (2, .int (nI (spN f k))), (3, .int (nI (spA f k))), (4, .int (nI k)), (5, .int (nI 0)), (6, .int (nI 0))] from (lv_sub hl [2, 3, 4, 5, 6, 1, 0] rfl)) (by rw [show maT N J f (spA f k) k 0 = false from by simp [maT, eqT, c_35, c_42]]; rfl))
            · refine lv_aload_n hx hb dX2_which_45 rfl (lv_at hl 0 rfl) ?_
              refine M_get (v := .int (nI (N 38))) hx hb hts hown hG hM 38 (by decide) q1330 rfl rfl dX2_which_46 ?_
              refine lv_aload_n hx hb dX2_which_49 rfl (lv_at hl 0 rfl) ?_
              refine M_get (v := .int (nI (N 37))) hx hb hts hown hG hM 37 (by decide) q1329 rfl rfl dX2_which_50 ?_
              refine kn_sub hx hb dX2_which_53 (by omega) ?_
              refine lv_iload hx hb dX2_which_54 (lv_at hl 4 rfl) ?_
              refine lv_iload_n hx hb dX2_which_56 rfl (lv_at hl 3 rfl) ?_
              refine kn_sub hx hb dX2_which_57 (by omega) ?_
              refine kn_cne (tgt := 65) hx hb dX2_which_58 (by decide) (by omega) (by omega) (fun c_58 => ?_) (fun c_58 => ?_)
              · refine lv_iconst (v := nI 0) hx hb dX2_which_65 (by decide) ?_
                refine lv_istore (lv' := [(5, .int (nI 0)), (0, .ref a0), (1, .ref w), (2, .int (nI (spN f k))), (3, .int (nI (spA f k))), (4, .int (nI k))]) hx hb dX2_which_66 hl (by decide) rfl (fun ls hl => ?_)
                refine lv_iconst (v := nI 0) hx hb dX2_which_68 (by decide) ?_
                refine lv_istore (lv' := [(6, .int (nI 0)), (5, .int (nI 0)), (0, .ref a0), (1, .ref w), (2, .int (nI (spN f k))), (3, .int (nI (spA f k))), (4, .int (nI k))]) hx hb dX2_which_69 hl (by decide) rfl (fun ls hl => ?_)
                have L71 : ∀ (nn71 : Nat) (j : Nat), (j ≤ k - spA f k) → k - spA f k - j < nn71 → ∀ (ls : Array Slot), lv_has ls 7 [(0, .ref a0), (1, .ref w), (2, .int (nI (spN f k))), (3, .int (nI (spA f k))), (4, .int (nI k)), (5, .int (bI (maT N J f (spA f k) k j))), (6, .int (nI j))] → W p lh e r_X2_which s m args below meth cd s.heap [] 0 0 Q (F0 m 71 ls []) := by
                  intro nn71
                  induction nn71 with
                  | zero => intro j i71_0 hm71; exact absurd hm71 (Nat.not_lt_zero _)
                  | succ nn71 ih71 =>
                    intro j i71_0 hm71 ls hl
                    refine lv_iload hx hb dX2_which_71 (lv_at hl 6 rfl) ?_
                    refine lv_iload hx hb dX2_which_73 (lv_at hl 4 rfl) ?_
                    refine lv_iload_n hx hb dX2_which_75 rfl (lv_at hl 3 rfl) ?_
                    refine kn_sub hx hb dX2_which_76 (by omega) ?_
                    refine kn_cge (tgt := 120) hx hb dX2_which_77 (by decide) (by omega) (by omega) (fun c_77 => ?_) (fun c_77 => ?_)
                    · refine lv_iload hx hb dX2_which_120 (lv_at hl 5 rfl) ?_
                      refine kb_eq (tgt := 127) hx hb dX2_which_122 (by decide) (fun c_122 => ?_) (fun c_122 => ?_)
                      · refine lv_iinc (v := nI (spN f k + 1)) (lv' := [(2, .int (nI (spN f k + 1))), (0, .ref a0), (1, .ref w), (3, .int (nI (spA f k))), (4, .int (nI k)), (5, .int (bI (maT N J f (spA f k) k j))), (6, .int (nI j))]) hx hb dX2_which_127 hl (k := 2) rfl (show nI (spN f k) + Int32.ofInt 1 = nI (spN f k + 1) from nI_add _ 1) (by decide) rfl (fun ls hl => ?_)
                        refine lv_iload hx hb dX2_which_130 (lv_at hl 4 rfl) ?_
                        refine lv_iconst (v := nI 1) hx hb dX2_which_132 (by decide) ?_
                        refine kn_add hx hb dX2_which_133 ?_
                        refine lv_istore_n (lv' := [(3, .int (nI (k + 1))), (2, .int (nI (spN f k + 1))), (0, .ref a0), (1, .ref w), (4, .int (nI k)), (5, .int (bI (maT N J f (spA f k) k j))), (6, .int (nI j))]) hx hb dX2_which_134 rfl hl (by decide) rfl (fun ls hl => ?_)
                        refine lv_iinc (v := nI (k + 1)) (lv' := [(4, .int (nI (k + 1))), (3, .int (nI (k + 1))), (2, .int (nI (spN f k + 1))), (0, .ref a0), (1, .ref w), (5, .int (bI (maT N J f (spA f k) k j))), (6, .int (nI j))]) hx hb dX2_which_135 hl (k := 4) rfl (show nI k + Int32.ofInt 1 = nI (k + 1) from nI_add _ 1) (by decide) rfl (fun ls hl => ?_)
                        refine lv_goto (tgt := 7) hx hb dX2_which_138 (by decide) ?_
                        exact ih7 (k + 1) (by omega) (whT_miss i7_1 (fun q => by rw [show maT N J f (spA f k) k (k - spA f k) = false from (show k - spA f k = j by omega) ▸ c_122] at q; exact absurd q.2 (by decide))) (by omega) _ (lv_conv (show lv_has ls 7 [(0, .ref a0), (1, .ref w), (2, .int (nI (spN f k + 1))), (3, .int (nI (k + 1))), (4, .int (nI (k + 1)))] from (lv_sub hl [3, 4, 2, 1, 0] rfl)) (by rw [spN, if_pos c_24, spA, if_pos c_24]))
                      · refine lv_iload_n hx hb dX2_which_125 rfl (lv_at hl 2 rfl) ?_
                        subst hQ
                        exact W.iret (v := nI (spN f k)) hx hb hrt (fun t ht _ => ⟨_, rfl, (show nI (spN f k) = oI (whT N J f n) from by rw [whT_hit i7_1 c_24 ((show k - spA f k = j by omega) ▸ c_122) (by omega)]; rfl), ht⟩) t_nil dX2_which_126
                    · refine lv_iload hx hb dX2_which_80 (lv_at hl 5 rfl) ?_
                      refine kb_eq (tgt := 120) hx hb dX2_which_82 (by decide) (fun c_82 => ?_) (fun c_82 => ?_)
                      · refine lv_iload hx hb dX2_which_120 (lv_at hl 5 rfl) ?_
                        refine kb_eq (tgt := 127) hx hb dX2_which_122 (by decide) (fun c_122 => ?_) (fun c_122 => ?_)
                        · refine lv_iinc (v := nI (spN f k + 1)) (lv' := [(2, .int (nI (spN f k + 1))), (0, .ref a0), (1, .ref w), (3, .int (nI (spA f k))), (4, .int (nI k)), (5, .int (bI (maT N J f (spA f k) k j))), (6, .int (nI j))]) hx hb dX2_which_127 hl (k := 2) rfl (show nI (spN f k) + Int32.ofInt 1 = nI (spN f k + 1) from nI_add _ 1) (by decide) rfl (fun ls hl => ?_)
                          refine lv_iload hx hb dX2_which_130 (lv_at hl 4 rfl) ?_
                          refine lv_iconst (v := nI 1) hx hb dX2_which_132 (by decide) ?_
                          refine kn_add hx hb dX2_which_133 ?_
                          refine lv_istore_n (lv' := [(3, .int (nI (k + 1))), (2, .int (nI (spN f k + 1))), (0, .ref a0), (1, .ref w), (4, .int (nI k)), (5, .int (bI (maT N J f (spA f k) k j))), (6, .int (nI j))]) hx hb dX2_which_134 rfl hl (by decide) rfl (fun ls hl => ?_)
                          refine lv_iinc (v := nI (k + 1)) (lv' := [(4, .int (nI (k + 1))), (3, .int (nI (k + 1))), (2, .int (nI (spN f k + 1))), (0, .ref a0), (1, .ref w), (5, .int (bI (maT N J f (spA f k) k j))), (6, .int (nI j))]) hx hb dX2_which_135 hl (k := 4) rfl (show nI k + Int32.ofInt 1 = nI (k + 1) from nI_add _ 1) (by decide) rfl (fun ls hl => ?_)
                          refine lv_goto (tgt := 7) hx hb dX2_which_138 (by decide) ?_
                          exact ih7 (k + 1) (by omega) (whT_miss i7_1 (fun q => by rw [show maT N J f (spA f k) k (k - spA f k) = false from maT_no c_82 (by omega)] at q; exact absurd q.2 (by decide))) (by omega) _ (lv_conv (show lv_has ls 7 [(0, .ref a0), (1, .ref w), (2, .int (nI (spN f k + 1))), (3, .int (nI (k + 1))), (4, .int (nI (k + 1)))] from (lv_sub hl [3, 4, 2, 1, 0] rfl)) (by rw [spN, if_pos c_24, spA, if_pos c_24]))
                        · refine lv_iload_n hx hb dX2_which_125 rfl (lv_at hl 2 rfl) ?_
                          subst hQ
                          exact W.iret (v := nI (spN f k)) hx hb hrt (fun t ht _ => ⟨_, rfl, (show nI (spN f k) = oI (whT N J f n) from by rw [whT_hit i7_1 c_24 (absurd c_122 (by rw [c_82]; decide)) (by omega)]; rfl), ht⟩) t_nil dX2_which_126
                      · refine lv_aload_n hx hb dX2_which_85 rfl (lv_at hl 0 rfl) ?_
                        refine lv_aload_n hx hb dX2_which_86 rfl (lv_at hl 0 rfl) ?_
                        refine M_get (v := .int (nI (N 37))) hx hb hts hown hG hM 37 (by decide) q1329 rfl rfl dX2_which_87 ?_
                        refine lv_iload hx hb dX2_which_90 (lv_at hl 6 rfl) ?_
                        refine kn_add hx hb dX2_which_92 ?_
                        refine vp_callSi (W.runV (As := [.int (nI (N 37 + j))]) (rest := []) ⟨hx, hb, hml, hown, hts⟩ (c_X2_byteAt lh D dA a0 ad N I G J (N 37 + j) (p33) (by have h := c_82; simp only [maT, Bool.and_eq_true, decide_eq_true_eq] at h; omega)) (w_X2_byteAt hts q1531 rfl rfl ⟨Nat.le_of_ble_eq_true rfl, Nat.le_of_ble_eq_true rfl⟩) ⟨PqM.blind, M_recv hG hM, PqM.pre hG hM⟩ rfl rfl hl.1 rfl (lv_room (Nat.le_of_ble_eq_true rfl)) dX2_which_93 ⟨Nat.le_of_ble_eq_true rfl, Nat.le_of_ble_eq_true rfl⟩) (fun rr hrr => ?_)
                        subst hrr
                        refine lv_aload_n hx hb dX2_which_96 rfl (lv_at hl 1 rfl) ?_
                        refine lv_iload_n hx hb dX2_which_97 rfl (lv_at hl 3 rfl) ?_
                        refine lv_iload hx hb dX2_which_98 (lv_at hl 6 rfl) ?_
                        refine kn_add hx hb dX2_which_100 ?_
                        refine vp_callSi (W.runV (As := [.int (nI (spA f k + j))]) (rest := [.int (nI (byS ((N 33)) (J 32) (N 37 + j)))]) ⟨hx, hb, hml, hown, hts⟩ (c_J3_charAt lh w b n f (spA f k + j) (show (spA f k + j) < n from by first | omega | assumption | exact hB_up (by assumption) (by omega))) (w_J3_charAt hts q1545 rfl rfl ⟨Nat.le_of_ble_eq_true rfl, Nat.le_of_ble_eq_true rfl⟩) ⟨PX.blind (Mv.and KC.mv SA.mv), (SA.recv h_w), PX.pre (Mv.and KC.mv SA.mv) ⟨hKC, h_w⟩⟩ rfl rfl hl.1 rfl (lv_room (Nat.le_of_ble_eq_true rfl)) dX2_which_101 ⟨Nat.le_of_ble_eq_true rfl, Nat.le_of_ble_eq_true rfl⟩) (fun rr hrr => ?_)
                        subst hrr
                        refine kn_cne (tgt := 111) hx hb dX2_which_104 (by decide) (by have := byS_lt (N 33) (J 32) (N 37 + j); omega) (by have := h_w.2.2.2.2.2 (spA f k + j) (by omega); omega) (fun c_104 => ?_) (fun c_104 => ?_)
                        · refine lv_iconst (v := nI 0) hx hb dX2_which_111 (by decide) ?_
                          refine lv_istore (lv' := [(5, .int (nI 0)), (0, .ref a0), (1, .ref w), (2, .int (nI (spN f k))), (3, .int (nI (spA f k))), (4, .int (nI k)), (6, .int (nI j))]) hx hb dX2_which_112 hl (by decide) rfl (fun ls hl => ?_)
                          refine lv_iinc (v := nI (j + 1)) (lv' := [(6, .int (nI (j + 1))), (5, .int (nI 0)), (0, .ref a0), (1, .ref w), (2, .int (nI (spN f k))), (3, .int (nI (spA f k))), (4, .int (nI k))]) hx hb dX2_which_114 hl (k := 6) rfl (show nI j + Int32.ofInt 1 = nI (j + 1) from nI_add _ 1) (by decide) rfl (fun ls hl => ?_)
                          refine lv_goto (tgt := 71) hx hb dX2_which_117 (by decide) ?_
                          exact ih71 (j + 1) (by omega) (by omega) _ (lv_conv (show lv_has ls 7 [(0, .ref a0), (1, .ref w), (2, .int (nI (spN f k))), (3, .int (nI (spA f k))), (4, .int (nI k)), (5, .int (nI 0)), (6, .int (nI (j + 1)))] from (lv_sub hl [2, 3, 4, 5, 6, 1, 0] rfl)) (by rw [show maT N J f (spA f k) k (j + 1) = false from by have h := c_82; simp only [maT, eqT, Bool.and_eq_true, decide_eq_true_eq] at h ⊢; simp [h.1, h.2.1, h.2.2.1, h.2.2.2, c_104]]; rfl))
                        · refine lv_iconst (v := nI 1) hx hb dX2_which_107 (by decide) ?_
                          refine lv_goto (tgt := 112) hx hb dX2_which_108 (by decide) ?_
                          refine lv_istore (lv' := [(5, .int (nI 1)), (0, .ref a0), (1, .ref w), (2, .int (nI (spN f k))), (3, .int (nI (spA f k))), (4, .int (nI k)), (6, .int (nI j))]) hx hb dX2_which_112 hl (by decide) rfl (fun ls hl => ?_)
                          refine lv_iinc (v := nI (j + 1)) (lv' := [(6, .int (nI (j + 1))), (5, .int (nI 1)), (0, .ref a0), (1, .ref w), (2, .int (nI (spN f k))), (3, .int (nI (spA f k))), (4, .int (nI k))]) hx hb dX2_which_114 hl (k := 6) rfl (show nI j + Int32.ofInt 1 = nI (j + 1) from nI_add _ 1) (by decide) rfl (fun ls hl => ?_)
                          refine lv_goto (tgt := 71) hx hb dX2_which_117 (by decide) ?_
                          exact ih71 (j + 1) (by omega) (by omega) _ (lv_conv (show lv_has ls 7 [(0, .ref a0), (1, .ref w), (2, .int (nI (spN f k))), (3, .int (nI (spA f k))), (4, .int (nI k)), (5, .int (nI 1)), (6, .int (nI (j + 1)))] from (lv_sub hl [2, 3, 4, 5, 6, 1, 0] rfl)) (by rw [show maT N J f (spA f k) k (j + 1) = true from by have h := c_82; simp only [maT, eqT, Bool.and_eq_true, decide_eq_true_eq] at h ⊢; simp [h.1, h.2.1, h.2.2.1, h.2.2.2, c_104]]; rfl))
                exact L71 _ 0 (by omega) (Nat.lt_succ_self _) _ (lv_conv (show lv_has ls 7 [(0, .ref a0), (1, .ref w), (2, .int (nI (spN f k))), (3, .int (nI (spA f k))), (4, .int (nI k)), (5, .int (nI 0)), (6, .int (nI 0))] from (lv_sub hl [2, 3, 4, 5, 6, 1, 0] rfl)) (by rw [show maT N J f (spA f k) k 0 = false from by simp [maT, eqT, c_35, c_42, c_58]]; rfl))
              · refine lv_iconst (v := nI 1) hx hb dX2_which_61 (by decide) ?_
                refine lv_goto (tgt := 66) hx hb dX2_which_62 (by decide) ?_
                refine lv_istore (lv' := [(5, .int (nI 1)), (0, .ref a0), (1, .ref w), (2, .int (nI (spN f k))), (3, .int (nI (spA f k))), (4, .int (nI k))]) hx hb dX2_which_66 hl (by decide) rfl (fun ls hl => ?_)
                refine lv_iconst (v := nI 0) hx hb dX2_which_68 (by decide) ?_
                refine lv_istore (lv' := [(6, .int (nI 0)), (5, .int (nI 1)), (0, .ref a0), (1, .ref w), (2, .int (nI (spN f k))), (3, .int (nI (spA f k))), (4, .int (nI k))]) hx hb dX2_which_69 hl (by decide) rfl (fun ls hl => ?_)
                have L71 : ∀ (nn71 : Nat) (j : Nat), (j ≤ k - spA f k) → k - spA f k - j < nn71 → ∀ (ls : Array Slot), lv_has ls 7 [(0, .ref a0), (1, .ref w), (2, .int (nI (spN f k))), (3, .int (nI (spA f k))), (4, .int (nI k)), (5, .int (bI (maT N J f (spA f k) k j))), (6, .int (nI j))] → W p lh e r_X2_which s m args below meth cd s.heap [] 0 0 Q (F0 m 71 ls []) := by
                  intro nn71
                  induction nn71 with
                  | zero => intro j i71_0 hm71; exact absurd hm71 (Nat.not_lt_zero _)
                  | succ nn71 ih71 =>
                    intro j i71_0 hm71 ls hl
                    refine lv_iload hx hb dX2_which_71 (lv_at hl 6 rfl) ?_
                    refine lv_iload hx hb dX2_which_73 (lv_at hl 4 rfl) ?_
                    refine lv_iload_n hx hb dX2_which_75 rfl (lv_at hl 3 rfl) ?_
                    refine kn_sub hx hb dX2_which_76 (by omega) ?_
                    refine kn_cge (tgt := 120) hx hb dX2_which_77 (by decide) (by omega) (by omega) (fun c_77 => ?_) (fun c_77 => ?_)
                    · refine lv_iload hx hb dX2_which_120 (lv_at hl 5 rfl) ?_
                      refine kb_eq (tgt := 127) hx hb dX2_which_122 (by decide) (fun c_122 => ?_) (fun c_122 => ?_)
                      · refine lv_iinc (v := nI (spN f k + 1)) (lv' := [(2, .int (nI (spN f k + 1))), (0, .ref a0), (1, .ref w), (3, .int (nI (spA f k))), (4, .int (nI k)), (5, .int (bI (maT N J f (spA f k) k j))), (6, .int (nI j))]) hx hb dX2_which_127 hl (k := 2) rfl (show nI (spN f k) + Int32.ofInt 1 = nI (spN f k + 1) from nI_add _ 1) (by decide) rfl (fun ls hl => ?_)
                        refine lv_iload hx hb dX2_which_130 (lv_at hl 4 rfl) ?_
                        refine lv_iconst (v := nI 1) hx hb dX2_which_132 (by decide) ?_
                        refine kn_add hx hb dX2_which_133 ?_
                        refine lv_istore_n (lv' := [(3, .int (nI (k + 1))), (2, .int (nI (spN f k + 1))), (0, .ref a0), (1, .ref w), (4, .int (nI k)), (5, .int (bI (maT N J f (spA f k) k j))), (6, .int (nI j))]) hx hb dX2_which_134 rfl hl (by decide) rfl (fun ls hl => ?_)
                        refine lv_iinc (v := nI (k + 1)) (lv' := [(4, .int (nI (k + 1))), (3, .int (nI (k + 1))), (2, .int (nI (spN f k + 1))), (0, .ref a0), (1, .ref w), (5, .int (bI (maT N J f (spA f k) k j))), (6, .int (nI j))]) hx hb dX2_which_135 hl (k := 4) rfl (show nI k + Int32.ofInt 1 = nI (k + 1) from nI_add _ 1) (by decide) rfl (fun ls hl => ?_)
                        refine lv_goto (tgt := 7) hx hb dX2_which_138 (by decide) ?_
                        exact ih7 (k + 1) (by omega) (whT_miss i7_1 (fun q => by rw [show maT N J f (spA f k) k (k - spA f k) = false from (show k - spA f k = j by omega) ▸ c_122] at q; exact absurd q.2 (by decide))) (by omega) _ (lv_conv (show lv_has ls 7 [(0, .ref a0), (1, .ref w), (2, .int (nI (spN f k + 1))), (3, .int (nI (k + 1))), (4, .int (nI (k + 1)))] from (lv_sub hl [3, 4, 2, 1, 0] rfl)) (by rw [spN, if_pos c_24, spA, if_pos c_24]))
                      · refine lv_iload_n hx hb dX2_which_125 rfl (lv_at hl 2 rfl) ?_
                        subst hQ
                        exact W.iret (v := nI (spN f k)) hx hb hrt (fun t ht _ => ⟨_, rfl, (show nI (spN f k) = oI (whT N J f n) from by rw [whT_hit i7_1 c_24 ((show k - spA f k = j by omega) ▸ c_122) (by omega)]; rfl), ht⟩) t_nil dX2_which_126
                    · refine lv_iload hx hb dX2_which_80 (lv_at hl 5 rfl) ?_
                      refine kb_eq (tgt := 120) hx hb dX2_which_82 (by decide) (fun c_82 => ?_) (fun c_82 => ?_)
                      · refine lv_iload hx hb dX2_which_120 (lv_at hl 5 rfl) ?_
                        refine kb_eq (tgt := 127) hx hb dX2_which_122 (by decide) (fun c_122 => ?_) (fun c_122 => ?_)
                        · refine lv_iinc (v := nI (spN f k + 1)) (lv' := [(2, .int (nI (spN f k + 1))), (0, .ref a0), (1, .ref w), (3, .int (nI (spA f k))), (4, .int (nI k)), (5, .int (bI (maT N J f (spA f k) k j))), (6, .int (nI j))]) hx hb dX2_which_127 hl (k := 2) rfl (show nI (spN f k) + Int32.ofInt 1 = nI (spN f k + 1) from nI_add _ 1) (by decide) rfl (fun ls hl => ?_)
                          refine lv_iload hx hb dX2_which_130 (lv_at hl 4 rfl) ?_
                          refine lv_iconst (v := nI 1) hx hb dX2_which_132 (by decide) ?_
                          refine kn_add hx hb dX2_which_133 ?_
                          refine lv_istore_n (lv' := [(3, .int (nI (k + 1))), (2, .int (nI (spN f k + 1))), (0, .ref a0), (1, .ref w), (4, .int (nI k)), (5, .int (bI (maT N J f (spA f k) k j))), (6, .int (nI j))]) hx hb dX2_which_134 rfl hl (by decide) rfl (fun ls hl => ?_)
                          refine lv_iinc (v := nI (k + 1)) (lv' := [(4, .int (nI (k + 1))), (3, .int (nI (k + 1))), (2, .int (nI (spN f k + 1))), (0, .ref a0), (1, .ref w), (5, .int (bI (maT N J f (spA f k) k j))), (6, .int (nI j))]) hx hb dX2_which_135 hl (k := 4) rfl (show nI k + Int32.ofInt 1 = nI (k + 1) from nI_add _ 1) (by decide) rfl (fun ls hl => ?_)
                          refine lv_goto (tgt := 7) hx hb dX2_which_138 (by decide) ?_
                          exact ih7 (k + 1) (by omega) (whT_miss i7_1 (fun q => by rw [show maT N J f (spA f k) k (k - spA f k) = false from maT_no c_82 (by omega)] at q; exact absurd q.2 (by decide))) (by omega) _ (lv_conv (show lv_has ls 7 [(0, .ref a0), (1, .ref w), (2, .int (nI (spN f k + 1))), (3, .int (nI (k + 1))), (4, .int (nI (k + 1)))] from (lv_sub hl [3, 4, 2, 1, 0] rfl)) (by rw [spN, if_pos c_24, spA, if_pos c_24]))
                        · refine lv_iload_n hx hb dX2_which_125 rfl (lv_at hl 2 rfl) ?_
                          subst hQ
                          exact W.iret (v := nI (spN f k)) hx hb hrt (fun t ht _ => ⟨_, rfl, (show nI (spN f k) = oI (whT N J f n) from by rw [whT_hit i7_1 c_24 (absurd c_122 (by rw [c_82]; decide)) (by omega)]; rfl), ht⟩) t_nil dX2_which_126
                      · refine lv_aload_n hx hb dX2_which_85 rfl (lv_at hl 0 rfl) ?_
                        refine lv_aload_n hx hb dX2_which_86 rfl (lv_at hl 0 rfl) ?_
                        refine M_get (v := .int (nI (N 37))) hx hb hts hown hG hM 37 (by decide) q1329 rfl rfl dX2_which_87 ?_
                        refine lv_iload hx hb dX2_which_90 (lv_at hl 6 rfl) ?_
                        refine kn_add hx hb dX2_which_92 ?_
                        refine vp_callSi (W.runV (As := [.int (nI (N 37 + j))]) (rest := []) ⟨hx, hb, hml, hown, hts⟩ (c_X2_byteAt lh D dA a0 ad N I G J (N 37 + j) (p33) (by have h := c_82; simp only [maT, Bool.and_eq_true, decide_eq_true_eq] at h; omega)) (w_X2_byteAt hts q1531 rfl rfl ⟨Nat.le_of_ble_eq_true rfl, Nat.le_of_ble_eq_true rfl⟩) ⟨PqM.blind, M_recv hG hM, PqM.pre hG hM⟩ rfl rfl hl.1 rfl (lv_room (Nat.le_of_ble_eq_true rfl)) dX2_which_93 ⟨Nat.le_of_ble_eq_true rfl, Nat.le_of_ble_eq_true rfl⟩) (fun rr hrr => ?_)
                        subst hrr
                        refine lv_aload_n hx hb dX2_which_96 rfl (lv_at hl 1 rfl) ?_
                        refine lv_iload_n hx hb dX2_which_97 rfl (lv_at hl 3 rfl) ?_
                        refine lv_iload hx hb dX2_which_98 (lv_at hl 6 rfl) ?_
                        refine kn_add hx hb dX2_which_100 ?_
                        refine vp_callSi (W.runV (As := [.int (nI (spA f k + j))]) (rest := [.int (nI (byS ((N 33)) (J 32) (N 37 + j)))]) ⟨hx, hb, hml, hown, hts⟩ (c_J3_charAt lh w b n f (spA f k + j) (show (spA f k + j) < n from by first | omega | assumption | exact hB_up (by assumption) (by omega))) (w_J3_charAt hts q1545 rfl rfl ⟨Nat.le_of_ble_eq_true rfl, Nat.le_of_ble_eq_true rfl⟩) ⟨PX.blind (Mv.and KC.mv SA.mv), (SA.recv h_w), PX.pre (Mv.and KC.mv SA.mv) ⟨hKC, h_w⟩⟩ rfl rfl hl.1 rfl (lv_room (Nat.le_of_ble_eq_true rfl)) dX2_which_101 ⟨Nat.le_of_ble_eq_true rfl, Nat.le_of_ble_eq_true rfl⟩) (fun rr hrr => ?_)
                        subst hrr
                        refine kn_cne (tgt := 111) hx hb dX2_which_104 (by decide) (by have := byS_lt (N 33) (J 32) (N 37 + j); omega) (by have := h_w.2.2.2.2.2 (spA f k + j) (by omega); omega) (fun c_104 => ?_) (fun c_104 => ?_)
                        · refine lv_iconst (v := nI 0) hx hb dX2_which_111 (by decide) ?_
                          refine lv_istore (lv' := [(5, .int (nI 0)), (0, .ref a0), (1, .ref w), (2, .int (nI (spN f k))), (3, .int (nI (spA f k))), (4, .int (nI k)), (6, .int (nI j))]) hx hb dX2_which_112 hl (by decide) rfl (fun ls hl => ?_)
                          refine lv_iinc (v := nI (j + 1)) (lv' := [(6, .int (nI (j + 1))), (5, .int (nI 0)), (0, .ref a0), (1, .ref w), (2, .int (nI (spN f k))), (3, .int (nI (spA f k))), (4, .int (nI k))]) hx hb dX2_which_114 hl (k := 6) rfl (show nI j + Int32.ofInt 1 = nI (j + 1) from nI_add _ 1) (by decide) rfl (fun ls hl => ?_)
                          refine lv_goto (tgt := 71) hx hb dX2_which_117 (by decide) ?_
                          exact ih71 (j + 1) (by omega) (by omega) _ (lv_conv (show lv_has ls 7 [(0, .ref a0), (1, .ref w), (2, .int (nI (spN f k))), (3, .int (nI (spA f k))), (4, .int (nI k)), (5, .int (nI 0)), (6, .int (nI (j + 1)))] from (lv_sub hl [2, 3, 4, 5, 6, 1, 0] rfl)) (by rw [show maT N J f (spA f k) k (j + 1) = false from by have h := c_82; simp only [maT, eqT, Bool.and_eq_true, decide_eq_true_eq] at h ⊢; simp [h.1, h.2.1, h.2.2.1, h.2.2.2, c_104]]; rfl))
                        · refine lv_iconst (v := nI 1) hx hb dX2_which_107 (by decide) ?_
                          refine lv_goto (tgt := 112) hx hb dX2_which_108 (by decide) ?_
                          refine lv_istore (lv' := [(5, .int (nI 1)), (0, .ref a0), (1, .ref w), (2, .int (nI (spN f k))), (3, .int (nI (spA f k))), (4, .int (nI k)), (6, .int (nI j))]) hx hb dX2_which_112 hl (by decide) rfl (fun ls hl => ?_)
                          refine lv_iinc (v := nI (j + 1)) (lv' := [(6, .int (nI (j + 1))), (5, .int (nI 1)), (0, .ref a0), (1, .ref w), (2, .int (nI (spN f k))), (3, .int (nI (spA f k))), (4, .int (nI k))]) hx hb dX2_which_114 hl (k := 6) rfl (show nI j + Int32.ofInt 1 = nI (j + 1) from nI_add _ 1) (by decide) rfl (fun ls hl => ?_)
                          refine lv_goto (tgt := 71) hx hb dX2_which_117 (by decide) ?_
                          exact ih71 (j + 1) (by omega) (by omega) _ (lv_conv (show lv_has ls 7 [(0, .ref a0), (1, .ref w), (2, .int (nI (spN f k))), (3, .int (nI (spA f k))), (4, .int (nI k)), (5, .int (nI 1)), (6, .int (nI (j + 1)))] from (lv_sub hl [2, 3, 4, 5, 6, 1, 0] rfl)) (by rw [show maT N J f (spA f k) k (j + 1) = true from by have h := c_82; simp only [maT, eqT, Bool.and_eq_true, decide_eq_true_eq] at h ⊢; simp [h.1, h.2.1, h.2.2.1, h.2.2.2, c_104]]; rfl))
                exact L71 _ 0 (by omega) (Nat.lt_succ_self _) _ (lv_conv (show lv_has ls 7 [(0, .ref a0), (1, .ref w), (2, .int (nI (spN f k))), (3, .int (nI (spA f k))), (4, .int (nI k)), (5, .int (nI 1)), (6, .int (nI 0))] from (lv_sub hl [2, 3, 4, 5, 6, 1, 0] rfl)) (by rw [show maT N J f (spA f k) k 0 = true from by simp [maT, eqT, c_35, c_42, c_58]]; rfl))
        · refine lv_goto (tgt := 135) hx hb dX2_which_27 (by decide) ?_
          refine lv_iinc (v := nI (k + 1)) (lv' := [(4, .int (nI (k + 1))), (0, .ref a0), (1, .ref w), (2, .int (nI (spN f k))), (3, .int (nI (spA f k)))]) hx hb dX2_which_135 hl (k := 4) rfl (show nI k + Int32.ofInt 1 = nI (k + 1) from nI_add _ 1) (by decide) rfl (fun ls hl => ?_)
          refine lv_goto (tgt := 7) hx hb dX2_which_138 (by decide) ?_
          exact ih7 (k + 1) (by omega) (whT_miss i7_1 (fun q => c_24 q.1)) (by omega) _ (lv_conv (show lv_has ls 7 [(0, .ref a0), (1, .ref w), (2, .int (nI (spN f k))), (3, .int (nI (spA f k))), (4, .int (nI (k + 1)))] from (lv_sub hl [1, 2, 3, 4, 0] rfl)) (by rw [spN, if_neg c_24, spA, if_neg c_24]))
  exact L7 _ 0 (by omega) (rfl) (Nat.lt_succ_self _) _ (lv_sub hl [3, 4, 2, 1, 0] rfl)
theorem w_X2_which {R : Room} {s : State} {args : Array Value} {own : String} {idx : Nat} (hts : ∀ w ∈ lw_all, w.before args s = true) (h1 : Cond.methodLink own idx yX2_which ∈ lw_all) {rm : Room} {mc ms : Nat} (hrc : rm.cells = mc) (hrs : rm.slots = ms) (hR : rm.frames + 1 ≤ R.frames ∧ 8 + (7 + 11) + rm.locals ≤ R.locals) : CallW R s args own RX2 idx yX2_which cX2_which 7 (some .int) (ws_ yX2_which cX2_which 7 (some .int)) rm mc ms 1 := cwV 1 hts (lw_V h1 q1553 qs41 q70 q1554) rfl hrc hrs (by decide +kernel) hR
