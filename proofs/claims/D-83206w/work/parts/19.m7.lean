set_option maxRecDepth 100000
abbrev r_X2_parts : Room := { frames := 1, cells := 1, slots := 20, locals := 24 }
set_option maxHeartbeats 400000 in
theorem c_X2_parts (lh : Launch) (D : va_G) (dA : Nat → ClassId) (a0 : Nat) (ad : Nat → Nat) (N : Nat → Nat) (I : Nat → Int32) (G : Nat → Nat → Nat) (J : Nat → Nat → Int32) (sz : Nat) (c : Nat) (g : Nat) (jar : Nat) (h1 : OkS N G J) (h2 : CsOk N G) (h3 : c < 10) (h4 : jar < 60) (h5 : 0 < gr G c) (h6 : g ≤ gr G c) : Met lh yX2_parts (ws_ yX2_parts cX2_parts 10 none) r_X2_parts (PmM D dA a0 ad N I G J sz [.ref a0, .int (nI c), .int (nI g), .int (nI jar)]) (va_Qv (fun u : SgT => u = (N, I, ptG G c g jar, J)) (BmM D dA a0 ad) (AM a0 ad sz)) 1 20 (AM a0 ad sz) := by
  refine Met.ofW (cc := cX2_parts) (maxL := 10) (ret := none) (by decide) rfl ?_
  intro p e s m args below meth cd s₁ B hml hv
  obtain ⟨hargs, hsz, hM, hG⟩ := hv
  have hx := B.exec
  have hb := B.bytes
  have hrt := B.returns
  have hts := atoms_spec (ws := (ws_ yX2_parts cX2_parts 10 none)) B.pre
  have hts : ∀ w ∈ lw_all, w.before _ s = true := fun w h => hts w (List.mem_cons_of_mem _ h)
  have hown : s.vm.findClass RX2 = some m.cls := findClass_of_methodNamed B.named
  have hlocks := B.notSynchronized
  subst hsz
  have hS : va_S (AM a0 ad s.heap.size) s.heap s.heap [] := va_S.rf
  have hE : entryFrame m args 10 = F0 m 0 ((lg_sl ([.ref a0, .int (nI c), .int (nI g), .int (nI jar)]) ++ List.replicate (10 - (lg_sl ([.ref a0, .int (nI c), .int (nI g), .int (nI jar)])).length) Slot.unset).toArray) [] := by rw [hargs]; exact lg_entry_eq m _ 10
  have hl := lv_entry ([.ref a0, .int (nI c), .int (nI g), .int (nI jar)]) (n := 10) (Nat.le_of_ble_eq_true rfl)
  rw [hE]
  clear hE
  generalize (lg_sl ([.ref a0, .int (nI c), .int (nI g), .int (nI jar)]) ++ List.replicate (10 - (lg_sl ([.ref a0, .int (nI c), .int (nI g), .int (nI jar)])).length) Slot.unset).toArray = ls at hl ⊢
  have hl : lv_has ls 10 [(0, .ref a0), (1, .int (nI c)), (2, .int (nI g)), (3, .int (nI jar))] := hl
  generalize hQ : MQ _ _ _ _ _ _ _ = Q
  have hokk := h1
  obtain ⟨hB, ⟨hn1, hn3, hn14, hn19, hn23, hn33, hn40, hn44⟩, hcr, hst, hwm, hrc⟩ := hokk
  have hal := h2.gr h3
  have hmis := mis_lt (x := conS G c) (g := g) h5 rfl
  have hre : ∀ l, (reS (conS G c) g (gr G c)) l < gr G c := fun l => Nat.mod_lt _ h5
  have hgo : ∀ l, l < 20 → goS (conS G c) g (gr G c) l ≤ 100000 := fun l hl => Nat.le_trans (Nat.div_le_of_le_mul (by rw [Nat.mul_comm (gr G c)]; exact Nat.mul_le_mul_left _ h6)) (h2.one h3 hl)
  have hBs : ∀ k x y, sg G 41 (20 * jar) 20 (fun l => goS (conS G c) g (gr G c) l + pkS (reS (conS G c) g (gr G c)) k l) x y < 2 ^ 31 := fun k => sg_B hB (fun l hl => by have a1 := hgo l hl; have a2 := pkS_le (R := (reS (conS G c) g (gr G c))) k l; omega)
  refine lv_aload_n hx hb dX2_parts_0 rfl (lv_at hl 0 rfl) ?_
  refine lv_iload_n hx hb dX2_parts_1 rfl (lv_at hl 1 rfl) ?_
  refine vp_callSi (W.runV (As := [.int (nI c)]) (rest := []) ⟨hx, hb, hml, hown, hts⟩ (c_X2_grams lh D dA a0 ad N I G J c (show c < 10 from by first | omega | assumption | exact hB_up (by assumption) (by omega))) (w_X2_grams hts q1487 rfl rfl ⟨Nat.le_of_ble_eq_true rfl, Nat.le_of_ble_eq_true rfl⟩) ⟨PqM.blind, M_recv hG hM, PqM.pre hG hM⟩ rfl rfl hl.1 rfl (lv_room (Nat.le_of_ble_eq_true rfl)) dX2_parts_2 ⟨Nat.le_of_ble_eq_true rfl, Nat.le_of_ble_eq_true rfl⟩) (fun rr hrr => ?_)
  subst hrr
  refine lv_istore (lv' := [(4, .int (nI (gr G c))), (0, .ref a0), (1, .int (nI c)), (2, .int (nI g)), (3, .int (nI jar))]) hx hb dX2_parts_5 hl (by decide) rfl (fun ls hl => ?_)
  refine lv_iload_n hx hb dX2_parts_7 rfl (lv_at hl 3 rfl) ?_
  refine lv_istore (lv' := [(5, .int (nI g)), (4, .int (nI (gr G c))), (0, .ref a0), (1, .int (nI c)), (2, .int (nI g)), (3, .int (nI jar))]) hx hb dX2_parts_8 hl (by decide) rfl (fun ls hl => ?_)
  refine lv_bipush (v := nI 20) hx hb dX2_parts_10 (by decide) ?_
  refine M_newa (atype := .boolean) hx hb hG hS hM (hts _ q271) rfl 2 rfl rfl (n := 20) (by decide) (by decide) (Nat.le_of_ble_eq_true rfl) (Nat.le_of_ble_eq_true rfl) dX2_parts_12 (fun q12 H hM hq12 nq12 zq12 hS => ?_)
  refine lv_astore (lv' := [(6, .ref q12), (5, .int (nI g)), (4, .int (nI (gr G c))), (0, .ref a0), (1, .int (nI c)), (2, .int (nI g)), (3, .int (nI jar))]) hx hb dX2_parts_14 hl (by decide) rfl (fun ls hl => ?_)
  refine lv_iconst (v := nI 0) hx hb dX2_parts_16 (by decide) ?_
  refine lv_istore (lv' := [(7, .int (nI 0)), (6, .ref q12), (5, .int (nI g)), (4, .int (nI (gr G c))), (0, .ref a0), (1, .int (nI c)), (2, .int (nI g)), (3, .int (nI jar))]) hx hb dX2_parts_17 hl (by decide) rfl (fun ls hl => ?_)
  have L19 : ∀ (nn19 : Nat) (l : Nat), (l ≤ 20) → 20 - l < nn19 → ∀ (H : Heap) (locs : List Loc), RM D dA a0 ad N I (sg G 41 (20 * jar) l (goS (conS G c) g (gr G c))) J H → va_S (AM a0 ad s.heap.size) s.heap H locs → va_at D CL (q12, .inl (dA 2, 20, .inl (fun _ => 0))) H → ∀ (ls : Array Slot), lv_has ls 10 [(0, .ref a0), (1, .int (nI c)), (2, .int (nI g)), (3, .int (nI jar)), (4, .int (nI (gr G c))), (5, .int (nI (g - sumTo (goS (conS G c) g (gr G c)) l))), (6, .ref q12), (7, .int (nI l))] → W p lh e r_X2_parts s m args below meth cd H locs 1 20 Q (F0 m 19 ls []) := by
    intro nn19
    induction nn19 with
    | zero => intro l i19_0 hm19; exact absurd hm19 (Nat.not_lt_zero _)
    | succ nn19 ih19 =>
      intro l i19_0 hm19 H locs hM hS hq12 ls hl
      refine lv_iload hx hb dX2_parts_19 (lv_at hl 7 rfl) ?_
      refine lv_bipush (v := nI 20) hx hb dX2_parts_21 (by decide) ?_
      refine kn_cge (tgt := 82) hx hb dX2_parts_23 (by decide) (by omega) (by omega) (fun c_23 => ?_) (fun c_23 => ?_)
      · have e7 : l = 20 := (by omega)
        subst e7
        refine lv_iconst (v := nI 0) hx hb dX2_parts_82 (by decide) ?_
        refine lv_istore (lv' := [(7, .int (nI 0)), (0, .ref a0), (1, .int (nI c)), (2, .int (nI g)), (3, .int (nI jar)), (4, .int (nI (gr G c))), (5, .int (nI (g - sumTo (goS (conS G c) g (gr G c)) 20))), (6, .ref q12)]) hx hb dX2_parts_83 hl (by decide) rfl (fun ls hl => ?_)
        have L85 : ∀ (nn85 : Nat) (k : Nat), (k ≤ misS (conS G c) g (gr G c)) → misS (conS G c) g (gr G c) - k < nn85 → ∀ (H : Heap) (locs : List Loc), RM D dA a0 ad N I (sg G 41 (20 * jar) 20 (fun l => goS (conS G c) g (gr G c) l + pkS (reS (conS G c) g (gr G c)) k l)) J H → va_S (AM a0 ad s.heap.size) s.heap H locs → va_at D CL (q12, .inl (dA 2, 20, .inl (fun l => nI (pkS (reS (conS G c) g (gr G c)) k l)))) H → ∀ (ls : Array Slot), lv_has ls 10 [(0, .ref a0), (1, .int (nI c)), (2, .int (nI g)), (3, .int (nI jar)), (4, .int (nI (gr G c))), (5, .int (nI (misS (conS G c) g (gr G c)))), (6, .ref q12), (7, .int (nI k))] → W p lh e r_X2_parts s m args below meth cd H locs 1 20 Q (F0 m 85 ls []) := by
          intro nn85
          induction nn85 with
          | zero => intro k i85_0 hm85; exact absurd hm85 (Nat.not_lt_zero _)
          | succ nn85 ih85 =>
            intro k i85_0 hm85 H locs hM hS hq12 ls hl
            refine lv_iload hx hb dX2_parts_85 (lv_at hl 7 rfl) ?_
            refine lv_iload hx hb dX2_parts_87 (lv_at hl 5 rfl) ?_
            refine kn_cge (tgt := 181) hx hb dX2_parts_89 (by decide) (by omega) (by omega) (fun c_89 => ?_) (fun c_89 => ?_)
            · subst hQ
              exact W.vret hx hb hrt (fun t ht hW => ⟨⟨(N, I, (sg G 41 (20 * jar) 20 (fun l => goS (conS G c) g (gr G c) l + pkS (reS (conS G c) g (gr G c)) k l)), J), rfl, (by have e : k = misS (conS G c) g (gr G c) := (by omega); subst e; rfl), by rw [ht]; exact hM, GK.warm hW hG⟩, hS.F ht⟩) hS.2.2 dX2_parts_181
            · refine lv_iconst (v := -1) hx hb dX2_parts_92 (by decide) ?_
              refine lv_istore (lv' := [(8, .int (-1)), (0, .ref a0), (1, .int (nI c)), (2, .int (nI g)), (3, .int (nI jar)), (4, .int (nI (gr G c))), (5, .int (nI (misS (conS G c) g (gr G c)))), (6, .ref q12), (7, .int (nI k))]) hx hb dX2_parts_93 hl (by decide) rfl (fun ls hl => ?_)
              refine lv_iconst (v := nI 0) hx hb dX2_parts_95 (by decide) ?_
              refine lv_istore (lv' := [(9, .int (nI 0)), (8, .int (-1)), (0, .ref a0), (1, .int (nI c)), (2, .int (nI g)), (3, .int (nI jar)), (4, .int (nI (gr G c))), (5, .int (nI (misS (conS G c) g (gr G c)))), (6, .ref q12), (7, .int (nI k))]) hx hb dX2_parts_96 hl (by decide) rfl (fun ls hl => ?_)
              have L98 : ∀ (nn98 : Nat) (l : Nat), (l ≤ 20) → 20 - l < nn98 → ∀ (ls : Array Slot), lv_has ls 10 [(0, .ref a0), (1, .int (nI c)), (2, .int (nI g)), (3, .int (nI jar)), (4, .int (nI (gr G c))), (5, .int (nI (misS (conS G c) g (gr G c)))), (6, .ref q12), (7, .int (nI k)), (8, .int (oI (bsS (pkS (reS (conS G c) g (gr G c)) k) (reS (conS G c) g (gr G c)) l))), (9, .int (nI l))] → W p lh e r_X2_parts s m args below meth cd H locs 1 20 Q (F0 m 98 ls []) := by
                intro nn98
                induction nn98 with
                | zero => intro l i98_0 hm98; exact absurd hm98 (Nat.not_lt_zero _)
                | succ nn98 ih98 =>
                  intro l i98_0 hm98 ls hl
                  refine lv_iload hx hb dX2_parts_98 (lv_at hl 9 rfl) ?_
                  refine lv_bipush (v := nI 20) hx hb dX2_parts_100 (by decide) ?_
                  refine kn_cge (tgt := 153) hx hb dX2_parts_102 (by decide) (by omega) (by omega) (fun c_102 => ?_) (fun c_102 => ?_)
                  · have e9 : l = 20 := (by omega)
                    subst e9
                    obtain ⟨b, hbb⟩ := pk_some (R := (reS (conS G c) g (gr G c))) (k := k) (by omega)
                    have hb2 := bsS_lt hbb
                    have hb3 := hb2.1
                    rw [hbb] at hl
                    have hl : lv_has ls 10 [(0, .ref a0), (1, .int (nI c)), (2, .int (nI g)), (3, .int (nI jar)), (4, .int (nI (gr G c))), (5, .int (nI (misS (conS G c) g (gr G c)))), (6, .ref q12), (7, .int (nI k)), (8, .int (nI b)), (9, .int (nI 20))] := hl
                    refine lv_aload hx hb dX2_parts_153 (lv_at hl 6 rfl) ?_
                    refine lv_iload hx hb dX2_parts_155 (lv_at hl 8 rfl) ?_
                    refine lv_iconst (v := nI 1) hx hb dX2_parts_157 (by decide) ?_
                    refine X_zast (v := nI 1) hx hb hG hS hM hq12 nq12 (AM.n _ zq12) (show b < 20 from by omega) (by decide) (rfl) dX2_parts_158 (fun H locs hM hq12 hS => ?_)
                    refine lv_aload_n hx hb dX2_parts_159 rfl (lv_at hl 0 rfl) ?_
                    refine M_get (v := .ref (ad 41)) hx hb hts hown hG hM 41 (by decide) q1333 rfl rfl dX2_parts_160 ?_
                    refine lv_bipush (v := nI 20) hx hb dX2_parts_163 (by decide) ?_
                    refine lv_iload_n hx hb dX2_parts_165 rfl (lv_at hl 3 rfl) ?_
                    refine kn_mul hx hb dX2_parts_166 ?_
                    refine lv_iload hx hb dX2_parts_167 (lv_at hl 8 rfl) ?_
                    refine kn_add hx hb dX2_parts_169 ?_
                    refine lv_dup2_11 hx hb dX2_parts_170 rfl rfl ?_
                    refine M_iald (v := nI (goS (conS G c) g (gr G c) b + pkS (reS (conS G c) g (gr G c)) k b)) hx hb hG hM 41 rfl rfl (show 20 * jar + b < 1200 from by omega) (show nI ((sg G 41 (20 * jar) 20 (fun l => goS (conS G c) g (gr G c) l + pkS (reS (conS G c) g (gr G c)) k l)) 41 (20 * jar + b)) = nI (goS (conS G c) g (gr G c) b + pkS (reS (conS G c) g (gr G c)) k b) by rw [sg_in (by omega)]) dX2_parts_171 ?_
                    refine lv_iconst (v := nI 1) hx hb dX2_parts_172 (by decide) ?_
                    refine kn_add hx hb dX2_parts_173 ?_
                    refine M_iastN (v := goS (conS G c) g (gr G c) b + pkS (reS (conS G c) g (gr G c)) k b + 1) hx hb hG hS hM 41 rfl (AM.a 41 rfl) rfl rfl (show 20 * jar + b < 1200 from by omega) dX2_parts_174 (fun H locs hM hz hS => ?_)
                    have hq12 := hq12.kept (hz.2 _ (nq12.2 41 rfl))
                    refine lv_iinc (v := nI (k + 1)) (lv' := [(7, .int (nI (k + 1))), (0, .ref a0), (1, .int (nI c)), (2, .int (nI g)), (3, .int (nI jar)), (4, .int (nI (gr G c))), (5, .int (nI (misS (conS G c) g (gr G c)))), (6, .ref q12), (8, .int (nI b)), (9, .int (nI 20))]) hx hb dX2_parts_175 hl (k := 7) rfl (show nI k + Int32.ofInt 1 = nI (k + 1) from nI_add _ 1) (by decide) rfl (fun ls hl => ?_)
                    refine lv_goto (tgt := 85) hx hb dX2_parts_178 (by decide) ?_
                    exact ih85 (k + 1) (by omega) (by omega) _ _ (by rw [← pk_step hbb]; exact hM) hS (by rw [← pk_mark hbb]; exact hq12) _ (lv_sub hl [1, 2, 3, 4, 5, 6, 7, 0] rfl)
                  · refine lv_aload hx hb dX2_parts_105 (lv_at hl 6 rfl) ?_
                    refine lv_iload hx hb dX2_parts_107 (lv_at hl 9 rfl) ?_
                    refine ka_zald (v := nI (pkS (reS (conS G c) g (gr G c)) k l)) hx hb hG.1 hq12 2 rfl (show l < 20 from by omega) (by decide) (rfl) dX2_parts_109 ?_
                    refine kn_zne (tgt := 147) hx hb dX2_parts_110 (by decide) (by have := pkS_le (R := (reS (conS G c) g (gr G c))) k l; omega) (fun c_110 => ?_) (fun c_110 => ?_)
                    · refine lv_iinc (v := nI (l + 1)) (lv' := [(9, .int (nI (l + 1))), (0, .ref a0), (1, .int (nI c)), (2, .int (nI g)), (3, .int (nI jar)), (4, .int (nI (gr G c))), (5, .int (nI (misS (conS G c) g (gr G c)))), (6, .ref q12), (7, .int (nI k)), (8, .int (oI (bsS (pkS (reS (conS G c) g (gr G c)) k) (reS (conS G c) g (gr G c)) l)))]) hx hb dX2_parts_147 hl (k := 9) rfl (show nI l + Int32.ofInt 1 = nI (l + 1) from nI_add _ 1) (by decide) rfl (fun ls hl => ?_)
                      refine lv_goto (tgt := 98) hx hb dX2_parts_150 (by decide) ?_
                      exact ih98 (l + 1) (by omega) (by omega) _ (lv_conv (show lv_has ls 10 [(0, .ref a0), (1, .int (nI c)), (2, .int (nI g)), (3, .int (nI jar)), (4, .int (nI (gr G c))), (5, .int (nI (misS (conS G c) g (gr G c)))), (6, .ref q12), (7, .int (nI k)), (8, .int (oI (bsS (pkS (reS (conS G c) g (gr G c)) k) (reS (conS G c) g (gr G c)) l))), (9, .int (nI (l + 1)))] from (lv_sub hl [1, 2, 3, 4, 5, 6, 7, 8, 9, 0] rfl)) (by rw [bsS_n (fun q => c_110 q.1)]))
                    · refine lv_iload hx hb dX2_parts_113 (lv_at hl 8 rfl) ?_
                      refine lv_iconst (v := -1) hx hb dX2_parts_115 (by decide) ?_
                      refine kO_eq (tgt := 143) hx hb dX2_parts_116 (by decide) (fun j q => by have := bsS_lt q; omega) (fun c_116 => ?_) (fun k116 c_116 => ?_)
                      · rw [c_116] at hl
                        have hl : lv_has ls 10 [(0, .ref a0), (1, .int (nI c)), (2, .int (nI g)), (3, .int (nI jar)), (4, .int (nI (gr G c))), (5, .int (nI (misS (conS G c) g (gr G c)))), (6, .ref q12), (7, .int (nI k)), (8, .int (-1)), (9, .int (nI l))] := hl
                        skip
                        refine lv_iload hx hb dX2_parts_143 (lv_at hl 9 rfl) ?_
                        refine lv_istore (lv' := [(8, .int (nI l)), (0, .ref a0), (1, .int (nI c)), (2, .int (nI g)), (3, .int (nI jar)), (4, .int (nI (gr G c))), (5, .int (nI (misS (conS G c) g (gr G c)))), (6, .ref q12), (7, .int (nI k)), (9, .int (nI l))]) hx hb dX2_parts_145 hl (by decide) rfl (fun ls hl => ?_)
                        refine lv_iinc (v := nI (l + 1)) (lv' := [(9, .int (nI (l + 1))), (8, .int (nI l)), (0, .ref a0), (1, .int (nI c)), (2, .int (nI g)), (3, .int (nI jar)), (4, .int (nI (gr G c))), (5, .int (nI (misS (conS G c) g (gr G c)))), (6, .ref q12), (7, .int (nI k))]) hx hb dX2_parts_147 hl (k := 9) rfl (show nI l + Int32.ofInt 1 = nI (l + 1) from nI_add _ 1) (by decide) rfl (fun ls hl => ?_)
                        refine lv_goto (tgt := 98) hx hb dX2_parts_150 (by decide) ?_
                        exact ih98 (l + 1) (by omega) (by omega) _ (lv_conv (show lv_has ls 10 [(0, .ref a0), (1, .int (nI c)), (2, .int (nI g)), (3, .int (nI jar)), (4, .int (nI (gr G c))), (5, .int (nI (misS (conS G c) g (gr G c)))), (6, .ref q12), (7, .int (nI k)), (8, .int (nI l)), (9, .int (nI (l + 1)))] from (lv_sub hl [2, 3, 4, 5, 6, 7, 8, 9, 1, 0] rfl)) (by rw [bsS_y c_110 (fun j q => by rw [c_116] at q; cases q)]; rfl))
                      · rw [c_116] at hl
                        have hl : lv_has ls 10 [(0, .ref a0), (1, .int (nI c)), (2, .int (nI g)), (3, .int (nI jar)), (4, .int (nI (gr G c))), (5, .int (nI (misS (conS G c) g (gr G c)))), (6, .ref q12), (7, .int (nI k)), (8, .int (nI k116)), (9, .int (nI l))] := hl
                        skip
                        have c_lt := (bsS_lt c_116).1
                        refine lv_aload_n hx hb dX2_parts_119 rfl (lv_at hl 0 rfl) ?_
                        refine lv_iload_n hx hb dX2_parts_120 rfl (lv_at hl 1 rfl) ?_
                        refine lv_iload hx hb dX2_parts_121 (lv_at hl 9 rfl) ?_
                        refine lv_iload_n hx hb dX2_parts_123 rfl (lv_at hl 2 rfl) ?_
                        refine lv_iload hx hb dX2_parts_124 (lv_at hl 4 rfl) ?_
                        refine vp_callSl (W.runV (As := [.int (nI c), .int (nI l), .int (nI g), .int (nI (gr G c))]) (rest := []) ⟨hx, hb, hml, hown, hts⟩ (c_X2_rest lh D dA a0 ad N I (sg G 41 (20 * jar) 20 (fun l => goS (conS G c) g (gr G c) l + pkS (reS (conS G c) g (gr G c)) k l)) J c l g (gr G c) (hBs k) (h3) (by omega) (by omega) (h5) (by omega)) (w_X2_rest hts q1642 rfl rfl ⟨Nat.le_of_ble_eq_true rfl, Nat.le_of_ble_eq_true rfl⟩) ⟨PqM.blind, M_recv hG hM, PqM.pre hG hM⟩ rfl rfl hl.1 rfl (lv_room (Nat.le_of_ble_eq_true rfl)) dX2_parts_126 ⟨Nat.le_of_ble_eq_true rfl, Nat.le_of_ble_eq_true rfl⟩) (fun rr hrr => ?_)
                        subst hrr
                        refine kx_long (y := lN ((reS (conS G c) g (gr G c)) l)) (show lN ((sg G 41 (20 * jar) 20 (fun l => goS (conS G c) g (gr G c) l + pkS (reS (conS G c) g (gr G c)) k l)) 4 (20 * c + l) * g % gr G c) = lN ((reS (conS G c) g (gr G c)) l) by rw [sg_o (by decide)]; rfl) ?_
                        refine lv_aload_n hx hb dX2_parts_129 rfl (lv_at hl 0 rfl) ?_
                        refine lv_iload_n hx hb dX2_parts_130 rfl (lv_at hl 1 rfl) ?_
                        refine lv_iload hx hb dX2_parts_131 (lv_at hl 8 rfl) ?_
                        refine lv_iload_n hx hb dX2_parts_133 rfl (lv_at hl 2 rfl) ?_
                        refine lv_iload hx hb dX2_parts_134 (lv_at hl 4 rfl) ?_
                        refine vp_callSl (W.runV (As := [.int (nI c), .int (nI k116), .int (nI g), .int (nI (gr G c))]) (rest := [.long (lN ((reS (conS G c) g (gr G c)) l))]) ⟨hx, hb, hml, hown, hts⟩ (c_X2_rest lh D dA a0 ad N I (sg G 41 (20 * jar) 20 (fun l => goS (conS G c) g (gr G c) l + pkS (reS (conS G c) g (gr G c)) k l)) J c k116 g (gr G c) (hBs k) (h3) (by omega) (by omega) (h5) (by omega)) (w_X2_rest hts q1642 rfl rfl ⟨Nat.le_of_ble_eq_true rfl, Nat.le_of_ble_eq_true rfl⟩) ⟨PqM.blind, M_recv hG hM, PqM.pre hG hM⟩ rfl rfl hl.1 rfl (lv_room (Nat.le_of_ble_eq_true rfl)) dX2_parts_136 ⟨Nat.le_of_ble_eq_true rfl, Nat.le_of_ble_eq_true rfl⟩) (fun rr hrr => ?_)
                        subst hrr
                        refine kx_long (y := lN ((reS (conS G c) g (gr G c)) k116)) (show lN ((sg G 41 (20 * jar) 20 (fun l => goS (conS G c) g (gr G c) l + pkS (reS (conS G c) g (gr G c)) k l)) 4 (20 * c + k116) * g % gr G c) = lN ((reS (conS G c) g (gr G c)) k116) by rw [sg_o (by decide)]; rfl) ?_
                        refine W.lcmp hx hb dX2_parts_139 ?_
                        refine lv_if_le (tgt := 147) hx hb dX2_parts_140 (by decide) (fun c_140 => ?_) (fun c_140 => ?_)
                        · have hr1 := hre l
                          have hr2 := hre k116
                          have c_140 := (cmp_le (by omega) (by omega)).mp c_140
                          refine lv_iinc (v := nI (l + 1)) (lv' := [(9, .int (nI (l + 1))), (0, .ref a0), (1, .int (nI c)), (2, .int (nI g)), (3, .int (nI jar)), (4, .int (nI (gr G c))), (5, .int (nI (misS (conS G c) g (gr G c)))), (6, .ref q12), (7, .int (nI k)), (8, .int (nI k116))]) hx hb dX2_parts_147 hl (k := 9) rfl (show nI l + Int32.ofInt 1 = nI (l + 1) from nI_add _ 1) (by decide) rfl (fun ls hl => ?_)
                          refine lv_goto (tgt := 98) hx hb dX2_parts_150 (by decide) ?_
                          exact ih98 (l + 1) (by omega) (by omega) _ (lv_conv (show lv_has ls 10 [(0, .ref a0), (1, .int (nI c)), (2, .int (nI g)), (3, .int (nI jar)), (4, .int (nI (gr G c))), (5, .int (nI (misS (conS G c) g (gr G c)))), (6, .ref q12), (7, .int (nI k)), (8, .int (nI k116)), (9, .int (nI (l + 1)))] from (lv_sub hl [1, 2, 3, 4, 5, 6, 7, 8, 9, 0] rfl)) (by rw [bsS_n (fun q => by have := q.2 _ c_116; omega), c_116]; rfl))
                        · have hr1 := hre l
                          have hr2 := hre k116
                          have c_140 := Nat.not_le.mp (fun q => c_140 ((cmp_le (by omega) (by omega)).mpr q))
                          refine lv_iload hx hb dX2_parts_143 (lv_at hl 9 rfl) ?_
                          refine lv_istore (lv' := [(8, .int (nI l)), (0, .ref a0), (1, .int (nI c)), (2, .int (nI g)), (3, .int (nI jar)), (4, .int (nI (gr G c))), (5, .int (nI (misS (conS G c) g (gr G c)))), (6, .ref q12), (7, .int (nI k)), (9, .int (nI l))]) hx hb dX2_parts_145 hl (by decide) rfl (fun ls hl => ?_)
                          refine lv_iinc (v := nI (l + 1)) (lv' := [(9, .int (nI (l + 1))), (8, .int (nI l)), (0, .ref a0), (1, .int (nI c)), (2, .int (nI g)), (3, .int (nI jar)), (4, .int (nI (gr G c))), (5, .int (nI (misS (conS G c) g (gr G c)))), (6, .ref q12), (7, .int (nI k))]) hx hb dX2_parts_147 hl (k := 9) rfl (show nI l + Int32.ofInt 1 = nI (l + 1) from nI_add _ 1) (by decide) rfl (fun ls hl => ?_)
                          refine lv_goto (tgt := 98) hx hb dX2_parts_150 (by decide) ?_
                          exact ih98 (l + 1) (by omega) (by omega) _ (lv_conv (show lv_has ls 10 [(0, .ref a0), (1, .int (nI c)), (2, .int (nI g)), (3, .int (nI jar)), (4, .int (nI (gr G c))), (5, .int (nI (misS (conS G c) g (gr G c)))), (6, .ref q12), (7, .int (nI k)), (8, .int (nI l)), (9, .int (nI (l + 1)))] from (lv_sub hl [2, 3, 4, 5, 6, 7, 8, 9, 1, 0] rfl)) (by rw [bsS_y c_110 (fun j q => by rw [c_116] at q; cases q; exact c_140)]; rfl))
              exact L98 _ 0 (by omega) (Nat.lt_succ_self _) _ (lv_sub hl [2, 3, 4, 5, 6, 7, 8, 9, 1, 0] rfl)
        exact L85 _ 0 (by omega) (Nat.lt_succ_self _) _ _ hM hS (by rw [show (fun l => nI (pkS (reS (conS G c) g (gr G c)) 0 l)) = (fun _ => 0) from funext (fun _ => nI_0)]; exact hq12) _ (lv_sub hl [1, 2, 3, 4, 5, 6, 7, 0] rfl)
      · refine lv_aload_n hx hb dX2_parts_26 rfl (lv_at hl 0 rfl) ?_
        refine M_get (v := .ref (ad 41)) hx hb hts hown hG hM 41 (by decide) q1333 rfl rfl dX2_parts_27 ?_
        refine lv_bipush (v := nI 20) hx hb dX2_parts_30 (by decide) ?_
        refine lv_iload_n hx hb dX2_parts_32 rfl (lv_at hl 3 rfl) ?_
        refine kn_mul hx hb dX2_parts_33 ?_
        refine lv_iload hx hb dX2_parts_34 (lv_at hl 7 rfl) ?_
        refine kn_add hx hb dX2_parts_36 ?_
        refine lv_aload_n hx hb dX2_parts_37 rfl (lv_at hl 0 rfl) ?_
        refine M_get (v := .ref (ad 4)) hx hb hts hown hG hM 4 (by decide) q1296 rfl rfl dX2_parts_38 ?_
        refine lv_bipush (v := nI 20) hx hb dX2_parts_41 (by decide) ?_
        refine lv_iload_n hx hb dX2_parts_43 rfl (lv_at hl 1 rfl) ?_
        refine kn_mul hx hb dX2_parts_44 ?_
        refine lv_iload hx hb dX2_parts_45 (lv_at hl 7 rfl) ?_
        refine kn_add hx hb dX2_parts_47 ?_
        refine M_iald (v := nI (G 4 (20 * c + l))) hx hb hG hM 4 rfl rfl (show 20 * c + l < 200 from by omega) (show nI ((sg G 41 (20 * jar) l (goS (conS G c) g (gr G c))) 4 (20 * c + l)) = nI (G 4 (20 * c + l)) by rw [sg_o (by decide)]) dX2_parts_48 ?_
        refine lv_i2l (v := (nI (G 4 (20 * c + l))).toInt64) hx hb dX2_parts_49 rfl ?_
        refine lv_iload_n hx hb dX2_parts_50 rfl (lv_at hl 2 rfl) ?_
        refine lv_i2l (v := (nI g).toInt64) hx hb dX2_parts_51 rfl ?_
        refine lv_lmul hx hb dX2_parts_52 ?_
        refine lv_iload hx hb dX2_parts_53 (lv_at hl 4 rfl) ?_
        refine lv_i2l (v := (nI (gr G c)).toInt64) hx hb dX2_parts_55 rfl ?_
        refine lv_ldiv hx hb dX2_parts_56 (l_ne h5 (by omega)) ?_
        refine lv_l2i (v := ((((nI (G 4 (20 * c + l))).toInt64) * ((nI g).toInt64)) / ((nI (gr G c)).toInt64)).toInt32) hx hb dX2_parts_57 rfl ?_
        refine kx_int (y := nI (goS (conS G c) g (gr G c) l)) (div_eq (hB _ _) (by omega) h5 (by omega)) ?_
        refine M_iastN (v := goS (conS G c) g (gr G c) l) hx hb hG hS hM 41 rfl (AM.a 41 rfl) rfl rfl (show 20 * jar + l < 1200 from by omega) dX2_parts_58 (fun H locs hM hz hS => ?_)
        have hq12 := hq12.kept (hz.2 _ (nq12.2 41 rfl))
        refine lv_iload hx hb dX2_parts_59 (lv_at hl 5 rfl) ?_
        refine lv_aload_n hx hb dX2_parts_61 rfl (lv_at hl 0 rfl) ?_
        refine M_get (v := .ref (ad 41)) hx hb hts hown hG hM 41 (by decide) q1333 rfl rfl dX2_parts_62 ?_
        refine lv_bipush (v := nI 20) hx hb dX2_parts_65 (by decide) ?_
        refine lv_iload_n hx hb dX2_parts_67 rfl (lv_at hl 3 rfl) ?_
        refine kn_mul hx hb dX2_parts_68 ?_
        refine lv_iload hx hb dX2_parts_69 (lv_at hl 7 rfl) ?_
        refine kn_add hx hb dX2_parts_71 ?_
        refine M_iald (v := nI (goS (conS G c) g (gr G c) l)) hx hb hG hM 41 rfl rfl (show 20 * jar + l < 1200 from by omega) (rdG rfl) dX2_parts_72 ?_
        have hgs : sumTo (goS (conS G c) g (gr G c)) l + goS (conS G c) g (gr G c) l ≤ g := go_sum (g := g) h5 (rfl : sumTo (conS G c) 20 = gr G c) (show l + 1 ≤ 20 by omega)
        refine kn_sub hx hb dX2_parts_73 (by omega) ?_
        refine lv_istore (lv' := [(5, .int (nI (g - sumTo (goS (conS G c) g (gr G c)) l - (goS (conS G c) g (gr G c) l)))), (0, .ref a0), (1, .int (nI c)), (2, .int (nI g)), (3, .int (nI jar)), (4, .int (nI (gr G c))), (6, .ref q12), (7, .int (nI l))]) hx hb dX2_parts_74 hl (by decide) rfl (fun ls hl => ?_)
        refine lv_iinc (v := nI (l + 1)) (lv' := [(7, .int (nI (l + 1))), (5, .int (nI (g - sumTo (goS (conS G c) g (gr G c)) l - (goS (conS G c) g (gr G c) l)))), (0, .ref a0), (1, .int (nI c)), (2, .int (nI g)), (3, .int (nI jar)), (4, .int (nI (gr G c))), (6, .ref q12)]) hx hb dX2_parts_76 hl (k := 7) rfl (show nI l + Int32.ofInt 1 = nI (l + 1) from nI_add _ 1) (by decide) rfl (fun ls hl => ?_)
        refine lv_goto (tgt := 19) hx hb dX2_parts_79 (by decide) ?_
        exact ih19 (l + 1) (by omega) (by omega) _ _ (by have e := @sg_s G 41 (20 * jar) l _ (goS (conS G c) g (gr G c)) rfl; rw [← e]; exact hM) hS hq12 _ (lv_conv (show lv_has ls 10 [(0, .ref a0), (1, .int (nI c)), (2, .int (nI g)), (3, .int (nI jar)), (4, .int (nI (gr G c))), (5, .int (nI (g - sumTo (goS (conS G c) g (gr G c)) l - (goS (conS G c) g (gr G c) l)))), (6, .ref q12), (7, .int (nI (l + 1)))] from (lv_sub hl [2, 3, 4, 5, 6, 1, 7, 0] rfl)) (by rw [show g - sumTo (goS (conS G c) g (gr G c)) (l + 1) = g - sumTo (goS (conS G c) g (gr G c)) l - goS (conS G c) g (gr G c) l from by show g - (sumTo (goS (conS G c) g (gr G c)) l + goS (conS G c) g (gr G c) l) = _; omega]))
  exact L19 _ 0 (by omega) (Nat.lt_succ_self _) _ _ (by rw [sg_0]; exact hM) hS hq12 _ (lv_sub hl [4, 5, 6, 7, 3, 2, 1, 0] rfl)
theorem w_X2_parts {R : Room} {s : State} {args : Array Value} {own : String} {idx : Nat} (hts : ∀ w ∈ lw_all, w.before args s = true) (h1 : Cond.methodLink own idx yX2_parts ∈ lw_all) {rm : Room} {mc ms : Nat} (hrc : rm.cells = mc) (hrs : rm.slots = ms) (hR : rm.frames + 1 ≤ R.frames ∧ 8 + (10 + 11) + rm.locals ≤ R.locals) : CallW R s args own RX2 idx yX2_parts cX2_parts 10 none (ws_ yX2_parts cX2_parts 10 none) rm mc ms 3 := cwV 3 hts (lw_V h1 q1640 qs56 q70 q1641) rfl hrc hrs (by decide +kernel) hR

abbrev r_X2_jar : Room := { frames := 3, cells := 1, slots := 20, locals := 69 }
set_option maxHeartbeats 400000 in
theorem c_X2_jar (lh : Launch) (D : va_G) (dA : Nat → ClassId) (a0 : Nat) (ad : Nat → Nat) (N : Nat → Nat) (I : Nat → Int32) (G : Nat → Nat → Nat) (J : Nat → Nat → Int32) (sz : Nat) (c : Int32) (g : Int32) (h1 : OkS N G J) (h2 : CsOk N G) : Met lh yX2_jar (ws_ yX2_jar cX2_jar 4 (some .int)) r_X2_jar (PmM D dA a0 ad N I G J sz [.ref a0, .int c, .int g]) (va_Qi (fun (r : Int32) (u : SgT) => if jarB N G c g = true then (if fitS G (tn c) (N 14) (N 19) (N 42) (N 43) = true then r = nI (N 40) ∧ u = (up1 (up1 N 0 0) 40 (N 40 + 1), I, jarG N G (tn c) (tn g), J) else r = -2 ∧ u = (up1 N 0 0, I, G, J)) else r = -1 ∧ u = (up1 N 0 0, I, G, J)) (BmM D dA a0 ad) (AM a0 ad sz)) 1 20 (AM a0 ad sz) := by
  refine Met.ofW (cc := cX2_jar) (maxL := 4) (ret := (some .int)) (by decide) rfl ?_
  intro p e s m args below meth cd s₁ B hml hv
  obtain ⟨hargs, hsz, hM, hG⟩ := hv
  have hx := B.exec
  have hb := B.bytes
  have hrt := B.returns
  have hts := atoms_spec (ws := (ws_ yX2_jar cX2_jar 4 (some .int))) B.pre
  have hts : ∀ w ∈ lw_all, w.before _ s = true := fun w h => hts w (List.mem_cons_of_mem _ h)
  have hown : s.vm.findClass RX2 = some m.cls := findClass_of_methodNamed B.named
  have hlocks := B.notSynchronized
  subst hsz
  have hS : va_S (AM a0 ad s.heap.size) s.heap s.heap [] := va_S.rf
  have hE : entryFrame m args 4 = F0 m 0 ((lg_sl ([.ref a0, .int c, .int g]) ++ List.replicate (4 - (lg_sl ([.ref a0, .int c, .int g])).length) Slot.unset).toArray) [] := by rw [hargs]; exact lg_entry_eq m _ 4
  have hl := lv_entry ([.ref a0, .int c, .int g]) (n := 4) (Nat.le_of_ble_eq_true rfl)
  rw [hE]
  clear hE
  generalize (lg_sl ([.ref a0, .int c, .int g]) ++ List.replicate (4 - (lg_sl ([.ref a0, .int c, .int g])).length) Slot.unset).toArray = ls at hl ⊢
  have hl : lv_has ls 4 [(0, .ref a0), (1, .int c), (2, .int g)] := hl
  generalize hQ : MQ _ _ _ _ _ _ _ = Q
  have hokk := h1
  obtain ⟨hB, ⟨hn1, hn3, hn14, hn19, hn23, hn33, hn40, hn44⟩, hcr, hst, hwm, hrc⟩ := hokk
  refine lv_aload_n hx hb dX2_jar_0 rfl (lv_at hl 0 rfl) ?_
  refine lv_iconst (v := nI 0) hx hb dX2_jar_1 (by decide) ?_
  refine M_put hx hb hts hown hG hS AM.o hM 0 (by decide) q1292 rfl rfl rfl (up1 N 0 0) I rfl dX2_jar_2 (fun H locs hM hz hS => ?_)
  refine lv_aload_n hx hb dX2_jar_5 rfl (lv_at hl 0 rfl) ?_
  refine lv_iload_n hx hb dX2_jar_6 rfl (lv_at hl 1 rfl) ?_
  refine vp_callSi (W.runV (As := [.int c]) (rest := []) ⟨hx, hb, hml, hown, hts⟩ (c_X2_lives lh D dA a0 ad (up1 N 0 0) I G J c (show ∀ a b, G a b < 2 ^ 31 from by first | omega | assumption | exact hB_up (by assumption) (by omega)) (show (N 3) ≤ 10 from by first | omega | assumption | exact hB_up (by assumption) (by omega))) (w_X2_lives hts q1479 rfl rfl ⟨Nat.le_of_ble_eq_true rfl, Nat.le_of_ble_eq_true rfl⟩) ⟨PqM.blind, M_recv hG hM, PqM.pre hG hM⟩ rfl rfl hl.1 rfl (lv_room (Nat.le_of_ble_eq_true rfl)) dX2_jar_7 ⟨Nat.le_of_ble_eq_true rfl, Nat.le_of_ble_eq_true rfl⟩) (fun rr hrr => ?_)
  subst hrr
  refine kx_int (y := bI (lvI ((N 3)) G c)) rfl ?_
  refine kb_eq (tgt := 36) hx hb dX2_jar_10 (by decide) (fun c_10 => ?_) (fun c_10 => ?_)
  · refine lv_iconst (v := -1) hx hb dX2_jar_36 (by decide) ?_
    subst hQ
    refine W.widen (k := 1) (n := 20) (by decide) (by decide) ?_
    exact W.iret (v := (-1)) hx hb hrt (fun t ht hW => ⟨⟨_, ((up1 N 0 0), I, G, J), rfl, (by dsimp only; rw [if_neg (by simp [jarB, c_10])]; exact ⟨rfl, rfl⟩), by rw [ht]; exact hM, GK.warm hW hG⟩, hS.F ht⟩) hS.2.2 dX2_jar_37
  · obtain ⟨j, hj, rfl, hlj⟩ := lvI_nat (by omega) c_10
    refine lv_iload_n hx hb dX2_jar_13 rfl (lv_at hl 2 rfl) ?_
    refine lv_iconst (v := nI 1) hx hb dX2_jar_14 (by decide) ?_
    refine lv_icmp_lt (tgt := 36) hx hb dX2_jar_15 (by decide) (fun c_15 => ?_) (fun c_15 => ?_)
    · refine lv_iconst (v := -1) hx hb dX2_jar_36 (by decide) ?_
      subst hQ
      refine W.widen (k := 1) (n := 20) (by decide) (by decide) ?_
      exact W.iret (v := (-1)) hx hb hrt (fun t ht hW => ⟨⟨_, ((up1 N 0 0), I, G, J), rfl, (by dsimp only; rw [if_neg (by simp [jarB, c_10, c_15, tn_nI (show j < 2 ^ 31 by omega)])]; exact ⟨rfl, rfl⟩), by rw [ht]; exact hM, GK.warm hW hG⟩, hS.F ht⟩) hS.2.2 dX2_jar_37
    · obtain ⟨g1, hg1, hg2, rfl⟩ := nI_ge1 c_15
      refine lv_iload_n hx hb dX2_jar_18 rfl (lv_at hl 2 rfl) ?_
      refine lv_aload_n hx hb dX2_jar_19 rfl (lv_at hl 0 rfl) ?_
      refine lv_iload_n hx hb dX2_jar_20 rfl (lv_at hl 1 rfl) ?_
      refine vp_callSi (W.runV (As := [.int (nI j)]) (rest := [.int (nI g1)]) ⟨hx, hb, hml, hown, hts⟩ (c_X2_grams lh D dA a0 ad (up1 N 0 0) I G J j (show j < 10 from by first | omega | assumption | exact hB_up (by assumption) (by omega))) (w_X2_grams hts q1487 rfl rfl ⟨Nat.le_of_ble_eq_true rfl, Nat.le_of_ble_eq_true rfl⟩) ⟨PqM.blind, M_recv hG hM, PqM.pre hG hM⟩ rfl rfl hl.1 rfl (lv_room (Nat.le_of_ble_eq_true rfl)) dX2_jar_21 ⟨Nat.le_of_ble_eq_true rfl, Nat.le_of_ble_eq_true rfl⟩) (fun rr hrr => ?_)
      subst hrr
      refine kx_int (y := nI (gr G j)) rfl ?_
      refine lv_icmp_gt (tgt := 36) hx hb dX2_jar_24 (by decide) (fun c_24 => ?_) (fun c_24 => ?_)
      · refine lv_iconst (v := -1) hx hb dX2_jar_36 (by decide) ?_
        subst hQ
        refine W.widen (k := 1) (n := 20) (by decide) (by decide) ?_
        exact W.iret (v := (-1)) hx hb hrt (fun t ht hW => ⟨⟨_, ((up1 N 0 0), I, G, J), rfl, (by dsimp only; rw [if_neg (by simp [jarB, c_10, c_15, c_24, tn_nI (show j < 2 ^ 31 by omega), tn_nI (show g1 < 2 ^ 31 by omega)])]; exact ⟨rfl, rfl⟩), by rw [ht]; exact hM, GK.warm hW hG⟩, hS.F ht⟩) hS.2.2 dX2_jar_37
      · have hw := h2.gr (show j < 10 by omega)
        have hle : g1 ≤ gr G j := Nat.not_lt.mp (fun q => c_24 ((nI_ltI (by omega) (by omega)).mpr q))
        refine lv_aload_n hx hb dX2_jar_27 rfl (lv_at hl 0 rfl) ?_
        refine M_get (v := .int (nI (N 40))) hx hb hts hown hG hM 40 (by decide) q1332 rfl rfl dX2_jar_28 ?_
        refine lv_bipush (v := nI 60) hx hb dX2_jar_31 (by decide) ?_
        refine kn_cne (tgt := 38) hx hb dX2_jar_33 (by decide) (by omega) (by omega) (fun c_33 => ?_) (fun c_33 => ?_)
        · refine lv_aload_n hx hb dX2_jar_38 rfl (lv_at hl 0 rfl) ?_
          refine lv_iload_n hx hb dX2_jar_39 rfl (lv_at hl 1 rfl) ?_
          refine vp_callSi (W.runV (As := [.int (nI j)]) (rest := []) ⟨hx, hb, hml, hown, hts⟩ (c_X2_isFit lh D dA a0 ad (up1 N 0 0) I G J j (show ∀ a b, G a b < 2 ^ 31 from by first | omega | assumption | exact hB_up (by assumption) (by omega)) (show j < 10 from by first | omega | assumption | exact hB_up (by assumption) (by omega)) (show (N 14) ≤ 600 from by first | omega | assumption | exact hB_up (by assumption) (by omega)) (show (N 19) ≤ 100 from by first | omega | assumption | exact hB_up (by assumption) (by omega))) (w_X2_isFit hts q1634 rfl rfl ⟨Nat.le_of_ble_eq_true rfl, Nat.le_of_ble_eq_true rfl⟩) ⟨PqM.blind, M_recv hG hM, PqM.pre hG hM⟩ rfl rfl hl.1 rfl (lv_room (Nat.le_of_ble_eq_true rfl)) dX2_jar_40 ⟨Nat.le_of_ble_eq_true rfl, Nat.le_of_ble_eq_true rfl⟩) (fun rr hrr => ?_)
          subst hrr
          refine kx_int (y := bI (fitS G j ((N 14)) ((N 19)) ((N 42)) ((N 43)))) rfl ?_
          refine kb_ne (tgt := 49) hx hb dX2_jar_43 (by decide) (fun c_43 => ?_) (fun c_43 => ?_)
          · refine lv_aload_n hx hb dX2_jar_49 rfl (lv_at hl 0 rfl) ?_
            refine lv_iload_n hx hb dX2_jar_50 rfl (lv_at hl 1 rfl) ?_
            refine lv_iload_n hx hb dX2_jar_51 rfl (lv_at hl 2 rfl) ?_
            refine lv_aload_n hx hb dX2_jar_52 rfl (lv_at hl 0 rfl) ?_
            refine M_get (v := .int (nI (N 40))) hx hb hts hown hG hM 40 (by decide) q1332 rfl rfl dX2_jar_53 ?_
            refine va_callv (va_runV (As := [.int (nI j), .int (nI g1), .int (nI (N 40))]) (rest := []) ⟨hx, hb, hml, hown, hts⟩ (c_X2_parts lh D dA a0 ad (up1 N 0 0) I G J H.size j g1 (N 40) (h1) (h2) (by omega) (by omega) (by omega) (hle)) (w_X2_parts hts q1638 rfl rfl ⟨Nat.le_of_ble_eq_true rfl, Nat.le_of_ble_eq_true rfl⟩) ⟨PmM.blind, M_recv hG hM, PmM.pre hG hM⟩ rfl rfl hl.1 rfl (lv_room (Nat.le_of_ble_eq_true rfl)) dX2_jar_56 ⟨Nat.le_of_ble_eq_true rfl, Nat.le_of_ble_eq_true rfl⟩) hS (fun q _ h => AM.up (hS.1) q h) (fun q h => AM.up (hS.1) q h) (fun u t H1 locs ht hvm hp hB hz hk hS => ?_)
            obtain ⟨hM, -⟩ := hB
            rw [ht] at hM
            clear ht hz hk
            generalize H1 = H at hM hS ⊢
            subst hp
            dsimp only at hM
            refine lv_iconst (v := nI 0) hx hb dX2_jar_59 (by decide) ?_
            refine lv_istore_n (lv' := [(3, .int (nI 0)), (0, .ref a0), (1, .int (nI j)), (2, .int (nI g1))]) hx hb dX2_jar_60 rfl hl (by decide) rfl (fun ls hl => ?_)
            have L61 : ∀ (nn61 : Nat) (l : Nat), (l ≤ 20) → 20 - l < nn61 → ∀ (H : Heap) (locs : List Loc), RM D dA a0 ad (up1 N 0 0) I (sg (ptG G j g1 (N 40)) 4 (20 * j) l (fun l => G 4 (20 * j + l) - (shS (conS G j) g1 (gr G j)) l)) J H → va_S (AM a0 ad s.heap.size) s.heap H locs → ∀ (ls : Array Slot), lv_has ls 4 [(0, .ref a0), (1, .int (nI j)), (2, .int (nI g1)), (3, .int (nI l))] → W p lh e r_X2_jar s m args below meth cd H locs 1 20 Q (F0 m 61 ls []) := by
              intro nn61
              induction nn61 with
              | zero => intro l i61_0 hm61; exact absurd hm61 (Nat.not_lt_zero _)
              | succ nn61 ih61 =>
                intro l i61_0 hm61 H locs hM hS ls hl
                refine lv_iload_n hx hb dX2_jar_61 rfl (lv_at hl 3 rfl) ?_
                refine lv_bipush (v := nI 20) hx hb dX2_jar_62 (by decide) ?_
                refine kn_cge (tgt := 101) hx hb dX2_jar_64 (by decide) (by omega) (by omega) (fun c_64 => ?_) (fun c_64 => ?_)
                · refine lv_aload_n hx hb dX2_jar_101 rfl (lv_at hl 0 rfl) ?_
                  refine lv_dup hx hb dX2_jar_102 rfl ?_
                  refine M_get (v := .int (nI (N 40))) hx hb hts hown hG hM 40 (by decide) q1332 rfl rfl dX2_jar_103 ?_
                  refine lv_iconst (v := nI 1) hx hb dX2_jar_106 (by decide) ?_
                  refine kn_add hx hb dX2_jar_107 ?_
                  refine M_put hx hb hts hown hG hS AM.o hM 40 (by decide) q1332 rfl rfl rfl (up1 (up1 N 0 0) 40 (N 40 + 1)) I rfl dX2_jar_108 (fun H locs hM hz hS => ?_)
                  refine lv_aload_n hx hb dX2_jar_111 rfl (lv_at hl 0 rfl) ?_
                  refine M_get (v := .int (nI (N 40 + 1))) hx hb hts hown hG hM 40 (by decide) q1332 rfl rfl dX2_jar_112 ?_
                  refine lv_iconst (v := nI 1) hx hb dX2_jar_115 (by decide) ?_
                  refine kn_sub hx hb dX2_jar_116 (by omega) ?_
                  subst hQ
                  exact W.iret (v := nI (N 40 + 1 - 1)) hx hb hrt (fun t ht hW => ⟨⟨_, ((up1 (up1 N 0 0) 40 (N 40 + 1)), I, (sg (ptG G j g1 (N 40)) 4 (20 * j) l (fun l => G 4 (20 * j + l) - (shS (conS G j) g1 (gr G j)) l)), J), rfl, (by dsimp only; rw [if_pos (by simp [jarB, c_10, c_15, c_24, c_33, tn_nI (show j < 2 ^ 31 by omega), tn_nI (show g1 < 2 ^ 31 by omega)]), tn_nI (show j < 2 ^ 31 by omega), tn_nI (show g1 < 2 ^ 31 by omega)]; rw [if_pos c_43]; have e : l = 20 := (by omega); subst e; exact ⟨rfl, rfl⟩), by rw [ht]; exact hM, GK.warm hW hG⟩, hS.F ht⟩) hS.2.2 dX2_jar_117
                · refine lv_aload_n hx hb dX2_jar_67 rfl (lv_at hl 0 rfl) ?_
                  refine M_get (v := .ref (ad 4)) hx hb hts hown hG hM 4 (by decide) q1296 rfl rfl dX2_jar_68 ?_
                  refine lv_bipush (v := nI 20) hx hb dX2_jar_71 (by decide) ?_
                  refine lv_iload_n hx hb dX2_jar_73 rfl (lv_at hl 1 rfl) ?_
                  refine kn_mul hx hb dX2_jar_74 ?_
                  refine lv_iload_n hx hb dX2_jar_75 rfl (lv_at hl 3 rfl) ?_
                  refine kn_add hx hb dX2_jar_76 ?_
                  refine lv_dup2_11 hx hb dX2_jar_77 rfl rfl ?_
                  refine M_iald (v := nI (G 4 (20 * j + l))) hx hb hG hM 4 rfl rfl (show 20 * j + l < 200 from by omega) (show nI (sg (ptG G j g1 (N 40)) 4 (20 * j) l (fun l => G 4 (20 * j + l) - (shS (conS G j) g1 (gr G j)) l) 4 (20 * j + l)) = nI (G 4 (20 * j + l)) by rw [sg_out (by omega), ptG, sg_o (by decide)]) dX2_jar_78 ?_
                  refine lv_aload_n hx hb dX2_jar_79 rfl (lv_at hl 0 rfl) ?_
                  refine M_get (v := .ref (ad 41)) hx hb hts hown hG hM 41 (by decide) q1333 rfl rfl dX2_jar_80 ?_
                  refine lv_bipush (v := nI 20) hx hb dX2_jar_83 (by decide) ?_
                  refine lv_aload_n hx hb dX2_jar_85 rfl (lv_at hl 0 rfl) ?_
                  refine M_get (v := .int (nI (N 40))) hx hb hts hown hG hM 40 (by decide) q1332 rfl rfl dX2_jar_86 ?_
                  refine kn_mul hx hb dX2_jar_89 ?_
                  refine lv_iload_n hx hb dX2_jar_90 rfl (lv_at hl 3 rfl) ?_
                  refine kn_add hx hb dX2_jar_91 ?_
                  refine M_iald (v := nI (shS (conS G j) g1 (gr G j) l)) hx hb hG hM 41 rfl rfl (show 20 * (N 40) + l < 1200 from by omega) (show nI (sg (ptG G j g1 (N 40)) 4 (20 * j) l (fun l => G 4 (20 * j + l) - (shS (conS G j) g1 (gr G j)) l) 41 (20 * N 40 + l)) = nI (shS (conS G j) g1 (gr G j) l) by rw [sg_o (by decide), ptG, sg_in (by omega)]) dX2_jar_92 ?_
                  have hsl : (shS (conS G j) g1 (gr G j)) l ≤ G 4 (20 * j + l) := shS_le (x := conS G j) (by omega) rfl hle
                  refine kn_sub hx hb dX2_jar_93 (by omega) ?_
                  refine M_iastN (v := G 4 (20 * j + l) - (shS (conS G j) g1 (gr G j) l)) hx hb hG hS hM 4 rfl (AM.a 4 rfl) rfl rfl (show 20 * j + l < 200 from by omega) dX2_jar_94 (fun H locs hM hz hS => ?_)
                  refine lv_iinc (v := nI (l + 1)) (lv' := [(3, .int (nI (l + 1))), (0, .ref a0), (1, .int (nI j)), (2, .int (nI g1))]) hx hb dX2_jar_95 hl (k := 3) rfl (show nI l + Int32.ofInt 1 = nI (l + 1) from nI_add _ 1) (by decide) rfl (fun ls hl => ?_)
                  refine lv_goto (tgt := 61) hx hb dX2_jar_98 (by decide) ?_
                  exact ih61 (l + 1) (by omega) (by omega) _ _ (by have e := @sg_s (ptG G j g1 (N 40)) 4 (20 * j) l _ (fun l => G 4 (20 * j + l) - (shS (conS G j) g1 (gr G j)) l) rfl; rw [← e]; exact hM) hS _ (lv_sub hl [1, 2, 3, 0] rfl)
            exact L61 _ 0 (by omega) (Nat.lt_succ_self _) _ _ (by rw [sg_0]; exact hM) hS _ (lv_sub hl [1, 2, 3, 0] rfl)
          · refine lv_bipush (v := -2) hx hb dX2_jar_46 (by decide) ?_
            subst hQ
            refine W.widen (k := 1) (n := 20) (by decide) (by decide) ?_
            exact W.iret (v := (-2)) hx hb hrt (fun t ht hW => ⟨⟨_, ((up1 N 0 0), I, G, J), rfl, (by dsimp only; rw [if_pos (by simp [jarB, c_10, c_15, c_24, c_33, tn_nI (show j < 2 ^ 31 by omega), tn_nI (show g1 < 2 ^ 31 by omega)]), tn_nI (show j < 2 ^ 31 by omega), tn_nI (show g1 < 2 ^ 31 by omega)]; rw [if_neg (by rw [c_43]; decide)]; exact ⟨rfl, rfl⟩), by rw [ht]; exact hM, GK.warm hW hG⟩, hS.F ht⟩) hS.2.2 dX2_jar_48
        · refine lv_iconst (v := -1) hx hb dX2_jar_36 (by decide) ?_
          subst hQ
          refine W.widen (k := 1) (n := 20) (by decide) (by decide) ?_
          exact W.iret (v := (-1)) hx hb hrt (fun t ht hW => ⟨⟨_, ((up1 N 0 0), I, G, J), rfl, (by dsimp only; rw [if_neg (by simp [jarB, c_10, c_15, c_24, c_33, tn_nI (show j < 2 ^ 31 by omega), tn_nI (show g1 < 2 ^ 31 by omega)])]; exact ⟨rfl, rfl⟩), by rw [ht]; exact hM, GK.warm hW hG⟩, hS.F ht⟩) hS.2.2 dX2_jar_37
theorem w_X2_jar {R : Room} {s : State} {args : Array Value} {own : String} {idx : Nat} (hts : ∀ w ∈ lw_all, w.before args s = true) (h1 : Cond.methodLink own idx yX2_jar ∈ lw_all) {rm : Room} {mc ms : Nat} (hrc : rm.cells = mc) (hrs : rm.slots = ms) (hR : rm.frames + 1 ≤ R.frames ∧ 8 + (4 + 11) + rm.locals ≤ R.locals) : CallW R s args own RX2 idx yX2_jar cX2_jar 4 (some .int) (ws_ yX2_jar cX2_jar 4 (some .int)) rm mc ms 2 := cwV 2 hts (lw_V h1 q1631 q1632 q70 q1633) rfl hrc hrs (by decide +kernel) hR
