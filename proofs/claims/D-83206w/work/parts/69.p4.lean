set_option maxRecDepth 100000
abbrev r_X3_all_P : Room := { frames := 0, cells := 0, slots := 0, locals := 0 }
set_option maxHeartbeats 1000000 in
theorem c_X3_all_P (lh : Launch) (D : va_G) (dA : Nat → ClassId) (a : Nat) (ga : Nat) (w1 : Int32) (rt : Nat) (w3 : Int32) (w4 : Int32) (w5 : Int32) (w6 : Int32) (w7 : Int32) (w8 : Int32) (w9 : Int32) (w10 : Int32) (x : Nat → Nat) : Met lh yX3_all (ws_ yX3_all cX3_all 6 (some .int)) r_X3_all_P (PX (fun U H => va_P D CL [(a, .inr (2, [.ref ga, .int w1, .ref rt, .int w3, .int w4, .int w5, .int w6, .int w7, .int w8, .int w9, .int w10])), (ga, .inl (dA 0, 20, .inl (tr20 x)))] H ∧ GK D dA U) [.ref a]) (vp_Si (fun rv => rv = nI (sumTo x 20))) 0 0 (fun _ => False) := by
  refine Met.ofW (cc := cX3_all) (maxL := 6) (ret := (some .int)) (by decide) rfl ?_
  intro p e s m args below meth cd s₁ B hml hv
  obtain ⟨hargs, hP, hG⟩ := hv
  have hx := B.exec
  have hb := B.bytes
  have hrt := B.returns
  have hts := atoms_spec (ws := (ws_ yX3_all cX3_all 6 (some .int))) B.pre
  have hts : ∀ w ∈ lw_all, w.before _ s = true := fun w h => hts w (List.mem_cons_of_mem _ h)
  have hown : s.vm.findClass RX3 = some m.cls := findClass_of_methodNamed B.named
  have hlocks := B.notSynchronized
  have hS : va_S nA s.heap s.heap [] := va_S.rf
  have hE : entryFrame m args 6 = F0 m 0 ((lg_sl ([.ref a]) ++ List.replicate (6 - (lg_sl ([.ref a])).length) Slot.unset).toArray) [] := by rw [hargs]; exact lg_entry_eq m _ 6
  have hl := lv_entry ([.ref a]) (n := 6) (Nat.le_of_ble_eq_true rfl)
  rw [hE]
  clear hE
  generalize (lg_sl ([.ref a]) ++ List.replicate (6 - (lg_sl ([.ref a])).length) Slot.unset).toArray = ls at hl ⊢
  have hl : lv_has ls 6 [(0, .ref a)] := hl
  generalize hQ : MQ _ _ _ _ _ _ _ = Q
  refine lv_iconst (v := nI 0) hx hb dX3_all_0 (by decide) ?_
  refine lv_istore_n (lv' := [(1, .int (nI 0)), (0, .ref a)]) hx hb dX3_all_1 rfl hl (by decide) rfl (fun ls hl => ?_)
  refine lv_aload_n hx hb dX3_all_2 rfl (lv_at hl 1 rfl) ?_
  refine va_get (D := D) (ci := 2) (v := .ref ga) (C := RX4) (T := TX4) (N := 11) hx hb hts in_X4 hown hG.1 hP 0 rfl rfl 0 (by decide) (hts _ q337) (fun _ h => h) rfl dX3_all_3 ?_
  refine lv_astore_n (lv' := [(2, .ref ga), (1, .int (nI 0)), (0, .ref a)]) hx hb dX3_all_6 rfl hl (by decide) rfl (fun ls hl => ?_)
  refine lv_aload_n hx hb dX3_all_7 rfl (lv_at hl 0 rfl) ?_
  refine va_alen (v := nI 20) hx hb hG.1 hP 1 0 rfl rfl rfl dX3_all_8 ?_
  refine lv_istore_n (lv' := [(3, .int (nI 20)), (2, .ref ga), (1, .int (nI 0)), (0, .ref a)]) hx hb dX3_all_9 rfl hl (by decide) rfl (fun ls hl => ?_)
  refine lv_iconst (v := nI 0) hx hb dX3_all_10 (by decide) ?_
  refine lv_istore (lv' := [(4, .int (nI 0)), (3, .int (nI 20)), (2, .ref ga), (1, .int (nI 0)), (0, .ref a)]) hx hb dX3_all_11 hl (by decide) rfl (fun ls hl => ?_)
  have L13 : ∀ (nn13 : Nat) (l : Nat), (l ≤ 20) → 20 - l < nn13 → ∀ (ls : Array Slot), lv_has ls 6 [(0, .ref a), (1, .int (nI (sumTo x l))), (2, .ref ga), (3, .int (nI 20)), (4, .int (nI l))] → W p lh e r_X3_all_P s m args below meth cd s.heap [] 0 0 Q (F0 m 13 ls []) := by
    intro nn13
    induction nn13 with
    | zero => intro l i13_0 hm13; exact absurd hm13 (Nat.not_lt_zero _)
    | succ nn13 ih13 =>
      intro l i13_0 hm13 ls hl
      refine lv_iload hx hb dX3_all_13 (lv_at hl 4 rfl) ?_
      refine lv_iload_n hx hb dX3_all_15 rfl (lv_at hl 3 rfl) ?_
      refine kn_cge (tgt := 36) hx hb dX3_all_16 (by decide) (by omega) (by decide) (fun c_16 => ?_) (fun c_16 => ?_)
      · refine lv_iload_n hx hb dX3_all_36 rfl (lv_at hl 1 rfl) ?_
        subst hQ
        exact W.iret (v := nI (sumTo x l)) hx hb hrt (fun t ht _ => ⟨_, rfl, (show nI (sumTo x l) = nI (sumTo x 20) from by rw [show l = 20 by omega]), ht⟩) t_nil dX3_all_37
      · refine lv_aload_n hx hb dX3_all_19 rfl (lv_at hl 2 rfl) ?_
        refine lv_iload hx hb dX3_all_20 (lv_at hl 4 rfl) ?_
        refine va_iald hx hb hG.1 hP 1 0 rfl rfl (vp_in_nI (show l < 20 from by omega) (by decide)) dX3_all_22 ?_
        refine kx_int (y := nI (x l)) (by rw [nI_clamp (by omega)]; exact tr20_in (by omega)) ?_
        refine lv_istore (lv' := [(5, .int (nI (x l))), (0, .ref a), (1, .int (nI (sumTo x l))), (2, .ref ga), (3, .int (nI 20)), (4, .int (nI l))]) hx hb dX3_all_23 hl (by decide) rfl (fun ls hl => ?_)
        refine lv_iload_n hx hb dX3_all_25 rfl (lv_at hl 2 rfl) ?_
        refine lv_iload hx hb dX3_all_26 (lv_at hl 0 rfl) ?_
        refine kn_add hx hb dX3_all_28 ?_
        refine lv_istore_n (lv' := [(1, .int (nI (sumTo x l + (x l)))), (5, .int (nI (x l))), (0, .ref a), (2, .ref ga), (3, .int (nI 20)), (4, .int (nI l))]) hx hb dX3_all_29 rfl hl (by decide) rfl (fun ls hl => ?_)
        refine lv_iinc (v := nI (l + 1)) (lv' := [(4, .int (nI (l + 1))), (1, .int (nI (sumTo x l + (x l)))), (5, .int (nI (x l))), (0, .ref a), (2, .ref ga), (3, .int (nI 20))]) hx hb dX3_all_30 hl (k := 5) rfl (show nI l + Int32.ofInt 1 = nI (l + 1) from nI_add _ 1) (by decide) rfl (fun ls hl => ?_)
        refine lv_goto (tgt := 13) hx hb dX3_all_33 (by decide) ?_
        exact ih13 (l + 1) (by omega) (by omega) _ (lv_sub hl [3, 1, 4, 5, 0] rfl)
  exact L13 _ 0 (by omega) (Nat.lt_succ_self _) _ (lv_sub hl [4, 3, 2, 1, 0] rfl)

abbrev r_X3_gives_P : Room := { frames := 1, cells := 2, slots := 40, locals := 25 }
set_option maxHeartbeats 1000000 in
theorem c_X3_gives_P (lh : Launch) (D : va_G) (dA : Nat → ClassId) (sz : Nat) (a : Nat) (ga : Nat) (w1 : Int32) (rt : Nat) (w3 : Int32) (w4 : Int32) (w5 : Int32) (w6 : Int32) (w7 : Int32) (w8 : Int32) (w9 : Int32) (w10 : Int32) (x : Nat → Nat) (b : Nat) (gb : Nat) (g : Nat) (h1 : ∀ l, x l < 2 ^ 31) (h2 : 0 < sumTo x 20) (h3 : sumTo x 20 < 2 ^ 31) (h4 : g ≤ sumTo x 20) : Met lh yX3_gives (ws_ yX3_gives cX3_gives 10 none) r_X3_gives_P (PX (fun U H => H.size = sz ∧ va_P D CL [(a, .inr (2, [.ref ga, .int w1, .ref rt, .int w3, .int w4, .int w5, .int w6, .int w7, .int w8, .int w9, .int w10])), (ga, .inl (dA 0, 20, .inl (tr20 x))), (b, .inr (3, [.ref gb])), (gb, .inl (dA 0, 20, .inl (fun _ => 0)))] H ∧ va_D nT [(a, .inr (2, [.ref ga, .int w1, .ref rt, .int w3, .int w4, .int w5, .int w6, .int w7, .int w8, .int w9, .int w10])), (ga, .inl (dA 0, 20, .inl (tr20 x))), (b, .inr (3, [.ref gb])), (gb, .inl (dA 0, 20, .inl (fun _ => 0)))] ∧ GK D dA U) [.ref a, .int (nI g), .ref b]) (va_Qv (fun u : Unit => True) (fun (u : Unit) t => va_P D CL [(a, .inr (2, [.ref ga, .int w1, .ref rt, .int w3, .int w4, .int w5, .int w6, .int w7, .int w8, .int w9, .int w10])), (ga, .inl (dA 0, 20, .inl (tr20 (fun l => x l - (shS x g (sumTo x 20)) l)))), (b, .inr (3, [.ref gb])), (gb, .inl (dA 0, 20, .inl (tr20 (shS x g (sumTo x 20)))))] t.heap ∧ va_D (va_A [(a, .inr (2, [.ref ga, .int w1, .ref rt, .int w3, .int w4, .int w5, .int w6, .int w7, .int w8, .int w9, .int w10])), (ga, .inl (dA 0, 20, .inl (tr20 x))), (b, .inr (3, [.ref gb])), (gb, .inl (dA 0, 20, .inl (fun _ => 0)))] sz) [(a, .inr (2, [.ref ga, .int w1, .ref rt, .int w3, .int w4, .int w5, .int w6, .int w7, .int w8, .int w9, .int w10])), (ga, .inl (dA 0, 20, .inl (tr20 (fun l => x l - (shS x g (sumTo x 20)) l)))), (b, .inr (3, [.ref gb])), (gb, .inl (dA 0, 20, .inl (tr20 (shS x g (sumTo x 20)))))] ∧ GK D dA t) (va_A [(a, .inr (2, [.ref ga, .int w1, .ref rt, .int w3, .int w4, .int w5, .int w6, .int w7, .int w8, .int w9, .int w10])), (ga, .inl (dA 0, 20, .inl (tr20 x))), (b, .inr (3, [.ref gb])), (gb, .inl (dA 0, 20, .inl (fun _ => 0)))] sz)) 2 40 (va_A [(a, .inr (2, [.ref ga, .int w1, .ref rt, .int w3, .int w4, .int w5, .int w6, .int w7, .int w8, .int w9, .int w10])), (ga, .inl (dA 0, 20, .inl (tr20 x))), (b, .inr (3, [.ref gb])), (gb, .inl (dA 0, 20, .inl (fun _ => 0)))] sz) := by
  refine Met.ofW (cc := cX3_gives) (maxL := 10) (ret := none) (by decide) rfl ?_
  intro p e s m args below meth cd s₁ B hml hv
  obtain ⟨hargs, hsz, hP, hD, hG⟩ := hv
  have hx := B.exec
  have hb := B.bytes
  have hrt := B.returns
  have hts := atoms_spec (ws := (ws_ yX3_gives cX3_gives 10 none)) B.pre
  have hts : ∀ w ∈ lw_all, w.before _ s = true := fun w h => hts w (List.mem_cons_of_mem _ h)
  have hown : s.vm.findClass RX3 = some m.cls := findClass_of_methodNamed B.named
  have hlocks := B.notSynchronized
  subst hsz
  have hD := hD.self (sz := s.heap.size)
  have hA : ∀ q : Nat, s.heap.size ≤ q → va_A [(a, .inr (2, [.ref ga, .int w1, .ref rt, .int w3, .int w4, .int w5, .int w6, .int w7, .int w8, .int w9, .int w10])), (ga, .inl (dA 0, 20, .inl (tr20 x))), (b, .inr (3, [.ref gb])), (gb, .inl (dA 0, 20, .inl (fun _ => 0)))] s.heap.size q := fun q h => Or.inr h
  generalize va_A [(a, .inr (2, [.ref ga, .int w1, .ref rt, .int w3, .int w4, .int w5, .int w6, .int w7, .int w8, .int w9, .int w10])), (ga, .inl (dA 0, 20, .inl (tr20 x))), (b, .inr (3, [.ref gb])), (gb, .inl (dA 0, 20, .inl (fun _ => 0)))] s.heap.size = A at hD hA ⊢
  have hS : va_S A s.heap s.heap [] := va_S.rf
  have hE : entryFrame m args 10 = F0 m 0 ((lg_sl ([.ref a, .int (nI g), .ref b]) ++ List.replicate (10 - (lg_sl ([.ref a, .int (nI g), .ref b])).length) Slot.unset).toArray) [] := by rw [hargs]; exact lg_entry_eq m _ 10
  have hl := lv_entry ([.ref a, .int (nI g), .ref b]) (n := 10) (Nat.le_of_ble_eq_true rfl)
  rw [hE]
  clear hE
  generalize (lg_sl ([.ref a, .int (nI g), .ref b]) ++ List.replicate (10 - (lg_sl ([.ref a, .int (nI g), .ref b])).length) Slot.unset).toArray = ls at hl ⊢
  have hl : lv_has ls 10 [(0, .ref a), (1, .int (nI g)), (2, .ref b)] := hl
  generalize hQ : MQ _ _ _ _ _ _ _ = Q
  have hmis := mis_lt (x := x) (g := g) h2 rfl
  have hre : ∀ l, (reS x g (sumTo x 20)) l < 2 ^ 31 := fun l => Nat.lt_of_lt_of_le (Nat.mod_lt _ h2) (by omega)
  have hshl : ∀ l, (shS x g (sumTo x 20)) l ≤ x l := fun l => shS_le h2 rfl h4
  have hgol : ∀ l, (goS x g (sumTo x 20)) l ≤ x l := fun l => Nat.le_trans (Nat.le_add_right _ _) (hshl l)
  refine lv_aload_n hx hb dX3_gives_0 rfl (lv_at hl 0 rfl) ?_
  have hPs : va_P D CL ([(a, .inr (2, [.ref ga, .int w1, .ref rt, .int w3, .int w4, .int w5, .int w6, .int w7, .int w8, .int w9, .int w10])), (ga, .inl (dA 0, 20, .inl (tr20 x)))] ++ [(b, .inr (3, [.ref gb])), (gb, .inl (dA 0, 20, .inl (fun _ => 0)))]) s.heap := hP.sub [0, 1, 2, 3] rfl
  refine vp_callSi (va_Run.call (va_runU (As := []) (rest := []) ⟨hx, hb, hml, hown, hts⟩ (c_X3_all_P lh D dA a ga w1 rt w3 w4 w5 w6 w7 w8 w9 w10 x) (va_cwU 0 hts (lw_U q1177 q1706 q1707 q444 q72 q445) rfl rfl rfl rfl (by decide +kernel) ⟨Nat.le_of_ble_eq_true rfl, Nat.le_of_ble_eq_true rfl⟩) ⟨PX.blind (Mv.and Mv.heap Mv.gk), (va_recv hG.1 hP (ci := 2) (q0 := 0) rfl rfl), PX.pre (Mv.and Mv.heap Mv.gk) ⟨(va_P_left hPs), hG⟩⟩ rfl rfl hl.1 rfl (lv_room (Nat.le_of_ble_eq_true rfl)) dX3_gives_1 ⟨Nat.le_of_ble_eq_true rfl, Nat.le_of_ble_eq_true rfl⟩)) (fun rr hrr => ?_)
  subst hrr
  refine kx_int (y := nI (sumTo x 20)) (rfl) ?_
  refine lv_istore_n (lv' := [(3, .int (nI (sumTo x 20))), (0, .ref a), (1, .int (nI g)), (2, .ref b)]) hx hb dX3_gives_4 rfl hl (by decide) rfl (fun ls hl => ?_)
  refine lv_bipush (v := nI 20) hx hb dX3_gives_5 (by decide) ?_
  refine P_newi (atype := .int) hx hb hG (hts _ q135) rfl 0 rfl hP hD hS hA (n := 20) (by decide) (by decide) (Nat.le_of_ble_eq_true rfl) (Nat.le_of_ble_eq_true rfl) dX3_gives_7 (fun q7 H hP hD hS => ?_)
  have hP : va_P D CL [(a, .inr (2, [.ref ga, .int w1, .ref rt, .int w3, .int w4, .int w5, .int w6, .int w7, .int w8, .int w9, .int w10])), (ga, .inl (dA 0, 20, .inl (tr20 x))), (b, .inr (3, [.ref gb])), (gb, .inl (dA 0, 20, .inl (fun _ => 0))), (q7, .inl (dA 0, 20, .inl (fun _ => 0)))] H := hP
  have hD : va_D A [(a, .inr (2, [.ref ga, .int w1, .ref rt, .int w3, .int w4, .int w5, .int w6, .int w7, .int w8, .int w9, .int w10])), (ga, .inl (dA 0, 20, .inl (tr20 x))), (b, .inr (3, [.ref gb])), (gb, .inl (dA 0, 20, .inl (fun _ => 0))), (q7, .inl (dA 0, 20, .inl (fun _ => 0)))] := hD
  refine lv_astore (lv' := [(4, .ref q7), (3, .int (nI (sumTo x 20))), (0, .ref a), (1, .int (nI g)), (2, .ref b)]) hx hb dX3_gives_9 hl (by decide) rfl (fun ls hl => ?_)
  refine lv_bipush (v := nI 20) hx hb dX3_gives_11 (by decide) ?_
  refine P_newi (atype := .int) hx hb hG (hts _ q135) rfl 0 rfl hP hD hS hA (n := 20) (by decide) (by decide) (Nat.le_of_ble_eq_true rfl) (Nat.le_of_ble_eq_true rfl) dX3_gives_13 (fun q13 H hP hD hS => ?_)
  have hP : va_P D CL [(a, .inr (2, [.ref ga, .int w1, .ref rt, .int w3, .int w4, .int w5, .int w6, .int w7, .int w8, .int w9, .int w10])), (ga, .inl (dA 0, 20, .inl (tr20 x))), (b, .inr (3, [.ref gb])), (gb, .inl (dA 0, 20, .inl (fun _ => 0))), (q7, .inl (dA 0, 20, .inl (fun _ => 0))), (q13, .inl (dA 0, 20, .inl (fun _ => 0)))] H := hP
  have hD : va_D A [(a, .inr (2, [.ref ga, .int w1, .ref rt, .int w3, .int w4, .int w5, .int w6, .int w7, .int w8, .int w9, .int w10])), (ga, .inl (dA 0, 20, .inl (tr20 x))), (b, .inr (3, [.ref gb])), (gb, .inl (dA 0, 20, .inl (fun _ => 0))), (q7, .inl (dA 0, 20, .inl (fun _ => 0))), (q13, .inl (dA 0, 20, .inl (fun _ => 0)))] := hD
  refine lv_astore (lv' := [(5, .ref q13), (4, .ref q7), (3, .int (nI (sumTo x 20))), (0, .ref a), (1, .int (nI g)), (2, .ref b)]) hx hb dX3_gives_15 hl (by decide) rfl (fun ls hl => ?_)
  refine lv_iload_n hx hb dX3_gives_17 rfl (lv_at hl 4 rfl) ?_
  refine lv_istore (lv' := [(6, .int (nI g)), (5, .ref q13), (4, .ref q7), (3, .int (nI (sumTo x 20))), (0, .ref a), (1, .int (nI g)), (2, .ref b)]) hx hb dX3_gives_18 hl (by decide) rfl (fun ls hl => ?_)
  refine lv_iconst (v := nI 0) hx hb dX3_gives_20 (by decide) ?_
  refine lv_istore (lv' := [(7, .int (nI 0)), (6, .int (nI g)), (5, .ref q13), (4, .ref q7), (3, .int (nI (sumTo x 20))), (0, .ref a), (1, .int (nI g)), (2, .ref b)]) hx hb dX3_gives_21 hl (by decide) rfl (fun ls hl => ?_)
  have L23 : ∀ (nn23 : Nat) (k : Nat) (f4 : Nat → Int32) (f5 : Nat → Int32), (k ≤ 20) → (∀ l, l < k → f4 l = nI ((reS x g (sumTo x 20)) l) ∧ f5 l = nI ((goS x g (sumTo x 20)) l)) → 20 - k < nn23 → ∀ (H : Heap) (locs : List Loc), va_P D CL [(a, .inr (2, [.ref ga, .int w1, .ref rt, .int w3, .int w4, .int w5, .int w6, .int w7, .int w8, .int w9, .int w10])), (ga, .inl (dA 0, 20, .inl (tr20 x))), (b, .inr (3, [.ref gb])), (gb, .inl (dA 0, 20, .inl (fun _ => 0))), (q7, .inl (dA 0, 20, .inl f4)), (q13, .inl (dA 0, 20, .inl f5))] H → va_D A [(a, .inr (2, [.ref ga, .int w1, .ref rt, .int w3, .int w4, .int w5, .int w6, .int w7, .int w8, .int w9, .int w10])), (ga, .inl (dA 0, 20, .inl (tr20 x))), (b, .inr (3, [.ref gb])), (gb, .inl (dA 0, 20, .inl (fun _ => 0))), (q7, .inl (dA 0, 20, .inl f4)), (q13, .inl (dA 0, 20, .inl f5))] → va_S A s.heap H locs → ∀ (ls : Array Slot), lv_has ls 10 [(0, .ref a), (1, .int (nI g)), (2, .ref b), (3, .int (nI (sumTo x 20))), (4, .ref q7), (5, .ref q13), (6, .int (nI (g - sumTo (goS x g (sumTo x 20)) k))), (7, .int (nI k))] → W p lh e r_X3_gives_P s m args below meth cd H locs (1 + 1) (20 + 20) Q (F0 m 23 ls []) := by
    intro nn23
    induction nn23 with
    | zero => intro k f4 f5 i23_0 i23_1 hm23; exact absurd hm23 (Nat.not_lt_zero _)
    | succ nn23 ih23 =>
      intro k f4 f5 i23_0 i23_1 hm23 H locs hP hD hS ls hl
      refine lv_iload hx hb dX3_gives_23 (lv_at hl 7 rfl) ?_
      refine lv_bipush (v := nI 20) hx hb dX3_gives_25 (by decide) ?_
      refine kn_cge (tgt := 81) hx hb dX3_gives_27 (by decide) (by omega) (by decide) (fun c_27 => ?_) (fun c_27 => ?_)
      · have e7 : k = 20 := (by omega)
        subst e7
        have L81 : ∀ (nn81 : Nat) (d : Nat) (f4 : Nat → Int32) (f5 : Nat → Int32), (d ≤ (misS x g (sumTo x 20))) → (∀ l, l < 20 → f4 l = rsS (pkS (reS x g (sumTo x 20)) d) (reS x g (sumTo x 20)) l ∧ f5 l = nI ((goS x g (sumTo x 20)) l + pkS (reS x g (sumTo x 20)) d l)) → (misS x g (sumTo x 20)) - d < nn81 → ∀ (H : Heap) (locs : List Loc), va_P D CL [(a, .inr (2, [.ref ga, .int w1, .ref rt, .int w3, .int w4, .int w5, .int w6, .int w7, .int w8, .int w9, .int w10])), (ga, .inl (dA 0, 20, .inl (tr20 x))), (b, .inr (3, [.ref gb])), (gb, .inl (dA 0, 20, .inl (fun _ => 0))), (q7, .inl (dA 0, 20, .inl f4)), (q13, .inl (dA 0, 20, .inl f5))] H → va_D A [(a, .inr (2, [.ref ga, .int w1, .ref rt, .int w3, .int w4, .int w5, .int w6, .int w7, .int w8, .int w9, .int w10])), (ga, .inl (dA 0, 20, .inl (tr20 x))), (b, .inr (3, [.ref gb])), (gb, .inl (dA 0, 20, .inl (fun _ => 0))), (q7, .inl (dA 0, 20, .inl f4)), (q13, .inl (dA 0, 20, .inl f5))] → va_S A s.heap H locs → ∀ (ls : Array Slot), lv_has ls 10 [(0, .ref a), (1, .int (nI g)), (2, .ref b), (3, .int (nI (sumTo x 20))), (4, .ref q7), (5, .ref q13), (6, .int (nI ((misS x g (sumTo x 20)) - d)))] → W p lh e r_X3_gives_P s m args below meth cd H locs (1 + 1) (20 + 20) Q (F0 m 81 ls []) := by
          intro nn81
          induction nn81 with
          | zero => intro d f4 f5 i81_0 i81_1 hm81; exact absurd hm81 (Nat.not_lt_zero _)
          | succ nn81 ih81 =>
            intro d f4 f5 i81_0 i81_1 hm81 H locs hP hD hS ls hl
            refine lv_iload hx hb dX3_gives_81 (lv_at hl 6 rfl) ?_
            refine kn_zle (tgt := 143) hx hb dX3_gives_83 (by decide) (by omega) (fun c_83 => ?_) (fun c_83 => ?_)
            · have hsh : ∀ l, l < 20 → f5 l = nI ((shS x g (sumTo x 20)) l) := fun l hl => by rw [(i81_1 l hl).2, show d = (misS x g (sumTo x 20)) by omega]; rfl
              refine lv_iconst (v := nI 0) hx hb dX3_gives_143 (by decide) ?_
              refine lv_istore (lv' := [(7, .int (nI 0)), (0, .ref a), (1, .int (nI g)), (2, .ref b), (3, .int (nI (sumTo x 20))), (4, .ref q7), (5, .ref q13), (6, .int (nI ((misS x g (sumTo x 20)) - d)))]) hx hb dX3_gives_144 hl (by decide) rfl (fun ls hl => ?_)
              have L146 : ∀ (nn146 : Nat) (k : Nat) (fa : Nat → Int32) (fb : Nat → Int32), (k ≤ 20) → (∀ l, l < k → fa l = nI (x l - (shS x g (sumTo x 20)) l) ∧ fb l = nI ((shS x g (sumTo x 20)) l)) → (∀ l, k ≤ l → l < 20 → fa l = nI (x l) ∧ fb l = nI 0) → 20 - k < nn146 → ∀ (H : Heap) (locs : List Loc), va_P D CL [(a, .inr (2, [.ref ga, .int w1, .ref rt, .int w3, .int w4, .int w5, .int w6, .int w7, .int w8, .int w9, .int w10])), (ga, .inl (dA 0, 20, .inl fa)), (b, .inr (3, [.ref gb])), (gb, .inl (dA 0, 20, .inl fb)), (q7, .inl (dA 0, 20, .inl f4)), (q13, .inl (dA 0, 20, .inl f5))] H → va_D A [(a, .inr (2, [.ref ga, .int w1, .ref rt, .int w3, .int w4, .int w5, .int w6, .int w7, .int w8, .int w9, .int w10])), (ga, .inl (dA 0, 20, .inl fa)), (b, .inr (3, [.ref gb])), (gb, .inl (dA 0, 20, .inl fb)), (q7, .inl (dA 0, 20, .inl f4)), (q13, .inl (dA 0, 20, .inl f5))] → va_S A s.heap H locs → ∀ (ls : Array Slot), lv_has ls 10 [(0, .ref a), (1, .int (nI g)), (2, .ref b), (3, .int (nI (sumTo x 20))), (4, .ref q7), (5, .ref q13), (7, .int (nI k))] → W p lh e r_X3_gives_P s m args below meth cd H locs (1 + 1) (20 + 20) Q (F0 m 146 ls []) := by
                intro nn146
                induction nn146 with
                | zero => intro k fa fb i146_0 i146_1 i146_2 hm146; exact absurd hm146 (Nat.not_lt_zero _)
                | succ nn146 ih146 =>
                  intro k fa fb i146_0 i146_1 i146_2 hm146 H locs hP hD hS ls hl
                  refine lv_iload hx hb dX3_gives_146 (lv_at hl 6 rfl) ?_
                  refine lv_bipush (v := nI 20) hx hb dX3_gives_148 (by decide) ?_
                  refine kn_cge (tgt := 189) hx hb dX3_gives_150 (by decide) (by omega) (by decide) (fun c_150 => ?_) (fun c_150 => ?_)
                  · have e20 : k = 20 := (by omega)
                    subst e20
                    obtain ⟨hP, hD⟩ := va_P_arr hP hD 1 rfl (tr20 (fun l => x l - (shS x g (sumTo x 20)) l)) (fun j hj => by rw [tr20_in hj]; exact (i146_1 j hj).1)
                    obtain ⟨hP, hD⟩ := va_P_arr hP hD 3 rfl (tr20 (shS x g (sumTo x 20))) (fun j hj => by rw [tr20_in hj]; exact (i146_1 j hj).2)
                    have hP : va_P D CL [(a, .inr (2, [.ref ga, .int w1, .ref rt, .int w3, .int w4, .int w5, .int w6, .int w7, .int w8, .int w9, .int w10])), (ga, .inl (dA 0, 20, .inl (tr20 (fun l => x l - (shS x g (sumTo x 20)) l)))), (b, .inr (3, [.ref gb])), (gb, .inl (dA 0, 20, .inl (tr20 (shS x g (sumTo x 20))))), (q7, .inl (dA 0, 20, .inl f4)), (q13, .inl (dA 0, 20, .inl f5))] H := hP
                    have hD : va_D A [(a, .inr (2, [.ref ga, .int w1, .ref rt, .int w3, .int w4, .int w5, .int w6, .int w7, .int w8, .int w9, .int w10])), (ga, .inl (dA 0, 20, .inl (tr20 (fun l => x l - (shS x g (sumTo x 20)) l)))), (b, .inr (3, [.ref gb])), (gb, .inl (dA 0, 20, .inl (tr20 (shS x g (sumTo x 20))))), (q7, .inl (dA 0, 20, .inl f4)), (q13, .inl (dA 0, 20, .inl f5))] := hD
                    subst hQ
                    refine W.widen (k := 2) (n := 40) (by first | decide | omega) (by first | decide | omega) ?_
                    have hP9 : va_P D CL [(a, .inr (2, [.ref ga, .int w1, .ref rt, .int w3, .int w4, .int w5, .int w6, .int w7, .int w8, .int w9, .int w10])), (ga, .inl (dA 0, 20, .inl (tr20 (fun l => x l - (shS x g (sumTo x 20)) l)))), (b, .inr (3, [.ref gb])), (gb, .inl (dA 0, 20, .inl (tr20 (shS x g (sumTo x 20)))))] H := hP.sub [0, 1, 2, 3] rfl
                    have hD9 : va_D A [(a, .inr (2, [.ref ga, .int w1, .ref rt, .int w3, .int w4, .int w5, .int w6, .int w7, .int w8, .int w9, .int w10])), (ga, .inl (dA 0, 20, .inl (tr20 (fun l => x l - (shS x g (sumTo x 20)) l)))), (b, .inr (3, [.ref gb])), (gb, .inl (dA 0, 20, .inl (tr20 (shS x g (sumTo x 20)))))] := hD.sub [0, 1, 2, 3] (by decide) rfl
                    exact W.vret hx hb hrt (fun t ht hW => ⟨⟨(), rfl, trivial, by rw [ht]; exact hP9, hD9, GK.warm hW hG⟩, hS.F ht⟩) hS.2.2 dX3_gives_189
                  · refine lv_aload_n hx hb dX3_gives_153 rfl (lv_at hl 0 rfl) ?_
                    refine va_get (D := D) (ci := 2) (v := .ref ga) (C := RX4) (T := TX4) (N := 11) hx hb hts in_X4 hown hG.1 hP 0 rfl rfl 0 (by decide) (hts _ q337) (fun _ h => h) rfl dX3_gives_154 ?_
                    refine lv_iload hx hb dX3_gives_157 (lv_at hl 6 rfl) ?_
                    refine lv_dup2_11 hx hb dX3_gives_159 rfl rfl ?_
                    refine va_iald hx hb hG.1 hP 1 0 rfl rfl (vp_in_nI (show k < 20 from by omega) (by decide)) dX3_gives_160 ?_
                    refine kx_int (y := nI (x k)) (by rw [nI_clamp (by omega)]; exact (i146_2 k (Nat.le_refl k) (by omega)).1) ?_
                    refine lv_aload hx hb dX3_gives_161 (lv_at hl 5 rfl) ?_
                    refine lv_iload hx hb dX3_gives_163 (lv_at hl 6 rfl) ?_
                    refine va_iald hx hb hG.1 hP 5 0 rfl rfl (vp_in_nI (show k < 20 from by omega) (by decide)) dX3_gives_165 ?_
                    refine kx_int (y := nI ((shS x g (sumTo x 20)) k)) (by rw [nI_clamp (by omega)]; exact hsh k (by omega)) ?_
                    have hsk := hshl k
                    refine kn_sub hx hb dX3_gives_166 (by omega) ?_
                    refine va_iast hx hb hG.1 hP hD hS 1 0 rfl rfl (vp_in_nI (show k < 20 from by omega) (by omega)) dX3_gives_167 (fun H locs hP hD hS => ?_)
                    rw [nI_clamp (show k < 2 ^ 31 from by omega)] at hP hD
                    have hP : va_P D CL [(a, .inr (2, [.ref ga, .int w1, .ref rt, .int w3, .int w4, .int w5, .int w6, .int w7, .int w8, .int w9, .int w10])), (ga, .inl (dA 0, 20, .inl (upd fa k (nI (x k - ((shS x g (sumTo x 20)) k)))))), (b, .inr (3, [.ref gb])), (gb, .inl (dA 0, 20, .inl fb)), (q7, .inl (dA 0, 20, .inl f4)), (q13, .inl (dA 0, 20, .inl f5))] H := hP
                    have hD : va_D A [(a, .inr (2, [.ref ga, .int w1, .ref rt, .int w3, .int w4, .int w5, .int w6, .int w7, .int w8, .int w9, .int w10])), (ga, .inl (dA 0, 20, .inl (upd fa k (nI (x k - ((shS x g (sumTo x 20)) k)))))), (b, .inr (3, [.ref gb])), (gb, .inl (dA 0, 20, .inl fb)), (q7, .inl (dA 0, 20, .inl f4)), (q13, .inl (dA 0, 20, .inl f5))] := hD
                    refine lv_aload_n hx hb dX3_gives_168 rfl (lv_at hl 2 rfl) ?_
                    refine va_get (D := D) (ci := 3) (v := .ref gb) (C := RX18) (T := TX18) (N := 1) hx hb hts in_X18 hown hG.1 hP 2 rfl rfl 0 (by decide) (hts _ q337) (fun _ h => h) rfl dX3_gives_169 ?_
                    refine lv_iload hx hb dX3_gives_172 (lv_at hl 6 rfl) ?_
                    refine lv_dup2_11 hx hb dX3_gives_174 rfl rfl ?_
                    refine va_iald hx hb hG.1 hP 3 0 rfl rfl (vp_in_nI (show k < 20 from by omega) (by decide)) dX3_gives_175 ?_
                    refine kx_int (y := nI 0) (by rw [nI_clamp (by omega)]; exact (i146_2 k (Nat.le_refl k) (by omega)).2) ?_
                    refine lv_aload hx hb dX3_gives_176 (lv_at hl 5 rfl) ?_
                    refine lv_iload hx hb dX3_gives_178 (lv_at hl 6 rfl) ?_
                    refine va_iald hx hb hG.1 hP 5 0 rfl rfl (vp_in_nI (show k < 20 from by omega) (by decide)) dX3_gives_180 ?_
                    refine kx_int (y := nI ((shS x g (sumTo x 20)) k)) (by rw [nI_clamp (by omega)]; exact hsh k (by omega)) ?_
                    refine kn_add hx hb dX3_gives_181 ?_
                    refine va_iast hx hb hG.1 hP hD hS 3 0 rfl rfl (vp_in_nI (show k < 20 from by omega) (by omega)) dX3_gives_182 (fun H locs hP hD hS => ?_)
                    rw [nI_clamp (show k < 2 ^ 31 from by omega)] at hP hD
                    have hP : va_P D CL [(a, .inr (2, [.ref ga, .int w1, .ref rt, .int w3, .int w4, .int w5, .int w6, .int w7, .int w8, .int w9, .int w10])), (ga, .inl (dA 0, 20, .inl (upd fa k (nI (x k - ((shS x g (sumTo x 20)) k)))))), (b, .inr (3, [.ref gb])), (gb, .inl (dA 0, 20, .inl (upd fb k (nI (0 + ((shS x g (sumTo x 20)) k)))))), (q7, .inl (dA 0, 20, .inl f4)), (q13, .inl (dA 0, 20, .inl f5))] H := hP
                    have hD : va_D A [(a, .inr (2, [.ref ga, .int w1, .ref rt, .int w3, .int w4, .int w5, .int w6, .int w7, .int w8, .int w9, .int w10])), (ga, .inl (dA 0, 20, .inl (upd fa k (nI (x k - ((shS x g (sumTo x 20)) k)))))), (b, .inr (3, [.ref gb])), (gb, .inl (dA 0, 20, .inl (upd fb k (nI (0 + ((shS x g (sumTo x 20)) k)))))), (q7, .inl (dA 0, 20, .inl f4)), (q13, .inl (dA 0, 20, .inl f5))] := hD
                    refine lv_iinc (v := nI (k + 1)) (lv' := [(7, .int (nI (k + 1))), (0, .ref a), (1, .int (nI g)), (2, .ref b), (3, .int (nI (sumTo x 20))), (4, .ref q7), (5, .ref q13)]) hx hb dX3_gives_183 hl (k := 6) rfl (show nI k + Int32.ofInt 1 = nI (k + 1) from nI_add _ 1) (by decide) rfl (fun ls hl => ?_)
                    refine lv_goto (tgt := 146) hx hb dX3_gives_186 (by decide) ?_
                    exact ih146 (k + 1) (upd fa k (nI (x k - ((shS x g (sumTo x 20)) k)))) (upd fb k (nI (0 + ((shS x g (sumTo x 20)) k)))) (by omega) (fun l hl => if e : l = k then (by rw [e, upd_s, upd_s]; exact ⟨rfl, by rw [Nat.zero_add]⟩) else (by rw [upd_n e, upd_n e]; exact i146_1 l (by omega))) (fun l hl hl2 => by rw [upd_n (by omega), upd_n (by omega)]; exact i146_2 l (by omega) hl2) (by omega) _ _ hP hD hS _ (lv_sub hl [1, 2, 3, 4, 5, 6, 0] rfl)
              exact L146 _ 0 (tr20 x) (fun _ => 0) (by omega) (fun l hl => absurd hl (Nat.not_lt_zero l)) (fun l _ hl => ⟨tr20_in hl, rfl⟩) (Nat.lt_succ_self _) _ _ hP hD hS _ (lv_sub hl [1, 2, 3, 4, 5, 6, 0] rfl)
            · refine lv_iconst (v := nI 0) hx hb dX3_gives_86 (by decide) ?_
              refine lv_istore (lv' := [(7, .int (nI 0)), (0, .ref a), (1, .int (nI g)), (2, .ref b), (3, .int (nI (sumTo x 20))), (4, .ref q7), (5, .ref q13), (6, .int (nI ((misS x g (sumTo x 20)) - d)))]) hx hb dX3_gives_87 hl (by decide) rfl (fun ls hl => ?_)
              refine lv_iconst (v := nI 1) hx hb dX3_gives_89 (by decide) ?_
              refine lv_istore (lv' := [(8, .int (nI 1)), (7, .int (nI 0)), (0, .ref a), (1, .int (nI g)), (2, .ref b), (3, .int (nI (sumTo x 20))), (4, .ref q7), (5, .ref q13), (6, .int (nI ((misS x g (sumTo x 20)) - d)))]) hx hb dX3_gives_90 hl (by decide) rfl (fun ls hl => ?_)
              have L92 : ∀ (nn92 : Nat) (l : Nat), (1 ≤ l) → (l ≤ 20) → 20 - l < nn92 → ∀ (ls : Array Slot), lv_has ls 10 [(0, .ref a), (1, .int (nI g)), (2, .ref b), (3, .int (nI (sumTo x 20))), (4, .ref q7), (5, .ref q13), (6, .int (nI ((misS x g (sumTo x 20)) - d))), (7, .int (nI (hbS (pkS (reS x g (sumTo x 20)) d) (reS x g (sumTo x 20)) l))), (8, .int (nI l))] → W p lh e r_X3_gives_P s m args below meth cd H locs (1 + 1) (20 + 20) Q (F0 m 92 ls []) := by
                intro nn92
                induction nn92 with
                | zero => intro l i92_0 i92_1 hm92; exact absurd hm92 (Nat.not_lt_zero _)
                | succ nn92 ih92 =>
                  intro l i92_0 i92_1 hm92 ls hl
                  refine lv_iload hx hb dX3_gives_92 (lv_at hl 8 rfl) ?_
                  refine lv_bipush (v := nI 20) hx hb dX3_gives_94 (by decide) ?_
                  refine kn_cge (tgt := 122) hx hb dX3_gives_96 (by decide) (by omega) (by decide) (fun c_96 => ?_) (fun c_96 => ?_)
                  · have e9 : l = 20 := (by omega)
                    subst e9
                    obtain ⟨b0, hb0⟩ := pk_some (R := (reS x g (sumTo x 20))) (k := d) (by omega)
                    have hb1 := bsS_lt hb0
                    have hb2 := hb1.1
                    have hb3 : hbS (pkS (reS x g (sumTo x 20)) d) (reS x g (sumTo x 20)) 20 = b0 := (by unfold hbS; rw [hb0]; rfl)
                    rw [hb3] at hl
                    have hl : lv_has ls 10 [(0, .ref a), (1, .int (nI g)), (2, .ref b), (3, .int (nI (sumTo x 20))), (4, .ref q7), (5, .ref q13), (6, .int (nI ((misS x g (sumTo x 20)) - d))), (7, .int (nI b0)), (8, .int (nI 20))] := hl
                    refine lv_aload hx hb dX3_gives_122 (lv_at hl 5 rfl) ?_
                    refine lv_iload hx hb dX3_gives_124 (lv_at hl 7 rfl) ?_
                    refine lv_dup2_11 hx hb dX3_gives_126 rfl rfl ?_
                    refine va_iald hx hb hG.1 hP 5 0 rfl rfl (vp_in_nI (show b0 < 20 from by omega) (by decide)) dX3_gives_127 ?_
                    refine kx_int (y := nI ((goS x g (sumTo x 20)) b0 + pkS (reS x g (sumTo x 20)) d b0)) (by rw [nI_clamp (by omega)]; exact (i81_1 b0 (by omega)).2) ?_
                    refine lv_iconst (v := nI 1) hx hb dX3_gives_128 (by decide) ?_
                    refine kn_add hx hb dX3_gives_129 ?_
                    refine va_iast hx hb hG.1 hP hD hS 5 0 rfl rfl (vp_in_nI (show b0 < 20 from by omega) (by decide)) dX3_gives_130 (fun H locs hP hD hS => ?_)
                    rw [nI_clamp (show b0 < 2 ^ 31 from by omega)] at hP hD
                    have hP : va_P D CL [(a, .inr (2, [.ref ga, .int w1, .ref rt, .int w3, .int w4, .int w5, .int w6, .int w7, .int w8, .int w9, .int w10])), (ga, .inl (dA 0, 20, .inl (tr20 x))), (b, .inr (3, [.ref gb])), (gb, .inl (dA 0, 20, .inl (fun _ => 0))), (q7, .inl (dA 0, 20, .inl f4)), (q13, .inl (dA 0, 20, .inl (upd f5 b0 (nI ((goS x g (sumTo x 20)) b0 + pkS (reS x g (sumTo x 20)) d b0 + 1)))))] H := hP
                    have hD : va_D A [(a, .inr (2, [.ref ga, .int w1, .ref rt, .int w3, .int w4, .int w5, .int w6, .int w7, .int w8, .int w9, .int w10])), (ga, .inl (dA 0, 20, .inl (tr20 x))), (b, .inr (3, [.ref gb])), (gb, .inl (dA 0, 20, .inl (fun _ => 0))), (q7, .inl (dA 0, 20, .inl f4)), (q13, .inl (dA 0, 20, .inl (upd f5 b0 (nI ((goS x g (sumTo x 20)) b0 + pkS (reS x g (sumTo x 20)) d b0 + 1)))))] := hD
                    refine lv_aload hx hb dX3_gives_131 (lv_at hl 4 rfl) ?_
                    refine lv_iload hx hb dX3_gives_133 (lv_at hl 7 rfl) ?_
                    refine lv_iconst (v := -1) hx hb dX3_gives_135 (by decide) ?_
                    refine va_iast hx hb hG.1 hP hD hS 4 0 rfl rfl (vp_in_nI (show b0 < 20 from by omega) (by omega)) dX3_gives_136 (fun H locs hP hD hS => ?_)
                    rw [nI_clamp (show b0 < 2 ^ 31 from by omega)] at hP hD
                    have hP : va_P D CL [(a, .inr (2, [.ref ga, .int w1, .ref rt, .int w3, .int w4, .int w5, .int w6, .int w7, .int w8, .int w9, .int w10])), (ga, .inl (dA 0, 20, .inl (tr20 x))), (b, .inr (3, [.ref gb])), (gb, .inl (dA 0, 20, .inl (fun _ => 0))), (q7, .inl (dA 0, 20, .inl (upd f4 b0 (-1)))), (q13, .inl (dA 0, 20, .inl (upd f5 b0 (nI ((goS x g (sumTo x 20)) b0 + pkS (reS x g (sumTo x 20)) d b0 + 1)))))] H := hP
                    have hD : va_D A [(a, .inr (2, [.ref ga, .int w1, .ref rt, .int w3, .int w4, .int w5, .int w6, .int w7, .int w8, .int w9, .int w10])), (ga, .inl (dA 0, 20, .inl (tr20 x))), (b, .inr (3, [.ref gb])), (gb, .inl (dA 0, 20, .inl (fun _ => 0))), (q7, .inl (dA 0, 20, .inl (upd f4 b0 (-1)))), (q13, .inl (dA 0, 20, .inl (upd f5 b0 (nI ((goS x g (sumTo x 20)) b0 + pkS (reS x g (sumTo x 20)) d b0 + 1)))))] := hD
                    refine lv_iinc (v := nI ((misS x g (sumTo x 20)) - d - 1)) (lv' := [(6, .int (nI ((misS x g (sumTo x 20)) - d - 1))), (0, .ref a), (1, .int (nI g)), (2, .ref b), (3, .int (nI (sumTo x 20))), (4, .ref q7), (5, .ref q13), (7, .int (nI b0)), (8, .int (nI 20))]) hx hb dX3_gives_137 hl (k := 6) rfl (nI_dec 1 (by omega)) (by decide) rfl (fun ls hl => ?_)
                    refine lv_goto (tgt := 81) hx hb dX3_gives_140 (by decide) ?_
                    exact ih81 (d + 1) (upd f4 b0 (-1)) (upd f5 b0 (nI ((goS x g (sumTo x 20)) b0 + pkS (reS x g (sumTo x 20)) d b0 + 1))) (by omega) (fun l hl => if e : l = b0 then (by rw [pkS_s hb0, e, upd_s, upd_s, up1_s]; exact ⟨by unfold rsS; rw [up1_s, if_neg (by decide)], by rw [hb1.2]⟩) else (by rw [pkS_s hb0, upd_n e, upd_n e]; unfold rsS; rw [up1_o e]; exact i81_1 l hl)) (by omega) _ _ hP hD hS _ (lv_conv (show lv_has ls 10 [(0, .ref a), (1, .int (nI g)), (2, .ref b), (3, .int (nI (sumTo x 20))), (4, .ref q7), (5, .ref q13), (6, .int (nI ((misS x g (sumTo x 20)) - d - 1)))] from (lv_sub hl [1, 2, 3, 4, 5, 6, 0] rfl)) (by rw [Nat.sub_add_eq]))
                  · have hbl := hbS_lt (o := pkS (reS x g (sumTo x 20)) d) (R := (reS x g (sumTo x 20))) (n := l) (by omega)
                    refine lv_aload hx hb dX3_gives_99 (lv_at hl 4 rfl) ?_
                    refine lv_iload hx hb dX3_gives_101 (lv_at hl 8 rfl) ?_
                    refine va_iald hx hb hG.1 hP 4 0 rfl rfl (vp_in_nI (show l < 20 from by omega) (by decide)) dX3_gives_103 ?_
                    refine kx_int (y := rsS (pkS (reS x g (sumTo x 20)) d) (reS x g (sumTo x 20)) l) (by rw [nI_clamp (by omega)]; exact (i81_1 l (by omega)).1) ?_
                    refine lv_aload hx hb dX3_gives_104 (lv_at hl 4 rfl) ?_
                    refine lv_iload hx hb dX3_gives_106 (lv_at hl 7 rfl) ?_
                    refine va_iald hx hb hG.1 hP 4 0 rfl rfl (vp_in_nI (show hbS (pkS (reS x g (sumTo x 20)) d) (reS x g (sumTo x 20)) l < 20 from by omega) (by decide)) dX3_gives_108 ?_
                    refine kx_int (y := rsS (pkS (reS x g (sumTo x 20)) d) (reS x g (sumTo x 20)) (hbS (pkS (reS x g (sumTo x 20)) d) (reS x g (sumTo x 20)) l)) (by rw [nI_clamp (by omega)]; exact (i81_1 _ (by have := hbS_lt (o := pkS (reS x g (sumTo x 20)) d) (R := (reS x g (sumTo x 20))) (n := l) (by omega); omega)).1) ?_
                    refine lv_icmp_le (tgt := 116) hx hb dX3_gives_109 (by decide) (fun c_109 => ?_) (fun c_109 => ?_)
                    · refine lv_iinc (v := nI (l + 1)) (lv' := [(8, .int (nI (l + 1))), (0, .ref a), (1, .int (nI g)), (2, .ref b), (3, .int (nI (sumTo x 20))), (4, .ref q7), (5, .ref q13), (6, .int (nI ((misS x g (sumTo x 20)) - d))), (7, .int (nI (hbS (pkS (reS x g (sumTo x 20)) d) (reS x g (sumTo x 20)) l)))]) hx hb dX3_gives_116 hl (k := 8) rfl (show nI l + Int32.ofInt 1 = nI (l + 1) from nI_add _ 1) (by decide) rfl (fun ls hl => ?_)
                      refine lv_goto (tgt := 92) hx hb dX3_gives_119 (by decide) ?_
                      exact ih92 (l + 1) (by omega) (by omega) (by omega) _ (lv_conv (show lv_has ls 10 [(0, .ref a), (1, .int (nI g)), (2, .ref b), (3, .int (nI (sumTo x 20))), (4, .ref q7), (5, .ref q13), (6, .int (nI ((misS x g (sumTo x 20)) - d))), (7, .int (nI (hbS (pkS (reS x g (sumTo x 20)) d) (reS x g (sumTo x 20)) l))), (8, .int (nI (l + 1)))] from (lv_sub hl [1, 2, 3, 4, 5, 6, 7, 8, 0] rfl)) (by rw [hbS_step (by omega) hre, if_pos c_109]))
                    · refine lv_iload hx hb dX3_gives_112 (lv_at hl 8 rfl) ?_
                      refine lv_istore (lv' := [(7, .int (nI l)), (0, .ref a), (1, .int (nI g)), (2, .ref b), (3, .int (nI (sumTo x 20))), (4, .ref q7), (5, .ref q13), (6, .int (nI ((misS x g (sumTo x 20)) - d))), (8, .int (nI l))]) hx hb dX3_gives_114 hl (by decide) rfl (fun ls hl => ?_)
                      refine lv_iinc (v := nI (l + 1)) (lv' := [(8, .int (nI (l + 1))), (7, .int (nI l)), (0, .ref a), (1, .int (nI g)), (2, .ref b), (3, .int (nI (sumTo x 20))), (4, .ref q7), (5, .ref q13), (6, .int (nI ((misS x g (sumTo x 20)) - d)))]) hx hb dX3_gives_116 hl (k := 8) rfl (show nI l + Int32.ofInt 1 = nI (l + 1) from nI_add _ 1) (by decide) rfl (fun ls hl => ?_)
                      refine lv_goto (tgt := 92) hx hb dX3_gives_119 (by decide) ?_
                      exact ih92 (l + 1) (by omega) (by omega) (by omega) _ (lv_conv (show lv_has ls 10 [(0, .ref a), (1, .int (nI g)), (2, .ref b), (3, .int (nI (sumTo x 20))), (4, .ref q7), (5, .ref q13), (6, .int (nI ((misS x g (sumTo x 20)) - d))), (7, .int (nI l)), (8, .int (nI (l + 1)))] from (lv_sub hl [2, 3, 4, 5, 6, 7, 8, 1, 0] rfl)) (by rw [hbS_step (by omega) hre, if_neg c_109]))
              exact L92 _ 1 (by omega) (by omega) (Nat.lt_succ_self _) _ (lv_conv (show lv_has ls 10 [(0, .ref a), (1, .int (nI g)), (2, .ref b), (3, .int (nI (sumTo x 20))), (4, .ref q7), (5, .ref q13), (6, .int (nI ((misS x g (sumTo x 20)) - d))), (7, .int (nI 0)), (8, .int (nI 1))] from (lv_sub hl [2, 3, 4, 5, 6, 7, 8, 1, 0] rfl)) (by rw [hbS_1]))
        exact L81 _ 0 f4 f5 (Nat.zero_le _) (fun l hl => ⟨(i23_1 l hl).1, (i23_1 l hl).2⟩) (Nat.lt_succ_self _) _ _ hP hD hS _ (lv_conv (show lv_has ls 10 [(0, .ref a), (1, .int (nI g)), (2, .ref b), (3, .int (nI (sumTo x 20))), (4, .ref q7), (5, .ref q13), (6, .int (nI (g - sumTo (goS x g (sumTo x 20)) 20)))] from (lv_sub hl [0, 1, 2, 3, 4, 5, 6] rfl)) (rfl))
      · refine lv_aload_n hx hb dX3_gives_30 rfl (lv_at hl 0 rfl) ?_
        refine va_get (D := D) (ci := 2) (v := .ref ga) (C := RX4) (T := TX4) (N := 11) hx hb hts in_X4 hown hG.1 hP 0 rfl rfl 0 (by decide) (hts _ q337) (fun _ h => h) rfl dX3_gives_31 ?_
        refine lv_iload hx hb dX3_gives_34 (lv_at hl 7 rfl) ?_
        refine va_iald hx hb hG.1 hP 1 0 rfl rfl (vp_in_nI (show k < 20 from by omega) (by decide)) dX3_gives_36 ?_
        refine kx_int (y := nI (x k)) (by rw [nI_clamp (by omega)]; exact tr20_in (by omega)) ?_
        refine lv_i2l (v := (nI (x k)).toInt64) hx hb dX3_gives_37 rfl ?_
        refine lv_iload_n hx hb dX3_gives_38 rfl (lv_at hl 1 rfl) ?_
        refine lv_i2l (v := (nI g).toInt64) hx hb dX3_gives_39 rfl ?_
        refine lv_lmul hx hb dX3_gives_40 ?_
        refine lv_lstore (lv' := [(8, .long (((nI (x k)).toInt64) * ((nI g).toInt64))), (0, .ref a), (1, .int (nI g)), (2, .ref b), (3, .int (nI (sumTo x 20))), (4, .ref q7), (5, .ref q13), (6, .int (nI (g - sumTo (goS x g (sumTo x 20)) k))), (7, .int (nI k))]) hx hb dX3_gives_41 hl (by decide) rfl (fun ls hl => ?_)
        refine lv_aload hx hb dX3_gives_43 (lv_at hl 6 rfl) ?_
        refine lv_iload hx hb dX3_gives_45 (lv_at hl 8 rfl) ?_
        refine lv_lload hx hb dX3_gives_47 (lv_at hl 0 rfl) ?_
        refine lv_iload_n hx hb dX3_gives_49 rfl (lv_at hl 4 rfl) ?_
        refine lv_i2l (v := (nI (sumTo x 20)).toInt64) hx hb dX3_gives_50 rfl ?_
        refine lv_ldiv hx hb dX3_gives_51 (l_ne h2 h3) ?_
        refine lv_l2i (v := ((((nI (x k)).toInt64) * ((nI g).toInt64)) / ((nI (sumTo x 20)).toInt64)).toInt32) hx hb dX3_gives_52 rfl ?_
        refine kx_int (y := nI ((goS x g (sumTo x 20)) k)) (div_eq (h1 k) (by omega) h2 h3) ?_
        refine va_iast hx hb hG.1 hP hD hS 5 0 rfl rfl (vp_in_nI (show k < 20 from by omega) (by omega)) dX3_gives_53 (fun H locs hP hD hS => ?_)
        rw [nI_clamp (show k < 2 ^ 31 from by omega)] at hP hD
        have hP : va_P D CL [(a, .inr (2, [.ref ga, .int w1, .ref rt, .int w3, .int w4, .int w5, .int w6, .int w7, .int w8, .int w9, .int w10])), (ga, .inl (dA 0, 20, .inl (tr20 x))), (b, .inr (3, [.ref gb])), (gb, .inl (dA 0, 20, .inl (fun _ => 0))), (q7, .inl (dA 0, 20, .inl f4)), (q13, .inl (dA 0, 20, .inl (upd f5 k (nI ((goS x g (sumTo x 20)) k)))))] H := hP
        have hD : va_D A [(a, .inr (2, [.ref ga, .int w1, .ref rt, .int w3, .int w4, .int w5, .int w6, .int w7, .int w8, .int w9, .int w10])), (ga, .inl (dA 0, 20, .inl (tr20 x))), (b, .inr (3, [.ref gb])), (gb, .inl (dA 0, 20, .inl (fun _ => 0))), (q7, .inl (dA 0, 20, .inl f4)), (q13, .inl (dA 0, 20, .inl (upd f5 k (nI ((goS x g (sumTo x 20)) k)))))] := hD
        refine lv_aload hx hb dX3_gives_54 (lv_at hl 5 rfl) ?_
        refine lv_iload hx hb dX3_gives_56 (lv_at hl 8 rfl) ?_
        refine lv_lload hx hb dX3_gives_58 (lv_at hl 0 rfl) ?_
        refine lv_iload_n hx hb dX3_gives_60 rfl (lv_at hl 4 rfl) ?_
        refine lv_i2l (v := (nI (sumTo x 20)).toInt64) hx hb dX3_gives_61 rfl ?_
        refine lv_lrem hx hb dX3_gives_62 (l_ne h2 h3) ?_
        refine lv_l2i (v := ((((nI (x k)).toInt64) * ((nI g).toInt64)) - (((nI (x k)).toInt64) * ((nI g).toInt64)) / ((nI (sumTo x 20)).toInt64) * ((nI (sumTo x 20)).toInt64)).toInt32) hx hb dX3_gives_63 rfl ?_
        refine kx_int (y := nI ((reS x g (sumTo x 20)) k)) ((congrArg Int64.toInt32 (rem_eq (h1 k) (by omega) h2 h3)).trans (lN_i _)) ?_
        refine va_iast hx hb hG.1 hP hD hS 4 0 rfl rfl (vp_in_nI (show k < 20 from by omega) (by omega)) dX3_gives_64 (fun H locs hP hD hS => ?_)
        rw [nI_clamp (show k < 2 ^ 31 from by omega)] at hP hD
        have hP : va_P D CL [(a, .inr (2, [.ref ga, .int w1, .ref rt, .int w3, .int w4, .int w5, .int w6, .int w7, .int w8, .int w9, .int w10])), (ga, .inl (dA 0, 20, .inl (tr20 x))), (b, .inr (3, [.ref gb])), (gb, .inl (dA 0, 20, .inl (fun _ => 0))), (q7, .inl (dA 0, 20, .inl (upd f4 k (nI ((reS x g (sumTo x 20)) k))))), (q13, .inl (dA 0, 20, .inl (upd f5 k (nI ((goS x g (sumTo x 20)) k)))))] H := hP
        have hD : va_D A [(a, .inr (2, [.ref ga, .int w1, .ref rt, .int w3, .int w4, .int w5, .int w6, .int w7, .int w8, .int w9, .int w10])), (ga, .inl (dA 0, 20, .inl (tr20 x))), (b, .inr (3, [.ref gb])), (gb, .inl (dA 0, 20, .inl (fun _ => 0))), (q7, .inl (dA 0, 20, .inl (upd f4 k (nI ((reS x g (sumTo x 20)) k))))), (q13, .inl (dA 0, 20, .inl (upd f5 k (nI ((goS x g (sumTo x 20)) k)))))] := hD
        refine lv_iload hx hb dX3_gives_65 (lv_at hl 7 rfl) ?_
        refine lv_aload hx hb dX3_gives_67 (lv_at hl 6 rfl) ?_
        refine lv_iload hx hb dX3_gives_69 (lv_at hl 8 rfl) ?_
        refine va_iald hx hb hG.1 hP 5 0 rfl rfl (vp_in_nI (show k < 20 from by omega) (by decide)) dX3_gives_71 ?_
        refine kx_int (y := nI ((goS x g (sumTo x 20)) k)) (by rw [nI_clamp (by omega)]; exact upd_s) ?_
        have hgs : sumTo (goS x g (sumTo x 20)) k + (goS x g (sumTo x 20)) k ≤ g := go_sum (g := g) h2 rfl (show k + 1 ≤ 20 by omega)
        refine kn_sub hx hb dX3_gives_72 (by omega) ?_
        refine lv_istore (lv' := [(6, .int (nI (g - sumTo (goS x g (sumTo x 20)) k - ((goS x g (sumTo x 20)) k)))), (8, .long (((nI (x k)).toInt64) * ((nI g).toInt64))), (0, .ref a), (1, .int (nI g)), (2, .ref b), (3, .int (nI (sumTo x 20))), (4, .ref q7), (5, .ref q13), (7, .int (nI k))]) hx hb dX3_gives_73 hl (by decide) rfl (fun ls hl => ?_)
        refine lv_iinc (v := nI (k + 1)) (lv' := [(7, .int (nI (k + 1))), (6, .int (nI (g - sumTo (goS x g (sumTo x 20)) k - ((goS x g (sumTo x 20)) k)))), (8, .long (((nI (x k)).toInt64) * ((nI g).toInt64))), (0, .ref a), (1, .int (nI g)), (2, .ref b), (3, .int (nI (sumTo x 20))), (4, .ref q7), (5, .ref q13)]) hx hb dX3_gives_75 hl (k := 8) rfl (show nI k + Int32.ofInt 1 = nI (k + 1) from nI_add _ 1) (by decide) rfl (fun ls hl => ?_)
        refine lv_goto (tgt := 23) hx hb dX3_gives_78 (by decide) ?_
        exact ih23 (k + 1) (upd f4 k (nI ((reS x g (sumTo x 20)) k))) (upd f5 k (nI ((goS x g (sumTo x 20)) k))) (by omega) (fun l hl => if e : l = k then (by rw [e]; exact ⟨upd_s, upd_s⟩) else (by rw [upd_n e, upd_n e]; exact i23_1 l (by omega))) (by omega) _ _ hP hD hS _ (lv_conv (show lv_has ls 10 [(0, .ref a), (1, .int (nI g)), (2, .ref b), (3, .int (nI (sumTo x 20))), (4, .ref q7), (5, .ref q13), (6, .int (nI (g - sumTo (goS x g (sumTo x 20)) k - ((goS x g (sumTo x 20)) k)))), (7, .int (nI (k + 1)))] from (lv_sub hl [3, 4, 5, 6, 7, 8, 1, 0] rfl)) (by rw [show g - sumTo (goS x g (sumTo x 20)) (k + 1) = g - sumTo (goS x g (sumTo x 20)) k - (goS x g (sumTo x 20)) k from Nat.sub_add_eq _ _ _]))
  exact L23 _ 0 (fun _ => 0) (fun _ => 0) (by omega) (fun l hl => absurd hl (Nat.not_lt_zero l)) (Nat.lt_succ_self _) _ _ hP hD hS _ (lv_conv (show lv_has ls 10 [(0, .ref a), (1, .int (nI g)), (2, .ref b), (3, .int (nI (sumTo x 20))), (4, .ref q7), (5, .ref q13), (6, .int (nI g)), (7, .int (nI 0))] from (lv_sub hl [5, 6, 7, 4, 3, 2, 1, 0] rfl)) (rfl))
