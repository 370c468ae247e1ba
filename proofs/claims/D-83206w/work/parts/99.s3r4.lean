set_option maxRecDepth 100000
theorem ixT_lt {f h : Nat → Nat} {k : Nat} : ∀ {d i r : Nat}, ixT f h k d i = some r → i ≤ r ∧ r < i + d := by
  intro d
  induction d with
  | zero => intro i r e; cases e
  | succ d ih =>
    intro i r e
    rw [ixT] at e
    split at e
    · cases e; omega
    · have := ih e; omega

abbrev r_X7_isOf_W (n : Nat) : Room := { frames := 6, cells := 4, slots := (26 + n), locals := 151 }
set_option maxHeartbeats 1000000 in
theorem c_X7_isOf_W (lh : Launch) (D : va_G) (dA : Nat → ClassId) (sz : Nat) (r : Nat) (tx : Nat) (tz : Nat) (tf : Nat → Int32) (a : Nat) (p0 : Nat) (v : Nat) (w : Nat) (wb : Nat) (n : Nat) (g : Nat → Nat) (K : Nat → Nat) (sa : Nat) (sb : Nat) (k : Nat) (h : Nat → Nat) (h1 : 1 ≤ n) (h2 : n ≤ 8) (h3 : n + 2 ≤ k) (h4 : k < 2 ^ 20) (h5 : ∀ j, j < n → g j < 128) : Met lh yX7_isOf (ws_ yX7_isOf cX7_isOf 2 (some .boolean)) (r_X7_isOf_W n) (PX (fun U H => H.size = sz ∧ va_P D CL [(r, .inr (6, [.ref tx, .int (nI tz), .int (nI a), .int (nI p0), .int (nI 1), .int (nI v), .ref w])), (tx, .inl (dA 1, 300, .inl tf)), (w, .inr (16, [.ref wb, .int (nI 0), .int (nI 0), .int (nI 0)])), (wb, .inl (dA 1, n, .inl (bw g n)))] H ∧ va_D nT [(r, .inr (6, [.ref tx, .int (nI tz), .int (nI a), .int (nI p0), .int (nI 1), .int (nI v), .ref w])), (tx, .inl (dA 1, 300, .inl tf)), (w, .inr (16, [.ref wb, .int (nI 0), .int (nI 0), .int (nI 0)])), (wb, .inl (dA 1, n, .inl (bw g n)))] ∧ GK D dA U ∧ KC (va_A [(r, .inr (6, [.ref tx, .int (nI tz), .int (nI a), .int (nI p0), .int (nI 1), .int (nI v), .ref w])), (tx, .inl (dA 1, 300, .inl tf)), (w, .inr (16, [.ref wb, .int (nI 0), .int (nI 0), .int (nI 0)])), (wb, .inl (dA 1, n, .inl (bw g n)))] sz) U H ∧ KZ K (va_A [(r, .inr (6, [.ref tx, .int (nI tz), .int (nI a), .int (nI p0), .int (nI 1), .int (nI v), .ref w])), (tx, .inl (dA 1, 300, .inl tf)), (w, .inr (16, [.ref wb, .int (nI 0), .int (nI 0), .int (nI 0)])), (wb, .inl (dA 1, n, .inl (bw g n)))] sz) U H ∧ SA (va_A [(r, .inr (6, [.ref tx, .int (nI tz), .int (nI a), .int (nI p0), .int (nI 1), .int (nI v), .ref w])), (tx, .inl (dA 1, 300, .inl tf)), (w, .inr (16, [.ref wb, .int (nI 0), .int (nI 0), .int (nI 0)])), (wb, .inl (dA 1, n, .inl (bw g n)))] sz) sa sb k h U H ∧ PV U) [.ref r, .ref sa]) (va_Qi (fun (r : Int32) (u : Unit) => r = bI ((ixT h (spW g n) (n + 2) (k - (n + 2) + 1) 0).isSome)) (fun (u : Unit) t => va_P D CL [(r, .inr (6, [.ref tx, .int (nI tz), .int (nI a), .int (nI p0), .int (nI 1), .int (nI v), .ref w])), (tx, .inl (dA 1, 300, .inl tf)), (w, .inr (16, [.ref wb, .int (nI 0), .int (nI 0), .int (nI 0)])), (wb, .inl (dA 1, n, .inl (bw g n)))] t.heap ∧ va_D (va_A [(r, .inr (6, [.ref tx, .int (nI tz), .int (nI a), .int (nI p0), .int (nI 1), .int (nI v), .ref w])), (tx, .inl (dA 1, 300, .inl tf)), (w, .inr (16, [.ref wb, .int (nI 0), .int (nI 0), .int (nI 0)])), (wb, .inl (dA 1, n, .inl (bw g n)))] sz) [(r, .inr (6, [.ref tx, .int (nI tz), .int (nI a), .int (nI p0), .int (nI 1), .int (nI v), .ref w])), (tx, .inl (dA 1, 300, .inl tf)), (w, .inr (16, [.ref wb, .int (nI 0), .int (nI 0), .int (nI 0)])), (wb, .inl (dA 1, n, .inl (bw g n)))] ∧ GK D dA t) (va_A [(r, .inr (6, [.ref tx, .int (nI tz), .int (nI a), .int (nI p0), .int (nI 1), .int (nI v), .ref w])), (tx, .inl (dA 1, 300, .inl tf)), (w, .inr (16, [.ref wb, .int (nI 0), .int (nI 0), .int (nI 0)])), (wb, .inl (dA 1, n, .inl (bw g n)))] sz)) 4 (26 + n) (va_A [(r, .inr (6, [.ref tx, .int (nI tz), .int (nI a), .int (nI p0), .int (nI 1), .int (nI v), .ref w])), (tx, .inl (dA 1, 300, .inl tf)), (w, .inr (16, [.ref wb, .int (nI 0), .int (nI 0), .int (nI 0)])), (wb, .inl (dA 1, n, .inl (bw g n)))] sz) := by
  refine Met.ofW (cc := cX7_isOf) (maxL := 2) (ret := (some .boolean)) (by decide) rfl ?_
  intro p e s m args below meth cd s₁ B hml hv
  obtain ⟨hargs, hsz, hP, hD, hG, hKC, hKZ, hSA, hPV⟩ := hv
  have hx := B.exec
  have hb := B.bytes
  have hrt := B.returns
  have hts := atoms_spec (ws := (ws_ yX7_isOf cX7_isOf 2 (some .boolean))) B.pre
  have hts : ∀ w ∈ lw_all, w.before _ s = true := fun w h => hts w (List.mem_cons_of_mem _ h)
  have hown : s.vm.findClass RX7 = some m.cls := findClass_of_methodNamed B.named
  have hlocks := B.notSynchronized
  subst hsz
  have hD := hD.self (sz := s.heap.size)
  have hA : ∀ q : Nat, s.heap.size ≤ q → va_A [(r, .inr (6, [.ref tx, .int (nI tz), .int (nI a), .int (nI p0), .int (nI 1), .int (nI v), .ref w])), (tx, .inl (dA 1, 300, .inl tf)), (w, .inr (16, [.ref wb, .int (nI 0), .int (nI 0), .int (nI 0)])), (wb, .inl (dA 1, n, .inl (bw g n)))] s.heap.size q := fun q h => Or.inr h
  generalize va_A [(r, .inr (6, [.ref tx, .int (nI tz), .int (nI a), .int (nI p0), .int (nI 1), .int (nI v), .ref w])), (tx, .inl (dA 1, 300, .inl tf)), (w, .inr (16, [.ref wb, .int (nI 0), .int (nI 0), .int (nI 0)])), (wb, .inl (dA 1, n, .inl (bw g n)))] s.heap.size = A at hD hA hKC hKZ hSA ⊢
  have hS : va_S A s.heap s.heap [] := va_S.rf
  have hE : entryFrame m args 2 = F0 m 0 ((lg_sl ([.ref r, .ref sa]) ++ List.replicate (2 - (lg_sl ([.ref r, .ref sa])).length) Slot.unset).toArray) [] := by rw [hargs]; exact lg_entry_eq m _ 2
  have hl := lv_entry ([.ref r, .ref sa]) (n := 2) (Nat.le_of_ble_eq_true rfl)
  rw [hE]
  clear hE
  generalize (lg_sl ([.ref r, .ref sa]) ++ List.replicate (2 - (lg_sl ([.ref r, .ref sa])).length) Slot.unset).toArray = ls at hl ⊢
  have hl : lv_has ls 2 [(0, .ref r), (1, .ref sa)] := hl
  generalize hQ : MQ _ _ _ _ _ _ _ = Q
  have hk4 : klen 4 = 1 := rfl
  refine lv_aload_n hx hb dX7_isOf_0 rfl (lv_at hl 0 rfl) ?_
  refine va_get (D := D) (ci := 6) (v := .int (nI 1)) (C := RX7) (T := TX7) (N := 7) hx hb hts in_X7 hown hG.1 hP 0 rfl rfl 4 (by decide) (hts _ q782) (fun _ h => h) rfl dX7_isOf_1 ?_
  refine lv_iconst (v := nI 1) hx hb dX7_isOf_4 (by decide) ?_
  refine kn_cne (tgt := 46) hx hb dX7_isOf_5 (by decide) (by decide) (by decide) (fun c => absurd c (by decide)) (fun _ => ?_)
  refine lv_aload_n hx hb dX7_isOf_8 rfl (lv_at hl 1 rfl) ?_
  refine va_new (D := D) (ci := 17) (C := RJ16) (T := TJ16) (N := 4) hx hb hts in_J16 tyJ16 tyJ16_ok hown (hts _ q628) (hts _ q629) (hts _ q86) hG.1 hP hD hS hA rfl (fs := [.null, .int (nI 0), .int (nI 0), .int (nI 0)]) (by decide) (Nat.le_of_ble_eq_true rfl) (by show _ ≤ (26 + n); omega) dX7_isOf_9 (fun q9 H hP hD hS => ?_)
  have hP : va_P D CL [(r, .inr (6, [.ref tx, .int (nI tz), .int (nI a), .int (nI p0), .int (nI 1), .int (nI v), .ref w])), (tx, .inl (dA 1, 300, .inl tf)), (w, .inr (16, [.ref wb, .int (nI 0), .int (nI 0), .int (nI 0)])), (wb, .inl (dA 1, n, .inl (bw g n))), (q9, .inr (17, [.null, .int (nI 0), .int (nI 0), .int (nI 0)]))] H := hP
  have hD : va_D A [(r, .inr (6, [.ref tx, .int (nI tz), .int (nI a), .int (nI p0), .int (nI 1), .int (nI v), .ref w])), (tx, .inl (dA 1, 300, .inl tf)), (w, .inr (16, [.ref wb, .int (nI 0), .int (nI 0), .int (nI 0)])), (wb, .inl (dA 1, n, .inl (bw g n))), (q9, .inr (17, [.null, .int (nI 0), .int (nI 0), .int (nI 0)]))] := hD
  refine lv_dup hx hb dX7_isOf_12 rfl ?_
  have hPs : va_P D CL ([(q9, .inr (17, [.null, .int (nI 0), .int (nI 0), .int (nI 0)]))] ++ [(r, .inr (6, [.ref tx, .int (nI tz), .int (nI a), .int (nI p0), .int (nI 1), .int (nI v), .ref w])), (tx, .inl (dA 1, 300, .inl tf)), (w, .inr (16, [.ref wb, .int (nI 0), .int (nI 0), .int (nI 0)])), (wb, .inl (dA 1, n, .inl (bw g n)))]) H := hP.sub [4, 0, 1, 2, 3] rfl
  have hDs : va_D A ([(q9, .inr (17, [.null, .int (nI 0), .int (nI 0), .int (nI 0)]))] ++ [(r, .inr (6, [.ref tx, .int (nI tz), .int (nI a), .int (nI p0), .int (nI 1), .int (nI v), .ref w])), (tx, .inl (dA 1, 300, .inl tf)), (w, .inr (16, [.ref wb, .int (nI 0), .int (nI 0), .int (nI 0)])), (wb, .inl (dA 1, n, .inl (bw g n)))]) := hD.sub [4, 0, 1, 2, 3] (by decide) rfl
  have hz9 := hS.1
  refine va_callv (va_runI (As := []) (rest := [.ref q9, .ref sa]) ⟨hx, hb, hml, hown, hts⟩ (c_J16_init lh D dA H.size q9) (cwI 0 hts (lw_meth q632) rfl rfl rfl (hts _ q86) (hts _ q630) (hts _ q631) rfl (by decide +kernel) ⟨Nat.le_of_ble_eq_true rfl, Nat.le_of_ble_eq_true rfl⟩) ⟨PX.blind (Mv.and Mv.heap (Mv.and Mv.heap (Mv.and Mv.heap (Mv.and Mv.gk KC.mv)))), PX.pre (Mv.and Mv.heap (Mv.and Mv.heap (Mv.and Mv.heap (Mv.and Mv.gk KC.mv)))) ⟨rfl, (va_P_left hPs), (va_D_left hDs), hG, (KC.at hKC hS (va_A_up hDs hA hS.1))⟩⟩ rfl rfl hl.1 rfl (lv_room (Nat.le_of_ble_eq_true rfl)) dX7_isOf_13 ⟨Nat.le_of_ble_eq_true rfl, by show _ ≤ (26 + n); omega⟩) hS (fun q _ => (va_A_up hDs hA hS.1) q) ((va_A_up hDs hA hS.1)) (fun u t H1 locs ht hvm hp hB hz hk hS => ?_)
  generalize u = u13 at hp hB
  obtain ⟨hP1, hD1, -⟩ := hB
  rw [ht] at hP1
  obtain ⟨hP, hD⟩ := vp_join hPs hDs hP1 hD1 hk hA hz9
  clear ht hvm hz hk hP1 hD1 hPs hDs hz9
  generalize H1 = H at hP hS ⊢
  have hP : va_P D CL [(q9, .inr (17, [.ref u13, .int (nI 0), .int (nI 0), .int (nI 0)])), (u13, .inl (dA 1, 16, .inl (fun _ => 0))), (r, .inr (6, [.ref tx, .int (nI tz), .int (nI a), .int (nI p0), .int (nI 1), .int (nI v), .ref w])), (tx, .inl (dA 1, 300, .inl tf)), (w, .inr (16, [.ref wb, .int (nI 0), .int (nI 0), .int (nI 0)])), (wb, .inl (dA 1, n, .inl (bw g n)))] H := hP
  have hD : va_D A [(q9, .inr (17, [.ref u13, .int (nI 0), .int (nI 0), .int (nI 0)])), (u13, .inl (dA 1, 16, .inl (fun _ => 0))), (r, .inr (6, [.ref tx, .int (nI tz), .int (nI a), .int (nI p0), .int (nI 1), .int (nI v), .ref w])), (tx, .inl (dA 1, 300, .inl tf)), (w, .inr (16, [.ref wb, .int (nI 0), .int (nI 0), .int (nI 0)])), (wb, .inl (dA 1, n, .inl (bw g n)))] := hD
  rw [show (fun _ => 0) = (bw (fun _ => 0) 0) from bw_0 _] at hP hD
  have hP : va_P D CL [(q9, .inr (17, [.ref u13, .int (nI 0), .int (nI 0), .int (nI 0)])), (u13, .inl (dA 1, 16, .inl (bw (fun _ => 0) 0))), (r, .inr (6, [.ref tx, .int (nI tz), .int (nI a), .int (nI p0), .int (nI 1), .int (nI v), .ref w])), (tx, .inl (dA 1, 300, .inl tf)), (w, .inr (16, [.ref wb, .int (nI 0), .int (nI 0), .int (nI 0)])), (wb, .inl (dA 1, n, .inl (bw g n)))] H := hP
  have hD : va_D A [(q9, .inr (17, [.ref u13, .int (nI 0), .int (nI 0), .int (nI 0)])), (u13, .inl (dA 1, 16, .inl (bw (fun _ => 0) 0))), (r, .inr (6, [.ref tx, .int (nI tz), .int (nI a), .int (nI p0), .int (nI 1), .int (nI v), .ref w])), (tx, .inl (dA 1, 300, .inl tf)), (w, .inr (16, [.ref wb, .int (nI 0), .int (nI 0), .int (nI 0)])), (wb, .inl (dA 1, n, .inl (bw g n)))] := hD
  refine va_ldcS hx hb hown (show vk_R RX7 64 " " (K 4) s from hKZ.2.2 4 (by decide)) dX7_isOf_16 ?_
  have hPs : va_P D CL ([(q9, .inr (17, [.ref u13, .int (nI 0), .int (nI 0), .int (nI 0)])), (u13, .inl (dA 1, 16, .inl (bw (fun _ => 0) 0)))] ++ [(r, .inr (6, [.ref tx, .int (nI tz), .int (nI a), .int (nI p0), .int (nI 1), .int (nI v), .ref w])), (tx, .inl (dA 1, 300, .inl tf)), (w, .inr (16, [.ref wb, .int (nI 0), .int (nI 0), .int (nI 0)])), (wb, .inl (dA 1, n, .inl (bw g n)))]) H := hP.sub [0, 1, 2, 3, 4, 5] rfl
  have hDs : va_D A ([(q9, .inr (17, [.ref u13, .int (nI 0), .int (nI 0), .int (nI 0)])), (u13, .inl (dA 1, 16, .inl (bw (fun _ => 0) 0)))] ++ [(r, .inr (6, [.ref tx, .int (nI tz), .int (nI a), .int (nI p0), .int (nI 1), .int (nI v), .ref w])), (tx, .inl (dA 1, 300, .inl tf)), (w, .inr (16, [.ref wb, .int (nI 0), .int (nI 0), .int (nI 0)])), (wb, .inl (dA 1, n, .inl (bw g n)))]) := hD.sub [0, 1, 2, 3, 4, 5] (by decide) rfl
  have hz9 := hS.1
  refine va_callq (va_runV (As := [.ref (K 4)]) (rest := [.ref sa]) ⟨hx, hb, hml, hown, hts⟩ (c_J16_append_2 lh D dA H.size q9 u13 0 16 (fun _ => 0) (K 4) (K (100 + 4)) (klen 4) (kch 4) (by omega) (by decide)) (w_J16_append_2 hts q829 rfl rfl ⟨Nat.le_of_ble_eq_true rfl, Nat.le_of_ble_eq_true rfl⟩) ⟨PX.blind (Mv.and Mv.heap (Mv.and Mv.heap (Mv.and Mv.heap (Mv.and Mv.gk (Mv.and KC.mv (Mv.and SA.mv PV.mv)))))), (va_recv hG.1 hP (ci := 17) (q0 := 0) rfl rfl), PX.pre (Mv.and Mv.heap (Mv.and Mv.heap (Mv.and Mv.heap (Mv.and Mv.gk (Mv.and KC.mv (Mv.and SA.mv PV.mv)))))) ⟨rfl, (va_P_left hPs), (va_D_left hDs), hG, (KC.at hKC hS (va_A_up hDs hA hS.1)), ((KZ.at hKZ hS (va_A_up hDs hA hS.1)).2.1 4 (by decide)), hPV⟩⟩ rfl rfl hl.1 rfl (lv_room (Nat.le_of_ble_eq_true rfl)) dX7_isOf_18 ⟨Nat.le_of_ble_eq_true rfl, by show _ ≤ (26 + n); omega⟩) hS (fun q _ => (va_A_up hDs hA hS.1) q) ((va_A_up hDs hA hS.1)) (fun rr u t H1 locs ht hvm hp hB hz hk hS => ?_)
  obtain ⟨hP1, hD1, -⟩ := hB
  rw [ht] at hP1
  obtain ⟨hP, hD⟩ := vp_join hPs hDs hP1 hD1 hk hA hz9
  clear ht hvm hz hk hP1 hD1 hPs hDs hz9
  generalize H1 = H at hP hS ⊢
  have hP : va_P D CL [(q9, .inr (17, [.ref u13, .int (nI 0), .int (nI 0), .int (nI (0 + (klen 4)))])), (u13, .inl (dA 1, 16, .inl (bw (ap (fun _ => 0) 0 (kch 4)) (0 + (klen 4))))), (r, .inr (6, [.ref tx, .int (nI tz), .int (nI a), .int (nI p0), .int (nI 1), .int (nI v), .ref w])), (tx, .inl (dA 1, 300, .inl tf)), (w, .inr (16, [.ref wb, .int (nI 0), .int (nI 0), .int (nI 0)])), (wb, .inl (dA 1, n, .inl (bw g n)))] H := hP
  have hD : va_D A [(q9, .inr (17, [.ref u13, .int (nI 0), .int (nI 0), .int (nI (0 + (klen 4)))])), (u13, .inl (dA 1, 16, .inl (bw (ap (fun _ => 0) 0 (kch 4)) (0 + (klen 4))))), (r, .inr (6, [.ref tx, .int (nI tz), .int (nI a), .int (nI p0), .int (nI 1), .int (nI v), .ref w])), (tx, .inl (dA 1, 300, .inl tf)), (w, .inr (16, [.ref wb, .int (nI 0), .int (nI 0), .int (nI 0)])), (wb, .inl (dA 1, n, .inl (bw g n)))] := hD
  have hrr := hp
  try dsimp only at hrr
  subst hrr
  show W p lh e (r_X7_isOf_W n) s m args below meth cd _ _ _ _ Q (F0 m _ ls (.ref q9 :: _))
  refine lv_aload_n hx hb dX7_isOf_21 rfl (lv_at hl 0 rfl) ?_
  refine va_get (D := D) (ci := 6) (v := .ref w) (C := RX7) (T := TX7) (N := 7) hx hb hts in_X7 hown hG.1 hP 2 rfl rfl 6 (by decide) (hts _ q784) (fun _ h => h) rfl dX7_isOf_22 ?_
  have hPs : va_P D CL ([(q9, .inr (17, [.ref u13, .int (nI 0), .int (nI 0), .int (nI (0 + (klen 4)))])), (u13, .inl (dA 1, 16, .inl (bw (ap (fun _ => 0) 0 (kch 4)) (0 + (klen 4)))))] ++ [(r, .inr (6, [.ref tx, .int (nI tz), .int (nI a), .int (nI p0), .int (nI 1), .int (nI v), .ref w])), (tx, .inl (dA 1, 300, .inl tf)), (w, .inr (16, [.ref wb, .int (nI 0), .int (nI 0), .int (nI 0)])), (wb, .inl (dA 1, n, .inl (bw g n)))]) H := hP.sub [0, 1, 2, 3, 4, 5] rfl
  have hDs : va_D A ([(q9, .inr (17, [.ref u13, .int (nI 0), .int (nI 0), .int (nI (0 + (klen 4)))])), (u13, .inl (dA 1, 16, .inl (bw (ap (fun _ => 0) 0 (kch 4)) (0 + (klen 4)))))] ++ [(r, .inr (6, [.ref tx, .int (nI tz), .int (nI a), .int (nI p0), .int (nI 1), .int (nI v), .ref w])), (tx, .inl (dA 1, 300, .inl tf)), (w, .inr (16, [.ref wb, .int (nI 0), .int (nI 0), .int (nI 0)])), (wb, .inl (dA 1, n, .inl (bw g n)))]) := hD.sub [0, 1, 2, 3, 4, 5] (by decide) rfl
  have hz9 := hS.1
  refine va_callq (va_runV (As := [.ref w]) (rest := [.ref sa]) ⟨hx, hb, hml, hown, hts⟩ (c_J16_append_2 lh D dA H.size q9 u13 (0 + (klen 4)) 16 (ap (fun _ => 0) 0 (kch 4)) w wb n g (by omega) (by decide)) (w_J16_append_2 hts q829 rfl rfl ⟨Nat.le_of_ble_eq_true rfl, Nat.le_of_ble_eq_true rfl⟩) ⟨PX.blind (Mv.and Mv.heap (Mv.and Mv.heap (Mv.and Mv.heap (Mv.and Mv.gk (Mv.and KC.mv (Mv.and SA.mv PV.mv)))))), (va_recv hG.1 hP (ci := 17) (q0 := 0) rfl rfl), PX.pre (Mv.and Mv.heap (Mv.and Mv.heap (Mv.and Mv.heap (Mv.and Mv.gk (Mv.and KC.mv (Mv.and SA.mv PV.mv)))))) ⟨rfl, (va_P_left hPs), (va_D_left hDs), hG, (KC.at hKC hS (va_A_up hDs hA hS.1)), (SA.rest hPs hDs (SA.of (i := 4) (j := 5) (n := n) (f := g) hts hG hP rfl rfl (by omega) (fun j hj => ⟨bw_in hj, h5 j hj⟩)) (i := 2) (j := 3) rfl rfl), hPV⟩⟩ rfl rfl hl.1 rfl (lv_room (Nat.le_of_ble_eq_true rfl)) dX7_isOf_25 ⟨Nat.le_of_ble_eq_true rfl, by show _ ≤ (26 + n); omega⟩) hS (fun q _ => (va_A_up hDs hA hS.1) q) ((va_A_up hDs hA hS.1)) (fun rr u t H1 locs ht hvm hp hB hz hk hS => ?_)
  obtain ⟨hP1, hD1, -⟩ := hB
  rw [ht] at hP1
  obtain ⟨hP, hD⟩ := vp_join hPs hDs hP1 hD1 hk hA hz9
  clear ht hvm hz hk hP1 hD1 hPs hDs hz9
  generalize H1 = H at hP hS ⊢
  have hP : va_P D CL [(q9, .inr (17, [.ref u13, .int (nI 0), .int (nI 0), .int (nI ((0 + (klen 4)) + n))])), (u13, .inl (dA 1, 16, .inl (bw (ap (ap (fun _ => 0) 0 (kch 4)) (0 + (klen 4)) g) ((0 + (klen 4)) + n)))), (r, .inr (6, [.ref tx, .int (nI tz), .int (nI a), .int (nI p0), .int (nI 1), .int (nI v), .ref w])), (tx, .inl (dA 1, 300, .inl tf)), (w, .inr (16, [.ref wb, .int (nI 0), .int (nI 0), .int (nI 0)])), (wb, .inl (dA 1, n, .inl (bw g n)))] H := hP
  have hD : va_D A [(q9, .inr (17, [.ref u13, .int (nI 0), .int (nI 0), .int (nI ((0 + (klen 4)) + n))])), (u13, .inl (dA 1, 16, .inl (bw (ap (ap (fun _ => 0) 0 (kch 4)) (0 + (klen 4)) g) ((0 + (klen 4)) + n)))), (r, .inr (6, [.ref tx, .int (nI tz), .int (nI a), .int (nI p0), .int (nI 1), .int (nI v), .ref w])), (tx, .inl (dA 1, 300, .inl tf)), (w, .inr (16, [.ref wb, .int (nI 0), .int (nI 0), .int (nI 0)])), (wb, .inl (dA 1, n, .inl (bw g n)))] := hD
  have hrr := hp
  try dsimp only at hrr
  subst hrr
  show W p lh e (r_X7_isOf_W n) s m args below meth cd _ _ _ _ Q (F0 m _ ls (.ref q9 :: _))
  refine va_ldcS hx hb hown (show vk_R RX7 64 " " (K 4) s from hKZ.2.2 4 (by decide)) dX7_isOf_28 ?_
  have hPs : va_P D CL ([(q9, .inr (17, [.ref u13, .int (nI 0), .int (nI 0), .int (nI ((0 + (klen 4)) + n))])), (u13, .inl (dA 1, 16, .inl (bw (ap (ap (fun _ => 0) 0 (kch 4)) (0 + (klen 4)) g) ((0 + (klen 4)) + n))))] ++ [(r, .inr (6, [.ref tx, .int (nI tz), .int (nI a), .int (nI p0), .int (nI 1), .int (nI v), .ref w])), (tx, .inl (dA 1, 300, .inl tf)), (w, .inr (16, [.ref wb, .int (nI 0), .int (nI 0), .int (nI 0)])), (wb, .inl (dA 1, n, .inl (bw g n)))]) H := hP.sub [0, 1, 2, 3, 4, 5] rfl
  have hDs : va_D A ([(q9, .inr (17, [.ref u13, .int (nI 0), .int (nI 0), .int (nI ((0 + (klen 4)) + n))])), (u13, .inl (dA 1, 16, .inl (bw (ap (ap (fun _ => 0) 0 (kch 4)) (0 + (klen 4)) g) ((0 + (klen 4)) + n))))] ++ [(r, .inr (6, [.ref tx, .int (nI tz), .int (nI a), .int (nI p0), .int (nI 1), .int (nI v), .ref w])), (tx, .inl (dA 1, 300, .inl tf)), (w, .inr (16, [.ref wb, .int (nI 0), .int (nI 0), .int (nI 0)])), (wb, .inl (dA 1, n, .inl (bw g n)))]) := hD.sub [0, 1, 2, 3, 4, 5] (by decide) rfl
  have hz9 := hS.1
  refine va_callq (va_runV (As := [.ref (K 4)]) (rest := [.ref sa]) ⟨hx, hb, hml, hown, hts⟩ (c_J16_append_2 lh D dA H.size q9 u13 ((0 + (klen 4)) + n) 16 (ap (ap (fun _ => 0) 0 (kch 4)) (0 + (klen 4)) g) (K 4) (K (100 + 4)) (klen 4) (kch 4) (by omega) (by decide)) (w_J16_append_2 hts q829 rfl rfl ⟨Nat.le_of_ble_eq_true rfl, Nat.le_of_ble_eq_true rfl⟩) ⟨PX.blind (Mv.and Mv.heap (Mv.and Mv.heap (Mv.and Mv.heap (Mv.and Mv.gk (Mv.and KC.mv (Mv.and SA.mv PV.mv)))))), (va_recv hG.1 hP (ci := 17) (q0 := 0) rfl rfl), PX.pre (Mv.and Mv.heap (Mv.and Mv.heap (Mv.and Mv.heap (Mv.and Mv.gk (Mv.and KC.mv (Mv.and SA.mv PV.mv)))))) ⟨rfl, (va_P_left hPs), (va_D_left hDs), hG, (KC.at hKC hS (va_A_up hDs hA hS.1)), ((KZ.at hKZ hS (va_A_up hDs hA hS.1)).2.1 4 (by decide)), hPV⟩⟩ rfl rfl hl.1 rfl (lv_room (Nat.le_of_ble_eq_true rfl)) dX7_isOf_30 ⟨Nat.le_of_ble_eq_true rfl, by show _ ≤ (26 + n); omega⟩) hS (fun q _ => (va_A_up hDs hA hS.1) q) ((va_A_up hDs hA hS.1)) (fun rr u t H1 locs ht hvm hp hB hz hk hS => ?_)
  obtain ⟨hP1, hD1, -⟩ := hB
  rw [ht] at hP1
  obtain ⟨hP, hD⟩ := vp_join hPs hDs hP1 hD1 hk hA hz9
  clear ht hvm hz hk hP1 hD1 hPs hDs hz9
  generalize H1 = H at hP hS ⊢
  have hP : va_P D CL [(q9, .inr (17, [.ref u13, .int (nI 0), .int (nI 0), .int (nI (((0 + (klen 4)) + n) + (klen 4)))])), (u13, .inl (dA 1, 16, .inl (bw (ap (ap (ap (fun _ => 0) 0 (kch 4)) (0 + (klen 4)) g) ((0 + (klen 4)) + n) (kch 4)) (((0 + (klen 4)) + n) + (klen 4))))), (r, .inr (6, [.ref tx, .int (nI tz), .int (nI a), .int (nI p0), .int (nI 1), .int (nI v), .ref w])), (tx, .inl (dA 1, 300, .inl tf)), (w, .inr (16, [.ref wb, .int (nI 0), .int (nI 0), .int (nI 0)])), (wb, .inl (dA 1, n, .inl (bw g n)))] H := hP
  have hD : va_D A [(q9, .inr (17, [.ref u13, .int (nI 0), .int (nI 0), .int (nI (((0 + (klen 4)) + n) + (klen 4)))])), (u13, .inl (dA 1, 16, .inl (bw (ap (ap (ap (fun _ => 0) 0 (kch 4)) (0 + (klen 4)) g) ((0 + (klen 4)) + n) (kch 4)) (((0 + (klen 4)) + n) + (klen 4))))), (r, .inr (6, [.ref tx, .int (nI tz), .int (nI a), .int (nI p0), .int (nI 1), .int (nI v), .ref w])), (tx, .inl (dA 1, 300, .inl tf)), (w, .inr (16, [.ref wb, .int (nI 0), .int (nI 0), .int (nI 0)])), (wb, .inl (dA 1, n, .inl (bw g n)))] := hD
  have hrr := hp
  try dsimp only at hrr
  subst hrr
  show W p lh e (r_X7_isOf_W n) s m args below meth cd _ _ _ _ Q (F0 m _ ls (.ref q9 :: _))
  rw [show (bw (ap (ap (ap (fun _ => 0) 0 (kch 4)) (0 + (klen 4)) g) ((0 + (klen 4)) + n) (kch 4)) (((0 + (klen 4)) + n) + (klen 4))) = (bw (spW g n) (n + 2)) from spW_bw] at hP hD
  have hP : va_P D CL [(q9, .inr (17, [.ref u13, .int (nI 0), .int (nI 0), .int (nI (((0 + (klen 4)) + n) + (klen 4)))])), (u13, .inl (dA 1, 16, .inl (bw (spW g n) (n + 2)))), (r, .inr (6, [.ref tx, .int (nI tz), .int (nI a), .int (nI p0), .int (nI 1), .int (nI v), .ref w])), (tx, .inl (dA 1, 300, .inl tf)), (w, .inr (16, [.ref wb, .int (nI 0), .int (nI 0), .int (nI 0)])), (wb, .inl (dA 1, n, .inl (bw g n)))] H := hP
  have hD : va_D A [(q9, .inr (17, [.ref u13, .int (nI 0), .int (nI 0), .int (nI (((0 + (klen 4)) + n) + (klen 4)))])), (u13, .inl (dA 1, 16, .inl (bw (spW g n) (n + 2)))), (r, .inr (6, [.ref tx, .int (nI tz), .int (nI a), .int (nI p0), .int (nI 1), .int (nI v), .ref w])), (tx, .inl (dA 1, 300, .inl tf)), (w, .inr (16, [.ref wb, .int (nI 0), .int (nI 0), .int (nI 0)])), (wb, .inl (dA 1, n, .inl (bw g n)))] := hD
  have hP : va_P D CL [(q9, .inr (17, [.ref u13, .int (nI 0), .int (nI 0), .int (nI (n + 2))])), (u13, .inl (dA 1, 16, .inl (bw (spW g n) (n + 2)))), (r, .inr (6, [.ref tx, .int (nI tz), .int (nI a), .int (nI p0), .int (nI 1), .int (nI v), .ref w])), (tx, .inl (dA 1, 300, .inl tf)), (w, .inr (16, [.ref wb, .int (nI 0), .int (nI 0), .int (nI 0)])), (wb, .inl (dA 1, n, .inl (bw g n)))] H := by rw [show ((0 + (klen 4)) + n) + (klen 4) = n + 2 from by omega] at hP; exact hP
  have hD : va_D A [(q9, .inr (17, [.ref u13, .int (nI 0), .int (nI 0), .int (nI (n + 2))])), (u13, .inl (dA 1, 16, .inl (bw (spW g n) (n + 2)))), (r, .inr (6, [.ref tx, .int (nI tz), .int (nI a), .int (nI p0), .int (nI 1), .int (nI v), .ref w])), (tx, .inl (dA 1, 300, .inl tf)), (w, .inr (16, [.ref wb, .int (nI 0), .int (nI 0), .int (nI 0)])), (wb, .inl (dA 1, n, .inl (bw g n)))] := by rw [show ((0 + (klen 4)) + n) + (klen 4) = n + 2 from by omega] at hD; exact hD
  have hPs : va_P D CL ([(q9, .inr (17, [.ref u13, .int (nI 0), .int (nI 0), .int (nI (n + 2))])), (u13, .inl (dA 1, 16, .inl (bw (spW g n) (n + 2))))] ++ [(r, .inr (6, [.ref tx, .int (nI tz), .int (nI a), .int (nI p0), .int (nI 1), .int (nI v), .ref w])), (tx, .inl (dA 1, 300, .inl tf)), (w, .inr (16, [.ref wb, .int (nI 0), .int (nI 0), .int (nI 0)])), (wb, .inl (dA 1, n, .inl (bw g n)))]) H := hP.sub [0, 1, 2, 3, 4, 5] rfl
  have hDs : va_D A ([(q9, .inr (17, [.ref u13, .int (nI 0), .int (nI 0), .int (nI (n + 2))])), (u13, .inl (dA 1, 16, .inl (bw (spW g n) (n + 2))))] ++ [(r, .inr (6, [.ref tx, .int (nI tz), .int (nI a), .int (nI p0), .int (nI 1), .int (nI v), .ref w])), (tx, .inl (dA 1, 300, .inl tf)), (w, .inr (16, [.ref wb, .int (nI 0), .int (nI 0), .int (nI 0)])), (wb, .inl (dA 1, n, .inl (bw g n)))]) := hD.sub [0, 1, 2, 3, 4, 5] (by decide) rfl
  have hz9 := hS.1
  refine va_callq (va_runV (As := []) (rest := [.ref sa]) ⟨hx, hb, hml, hown, hts⟩ (c_J16_toString lh D dA H.size q9 u13 (n + 2) 16 (spW g n) (by omega) (by decide) (spW_lt h5)) (w_J16_toString hts q718 rfl rfl ⟨Nat.le_of_ble_eq_true rfl, Nat.le_of_ble_eq_true rfl⟩) ⟨PX.blind (Mv.and Mv.heap (Mv.and Mv.heap (Mv.and Mv.heap (Mv.and Mv.gk KC.mv)))), (va_recv hG.1 hP (ci := 17) (q0 := 0) rfl rfl), PX.pre (Mv.and Mv.heap (Mv.and Mv.heap (Mv.and Mv.heap (Mv.and Mv.gk KC.mv)))) ⟨rfl, (va_P_left hPs), (va_D_left hDs), hG, (KC.at hKC hS (va_A_up hDs hA hS.1))⟩⟩ rfl rfl hl.1 rfl (lv_room (Nat.le_of_ble_eq_true rfl)) dX7_isOf_33 ⟨Nat.le_of_ble_eq_true rfl, by show _ ≤ (26 + n); omega⟩) hS (fun q _ => (va_A_up hDs hA hS.1) q) ((va_A_up hDs hA hS.1)) (fun rr u t H1 locs ht hvm hp hB hz hk hS => ?_)
  obtain ⟨u33_0, u33_1⟩ := u
  obtain ⟨hP1, hD1, -⟩ := hB
  rw [ht] at hP1
  obtain ⟨hP, hD⟩ := vp_join hPs hDs hP1 hD1 hk hA hz9
  clear ht hvm hz hk hP1 hD1 hPs hDs hz9
  generalize H1 = H at hP hS ⊢
  have hP : va_P D CL [(q9, .inr (17, [.ref u13, .int (nI 0), .int (nI 0), .int (nI (n + 2))])), (u13, .inl (dA 1, 16, .inl (bw (spW g n) (n + 2)))), (u33_0, .inr (16, [.ref u33_1, .int (nI 0), .int (nI 0), .int (nI 0)])), (u33_1, .inl (dA 1, (n + 2), .inl (bw (spW g n) (n + 2)))), (r, .inr (6, [.ref tx, .int (nI tz), .int (nI a), .int (nI p0), .int (nI 1), .int (nI v), .ref w])), (tx, .inl (dA 1, 300, .inl tf)), (w, .inr (16, [.ref wb, .int (nI 0), .int (nI 0), .int (nI 0)])), (wb, .inl (dA 1, n, .inl (bw g n)))] H := hP
  have hD : va_D A [(q9, .inr (17, [.ref u13, .int (nI 0), .int (nI 0), .int (nI (n + 2))])), (u13, .inl (dA 1, 16, .inl (bw (spW g n) (n + 2)))), (u33_0, .inr (16, [.ref u33_1, .int (nI 0), .int (nI 0), .int (nI 0)])), (u33_1, .inl (dA 1, (n + 2), .inl (bw (spW g n) (n + 2)))), (r, .inr (6, [.ref tx, .int (nI tz), .int (nI a), .int (nI p0), .int (nI 1), .int (nI v), .ref w])), (tx, .inl (dA 1, 300, .inl tf)), (w, .inr (16, [.ref wb, .int (nI 0), .int (nI 0), .int (nI 0)])), (wb, .inl (dA 1, n, .inl (bw g n)))] := hD
  have hrr := hp
  try dsimp only at hrr
  subst hrr
  show W p lh e (r_X7_isOf_W n) s m args below meth cd _ _ _ _ Q (F0 m _ ls (.ref u33_0 :: _))
  refine vp_callSi (W.runV (As := [.ref u33_0]) (rest := []) ⟨hx, hb, hml, hown, hts⟩ (c_J3_indexOf lh sa sb k h u33_0 u33_1 (n + 2) (spW g n) (by omega) (h3) (h4)) (w_J3_indexOf hts q868 rfl rfl ⟨Nat.le_of_ble_eq_true rfl, Nat.le_of_ble_eq_true rfl⟩) ⟨PX.blind (Mv.and KC.mv (Mv.and SA.mv SA.mv)), (SA.recv (SA.at hSA hS)), PX.pre (Mv.and KC.mv (Mv.and SA.mv SA.mv)) ⟨(KC.at hKC hS (fun _ q => q.elim)), (SA.at hSA hS), (SA.of (i := 2) (j := 3) (n := (n + 2)) (f := (spW g n)) hts hG hP rfl rfl (by omega) (fun j hj => ⟨bw_in hj, spW_lt h5 j hj⟩))⟩⟩ rfl rfl hl.1 rfl (lv_room (Nat.le_of_ble_eq_true rfl)) dX7_isOf_36 ⟨Nat.le_of_ble_eq_true rfl, by show _ ≤ 26 + n; omega⟩) (fun rr hrr => ?_)
  subst hrr
  rcases ho36 : ixT h (spW g n) (n + 2) (k - (n + 2) + 1) 0 with _ | k36
  · show W p lh e (r_X7_isOf_W n) s m args below meth cd _ _ _ _ Q (F0 m _ ls (.int (-1) :: _))
    refine lv_if_lt (tgt := 46) hx hb dX7_isOf_39 (by decide) (fun _ => ?_) (fun c => absurd (by decide) c)
    refine lv_iconst (v := nI 0) hx hb dX7_isOf_46 (by decide) ?_
    subst hQ
    refine W.widen (k := 4) (n := (26 + n)) (by first | decide | omega) (by first | decide | omega) ?_
    have hP9 : va_P D CL [(r, .inr (6, [.ref tx, .int (nI tz), .int (nI a), .int (nI p0), .int (nI 1), .int (nI v), .ref w])), (tx, .inl (dA 1, 300, .inl tf)), (w, .inr (16, [.ref wb, .int (nI 0), .int (nI 0), .int (nI 0)])), (wb, .inl (dA 1, n, .inl (bw g n)))] H := hP.sub [4, 5, 6, 7] rfl
    have hD9 : va_D A [(r, .inr (6, [.ref tx, .int (nI tz), .int (nI a), .int (nI p0), .int (nI 1), .int (nI v), .ref w])), (tx, .inl (dA 1, 300, .inl tf)), (w, .inr (16, [.ref wb, .int (nI 0), .int (nI 0), .int (nI 0)])), (wb, .inl (dA 1, n, .inl (bw g n)))] := hD.sub [4, 5, 6, 7] (by decide) rfl
    exact W.zret (v := nI 0) hx hb hrt rfl (fun t ht hW => ⟨⟨_, (), rfl, by rw [ho36]; rfl, by rw [ht]; exact hP9, hD9, GK.warm hW hG⟩, hS.F ht⟩) hS.2.2 dX7_isOf_47
  · show W p lh e (r_X7_isOf_W n) s m args below meth cd _ _ _ _ Q (F0 m _ ls (.int (nI k36) :: _))
    refine kn_zlt hx hb dX7_isOf_39 (tgt := 46) (by decide) (by have := ixT_lt ho36; omega) ?_
    refine lv_iconst (v := nI 1) hx hb dX7_isOf_42 (by decide) ?_
    refine lv_goto (tgt := 47) hx hb dX7_isOf_43 (by decide) ?_
    subst hQ
    refine W.widen (k := 4) (n := (26 + n)) (by first | decide | omega) (by first | decide | omega) ?_
    have hP9 : va_P D CL [(r, .inr (6, [.ref tx, .int (nI tz), .int (nI a), .int (nI p0), .int (nI 1), .int (nI v), .ref w])), (tx, .inl (dA 1, 300, .inl tf)), (w, .inr (16, [.ref wb, .int (nI 0), .int (nI 0), .int (nI 0)])), (wb, .inl (dA 1, n, .inl (bw g n)))] H := hP.sub [4, 5, 6, 7] rfl
    have hD9 : va_D A [(r, .inr (6, [.ref tx, .int (nI tz), .int (nI a), .int (nI p0), .int (nI 1), .int (nI v), .ref w])), (tx, .inl (dA 1, 300, .inl tf)), (w, .inr (16, [.ref wb, .int (nI 0), .int (nI 0), .int (nI 0)])), (wb, .inl (dA 1, n, .inl (bw g n)))] := hD.sub [4, 5, 6, 7] (by decide) rfl
    exact W.zret (v := nI 1) hx hb hrt rfl (fun t ht hW => ⟨⟨_, (), rfl, by rw [ho36]; rfl, by rw [ht]; exact hP9, hD9, GK.warm hW hG⟩, hS.F ht⟩) hS.2.2 dX7_isOf_47

abbrev r_X7_isOf_O : Room := { frames := 0, cells := 0, slots := 0, locals := 0 }
set_option maxHeartbeats 1000000 in
theorem c_X7_isOf_O (lh : Launch) (D : va_G) (dA : Nat → ClassId) (r : Nat) (tx : Nat) (tz : Nat) (tf : Nat → Int32) (a : Nat) (p0 : Nat) (s0 : Nat) (v : Nat) (w : Nat) (sa : Nat) (sb : Nat) (k : Nat) (h : Nat → Nat) (h1 : s0 ≠ 1) (h2 : s0 < 2 ^ 31) : Met lh yX7_isOf (ws_ yX7_isOf cX7_isOf 2 (some .boolean)) r_X7_isOf_O (PX (fun U H => va_P D CL [(r, .inr (6, [.ref tx, .int (nI tz), .int (nI a), .int (nI p0), .int (nI s0), .int (nI v), .ref w])), (tx, .inl (dA 1, 300, .inl tf))] H ∧ GK D dA U) [.ref r, .ref sa]) (vp_Si (fun rv => rv = nI 0)) 0 0 (fun _ => False) := by
  refine Met.ofW (cc := cX7_isOf) (maxL := 2) (ret := (some .boolean)) (by decide) rfl ?_
  intro p e s m args below meth cd s₁ B hml hv
  obtain ⟨hargs, hP, hG⟩ := hv
  have hx := B.exec
  have hb := B.bytes
  have hrt := B.returns
  have hts := atoms_spec (ws := (ws_ yX7_isOf cX7_isOf 2 (some .boolean))) B.pre
  have hts : ∀ w ∈ lw_all, w.before _ s = true := fun w h => hts w (List.mem_cons_of_mem _ h)
  have hown : s.vm.findClass RX7 = some m.cls := findClass_of_methodNamed B.named
  have hlocks := B.notSynchronized
  have hS : va_S nA s.heap s.heap [] := va_S.rf
  have hE : entryFrame m args 2 = F0 m 0 ((lg_sl ([.ref r, .ref sa]) ++ List.replicate (2 - (lg_sl ([.ref r, .ref sa])).length) Slot.unset).toArray) [] := by rw [hargs]; exact lg_entry_eq m _ 2
  have hl := lv_entry ([.ref r, .ref sa]) (n := 2) (Nat.le_of_ble_eq_true rfl)
  rw [hE]
  clear hE
  generalize (lg_sl ([.ref r, .ref sa]) ++ List.replicate (2 - (lg_sl ([.ref r, .ref sa])).length) Slot.unset).toArray = ls at hl ⊢
  have hl : lv_has ls 2 [(0, .ref r), (1, .ref sa)] := hl
  generalize hQ : MQ _ _ _ _ _ _ _ = Q
  refine lv_aload_n hx hb dX7_isOf_0 rfl (lv_at hl 0 rfl) ?_
  refine va_get (D := D) (ci := 6) (v := .int (nI s0)) (C := RX7) (T := TX7) (N := 7) hx hb hts in_X7 hown hG.1 hP 0 rfl rfl 4 (by decide) (hts _ q782) (fun _ h => h) rfl dX7_isOf_1 ?_
  refine lv_iconst (v := nI 1) hx hb dX7_isOf_4 (by decide) ?_
  refine kn_cne (tgt := 46) hx hb dX7_isOf_5 (by decide) (by omega) (by decide) (fun c_5 => ?_) (fun c_5 => ?_)
  · refine lv_iconst (v := nI 0) hx hb dX7_isOf_46 (by decide) ?_
    subst hQ
    exact W.zret (v := nI 0) hx hb hrt rfl (fun t ht _ => ⟨_, rfl, (show nI 0 = nI 0 from rfl), ht⟩) t_nil dX7_isOf_47
  · exact absurd c_5 h1

theorem w_X7_isOf {R : Room} {s : State} {args : Array Value} {own : String} {idx : Nat} (hts : ∀ w ∈ lw_all, w.before args s = true) (h1 : Cond.methodLink own idx yX7_isOf ∈ lw_all) {rm : Room} {mc ms : Nat} (hrc : rm.cells = mc) (hrs : rm.slots = ms) (hR : rm.frames + 1 ≤ R.frames ∧ 8 + (2 + 11) + rm.locals ≤ R.locals) : CallW R s args own RX7 idx yX7_isOf cX7_isOf 2 (some .boolean) (ws_ yX7_isOf cX7_isOf 2 (some .boolean)) rm mc ms 1 := cwV 1 hts (lw_V h1 q826 qs19 q84 q827) rfl hrc hrs (by decide +kernel) hR
