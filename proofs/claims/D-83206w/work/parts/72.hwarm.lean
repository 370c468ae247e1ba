set_option maxRecDepth 100000
/-- the class of an array of rows of bytes -/
def AB (dA : Nat → ClassId) (U : State) : Prop := ∃ kA kB : Class, U.vm.classes[dA 5]? = some kA ∧ kA.kind = .array (dA 1) (.array .byte) ∧ U.vm.classes[dA 1]? = some kB
theorem AB.moved {dA : Nat → ClassId} {u U : State} (hvm : u.vm.Alike U.vm) (h : AB dA u) : AB dA U := by
  obtain ⟨kA, kB, h1, h2, h3⟩ := h
  obtain ⟨kA', hA', eA⟩ := hvm.2.2 _ _ h1
  obtain ⟨kB', hB', eB⟩ := hvm.2.2 _ _ h3
  exact ⟨kA', kB', hA', by rw [eA]; exact h2, hB'⟩
theorem AB.mv {dA : Nat → ClassId} : Mv (fun U _ => AB dA U) := Mv.alike fun _ _ _ w q => q.moved w
theorem asg_self (vm : Vm) (c : ClassId) : vm.assignable c c = true := by
  unfold Vm.assignable
  rw [show (256 : Nat) = 255 + 1 from rfl]
  unfold Vm.assignableAux
  simp [Vm.isSubclass, Vm.isSubclassAux]
section KAB
variable {p : Program} {l : Launch} {e : Env} {R : Room} {s : State} {m : MethodId} {args : Array Value} {below : List Frame} {meth : Method} {c : Code} {H : Heap} {locs : List Loc} {cells slots : Nat} {Q : State → Prop}
variable {cc : ByteArray} {pc : Nat} {ls : Array Slot} {rest : List Value} {D : va_G} {dA : Nat → ClassId} {cl : List vw_C} {A : Nat → Prop} {a : Nat} {H0 : Heap}
theorem ka_aastB (hx : p.tables.exec = Jvm.exec) (hb : c.code = cc) (hAB : AB dA s) (hS : va_S A H0 H locs) (hA : A a) {n n2 v i : Nat} {f : Nat → Option Nat} {g : Nat → Int32} (ha : va_at D cl (a, .inl (dA 5, n, rfA f)) H) (hv : va_at D cl (v, .inl (dA 1, n2, .inl g)) H) (hi : i < n) (hn : n < 2 ^ 31) (hdg : decode cc pc = .ok (.aastore, 1))
    (kk : ∀ (H1 : Heap) (locs1 : List Loc), va_at D cl (a, .inl (dA 5, n, rfA (va_up f i (some v)))) H1 → H1.size = H.size → (∀ q : Nat, q ≠ a → H1[q]? = H[q]?) → va_S A H0 H1 locs1 → W p l e R s m args below meth c H1 locs1 cells slots Q (F0 m (pc + 1) ls rest)) : W p l e R s m args below meth c H locs cells slots Q (F0 m pc ls (.ref v :: .int (nI i) :: .ref a :: rest)) := by
  obtain ⟨kA, kB, h1, h2, h3⟩ := hAB
  have hc : (nI i).toNatClampNeg = i := nI_clamp (by omega)
  have hcell : H[a]? = some (vp_cell (dA 5) (n, rfA f)) := ha
  have hcv : H[v]? = some (vp_cell (dA 1) (n2, .inl g)) := hv
  refine W.aast hx hb hcell (fun q h => by cases h) (fun h => by cases h) h1 h2 rfl h3 ⟨nI_pos (by omega), by show _ < (arrV _ _ _).slots.size; rw [arrV_size, hc]; exact hi⟩ hcv (fun q h => by cases h) h3 (asg_self _ _) rfl rfl hdg fun H1 e z oq => ?_
  refine kk H1 _ ?_ z oq (hS.put z oq hA)
  show H1[a]? = some (vp_cell _ _)
  rw [e, hc]
  rw [vp_cell_q, vp_cell_q, arrV_store]
  congr 2
  funext q
  by_cases hq : q = i
  · subst hq
    simp [updV, va_up, va_rf]
  · simp [updV, va_up, hq]
end KAB
section RHB
variable {A : Nat → Prop} {D : va_G} {dA : Nat → ClassId} {K : Nat → Nat} {ad X : Nat → Nat → Nat} {Y : Nat → Nat → Nat → Int32} {N : Nat → Nat} {I : Nat → Int32} {G : Nat → Nat → Nat} {J : Nat → Nat → Int32} {H H1 : Heap}
theorem RH.newRow (hH : RH A D dA K ad X Y N I G J H) {z q : Nat} (hz : z < 3) (hx : X 1 z ≠ 1) (hf : Fr ad N G X q) (hA : A q) (eq : va_at D CL (q, .inl (dA 1, 600, .inl (fun _ => 0))) H1) (ew : va_at D CL (ad 2 0, .inl (dA 5, 3, rfA (va_up (rwH ad X) z (some q)))) H1)
    (ho : ∀ k i, LH N G X k i → ¬ (k = 2 ∧ i = 0) → H1[ad k i]? = H[ad k i]?) : RH A D dA K (up2 ad 3 z q) (up2 X 1 z 1) (upR Y 2 z (fun _ => 0)) N I G J H1 := by
  have lv : ∀ k i, LH N G (up2 X 1 z 1) k i → LH N G X k i ∨ (k, i) ∈ [(3, z)] := by
    intro k i h
    match k, h with
    | 0, h => exact Or.inl h
    | 1, h => exact Or.inl h
    | 2, h => exact Or.inl h
    | 3, h =>
      by_cases e : i = z
      · exact Or.inr (by rw [e]; simp)
      · exact Or.inl ⟨h.1, by have := h.2; rw [up2_n e] at this; exact this⟩
    | 4, h => exact Or.inl h
    | 5, h => exact Or.inl ⟨h.1, by have := h.2; rw [up2_o (by decide)] at this; exact this⟩
    | 6, h => exact Or.inl h
    | 7, h => exact Or.inl h
    | 8, h => exact Or.inl h
    | 9, h => exact Or.inl h
    | 10, h => exact Or.inl h
    | 11, h => exact Or.inl h
    | 12, h => exact Or.inl h
    | 13, h => exact Or.inl h
    | 14, h => exact Or.inl h
    | 15, h => exact Or.inl h
    | 16, h => exact Or.inl h
    | 17, h => exact Or.inl h
    | 18, h => exact Or.inl h
    | k + 19, h => exact h.elim
  have had : ∀ k, k ≠ 3 → up2 ad 3 z q k = ad k := fun k h => up2_o h
  refine hH.build (nw := [(3, z)]) (fun k i h => ?_) (fun c hc => ?_) (fun c hc c' hc' e => ?_) (fun k i h => ?_) (fun c hc => ?_)
  · rcases lv k i h with q1 | q1
    · by_cases e : k = 3 ∧ i = z
      · obtain ⟨rfl, rfl⟩ := e; exact absurd q1.2 hx
      · refine Or.inl ⟨q1, ?_⟩
        by_cases e3 : k = 3
        · subst e3; exact up2_n (fun h => e ⟨rfl, h⟩)
        · rw [had k e3]
    · exact Or.inr q1
  · simp only [List.mem_cons, List.not_mem_nil, or_false] at hc
    rw [hc]; dsimp only; rw [up2_s]; exact hf
  · simp only [List.mem_cons, List.not_mem_nil, or_false] at hc hc'
    rw [hc, hc']
  · have hv := lv k i h
    simp only [List.mem_cons, Prod.mk.injEq, List.not_mem_nil, or_false] at hv
    match k, h with
    | 0, h =>
      have hl : LH N G X 0 i := hv.resolve_right (fun q => absurd q.1 (by decide))
      have e3 : EH dA K (up2 ad 3 z q) (up2 X 1 z 1) (upR Y 2 z (fun _ => 0)) N I G J 0 i = EH dA K ad X Y N I G J 0 i := by simp only [EH, fH, had 1 (by decide), had 2 (by decide), had 4 (by decide), upR_o (f := Y) (k := 2) (i := z) (v := fun _ => 0) (a := 12) (by decide)]
      rw [e3, had 0 (by decide)]; exact (hH.1 0 i hl).kept (ho 0 i hl (fun q => absurd q.1 (by decide)))
    | 1, h =>
      have hl : LH N G X 1 i := hv.resolve_right (fun q => absurd q.1 (by decide))
      have e3 : EH dA K (up2 ad 3 z q) (up2 X 1 z 1) (upR Y 2 z (fun _ => 0)) N I G J 1 i = EH dA K ad X Y N I G J 1 i := by
        show (Sum.inl (dA (tyH i), lenH i, Sum.inl (fnH (upR Y 2 z (fun _ => 0)) G J i)) : va_E) = Sum.inl (dA (tyH i), lenH i, Sum.inl (fnH Y G J i))
        rw [show fnH (upR Y 2 z (fun _ => 0)) G J i = fnH Y G J i from by unfold fnH; split <;> first | rfl | (rw [upR_o (by decide)])]
      rw [e3, had 1 (by decide)]; exact (hH.1 1 i hl).kept (ho 1 i hl (fun q => absurd q.1 (by decide)))
    | 2, h =>
      have hi : i = 0 := h
      rw [had 2 (by decide), hi]
      show va_at D CL (ad 2 0, .inl (dA 5, 3, rfA (rwH (up2 ad 3 z q) (up2 X 1 z 1)))) H1
      have e3 : rwH (up2 ad 3 z q) (up2 X 1 z 1) = va_up (rwH ad X) z (some q) := by
        funext w
        unfold rwH va_up
        by_cases e : w = z
        · rw [e, up2_s, if_pos rfl, if_pos rfl, up2_s]
        · rw [up2_n e, up2_n e, if_neg e]
      rw [e3]; exact ew
    | 3, h =>
      by_cases e : i = z
      · rw [e, up2_s]
        show va_at D CL (q, .inl (dA 1, 600, .inl (upR Y 2 z (fun _ => 0) 2 z))) H1
        rw [upR_s]; exact eq
      · rw [up2_n e]
        show va_at D CL (ad 3 i, .inl (dA 1, 600, .inl (upR Y 2 z (fun _ => 0) 2 i))) H1
        have hl : LH N G X 3 i := hv.resolve_right (fun q => e q.2)
        rw [upR_n e]; exact (hH.1 3 i hl).kept (ho 3 i hl (fun q => absurd q.1 (by decide)))
    | 4, h =>
      have hl : LH N G X 4 i := hv.resolve_right (fun q => absurd q.1 (by decide))
      have e3 : EH dA K (up2 ad 3 z q) (up2 X 1 z 1) (upR Y 2 z (fun _ => 0)) N I G J 4 i = EH dA K ad X Y N I G J 4 i := by
        show Sum.inr (15, [Value.int (upR Y 2 z (fun _ => 0) 3 i 0), .ref (elH K (up2 ad 3 z q) (up2 X 1 z 1) i), .int (nI (szH N i))]) = Sum.inr (15, [Value.int (Y 3 i 0), .ref (elH K ad X i), .int (nI (szH N i))])
        rw [upR_o (by decide)]; unfold elH; rw [had 5 (by decide), up2_o (by decide)]
      rw [e3, had 4 (by decide)]; exact (hH.1 4 i hl).kept (ho 4 i hl (fun q => absurd q.1 (by decide)))
    | 5, h =>
      have hl : LH N G X 5 i := hv.resolve_right (fun q => absurd q.1 (by decide))
      have e3 : EH dA K (up2 ad 3 z q) (up2 X 1 z 1) (upR Y 2 z (fun _ => 0)) N I G J 5 i = EH dA K ad X Y N I G J 5 i := by
        show (Sum.inl (dA 4, up2 X 1 z 1 0 i, rfA (ltH (up2 ad 3 z q) (kdH i) (szH N i) 0)) : va_E) = Sum.inl (dA 4, X 0 i, rfA (ltH ad (kdH i) (szH N i) 0))
        rw [up2_o (by decide), ltH_cg (had (kdH i) (by unfold kdH; split <;> decide))]
      rw [e3, had 5 (by decide)]; exact (hH.1 5 i hl).kept (ho 5 i hl (fun q => absurd q.1 (by decide)))
    | 6, h =>
      have hl : LH N G X 6 i := hv.resolve_right (fun q => absurd q.1 (by decide))
      have e3 : EH dA K (up2 ad 3 z q) (up2 X 1 z 1) (upR Y 2 z (fun _ => 0)) N I G J 6 i = EH dA K ad X Y N I G J 6 i := by simp only [EH, fC, had 7 (by decide), had 8 (by decide), upR_o (f := Y) (k := 2) (i := z) (v := fun _ => 0) (a := 0) (by decide)]
      rw [e3, had 6 (by decide)]; exact (hH.1 6 i hl).kept (ho 6 i hl (fun q => absurd q.1 (by decide)))
    | 7, h =>
      have hl : LH N G X 7 i := hv.resolve_right (fun q => absurd q.1 (by decide))
      have e3 : EH dA K (up2 ad 3 z q) (up2 X 1 z 1) (upR Y 2 z (fun _ => 0)) N I G J 7 i = EH dA K ad X Y N I G J 7 i := rfl
      rw [e3, had 7 (by decide)]; exact (hH.1 7 i hl).kept (ho 7 i hl (fun q => absurd q.1 (by decide)))
    | 8, h =>
      have hl : LH N G X 8 i := hv.resolve_right (fun q => absurd q.1 (by decide))
      have e3 : EH dA K (up2 ad 3 z q) (up2 X 1 z 1) (upR Y 2 z (fun _ => 0)) N I G J 8 i = EH dA K ad X Y N I G J 8 i := by simp only [EH, upR_o (f := Y) (k := 2) (i := z) (v := fun _ => 0) (a := 1) (by decide)]
      rw [e3, had 8 (by decide)]; exact (hH.1 8 i hl).kept (ho 8 i hl (fun q => absurd q.1 (by decide)))
    | 9, h =>
      have hl : LH N G X 9 i := hv.resolve_right (fun q => absurd q.1 (by decide))
      have e3 : EH dA K (up2 ad 3 z q) (up2 X 1 z 1) (upR Y 2 z (fun _ => 0)) N I G J 9 i = EH dA K ad X Y N I G J 9 i := by simp only [EH, fT, had 6 (by decide)]
      rw [e3, had 9 (by decide)]; exact (hH.1 9 i hl).kept (ho 9 i hl (fun q => absurd q.1 (by decide)))
    | 10, h =>
      have hl : LH N G X 10 i := hv.resolve_right (fun q => absurd q.1 (by decide))
      have e3 : EH dA K (up2 ad 3 z q) (up2 X 1 z 1) (upR Y 2 z (fun _ => 0)) N I G J 10 i = EH dA K ad X Y N I G J 10 i := by simp only [EH, fR, had 13 (by decide)]
      rw [e3, had 10 (by decide)]; exact (hH.1 10 i hl).kept (ho 10 i hl (fun q => absurd q.1 (by decide)))
    | 11, h =>
      have hl : LH N G X 11 i := hv.resolve_right (fun q => absurd q.1 (by decide))
      have e3 : EH dA K (up2 ad 3 z q) (up2 X 1 z 1) (upR Y 2 z (fun _ => 0)) N I G J 11 i = EH dA K ad X Y N I G J 11 i := by simp only [EH, had 12 (by decide)]
      rw [e3, had 11 (by decide)]; exact (hH.1 11 i hl).kept (ho 11 i hl (fun q => absurd q.1 (by decide)))
    | 12, h =>
      have hl : LH N G X 12 i := hv.resolve_right (fun q => absurd q.1 (by decide))
      have e3 : EH dA K (up2 ad 3 z q) (up2 X 1 z 1) (upR Y 2 z (fun _ => 0)) N I G J 12 i = EH dA K ad X Y N I G J 12 i := rfl
      rw [e3, had 12 (by decide)]; exact (hH.1 12 i hl).kept (ho 12 i hl (fun q => absurd q.1 (by decide)))
    | 13, h =>
      have hl : LH N G X 13 i := hv.resolve_right (fun q => absurd q.1 (by decide))
      have e3 : EH dA K (up2 ad 3 z q) (up2 X 1 z 1) (upR Y 2 z (fun _ => 0)) N I G J 13 i = EH dA K ad X Y N I G J 13 i := by simp only [EH, had 14 (by decide), upR_o (f := Y) (k := 2) (i := z) (v := fun _ => 0) (a := 10) (by decide)]
      rw [e3, had 13 (by decide)]; exact (hH.1 13 i hl).kept (ho 13 i hl (fun q => absurd q.1 (by decide)))
    | 14, h =>
      have hl : LH N G X 14 i := hv.resolve_right (fun q => absurd q.1 (by decide))
      have e3 : EH dA K (up2 ad 3 z q) (up2 X 1 z 1) (upR Y 2 z (fun _ => 0)) N I G J 14 i = EH dA K ad X Y N I G J 14 i := by
        show (Sum.inl (dA 4, up2 X 1 z 1 2 i, rfA (ltH (up2 ad 3 z q) 15 (G 25 i) (10 * i))) : va_E) = Sum.inl (dA 4, X 2 i, rfA (ltH ad 15 (G 25 i) (10 * i)))
        rw [up2_o (by decide), ltH_cg (had 15 (by decide))]
      rw [e3, had 14 (by decide)]; exact (hH.1 14 i hl).kept (ho 14 i hl (fun q => absurd q.1 (by decide)))
    | 15, h =>
      have hl : LH N G X 15 i := hv.resolve_right (fun q => absurd q.1 (by decide))
      have e3 : EH dA K (up2 ad 3 z q) (up2 X 1 z 1) (upR Y 2 z (fun _ => 0)) N I G J 15 i = EH dA K ad X Y N I G J 15 i := by simp only [EH, fA, had 16 (by decide)]
      rw [e3, had 15 (by decide)]; exact (hH.1 15 i hl).kept (ho 15 i hl (fun q => absurd q.1 (by decide)))
    | 16, h =>
      have hl : LH N G X 16 i := hv.resolve_right (fun q => absurd q.1 (by decide))
      have e3 : EH dA K (up2 ad 3 z q) (up2 X 1 z 1) (upR Y 2 z (fun _ => 0)) N I G J 16 i = EH dA K ad X Y N I G J 16 i := by simp only [EH, had 17 (by decide), upR_o (f := Y) (k := 2) (i := z) (v := fun _ => 0) (a := 11) (by decide)]
      rw [e3, had 16 (by decide)]; exact (hH.1 16 i hl).kept (ho 16 i hl (fun q => absurd q.1 (by decide)))
    | 17, h =>
      have hl : LH N G X 17 i := hv.resolve_right (fun q => absurd q.1 (by decide))
      have e3 : EH dA K (up2 ad 3 z q) (up2 X 1 z 1) (upR Y 2 z (fun _ => 0)) N I G J 17 i = EH dA K ad X Y N I G J 17 i := by
        show (Sum.inl (dA 4, up2 X 1 z 1 3 i, rfA (ltH (up2 ad 3 z q) 18 (G 28 i) (3 * i))) : va_E) = Sum.inl (dA 4, X 3 i, rfA (ltH ad 18 (G 28 i) (3 * i)))
        rw [up2_o (by decide), ltH_cg (had 18 (by decide))]
      rw [e3, had 17 (by decide)]; exact (hH.1 17 i hl).kept (ho 17 i hl (fun q => absurd q.1 (by decide)))
    | 18, h =>
      have hl : LH N G X 18 i := hv.resolve_right (fun q => absurd q.1 (by decide))
      have e3 : EH dA K (up2 ad 3 z q) (up2 X 1 z 1) (upR Y 2 z (fun _ => 0)) N I G J 18 i = EH dA K ad X Y N I G J 18 i := rfl
      rw [e3, had 18 (by decide)]; exact (hH.1 18 i hl).kept (ho 18 i hl (fun q => absurd q.1 (by decide)))
    | k + 19, h => exact h.elim
  · simp only [List.mem_cons, List.not_mem_nil, or_false] at hc
    rw [hc]; dsimp only; rw [up2_s]; exact hA
end RHB
