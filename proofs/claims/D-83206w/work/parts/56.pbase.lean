set_option maxRecDepth 100000
/-! WORLDS OF A FEW CELLS -/
abbrev nT : Nat → Prop := fun _ => True
theorem va_RA_eq {s : State} {cA cB : ClassId} {ty : FieldType} (h1 : va_RA s cA ty) (h2 : va_RA s cB ty) : cA = cB := by
  cases ty with
  | object C =>
    obtain ⟨-, -, -, -, -, e1⟩ := h1
    obtain ⟨-, -, -, -, -, e2⟩ := h2
    exact Option.some.inj (e1.symm.trans e2)
  | _ =>
    have e1 : s.vm.findClass _ = some cA := h1
    have e2 : s.vm.findClass _ = some cB := h2
    exact Option.some.inj (e1.symm.trans e2)
theorem va_P_left {D : va_G} {cl : List vw_C} {w1 w2 : va_W} {H : Heap} (h : va_P D cl (w1 ++ w2) H) : va_P D cl w1 H := fun k q hk => h k q (by
  have hl := (List.getElem?_eq_some_iff.mp hk).1
  rw [List.getElem?_append_left hl]; exact hk)
theorem va_D_left {A : Nat → Prop} {w1 w2 : va_W} (h : va_D A (w1 ++ w2)) : va_D nT w1 := ⟨fun i j p q hi hj e => h.1 i j p q (by
  have hl := (List.getElem?_eq_some_iff.mp hi).1
  rw [List.getElem?_append_left hl]; exact hi) (by
  have hl := (List.getElem?_eq_some_iff.mp hj).1
  rw [List.getElem?_append_left hl]; exact hj) e, fun _ _ _ => trivial⟩
theorem va_in_left {w1 w2 : va_W} {k : Nat} {q : Nat × va_E} (hk : w1[k]? = some q) : (w1 ++ w2)[k]? = some q := by
  have hl := (List.getElem?_eq_some_iff.mp hk).1
  rw [List.getElem?_append_left hl]; exact hk
theorem va_in_right {w1 w2 : va_W} {k : Nat} {q : Nat × va_E} (hk : w2[k]? = some q) : (w1 ++ w2)[w1.length + k]? = some q := by
  rw [List.getElem?_append_right (by omega), show w1.length + k - w1.length = k by omega]; exact hk
theorem va_A_up {A : Nat → Prop} {w1 w2 : va_W} {H0 H : Heap} (hD : va_D A (w1 ++ w2)) (hA : ∀ q, H0.size ≤ q → A q) (hz : H0.size ≤ H.size) : ∀ q, va_A w1 H.size q → A q := by
  intro q h
  rcases h with ⟨k, e, hk⟩ | h
  · exact hD.2 k _ (va_in_left hk)
  · exact hA q (Nat.le_trans hz h)
/-- a call that has some of the cells; the others stay -/
theorem vp_join {D : va_G} {cl : List vw_C} {A : Nat → Prop} {w0 wr w1 : va_W} {H0 H H1 : Heap} (hP : va_P D cl (w0 ++ wr) H) (hD : va_D A (w0 ++ wr)) (hP1 : va_P D cl w1 H1) (hD1 : va_D (va_A w0 H.size) w1)
    (hk : ∀ q : Nat, q < H.size → ¬ va_A w0 H.size q → H1[q]? = H[q]?) (hA : ∀ q, H0.size ≤ q → A q) (hz : H0.size ≤ H.size) : va_P D cl (w1 ++ wr) H1 ∧ va_D A (w1 ++ wr) := by
  have key : ∀ (k : Nat) (q : Nat × va_E), wr[k]? = some q → q.1 < H.size ∧ ¬ va_A w0 H.size q.1 := by
    intro k q hq
    have hlt := (hP _ _ (va_in_right hq)).lt
    refine ⟨hlt, fun h => ?_⟩
    rcases h with ⟨j, e, hj⟩ | h
    · have := hD.1 j (w0.length + k) _ _ (va_in_left hj) (va_in_right hq) rfl
      have hl := (List.getElem?_eq_some_iff.mp hj).1
      omega
    · omega
  have hr : va_P D cl wr H1 := fun k q hq => (hP _ _ (va_in_right hq)).kept (hk _ (key k q hq).1 (key k q hq).2)
  refine ⟨hP1.app hr, va_D.app ⟨hD1.1, fun k q hq => va_A_up hD hA hz _ (hD1.2 k q hq)⟩ ⟨fun i j p q hi hj e => ?_, fun k q hq => hD.2 _ _ (va_in_right hq)⟩ (fun i j p q hi hj e => ?_)⟩
  · have := hD.1 _ _ _ _ (va_in_right hi) (va_in_right hj) e
    omega
  · exact (key j q hj).2 (e ▸ hD1.2 i p hi)
section PB
variable {p : Program} {l : Launch} {e : Env} {R : Room} {s : State} {m : MethodId} {args : Array Value} {below : List Frame} {meth : Method} {c : Code} {H : Heap} {locs : List Loc} {cells slots : Nat} {Q : State → Prop}
variable {cc : ByteArray} {pc : Nat} {ls : Array Slot} {rest : List Value} {D : va_G} {dA : Nat → ClassId} {A : Nat → Prop} {a : Nat} {ws : va_W} {H0 : Heap}
theorem P_newi (hx : p.tables.exec = Jvm.exec) (hb : c.code = cc) (hG : GK D dA s) {atype : ArrayType} (harr : (Cond.arrayClass (newarray.typeOf atype)).before args s = true) (hd : defaultValue (newarray.typeOf atype) = .int 0) (t : Nat) (ht : (tysG dA)[t]? = some (dA t, newarray.typeOf atype)) (hP : va_P D CL ws H) (hD : va_D A ws) (hS : va_S A H0 H locs) (hA : ∀ q, H0.size ≤ q → A q)
    {n : Nat} (hn : n < 2 ^ 31) (hbytes : n * componentBytes (newarray.typeOf atype) ≤ 536870912) (hcells : cells + 1 ≤ R.cells) (hslots : slots + n ≤ R.slots) (hdg : decode cc pc = .ok (.newarray atype, 2))
    (kk : ∀ (q : Nat) (H1 : Heap), va_P D CL (ws ++ [(q, .inl (dA t, n, .inl (fun _ => 0)))]) H1 → va_D A (ws ++ [(q, .inl (dA t, n, .inl (fun _ => 0)))]) → va_S A H0 H1 locs → W p l e R s m args below meth c H1 locs (cells + 1) (slots + n) Q (F0 m (pc + 2) ls (.ref q :: rest))) : W p l e R s m args below meth c H locs cells slots Q (F0 m pc ls (.int (nI n) :: rest)) := by
  refine va_newa hx hb harr rfl hG.1 hP hD hS hA (a0 := (n, .inl (fun _ => 0))) (fun cA => ?_) (nI_pos hn) (nI_clamp hn) hbytes hcells hslots hdg (fun q cA H1 hK hP hD hS => ?_)
  · rw [vp_cell_i, hd]
  · have h1 := (hK.2 (tysG dA).length (cA, newarray.typeOf atype) (by rw [List.getElem?_append_right (Nat.le_refl _), Nat.sub_self]; rfl)).2
    have e := va_RA_eq h1 (hG.1.2 t _ ht).2
    subst e
    exact kk q H1 hP hD hS
theorem P_newq (hx : p.tables.exec = Jvm.exec) (hb : c.code = cc) (hG : GK D dA s) {own : String} {index : Nat} (hown : s.vm.findClass own = some m.cls) (hcl : (Cond.classLink own index "java/lang/Object").before args s = true) (hP : va_P D CL ws H) (hD : va_D A ws) (hS : va_S A H0 H locs) (hA : ∀ q, H0.size ≤ q → A q)
    {n : Nat} (hn : n < 2 ^ 31) (hbytes : n * 4 ≤ 536870912) (hcells : cells + 1 ≤ R.cells) (hslots : slots + n ≤ R.slots) (hdg : decode cc pc = .ok (.anewarray index, 3))
    (kk : ∀ (q : Nat) (H1 : Heap), va_P D CL (ws ++ [(q, .inl (dA 4, n, rfA (fun _ => none)))]) H1 → va_D A (ws ++ [(q, .inl (dA 4, n, rfA (fun _ => none)))]) → va_S A H0 H1 locs → W p l e R s m args below meth c H1 locs (cells + 1) (slots + n) Q (F0 m (pc + 3) ls (.ref q :: rest))) : W p l e R s m args below meth c H locs cells slots Q (F0 m pc ls (.int (nI n) :: rest)) := by
  refine va_newq hx hb hown hcl hG.2.2.1 hG.1 hP hD hS hA (nI_pos hn) (nI_clamp hn) hbytes hcells hslots hdg (fun q cA H1 hK hP hD hS => ?_)
  have h1 := (hK.2 (tysG dA).length (cA, .object "java/lang/Object") (by rw [List.getElem?_append_right (Nat.le_refl _), Nat.sub_self]; rfl)).2
  have e := va_RA_eq h1 (hG.1.2 4 _ rfl).2
  subst e
  exact kk q H1 hP hD hS
end PB
/-- lists' constants: the empty array, the class of an array of objects -/
def KL (K : Nat → Nat) (A : Nat → Prop) (U : State) (H : Heap) : Prop := va_Z "java/util/ArrayList" "DEFAULTCAPACITY_EMPTY_ELEMENTDATA" "[Ljava/lang/Object;" (.ref (K 50)) A U H ∧ va_T (.object "java/lang/Object") (K 50) 0 (fun _ => .null) A U H ∧ va_Mi "[Ljava/lang/Object;" (K 51) U
theorem KL.mv {K : Nat → Nat} {A : Nat → Prop} : Mv (KL K A) := Mv.alike fun _ _ _ w q => ⟨va_Z.moved w q.1, va_T.moved w q.2.1, va_Mi.moved w q.2.2⟩
theorem KL.kept {K : Nat → Nat} {A : Nat → Prop} {U : State} {H H1 : Heap} (h : KL K A U H) (hq : ∀ a : Nat, a < H.size → ¬ A a → H1[a]? = H[a]?) : KL K A U H1 := ⟨h.1.kept hq, h.2.1.kept hq, h.2.2⟩
theorem KL.narrow {K : Nat → Nat} {A B : Nat → Prop} {U : State} {H : Heap} (h : KL K A U H) (hAB : ∀ q, B q → A q) : KL K B U H := ⟨h.1.narrow hAB, h.2.1.narrow hAB, h.2.2⟩
theorem KL.at {K : Nat → Nat} {A B : Nat → Prop} {s : State} {H : Heap} {locs : List Loc} (h : KL K A s s.heap) (hS : va_S A s.heap H locs) (hAB : ∀ q, B q → A q) : KL K B s H := (h.kept hS.2.1).narrow hAB
theorem KL.lt {K : Nat → Nat} {A : Nat → Prop} {s : State} {H : Heap} (h : KL K A s H) : K 50 < H.size ∧ ¬ A (K 50) := by
  obtain ⟨cell, h1, -, -, -, -, -, h7⟩ := h.2.1
  exact ⟨(Array.getElem?_eq_some_iff.mp h1).1, h7⟩
section PZ
variable {p : Program} {l : Launch} {e : Env} {R : Room} {s : State} {m : MethodId} {args : Array Value} {below : List Frame} {meth : Method} {c : Code} {H : Heap} {locs : List Loc} {cells slots : Nat} {Q : State → Prop}
variable {cc : ByteArray} {pc : Nat} {ls : Array Slot} {rest : List Value} {A : Nat → Prop} {K : Nat → Nat}
theorem KL_len (hx : p.tables.exec = Jvm.exec) (hb : c.code = cc) (hK : KL K A s s.heap) (hS : va_S A s.heap H locs) (hdg : decode cc pc = .ok (.arraylength, 1))
    (kk : W p l e R s m args below meth c H locs cells slots Q (F0 m (pc + 1) ls (.int (nI 0) :: rest))) : W p l e R s m args below meth c H locs cells slots Q (F0 m pc ls (.ref (K 50) :: rest)) := by
  obtain ⟨cell, h1, h2, h3, h4, h5, h6, h7⟩ := (hK.2.1.kept hS.2.1)
  exact W.alen (n := nI 0) hx hb h1 h2 h5 rfl rfl hdg kk
theorem KL_get (hx : p.tables.exec = Jvm.exec) (hb : c.code = cc) (hK : KL K A s s.heap) (hS : va_S A s.heap H locs) {own : String} {index : Nat} (hown : s.vm.findClass own = some m.cls) (hlink : (Cond.fieldLink own index "java/util/ArrayList" "DEFAULTCAPACITY_EMPTY_ELEMENTDATA" "[Ljava/lang/Object;").before args s = true) (hdg : decode cc pc = .ok (.getstatic index, 3))
    (kk : W p l e R s m args below meth c H locs cells slots Q (F0 m (pc + 3) ls (.ref (K 50) :: rest))) : W p l e R s m args below meth c H locs cells slots Q (F0 m pc ls rest) := by
  obtain ⟨cf, kf, fi, fd, a, cell, h1, h2, h3, h4, h5, h6, h7, h8⟩ := (hK.1.kept hS.2.1)
  exact W.gets hx hb hown hlink h1 h2 h3 h4 h5 (fun e => by rw [e] at h6; cases h6) h7 rfl hdg kk
end PZ
