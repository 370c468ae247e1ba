set_option maxRecDepth 100000
/-! LISTS OF CELLS WITH A TAIL THAT ISN'T SPELT OUT -/
theorem va_P_mem {D : va_G} {cl : List vw_C} {l : va_W} {H : Heap} : va_P D cl l H ↔ ∀ q ∈ l, va_at D cl q H :=
  ⟨fun h q hq => by obtain ⟨k, hk⟩ := List.getElem?_of_mem hq; exact h k q hk, fun h k q hk => h q (List.mem_of_getElem? hk)⟩
theorem va_D_nd {A : Nat → Prop} {l : va_W} : va_D A l ↔ (l.map (fun q => q.1)).Nodup ∧ ∀ q ∈ l, A q.1 := by
  constructor
  · intro h
    refine ⟨?_, fun q hq => by obtain ⟨k, hk⟩ := List.getElem?_of_mem hq; exact h.2 k q hk⟩
    rw [List.nodup_iff_pairwise_ne, List.pairwise_iff_getElem]
    intro i j hi hj hij e
    rw [List.length_map] at hi hj
    rw [List.getElem_map, List.getElem_map] at e
    have := h.1 i j _ _ (List.getElem?_eq_getElem hi) (List.getElem?_eq_getElem hj) e
    omega
  · intro h
    refine ⟨fun i j p q hi hj e => ?_, fun k q hk => h.2 q (List.mem_of_getElem? hk)⟩
    obtain ⟨hi1, rfl⟩ := List.getElem?_eq_some_iff.mp hi
    obtain ⟨hj1, rfl⟩ := List.getElem?_eq_some_iff.mp hj
    have hn := h.1
    rw [List.nodup_iff_pairwise_ne, List.pairwise_iff_getElem] at hn
    rcases Nat.lt_trichotomy i j with q | q | q
    · exact absurd (by rw [List.getElem_map, List.getElem_map]; exact e) (hn i j (by rw [List.length_map]; exact hi1) (by rw [List.length_map]; exact hj1) q)
    · exact q
    · exact absurd (by rw [List.getElem_map, List.getElem_map]; exact e.symm) (hn j i (by rw [List.length_map]; exact hj1) (by rw [List.length_map]; exact hi1) q)
theorem va_P.perm {D : va_G} {cl : List vw_C} {l l' : va_W} {H : Heap} (h : va_P D cl l H) (e : l.Perm l') : va_P D cl l' H := va_P_mem.mpr fun q hq => va_P_mem.mp h q (e.mem_iff.mpr hq)
theorem va_D.perm {A : Nat → Prop} {l l' : va_W} (h : va_D A l) (e : l.Perm l') : va_D A l' := by
  obtain ⟨h1, h2⟩ := va_D_nd.mp h
  exact va_D_nd.mpr ⟨(e.map _).nodup h1, fun q hq => h2 q (e.mem_iff.mpr hq)⟩
theorem va_P.right {D : va_G} {cl : List vw_C} {l l' : va_W} {H : Heap} (h : va_P D cl (l ++ l') H) : va_P D cl l' H := va_P_mem.mpr fun q hq => va_P_mem.mp h q (List.mem_append_right _ hq)
theorem va_P.left {D : va_G} {cl : List vw_C} {l l' : va_W} {H : Heap} (h : va_P D cl (l ++ l') H) : va_P D cl l H := va_P_mem.mpr fun q hq => va_P_mem.mp h q (List.mem_append_left _ hq)
theorem va_D.split {A : Nat → Prop} {l l' : va_W} : va_D A (l ++ l') ↔ va_D A l ∧ va_D A l' ∧ ∀ p ∈ l, ∀ q ∈ l', p.1 ≠ q.1 := by
  rw [va_D_nd, va_D_nd, va_D_nd, List.map_append, List.nodup_append]
  constructor
  · intro ⟨⟨h1, h2, h3⟩, h4⟩
    exact ⟨⟨h1, fun q hq => h4 q (List.mem_append_left _ hq)⟩, ⟨h2, fun q hq => h4 q (List.mem_append_right _ hq)⟩, fun p hp q hq => h3 _ (List.mem_map_of_mem hp) _ (List.mem_map_of_mem hq)⟩
  · intro ⟨⟨h1, h2⟩, ⟨h3, h4⟩, h5⟩
    refine ⟨⟨h1, h3, fun a ha b hb => ?_⟩, fun q hq => ?_⟩
    · obtain ⟨p, hp, rfl⟩ := List.mem_map.mp ha
      obtain ⟨q, hq, rfl⟩ := List.mem_map.mp hb
      exact h5 p hp q hq
    · rcases List.mem_append.mp hq with h | h
      · exact h2 q h
      · exact h4 q h
theorem va_D.left {A : Nat → Prop} {l l' : va_W} (h : va_D A (l ++ l')) : va_D A l := (va_D.split.mp h).1
/-- what is spelt out in other order, or less of it; the tail as it is -/
theorem va_P.subT {D : va_G} {cl : List vw_C} {l l1 T : va_W} {H : Heap} (h : va_P D cl (l ++ T) H) (is : List Nat) (e : is.filterMap (fun i => l[i]?) = l1) : va_P D cl (l1 ++ T) H := va_P_mem.mpr fun q hq => by
  rcases List.mem_append.mp hq with h1 | h1
  · exact va_P_mem.mp (h.left.sub is e) q h1
  · exact va_P_mem.mp h.right q h1
theorem va_D.subT {A : Nat → Prop} {l l1 T : va_W} (h : va_D A (l ++ T)) (is : List Nat) (hn : va_nd is = true) (e : is.map (fun i => l[i]?) = l1.map some) : va_D A (l1 ++ T) := by
  obtain ⟨h1, h2, h3⟩ := va_D.split.mp h
  refine va_D.split.mpr ⟨h1.sub is hn e, h2, fun p hp q hq => h3 p ?_ q hq⟩
  have h9 : some p ∈ l1.map some := List.mem_map_of_mem hp
  rw [← e] at h9
  obtain ⟨i, -, hi⟩ := List.mem_map.mp h9
  exact List.mem_of_getElem? hi
theorem perm_rot {α : Type} (l T n : List α) : (l ++ T ++ n).Perm (l ++ n ++ T) := by
  rw [List.append_assoc, List.append_assoc]
  exact List.perm_append_comm.append_left l
/-- behind a call that leaves a tail of its own: (w1 ++ X) ++ (wr ++ T) -/
theorem perm_mid {α : Type} (w1 X wr T : List α) : ((w1 ++ X) ++ (wr ++ T)).Perm ((w1 ++ wr) ++ (X ++ T)) := by
  rw [List.append_assoc, List.append_assoc]
  refine List.Perm.append_left w1 ?_
  rw [← List.append_assoc, ← List.append_assoc]
  exact List.perm_append_comm.append_right T
theorem va_A_upT {A : Nat → Prop} {w1 w2 : va_W} {H0 H : Heap} (hD : va_D A (w1 ++ w2)) (hA : ∀ q, H0.size ≤ q → A q) (hz : H0.size ≤ H.size) : ∀ q, va_A w1 H.size q → A q := va_A_up hD hA hz
/-! METHODS THAT THROW, over lists of cells -/
def QTw (D : va_G) (A : Nat → Prop) (kd pl : Nat) : Array Value → State → Outcome → State → Prop := fun _ st o t => ∃ x : Nat, o = .threw x ∧ A x ∧ va_at D CL (x, .inr (7, [.null, .null, .null, .null, .null, .int (nI 0), .int (nI kd), .int (nI pl)])) t.heap ∧ st.heap.size ≤ t.heap.size ∧ ∀ q : Nat, q < st.heap.size → ¬ A q → t.heap[q]? = st.heap[q]?
section TP
variable {p : Program} {l : Launch} {e : Env} {R : Room} {s : State} {m : MethodId} {args : Array Value} {below : List Frame} {meth : Method} {c : Code} {H : Heap} {locs : List Loc} {cells slots : Nat} {Q : State → Prop}
variable {y : MethodName} {bytes cc : ByteArray} {maxL nL mc ms n index : Nat} {ret : Option FieldType} {ws : List Cond} {rm : Room} {Pc : Array Value → State → Prop} {Ts : List Cond} {own C : String} {b : Addr} {As rest : List Value} {D : va_G} {A A1 : Nat → Prop} {kd pl : Nat}
theorem W.callTP (S : CallFix p m c cc nL s args Ts own) (hM : MetT l y ws rm Pc (QTw D A1 kd pl) mc ms A1) (cw : CallW R s args own C index y bytes maxL ret ws rm mc ms n) (hp : PreV s H C b Pc As) {pc : Nat} {ls : Array Slot}
    (hn : As.length = n) (hsize : ls.size = nL) (hW : 2 * (F0 m pc ls rest).monitorRoom + (rest.map fun v => v.category).sum ≤ 8) (hdg : decode cc pc = .ok (.invokevirtual index, 3)) (hf : cells + mc ≤ R.cells ∧ slots + ms ≤ R.slots) (he : c.exceptionTable.isEmpty = true) (hlocks : meth.locks = false)
    (hS : va_S A s.heap H locs) (hAA : ∀ q, A1 q → A q) {k9 n9 : Nat} (hk : cells + mc ≤ k9) (hn9 : slots + ms ≤ n9) : W p l e R s m args below meth c H locs cells slots (MQT below (QTw D A kd pl) args s k9 n9 A) (F0 m pc ls (As.reverse ++ .ref b :: rest)) := by
  refine W.callT S hM cw hp hn hsize hW hdg hf (fun x st₀ t T' L h0 h1 h2 h3 h4 X => ?_)
  obtain ⟨x', e1, hx1, hx2, hx3, hx4⟩ := h4
  cases e1
  refine W.passT he hlocks (stand_widen X hk hn9) (fun t' ht' _ => ⟨x, rfl, hAA x hx1, by rw [ht', h1]; exact hx2, ?_, fun q hq hqA => ?_⟩) (fun q hq => ?_)
  · rw [ht', h1]
    have := hS.1
    rw [h0] at hx3
    omega
  · rw [ht', h1, hx4 q (by rw [h0]; have := hS.1; omega) (fun r => hqA (hAA q r)), h0]
    exact hS.2.1 q hq hqA
  · rcases List.mem_append.mp hq with h | h
    · exact hS.2.2 q h
    · exact hAA _ (h3 q h)
end TP
