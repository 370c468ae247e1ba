set_option maxRecDepth 100000
/-! the reference is made -/
def stL : List Nat := [0, 0, 0, 0, 2, 1, 0, 0, 4, 3, 2, 1, 8, 6, 4, 2, 12, 9, 5, 2, 6, 4, 2, 1]
def N00 : Nat → Nat := fun k => if k = 43 then 1000 else 0
def I00 : Nat → Int32 := fun k => if k = 35 then -1 else 0
def G00 : Nat → Nat → Nat := fun k i => if k = 18 then stL.getD i 0 else 0
def J00 : Nat → Nat → Int32 := fun _ _ => 0
theorem fn00 {k : Nat} (h : k ≠ 18) : fnM G00 J00 k = fun _ => 0 := by
  funext j
  unfold fnM
  split
  · rfl
  · show nI (if k = 18 then stL.getD j 0 else 0) = 0
    rw [if_neg h]
    exact nI_0
/-- the fields, those of the arrays in L made -/
def fP (ad : Nat → Nat) (L : Nat → Bool) (N : Nat → Nat) (I : Nat → Int32) : List Value := (List.range 54).map (fun k => if isA k = true then (if L k = true then .ref (ad k) else .null) else if k = 35 ∨ k = 52 ∨ k = 53 then .int (I k) else .int (nI (N k)))
theorem fP_set {ad : Nat → Nat} {L : Nat → Bool} {N : Nat → Nat} {I : Nat → Int32} {k q : Nat} (hk : isA k = true) : (fP ad L N I).set k (.ref q) = fP (up1 ad k q) (up1 L k true) N I := by
  apply List.ext_getElem?
  intro j
  unfold fP
  rw [List.getElem?_set]
  by_cases h : k = j
  · subst h
    rw [if_pos rfl]
    by_cases h2 : k < 54
    · simp [h2, hk, up1]
    · simp [h2]
  · rw [if_neg h]
    by_cases h2 : j < 54
    · simp [h2, up1, Ne.symm h]
    · simp [h2]
theorem fP_I {ad : Nat → Nat} {L : Nat → Bool} {N : Nat → Nat} {I : Nat → Int32} {x : Int32} : (fP ad L N I).set 35 (.int x) = fP ad L N (up1 I 35 x) := by
  apply List.ext_getElem?
  intro j
  unfold fP
  rw [List.getElem?_set]
  by_cases h : 35 = j
  · subst h
    simp [isA, lenM, up1]
  · rw [if_neg h]
    by_cases h2 : j < 54
    · simp [h2, up1, Ne.symm h]
    · simp [h2]
theorem fP_N {ad : Nat → Nat} {L : Nat → Bool} {N : Nat → Nat} {I : Nat → Int32} {x : Nat} : (fP ad L N I).set 43 (.int (nI x)) = fP ad L (up1 N 43 x) I := by
  apply List.ext_getElem?
  intro j
  unfold fP
  rw [List.getElem?_set]
  by_cases h : 43 = j
  · subst h
    simp [isA, lenM, up1]
  · rw [if_neg h]
    by_cases h2 : j < 54
    · simp [h2, up1, Ne.symm h]
    · simp [h2]
def RMp (D : va_G) (dA : Nat → ClassId) (a0 : Nat) (ad : Nat → Nat) (L : Nat → Bool) (N : Nat → Nat) (I : Nat → Int32) (z : Nat) (H : Heap) : Prop :=
  va_at D CL (a0, .inr (0, fP ad L N I)) H ∧ (∀ k, L k = true → va_at D CL (ad k, .inl (dA (tyM k), lenM k, .inl (fnM G00 J00 k))) H ∧ z ≤ ad k) ∧ (∀ k k', L k = true → L k' = true → ad k = ad k' → k = k') ∧ a0 < z
section MKW
variable {p : Program} {lh : Launch} {e : Env} {R : Room} {s : State} {m : MethodId} {args : Array Value} {below : List Frame} {meth : Method} {c : Code} {H : Heap} {locs : List Loc} {cells slots : Nat} {Q : State → Prop}
variable {cc : ByteArray} {pc : Nat} {ls : Array Slot} {rest : List Value} {A : Nat → Prop}
variable {D : va_G} {dA : Nat → ClassId} {a0 : Nat} {ad : Nat → Nat} {L : Nat → Bool} {N : Nat → Nat} {I : Nat → Int32}
/-- an array that stands is laid into its final field -/
theorem M_lay (hx : p.tables.exec = Jvm.exec) (hb : c.code = cc) (hts : ∀ w ∈ lw_all, w.before args s = true) (hown : s.vm.findClass RX2 = some m.cls) (hG : GK D dA s) (hS : va_S A s.heap H locs) (hAo : A a0) (hin : meth.name = "<init>") (hP : RMp D dA a0 ad L N I s.heap.size H) (k : Nat) (hk : k < 54) (hA : isA k = true) (hL : L k = false) {idx : Nat} (hl : Cond.fieldLink RX2 idx RX2 (TX2 k).2.1 (TX2 k).2.2.1 ∈ lw_all) (hself : (TX2 k).1 = RX2) (hfin : (TX2 k).2.2.2 = true) {q : Nat} (hq : s.heap.size ≤ q) (hqn : ∀ j, L j = true → ad j ≠ q) (hX : va_at D CL (q, .inl (dA (tyM k), lenM k, .inl (fnM G00 J00 k))) H) (hn : narrow (tyX2 k) (.ref q) = .ref q) (hfit : fits (tyX2 k) (.ref q) = true) (hdg : decode cc pc = .ok (.putfield idx, 3))
    (kk : ∀ (ad1 : Nat → Nat) (H1 : Heap) (locs1 : List Loc), RMp D dA a0 ad1 (up1 L k true) N I s.heap.size H1 → va_S A s.heap H1 locs1 → W p lh e R s m args below meth c H1 locs1 cells slots Q (F0 m (pc + 3) ls rest)) : W p lh e R s m args below meth c H locs cells slots Q (F0 m pc ls (.ref q :: .ref a0 :: rest)) := by
  refine ko_putF (C := RX2) (T := TX2) (N := 54) (ci := 0) hx hb hts in_X2 tyX2 tyX2_ok nmX2 hown hG.1 hS hAo hP.1 rfl k hk hl (fun _ h => by rw [hself] at h; exact h) hfin hin hself hn hfit (by unfold fP; simpa using hk) hdg (fun H1 locs1 e1 z1 o1 hS1 => ?_)
  have hlt := hP.2.2.2
  refine kk (up1 ad k q) H1 locs1 ⟨by rw [← fP_set hA]; exact e1, fun j hj => ?_, fun j j' hj hj' hh => ?_, hlt⟩ hS1
  · by_cases h : j = k
    · subst h
      rw [show up1 ad j q j = q by simp [up1]]
      exact ⟨hX.kept (o1 q (by omega)), hq⟩
    · rw [show up1 ad k q j = ad j by simp [up1, h]]
      have hj2 : L j = true := by simpa [up1, h] using hj
      have := hP.2.1 j hj2
      exact ⟨this.1.kept (o1 _ (by omega)), this.2⟩
  · by_cases h : j = k
    · by_cases h' : j' = k
      · rw [h, h']
      · have hj2 : L j' = true := by simpa [up1, h'] using hj'
        simp [up1, h, h'] at hh
        exact absurd hh.symm (hqn j' hj2)
    · have hj2 : L j = true := by simpa [up1, h] using hj
      by_cases h' : j' = k
      · simp [up1, h, h'] at hh
        exact absurd hh (hqn j hj2)
      · have hj3 : L j' = true := by simpa [up1, h'] using hj'
        simp [up1, h, h'] at hh
        exact hP.2.2.1 j j' hj2 hj3 hh
/-- an array is made -/
theorem M_na (hx : p.tables.exec = Jvm.exec) (hb : c.code = cc) (hG : GK D dA s) (hS : va_S A s.heap H locs) (hP : RMp D dA a0 ad L N I s.heap.size H) {atype : ArrayType} (harr : (Cond.arrayClass (newarray.typeOf atype)).before args s = true) (hd : defaultValue (newarray.typeOf atype) = .int 0) (t : Nat) (ht : va_RA s (dA t) (newarray.typeOf atype) = (s.vm.findClass ("[" ++ (newarray.typeOf atype).toString) = some (dA t))) (htt : (tysG dA)[t]? = some (dA t, newarray.typeOf atype)) {n : Nat} (hn : n < 2 ^ 31) (hbytes : n * componentBytes (newarray.typeOf atype) ≤ 536870912) (hcells : cells + 1 ≤ R.cells) (hslots : slots + n ≤ R.slots) (hdg : decode cc pc = .ok (.newarray atype, 2))
    (kk : ∀ (q : Nat) (H1 : Heap), RMp D dA a0 ad L N I s.heap.size H1 → va_at D CL (q, .inl (dA t, n, .inl (fun _ => 0))) H1 → s.heap.size ≤ q → (∀ j, L j = true → ad j ≠ q) → va_S A s.heap H1 locs → W p lh e R s m args below meth c H1 locs (cells + 1) (slots + n) Q (F0 m (pc + 2) ls (.ref q :: rest))) : W p lh e R s m args below meth c H locs cells slots Q (F0 m pc ls (.int (nI n) :: rest)) := by
  refine ka_newi (D := D) (cl := CL) (cA0 := dA t) hx hb hS harr hd hdg (by rw [← ht]; exact (hG.arr t htt).2) hn hbytes hcells hslots (fun H1 e1 _ o1 hS1 => ?_)
  refine kk H.size H1 ⟨hP.1.kept (o1 _ (va_at_lt hP.1)), fun j hj => ⟨(hP.2.1 j hj).1.kept (o1 _ (va_at_lt (hP.2.1 j hj).1)), (hP.2.1 j hj).2⟩, hP.2.2⟩ e1 hS.1 (fun j hj h => ?_) hS1
  have := va_at_lt (hP.2.1 j hj).1
  omega
/-- both, for an array of zeros -/
theorem M_mk (hx : p.tables.exec = Jvm.exec) (hb : c.code = cc) (hts : ∀ w ∈ lw_all, w.before args s = true) (hown : s.vm.findClass RX2 = some m.cls) (hG : GK D dA s) (hS : va_S A s.heap H locs) (hAo : A a0) (hin : meth.name = "<init>") (hP : RMp D dA a0 ad L N I s.heap.size H) (k : Nat) (hk : k < 54) (hA : isA k = true) (hL : L k = false) (h18 : k ≠ 18) {idx : Nat} (hl : Cond.fieldLink RX2 idx RX2 (TX2 k).2.1 (TX2 k).2.2.1 ∈ lw_all) (hself : (TX2 k).1 = RX2) (hfin : (TX2 k).2.2.2 = true) (hnf : ∀ q, narrow (tyX2 k) (.ref q) = .ref q ∧ fits (tyX2 k) (.ref q) = true)
    {atype : ArrayType} (harr : (Cond.arrayClass (newarray.typeOf atype)).before args s = true) (hd : defaultValue (newarray.typeOf atype) = .int 0) (ht : va_RA s (dA (tyM k)) (newarray.typeOf atype) = (s.vm.findClass ("[" ++ (newarray.typeOf atype).toString) = some (dA (tyM k)))) (htt : (tysG dA)[tyM k]? = some (dA (tyM k), newarray.typeOf atype)) {n : Nat} (hnl : n = lenM k) (hbytes : n * componentBytes (newarray.typeOf atype) ≤ 536870912) (hcells : cells + 1 ≤ R.cells) (hslots : slots + n ≤ R.slots) (hdn : decode cc pc = .ok (.newarray atype, 2)) (hdg : decode cc (pc + 2) = .ok (.putfield idx, 3))
    (kk : ∀ (ad1 : Nat → Nat) (H1 : Heap) (locs1 : List Loc), RMp D dA a0 ad1 (up1 L k true) N I s.heap.size H1 → va_S A s.heap H1 locs1 → W p lh e R s m args below meth c H1 locs1 (cells + 1) (slots + n) Q (F0 m (pc + 2 + 3) ls rest)) : W p lh e R s m args below meth c H locs cells slots Q (F0 m pc ls (.int (nI n) :: .ref a0 :: rest)) := by
  subst hnl
  refine M_na hx hb hG hS hP harr hd (tyM k) ht htt (lenM_lt k) hbytes hcells hslots hdn (fun q H1 hP1 hX hq hqn hS1 => ?_)
  exact M_lay hx hb hts hown hG hS1 hAo hin hP1 k hk hA hL hl hself hfin hq hqn (by rw [fn00 h18]; exact hX) (hnf q).1 (hnf q).2 hdg kk
theorem M_pi (hx : p.tables.exec = Jvm.exec) (hb : c.code = cc) (hts : ∀ w ∈ lw_all, w.before args s = true) (hown : s.vm.findClass RX2 = some m.cls) (hG : GK D dA s) (hS : va_S A s.heap H locs) (hAo : A a0) (hP : RMp D dA a0 ad L N I s.heap.size H) (k : Nat) (hk : k < 54) {idx : Nat} (hl : Cond.fieldLink RX2 idx RX2 (TX2 k).2.1 (TX2 k).2.2.1 ∈ lw_all) (hself : (TX2 k).1 = RX2) (hfin : (TX2 k).2.2.2 = false) (hty : tyX2 k = .int) (N' : Nat → Nat) (I' : Nat → Int32) {x : Int32} (hf : (fP ad L N I).set k (.int x) = fP ad L N' I') (hdg : decode cc pc = .ok (.putfield idx, 3))
    (kk : ∀ (H1 : Heap) (locs1 : List Loc), RMp D dA a0 ad L N' I' s.heap.size H1 → va_S A s.heap H1 locs1 → W p lh e R s m args below meth c H1 locs1 cells slots Q (F0 m (pc + 3) ls rest)) : W p lh e R s m args below meth c H locs cells slots Q (F0 m pc ls (.int x :: .ref a0 :: rest)) := by
  refine ko_put (C := RX2) (T := TX2) (N := 54) (ci := 0) hx hb hts in_X2 tyX2 tyX2_ok nmX2 hown hG.1 hS hAo hP.1 rfl k hk hl (fun _ h => by rw [hself] at h; exact h) hfin (by rw [hty]; rfl) (by rw [hty]; rfl) (by unfold fP; simpa using hk) hdg (fun H1 locs1 e1 z1 o1 hS1 => ?_)
  have hlt := hP.2.2.2
  refine kk H1 locs1 ⟨by rw [← hf]; exact e1, fun j hj => ?_, hP.2.2⟩ hS1
  have := hP.2.1 j hj
  exact ⟨this.1.kept (o1 _ (by omega)), this.2⟩
end MKW
