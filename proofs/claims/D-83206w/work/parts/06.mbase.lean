/-! THE WORLDS: class list, tables, the reference's world -/
set_option maxRecDepth 100000
/-- all classes of which objects are held -/
def CL : List vw_C := [(RX2, TX2, 54), (RX1, TX1, 28), (RX4, TX4, 11), (RX18, TX18, 1), (RX5, TX5, 3), (RX6, TX6, 2), (RX7, TX7, 7), (RX8, TX8, 8), (RX9, TX9, 3), (RX11, TX11, 1), (RX12, TX12, 1), (RX13, TX13, 1), (RX15, TX15, 1), (RX16, TX16, 1), (RX17, TX17, 2), (RJ2, TJ2, 3), (RJ3, TJ3, 4), (RJ16, TJ16, 4), (RJ14, TJ14, 6)]
def tysG (dA : Nat → ClassId) : List (ClassId × FieldType) := [(dA 0, .int), (dA 1, .byte), (dA 2, .boolean), (dA 3, .long), (dA 4, .object "java/lang/Object"), (dA 5, .array .byte)]
/-- words of the tables that aren't in lw_all and that some methods need -/
def nwOk : Cond → Bool
  | .fieldLinkNest _ _ _ _ _ _ => true
  | .methodLinkNest _ _ _ _ => true
  | .castable _ _ => true
  | .declares _ => true
  | _ => false
def NW (U : State) : Prop := (∀ w ∈ lw_tbl, nwOk w = true → va_Nw w U) ∧ va_AO "java/lang/Object" U ∧ va_Fw "PickleHouse$Compared" ⟨"PickleHouse$Asked", "holds", "(LPickleHouse;LPickleHouse$Crock;)Z"⟩ ⟨"PickleHouse$Compared", "holds", "(LPickleHouse;LPickleHouse$Crock;)Z"⟩ U
theorem NW.warm {s U : State} (hW : s.WarmedH U.vm) (h : NW s) : NW U := by
  refine ⟨fun w hw hk => ?_, h.2.1.moved hW.alike, h.2.2.moved (by decide) hW.alike⟩
  have h1 := h.1 w hw hk
  cases w <;> first | (exact absurd hk Bool.false_ne_true) | exact va_Nw.warmF hW h1 | exact va_Nw.warmM hW h1 | exact va_Nw.warmC hW h1 | exact va_Nw.warmD hW h1
theorem NW.same {s U : State} (hv : s.vm = U.vm) (h : NW s) : NW U := by
  refine ⟨fun w hw hk => ?_, h.2.1.moved (by rw [hv]; exact Vm.Alike.refl _), h.2.2.moved (by decide) (by rw [hv]; exact Vm.Alike.refl _)⟩
  have h1 := h.1 w hw hk
  exact va_Nw.same (by cases w <;> first | (exact absurd hk Bool.false_ne_true) | rfl) hv h1
/-- what is known of the tables, all through -/
def GK (D : va_G) (dA : Nat → ClassId) (U : State) : Prop := va_K D CL (tysG dA) U ∧ NW U
theorem GK.warm {D : va_G} {dA : Nat → ClassId} {s U : State} (hW : s.WarmedH U.vm) (h : GK D dA s) : GK D dA U := ⟨va_K.moved hW.alike h.1, h.2.warm hW⟩
theorem GK.same {D : va_G} {dA : Nat → ClassId} {s U : State} (hv : s.vm = U.vm) (h : GK D dA s) : GK D dA U := ⟨va_K.moved (by rw [hv]; exact Vm.Alike.refl _) h.1, h.2.same hv⟩
theorem GK.arr {D : va_G} {dA : Nat → ClassId} {s : State} (h : GK D dA s) (k : Nat) {ty : FieldType} {cA : ClassId} (ht : (tysG dA)[k]? = some (cA, ty)) : ArrOfT s cA ty ∧ va_RA s cA ty := h.1.2 k _ ht
def lenM : Nat → Nat := fun k => match k with | 2 => 20 | 4 => 200 | 5 => 10 | 6 => 10 | 7 => 10 | 8 => 10 | 9 => 10 | 10 => 10 | 11 => 10 | 12 => 6000 | 13 => 10 | 16 => 1800 | 17 => 1800 | 18 => 24 | 20 => 100 | 21 => 100 | 22 => 100 | 24 => 10 | 25 => 11 | 26 => 110 | 27 => 110 | 28 => 110 | 29 => 330 | 30 => 330 | 31 => 330 | 32 => 300 | 41 => 1200 | 45 => 6 | 46 => 6 | 47 => 6 | 48 => 6 | 49 => 60 | 50 => 6 | 51 => 6 | _ => 0
def isA (k : Nat) : Bool := decide (0 < lenM k)
def tyM : Nat → Nat := fun k => match k with | 12 => 1 | 16 => 1 | 32 => 1 | 17 => 2 | 49 => 2 | _ => 0
def isJ : Nat → Bool := fun k => match k with | 10 => true | 11 => true | 13 => true | 16 => true | 32 => true | 50 => true | 51 => true | _ => false
def fnM (G : Nat → Nat → Nat) (J : Nat → Nat → Int32) (k : Nat) : Nat → Int32 := if isJ k = true then J k else fun j => nI (G k j)
theorem lenM_lt (k : Nat) : lenM k < 2 ^ 31 := by unfold lenM; split <;> decide
def fM (ad : Nat → Nat) (N : Nat → Nat) (I : Nat → Int32) : List Value := [.int (nI (N 0)), .int (nI (N 1)), .ref (ad 2), .int (nI (N 3)), .ref (ad 4), .ref (ad 5), .ref (ad 6), .ref (ad 7), .ref (ad 8), .ref (ad 9), .ref (ad 10), .ref (ad 11), .ref (ad 12), .ref (ad 13), .int (nI (N 14)), .int (nI (N 15)), .ref (ad 16), .ref (ad 17), .ref (ad 18), .int (nI (N 19)), .ref (ad 20), .ref (ad 21), .ref (ad 22), .int (nI (N 23)), .ref (ad 24), .ref (ad 25), .ref (ad 26), .ref (ad 27), .ref (ad 28), .ref (ad 29), .ref (ad 30), .ref (ad 31), .ref (ad 32), .int (nI (N 33)), .int (nI (N 34)), .int (I 35), .int (nI (N 36)), .int (nI (N 37)), .int (nI (N 38)), .int (nI (N 39)), .int (nI (N 40)), .ref (ad 41), .int (nI (N 42)), .int (nI (N 43)), .int (nI (N 44)), .ref (ad 45), .ref (ad 46), .ref (ad 47), .ref (ad 48), .ref (ad 49), .ref (ad 50), .ref (ad 51), .int (I 52), .int (I 53)]
/-- the reference's cells: the object at a0, its arrays at ad k (k: the field's number) -/
def RM (D : va_G) (dA : Nat → ClassId) (a0 : Nat) (ad : Nat → Nat) (N : Nat → Nat) (I : Nat → Int32) (G : Nat → Nat → Nat) (J : Nat → Nat → Int32) (H : Heap) : Prop :=
  va_at D CL (a0, .inr (0, fM ad N I)) H ∧ (∀ k, isA k = true → va_at D CL (ad k, .inl (dA (tyM k), lenM k, .inl (fnM G J k))) H) ∧ (∀ k, isA k = true → ad k ≠ a0) ∧ ∀ k k', isA k = true → isA k' = true → ad k = ad k' → k = k'
/-- the reference's own addresses, and new ones -/
def AM (a0 : Nat) (ad : Nat → Nat) (sz : Nat) : Nat → Prop := fun q => q = a0 ∨ (∃ k, isA k = true ∧ q = ad k) ∨ sz ≤ q
theorem AM.o {a0 : Nat} {ad : Nat → Nat} {sz : Nat} : AM a0 ad sz a0 := Or.inl rfl
theorem AM.a {a0 : Nat} {ad : Nat → Nat} {sz : Nat} (k : Nat) (h : isA k = true) : AM a0 ad sz (ad k) := Or.inr (Or.inl ⟨k, h, rfl⟩)
theorem AM.n {a0 : Nat} {ad : Nat → Nat} {sz : Nat} : ∀ q, sz ≤ q → AM a0 ad sz q := fun _ h => Or.inr (Or.inr h)
theorem AM.up {a0 : Nat} {ad : Nat → Nat} {sz sz' : Nat} (h : sz ≤ sz') : ∀ q, AM a0 ad sz' q → AM a0 ad sz q := by
  intro q hq
  rcases hq with h1 | h1 | h1
  · exact Or.inl h1
  · exact Or.inr (Or.inl h1)
  · exact Or.inr (Or.inr (Nat.le_trans h h1))
section RMS
variable {D : va_G} {dA : Nat → ClassId} {a0 : Nat} {ad : Nat → Nat} {N : Nat → Nat} {I : Nat → Int32} {G : Nat → Nat → Nat} {J : Nat → Nat → Int32} {H H1 : Heap}
theorem fnM_G {k i v : Nat} (hJ : isJ k = false) : fnM (up2 G k i v) J k = upd (fnM G J k) i (nI v) := by
  funext j
  by_cases hj : j = i <;> simp [fnM, hJ, up2, upd, hj]
theorem fnM_G' {k k' i v : Nat} (h : k' ≠ k) : fnM (up2 G k i v) J k' = fnM G J k' := by
  funext j
  by_cases hJ : isJ k' = true <;> simp [fnM, hJ, up2, h]
theorem fnM_J {k i : Nat} {v : Int32} (hJ : isJ k = true) : fnM G (up2 J k i v) k = upd (fnM G J k) i v := by
  funext j
  by_cases hj : j = i <;> simp [fnM, hJ, up2, upd, hj]
theorem fnM_J' {k k' i : Nat} {v : Int32} (h : k' ≠ k) : fnM G (up2 J k i v) k' = fnM G J k' := by
  funext j
  by_cases hJ : isJ k' = true <;> simp [fnM, hJ, up2, h]
theorem RM.kept (hM : RM D dA a0 ad N I G J H) (h0 : H1[a0]? = H[a0]?) (hk : ∀ k, isA k = true → H1[ad k]? = H[ad k]?) : RM D dA a0 ad N I G J H1 :=
  ⟨hM.1.kept h0, fun k h => (hM.2.1 k h).kept (hk k h), hM.2.2⟩
theorem RM.setG (hM : RM D dA a0 ad N I G J H) (k : Nat) (hA : isA k = true) (hJ : isJ k = false) {i v : Nat} (e1 : va_at D CL (ad k, .inl (dA (tyM k), lenM k, .inl (upd (fnM G J k) i (nI v)))) H1) (o1 : ∀ q : Nat, q ≠ ad k → H1[q]? = H[q]?) : RM D dA a0 ad N I (up2 G k i v) J H1 := by
  refine ⟨hM.1.kept (o1 a0 (fun h => hM.2.2.1 k hA h.symm)), fun k' h' => ?_, hM.2.2⟩
  by_cases hk : k' = k
  · subst hk
    rw [fnM_G hJ]
    exact e1
  · rw [fnM_G' hk]
    exact (hM.2.1 k' h').kept (o1 _ (fun h => hk (hM.2.2.2 k' k h' hA h)))
theorem RM.setJ (hM : RM D dA a0 ad N I G J H) (k : Nat) (hA : isA k = true) (hJ : isJ k = true) {i : Nat} {v : Int32} (e1 : va_at D CL (ad k, .inl (dA (tyM k), lenM k, .inl (upd (fnM G J k) i v))) H1) (o1 : ∀ q : Nat, q ≠ ad k → H1[q]? = H[q]?) : RM D dA a0 ad N I G (up2 J k i v) H1 := by
  refine ⟨hM.1.kept (o1 a0 (fun h => hM.2.2.1 k hA h.symm)), fun k' h' => ?_, hM.2.2⟩
  by_cases hk : k' = k
  · subst hk
    rw [fnM_J hJ]
    exact e1
  · rw [fnM_J' hk]
    exact (hM.2.1 k' h').kept (o1 _ (fun h => hk (hM.2.2.2 k' k h' hA h)))
theorem RM.setO {N' : Nat → Nat} {I' : Nat → Int32} (hM : RM D dA a0 ad N I G J H) {fs : List Value} (e1 : va_at D CL (a0, .inr (0, fs)) H1) (hf : fs = fM ad N' I') (o1 : ∀ q : Nat, q ≠ a0 → H1[q]? = H[q]?) : RM D dA a0 ad N' I' G J H1 := by
  subst hf
  exact ⟨e1, fun k' h' => (hM.2.1 k' h').kept (o1 _ (hM.2.2.1 k' h')), hM.2.2⟩
end RMS
section RMW
variable {p : Program} {lh : Launch} {e : Env} {R : Room} {s : State} {m : MethodId} {args : Array Value} {below : List Frame} {meth : Method} {c : Code} {H : Heap} {locs : List Loc} {cells slots : Nat} {Q : State → Prop}
variable {cc : ByteArray} {pc : Nat} {ls : Array Slot} {rest : List Value} {A : Nat → Prop} {H0 : Heap}
variable {D : va_G} {dA : Nat → ClassId} {a0 : Nat} {ad : Nat → Nat} {N : Nat → Nat} {I : Nat → Int32} {G : Nat → Nat → Nat} {J : Nat → Nat → Int32}
theorem M_get (hx : p.tables.exec = Jvm.exec) (hb : c.code = cc) (hts : ∀ w ∈ lw_all, w.before args s = true) (hown : s.vm.findClass RX2 = some m.cls) (hG : GK D dA s) (hM : RM D dA a0 ad N I G J H) (k : Nat) (hk : k < 54) {idx : Nat} (hl : Cond.fieldLink RX2 idx RX2 (TX2 k).2.1 (TX2 k).2.2.1 ∈ lw_all) (hself : (TX2 k).1 = RX2) {v : Value} (hv : (fM ad N I)[k]? = some v) (hdg : decode cc pc = .ok (.getfield idx, 3))
    (kk : W p lh e R s m args below meth c H locs cells slots Q (F0 m (pc + 3) ls (v :: rest))) : W p lh e R s m args below meth c H locs cells slots Q (F0 m pc ls (.ref a0 :: rest)) :=
  ko_get (C := RX2) (T := TX2) (N := 54) (ci := 0) hx hb hts in_X2 hown hG.1 hM.1 rfl k hk hl (fun _ h => by rw [hself] at h; exact h) hv hdg kk
theorem M_iald (hx : p.tables.exec = Jvm.exec) (hb : c.code = cc) (hG : GK D dA s) (hM : RM D dA a0 ad N I G J H) (k : Nat) (hA : isA k = true) (ht : tyM k = 0) {i : Nat} {v : Int32} (hi : i < lenM k) (hv : fnM G J k i = v) (hdg : decode cc pc = .ok (.iaload, 1))
    (kk : W p lh e R s m args below meth c H locs cells slots Q (F0 m (pc + 1) ls (.int v :: rest))) : W p lh e R s m args below meth c H locs cells slots Q (F0 m pc ls (.int (nI i) :: .ref (ad k) :: rest)) :=
  ka_iald hx hb hG.1 (hM.2.1 k hA) 0 (by rw [ht]; rfl) hi (lenM_lt k) hv hdg kk
theorem M_bald (hx : p.tables.exec = Jvm.exec) (hb : c.code = cc) (hG : GK D dA s) (hM : RM D dA a0 ad N I G J H) (k : Nat) (hA : isA k = true) (ht : tyM k = 1) {i : Nat} {v : Int32} (hi : i < lenM k) (hv : fnM G J k i = v) (hdg : decode cc pc = .ok (.baload, 1))
    (kk : W p lh e R s m args below meth c H locs cells slots Q (F0 m (pc + 1) ls (.int v :: rest))) : W p lh e R s m args below meth c H locs cells slots Q (F0 m pc ls (.int (nI i) :: .ref (ad k) :: rest)) :=
  ka_bald hx hb hG.1 (hM.2.1 k hA) 1 (by rw [ht]; rfl) hi (lenM_lt k) hv hdg kk
theorem M_zald (hx : p.tables.exec = Jvm.exec) (hb : c.code = cc) (hG : GK D dA s) (hM : RM D dA a0 ad N I G J H) (k : Nat) (hA : isA k = true) (ht : tyM k = 2) {i : Nat} {v : Int32} (hi : i < lenM k) (hv : fnM G J k i = v) (hdg : decode cc pc = .ok (.baload, 1))
    (kk : W p lh e R s m args below meth c H locs cells slots Q (F0 m (pc + 1) ls (.int v :: rest))) : W p lh e R s m args below meth c H locs cells slots Q (F0 m pc ls (.int (nI i) :: .ref (ad k) :: rest)) :=
  ka_zald hx hb hG.1 (hM.2.1 k hA) 2 (by rw [ht]; rfl) hi (lenM_lt k) hv hdg kk
theorem M_put (hx : p.tables.exec = Jvm.exec) (hb : c.code = cc) (hts : ∀ w ∈ lw_all, w.before args s = true) (hown : s.vm.findClass RX2 = some m.cls) (hG : GK D dA s) (hS : va_S A H0 H locs) (hA : A a0) (hM : RM D dA a0 ad N I G J H) (k : Nat) (hk : k < 54) {idx : Nat} (hl : Cond.fieldLink RX2 idx RX2 (TX2 k).2.1 (TX2 k).2.2.1 ∈ lw_all) (hself : (TX2 k).1 = RX2) (hfin : (TX2 k).2.2.2 = false) (hty : tyX2 k = .int) (N' : Nat → Nat) (I' : Nat → Int32) {x : Int32} (hf : (fM ad N I).set k (.int x) = fM ad N' I') (hdg : decode cc pc = .ok (.putfield idx, 3))
    (kk : ∀ (H1 : Heap) (locs1 : List Loc), RM D dA a0 ad N' I' G J H1 → (H1.size = H.size ∧ ∀ q : Nat, q ≠ a0 → H1[q]? = H[q]?) → va_S A H0 H1 locs1 → W p lh e R s m args below meth c H1 locs1 cells slots Q (F0 m (pc + 3) ls rest)) : W p lh e R s m args below meth c H locs cells slots Q (F0 m pc ls (.int x :: .ref a0 :: rest)) :=
  ko_put (C := RX2) (T := TX2) (N := 54) (ci := 0) hx hb hts in_X2 tyX2 tyX2_ok nmX2 hown hG.1 hS hA hM.1 rfl k hk hl (fun _ h => by rw [hself] at h; exact h) hfin (by rw [hty]; rfl) (by rw [hty]; rfl) hk hdg (fun H1 locs1 e1 z1 o1 hS1 => kk H1 locs1 (hM.setO e1 hf o1) ⟨z1, o1⟩ hS1)
theorem M_iastN (hx : p.tables.exec = Jvm.exec) (hb : c.code = cc) (hG : GK D dA s) (hS : va_S A H0 H locs) (hM : RM D dA a0 ad N I G J H) (k : Nat) (hA : isA k = true) (hAA : A (ad k)) (ht : tyM k = 0) (hJ : isJ k = false) {i v : Nat} (hi : i < lenM k) (hdg : decode cc pc = .ok (.iastore, 1))
    (kk : ∀ (H1 : Heap) (locs1 : List Loc), RM D dA a0 ad N I (up2 G k i v) J H1 → (H1.size = H.size ∧ ∀ q : Nat, q ≠ ad k → H1[q]? = H[q]?) → va_S A H0 H1 locs1 → W p lh e R s m args below meth c H1 locs1 cells slots Q (F0 m (pc + 1) ls rest)) : W p lh e R s m args below meth c H locs cells slots Q (F0 m pc ls (.int (nI v) :: .int (nI i) :: .ref (ad k) :: rest)) :=
  ka_iast hx hb hG.1 hS hAA (hM.2.1 k hA) 0 (by rw [ht]; rfl) hi (lenM_lt k) hdg (fun H1 locs1 e1 z1 o1 hS1 => kk H1 locs1 (hM.setG k hA hJ e1 o1) ⟨z1, o1⟩ hS1)
theorem M_iastJ (hx : p.tables.exec = Jvm.exec) (hb : c.code = cc) (hG : GK D dA s) (hS : va_S A H0 H locs) (hM : RM D dA a0 ad N I G J H) (k : Nat) (hA : isA k = true) (hAA : A (ad k)) (ht : tyM k = 0) (hJ : isJ k = true) {i : Nat} {v : Int32} (hi : i < lenM k) (hdg : decode cc pc = .ok (.iastore, 1))
    (kk : ∀ (H1 : Heap) (locs1 : List Loc), RM D dA a0 ad N I G (up2 J k i v) H1 → (H1.size = H.size ∧ ∀ q : Nat, q ≠ ad k → H1[q]? = H[q]?) → va_S A H0 H1 locs1 → W p lh e R s m args below meth c H1 locs1 cells slots Q (F0 m (pc + 1) ls rest)) : W p lh e R s m args below meth c H locs cells slots Q (F0 m pc ls (.int v :: .int (nI i) :: .ref (ad k) :: rest)) :=
  ka_iast hx hb hG.1 hS hAA (hM.2.1 k hA) 0 (by rw [ht]; rfl) hi (lenM_lt k) hdg (fun H1 locs1 e1 z1 o1 hS1 => kk H1 locs1 (hM.setJ k hA hJ e1 o1) ⟨z1, o1⟩ hS1)
theorem M_bastN (hx : p.tables.exec = Jvm.exec) (hb : c.code = cc) (hG : GK D dA s) (hS : va_S A H0 H locs) (hM : RM D dA a0 ad N I G J H) (k : Nat) (hA : isA k = true) (hAA : A (ad k)) (ht : tyM k = 1) (hJ : isJ k = false) {i v : Nat} {x : Int32} (hi : i < lenM k) (hv : vp_nar .byte x = nI v) (hdg : decode cc pc = .ok (.bastore, 1))
    (kk : ∀ (H1 : Heap) (locs1 : List Loc), RM D dA a0 ad N I (up2 G k i v) J H1 → (H1.size = H.size ∧ ∀ q : Nat, q ≠ ad k → H1[q]? = H[q]?) → va_S A H0 H1 locs1 → W p lh e R s m args below meth c H1 locs1 cells slots Q (F0 m (pc + 1) ls rest)) : W p lh e R s m args below meth c H locs cells slots Q (F0 m pc ls (.int x :: .int (nI i) :: .ref (ad k) :: rest)) :=
  ka_bast hx hb hG.1 hS hAA (hM.2.1 k hA) 1 (by rw [ht]; rfl) hi (lenM_lt k) hdg (fun H1 locs1 e1 z1 o1 hS1 => kk H1 locs1 (hM.setG k hA hJ (by rw [hv] at e1; exact e1) o1) ⟨z1, o1⟩ hS1)
theorem M_bastJ (hx : p.tables.exec = Jvm.exec) (hb : c.code = cc) (hG : GK D dA s) (hS : va_S A H0 H locs) (hM : RM D dA a0 ad N I G J H) (k : Nat) (hA : isA k = true) (hAA : A (ad k)) (ht : tyM k = 1) (hJ : isJ k = true) {i : Nat} {v x : Int32} (hi : i < lenM k) (hv : vp_nar .byte x = v) (hdg : decode cc pc = .ok (.bastore, 1))
    (kk : ∀ (H1 : Heap) (locs1 : List Loc), RM D dA a0 ad N I G (up2 J k i v) H1 → (H1.size = H.size ∧ ∀ q : Nat, q ≠ ad k → H1[q]? = H[q]?) → va_S A H0 H1 locs1 → W p lh e R s m args below meth c H1 locs1 cells slots Q (F0 m (pc + 1) ls rest)) : W p lh e R s m args below meth c H locs cells slots Q (F0 m pc ls (.int x :: .int (nI i) :: .ref (ad k) :: rest)) :=
  ka_bast hx hb hG.1 hS hAA (hM.2.1 k hA) 1 (by rw [ht]; rfl) hi (lenM_lt k) hdg (fun H1 locs1 e1 z1 o1 hS1 => kk H1 locs1 (hM.setJ k hA hJ (by rw [hv] at e1; exact e1) o1) ⟨z1, o1⟩ hS1)
theorem M_zastN (hx : p.tables.exec = Jvm.exec) (hb : c.code = cc) (hG : GK D dA s) (hS : va_S A H0 H locs) (hM : RM D dA a0 ad N I G J H) (k : Nat) (hA : isA k = true) (hAA : A (ad k)) (ht : tyM k = 2) (hJ : isJ k = false) {i v : Nat} {x : Int32} (hi : i < lenM k) (hv : vp_nar .boolean x = nI v) (hdg : decode cc pc = .ok (.bastore, 1))
    (kk : ∀ (H1 : Heap) (locs1 : List Loc), RM D dA a0 ad N I (up2 G k i v) J H1 → (H1.size = H.size ∧ ∀ q : Nat, q ≠ ad k → H1[q]? = H[q]?) → va_S A H0 H1 locs1 → W p lh e R s m args below meth c H1 locs1 cells slots Q (F0 m (pc + 1) ls rest)) : W p lh e R s m args below meth c H locs cells slots Q (F0 m pc ls (.int x :: .int (nI i) :: .ref (ad k) :: rest)) :=
  ka_zast hx hb hG.1 hS hAA (hM.2.1 k hA) 2 (by rw [ht]; rfl) hi (lenM_lt k) hdg (fun H1 locs1 e1 z1 o1 hS1 => kk H1 locs1 (hM.setG k hA hJ (by rw [hv] at e1; exact e1) o1) ⟨z1, o1⟩ hS1)
/-- the model is a fit receiver -/
theorem M_recv (hG : GK D dA s) (hM : RM D dA a0 ad N I G J H) : ∃ cell : Cell, H[a0]? = some cell ∧ cell.vm.isStatics = false ∧ s.vm.findClass RX2 = some cell.cls :=
  va_recv hG.1 (ka_one hM.1) (ci := 0) (q0 := 0) rfl rfl
end RMW
/-- a query's start: the world, the tables -/
abbrev PqM (D : va_G) (dA : Nat → ClassId) (a0 : Nat) (ad : Nat → Nat) (N : Nat → Nat) (I : Nat → Int32) (G : Nat → Nat → Nat) (J : Nat → Nat → Int32) (av : List Value) : Array Value → State → Prop := va_Pc av (fun U => RM D dA a0 ad N I G J U.heap ∧ GK D dA U)
theorem PqM.blind {D : va_G} {dA : Nat → ClassId} {a0 : Nat} {ad : Nat → Nat} {N : Nat → Nat} {I : Nat → Int32} {G : Nat → Nat → Nat} {J : Nat → Nat → Int32} {av : List Value} : FrameBlind (PqM D dA a0 ad N I G J av) := fun _ U g mk h => ⟨h.1, h.2.1, GK.same (s := U) rfl h.2.2⟩
theorem PqM.pre {D : va_G} {dA : Nat → ClassId} {a0 : Nat} {ad : Nat → Nat} {N : Nat → Nat} {I : Nat → Int32} {G : Nat → Nat → Nat} {J : Nat → Nat → Int32} {av : List Value} {s : State} {H : Heap} (hG : GK D dA s) (hM : RM D dA a0 ad N I G J H) : ∀ U : State, U.heap = H → s.WarmedH U.vm → PqM D dA a0 ad N I G J av av.toArray U := fun U hU hW => ⟨rfl, by rw [hU]; exact hM, GK.warm hW hG⟩
