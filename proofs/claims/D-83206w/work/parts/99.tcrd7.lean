set_option maxRecDepth 100000
/-! an act, whichever it is -/
def actS (t : Nat) (b : Nat → Nat) (a : Nat) (x : Nat × Nat × Nat × Nat) : Nat × Nat × Nat × Nat := if a = 5 then nx t b (nx t b x) else nx t b x
def actFs (a l v : Nat) : List Value := if a = 5 then [.ref l, .int (nI v)] else [.ref l]
theorem actFs_0 (a l v : Nat) : (actFs a l v)[0]? = some (.ref l) := by
  unfold actFs
  split <;> rfl
theorem RdOk.actS {t : Nat} {b : Nat → Nat} {a : Nat} {x : Nat × Nat × Nat × Nat} (hb : ∀ k, b k < 256) (h : RdOk t b x) : RdOk t b (actS t b a x) := by
  unfold _root_.Jvm.Pilot.CPickleHouseLaw_law_r7589_95dc97.actS
  split
  · exact (h.nx hb).nx hb
  · exact h.nx hb
/-- the word at hand is a constant -/
def IsK (b : Nat → Nat) (x : Nat × Nat × Nat × Nat) (i : Nat) : Prop := x.1 = 1 ∧ x.2.2.1 - x.2.1 = klen i ∧ ∀ j, j < x.2.2.1 - x.2.1 → b (x.2.1 + j) = kch i j
theorem IsK.eq {b : Nat → Nat} {x : Nat × Nat × Nat × Nat} {i k : Nat} (h : IsK b x i) : (decide (x.2.2.1 - x.2.1 = klen k) && eqT (fun j => b (x.2.1 + j)) 0 (kch k) 0 (x.2.2.1 - x.2.1)) = (decide (klen i = klen k) && eqT (kch i) 0 (kch k) 0 (klen i)) := by
  rw [eqT_cg (b' := kch i) (fr' := 0) _ (fun j hj => by rw [Nat.zero_add]; exact h.2.2 j hj), h.2.1]
/-- a condition can be read -/
def CoOk (t : Nat) (b : Nat → Nat) (x : Nat × Nat × Nat × Nat) : Prop := x.1 = 1 ∧ (ixW 5 b x).isSome = true ∧ ((nx t b x).1 = 3 ∧ 60 ≤ (nx t b x).2.2.2 ∧ (nx t b x).2.2.2 ≤ 62) ∧ (nx t b (nx t b x)).1 = 2
def co3 (t : Nat) (b : Nat → Nat) (x : Nat × Nat × Nat × Nat) : Nat × Nat × Nat × Nat := nx t b (nx t b (nx t b x))
theorem co3_ok {t : Nat} {b : Nat → Nat} {x : Nat × Nat × Nat × Nat} (hb : ∀ k, b k < 256) (h : RdOk t b x) : RdOk t b (co3 t b x) := ((h.nx hb).nx hb).nx hb
section AG
variable {p : Program} {l : Launch} {e : Env} {R : Room} {s : State} {m : MethodId} {args : Array Value} {below : List Frame} {meth : Method} {c : Code} {H : Heap} {locs : List Loc} {cells slots : Nat} {Q : State → Prop}
variable {cc : ByteArray} {pc : Nat} {ls : Array Slot} {rest : List Value} {D : va_G} {dA : Nat → ClassId} {ws : va_W}
theorem Act_get (hx : p.tables.exec = Jvm.exec) (hb : c.code = cc) (hts : ∀ w ∈ lw_all, w.before args s = true) (hown : s.vm.findClass RX7 = some m.cls) (hG : GK D dA s) (hP : va_P D CL ws H) (i : Nat) {q a l0 v : Nat} (ha : a < 6) (he : ws[i]? = some (q, .inr (9 + a, actFs a l0 v))) {index : Nat} (hlink : Cond.fieldLinkNest "PickleHouse$Reader" index "PickleHouse$Act" "asked" "Ljava/util/ArrayList;" "PickleHouse" ∈ lw_tbl) (hdg : decode cc pc = .ok (.getfield index, 3))
    (kk : W p l e R s m args below meth c H locs cells slots Q (F0 m (pc + 3) ls (.ref l0 :: rest))) : W p l e R s m args below meth c H locs cells slots Q (F0 m pc ls (.ref q :: rest)) := by
  have h0 := actFs_0 a l0 v
  match a, ha with
  | 0, _ => exact va_getN (D := D) (ci := 9) (v := .ref l0) (C := RX11) (T := TX11) (N := 1) hx hb hts in_X11 hown hG.1 hP i he rfl 0 (by decide) (va_Nw.use rfl (hG.2.1 _ hlink rfl)) (fun _ h => h) h0 hdg kk
  | 1, _ => exact va_getN (D := D) (ci := 10) (v := .ref l0) (C := RX12) (T := TX12) (N := 1) hx hb hts in_X12 hown hG.1 hP i he rfl 0 (by decide) (va_Nw.use rfl (hG.2.1 _ hlink rfl)) (fun _ h => h) h0 hdg kk
  | 2, _ => exact va_getN (D := D) (ci := 11) (v := .ref l0) (C := RX13) (T := TX13) (N := 1) hx hb hts in_X13 hown hG.1 hP i he rfl 0 (by decide) (va_Nw.use rfl (hG.2.1 _ hlink rfl)) (fun _ h => h) h0 hdg kk
  | 3, _ => exact va_getN (D := D) (ci := 12) (v := .ref l0) (C := RX15) (T := TX15) (N := 1) hx hb hts in_X15 hown hG.1 hP i he rfl 0 (by decide) (va_Nw.use rfl (hG.2.1 _ hlink rfl)) (fun _ h => h) h0 hdg kk
  | 4, _ => exact va_getN (D := D) (ci := 13) (v := .ref l0) (C := RX16) (T := TX16) (N := 1) hx hb hts in_X16 hown hG.1 hP i he rfl 0 (by decide) (va_Nw.use rfl (hG.2.1 _ hlink rfl)) (fun _ h => h) h0 hdg kk
  | 5, _ => exact va_getN (D := D) (ci := 14) (v := .ref l0) (C := RX17) (T := TX17) (N := 2) hx hb hts in_X17 hown hG.1 hP i he rfl 0 (by decide) (va_Nw.use rfl (hG.2.1 _ hlink rfl)) (fun _ h => h) h0 hdg kk
end AG
theorem EL_two {D : va_G} {A : Nat → Prop} {dA : Nat → ClassId} {s : State} {H : Heap} {w0 wr : va_W} {f : Nat → Option Nat} {a b i j : Nat} {va vb : List Value} (hG : GK D dA s) (hP : va_P D CL (w0 ++ wr) H) (hD : va_D A (w0 ++ wr)) (f0 : f 0 = some a) (f1 : f 1 = some b) (hi : wr[i]? = some (a, .inr (8, va))) (hj : wr[j]? = some (b, .inr (8, vb))) : EL (va_A w0 H.size) "PickleHouse$Compared" f 2 s H := by
  intro k hk y e
  have hP2 := va_P.right hP
  match k, hk with
  | 0, _ =>
    cases f0.symm.trans e
    exact ⟨va_recv hG.1 hP2 (ci := 8) (show CL[8]? = some (RX9, TX9, 3) from rfl) hi, va_A_rest hP hD hi⟩
  | 1, _ =>
    cases f1.symm.trans e
    exact ⟨va_recv hG.1 hP2 (ci := 8) (show CL[8]? = some (RX9, TX9, 3) from rfl) hj, va_A_rest hP hD hj⟩
