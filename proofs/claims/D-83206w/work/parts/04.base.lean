/-! BASE ROWS of this claim: numbers as naturals, booleans, single cells -/
set_option maxRecDepth 100000
/-- a boolean as an int -/
def bI (b : Bool) : Int32 := if b then 1 else 0
theorem bI_t : bI true = 1 := rfl
theorem bI_f : bI false = 0 := rfl
theorem bI_0 {b : Bool} : bI b = 0 ↔ b = false := by cases b <;> decide
theorem bI_n0 {b : Bool} : ¬ bI b = 0 ↔ b = true := by cases b <;> decide
theorem bI_1 {b : Bool} : bI b = 1 ↔ b = true := by cases b <;> decide
/-- v lies from lo to hi -/
def wi (v lo hi : Int32) : Bool := !decide (v < lo) && !decide (hi < v)
theorem wi_iff {v lo hi : Int32} : wi v lo hi = true ↔ ¬ v < lo ∧ ¬ hi < v := by
  unfold wi
  by_cases h1 : v < lo <;> by_cases h2 : hi < v <;> simp [h1, h2]
theorem wi_no {v lo hi : Int32} : wi v lo hi = false ↔ v < lo ∨ hi < v := by
  unfold wi
  by_cases h1 : v < lo <;> by_cases h2 : hi < v <;> simp [h1, h2]
theorem toInt_m1 : (-1 : Int32).toInt = -1 := by decide
/-- a number that lies from 0 to n - 1, n a count -/
theorem wi_cnt {v : Int32} {n : Nat} (hn : n < 2 ^ 31) (h : wi v (nI 0) (nI n - nI 1) = true) : ∃ j : Nat, j < n ∧ v = nI j := by
  obtain ⟨h1, h2⟩ := wi_iff.mp h
  obtain ⟨j, hj, rfl⟩ := nI_of (show ¬ v < 0 from h1)
  refine ⟨j, ?_, rfl⟩
  rcases Nat.eq_zero_or_pos n with h0 | h0
  · subst h0
    exact absurd (by rw [Int32.lt_iff_toInt_lt, nI_toInt hj, show (nI 0 - nI 1 : Int32).toInt = -1 by decide]; omega) h2
  · obtain ⟨k, rfl⟩ : ∃ k, n = k + 1 := ⟨n - 1, by omega⟩
    rw [show nI (k + 1) - nI 1 = nI k from nI_pred k] at h2
    rcases Nat.lt_or_ge k j with q | q
    · exact absurd (nI_lt q hj) h2
    · omega
theorem wi_cnt' {j n : Nat} (hn : n < 2 ^ 31) (h : j < n) : wi (nI j) (nI 0) (nI n - nI 1) = true := by
  obtain ⟨k, rfl⟩ : ∃ k, n = k + 1 := ⟨n - 1, by omega⟩
  rw [show nI (k + 1) - nI 1 = nI k from nI_pred k]
  exact wi_iff.mpr ⟨nI_pos (by omega), nI_nlt (by omega) (by omega)⟩
/-- a number that lies from a to b, both naturals -/
theorem wi_nat {v : Int32} {a b : Nat} (ha : a < 2 ^ 31) (hb : b < 2 ^ 31) (h : wi v (nI a) (nI b) = true) : ∃ j : Nat, a ≤ j ∧ j ≤ b ∧ v = nI j := by
  obtain ⟨h1, h2⟩ := wi_iff.mp h
  have h0 : ¬ v < 0 := by
    intro q
    apply h1
    rw [Int32.lt_iff_toInt_lt] at q ⊢
    rw [nI_toInt ha]
    rw [Int32.toInt_zero] at q
    omega
  obtain ⟨j, hj, rfl⟩ := nI_of h0
  refine ⟨j, ?_, ?_, rfl⟩
  · rcases Nat.lt_or_ge j a with q | q
    · exact absurd (nI_lt q ha) h1
    · exact q
  · rcases Nat.lt_or_ge b j with q | q
    · exact absurd (nI_lt q hj) h2
    · exact q
theorem wi_nat' {j a b : Nat} (hj : j < 2 ^ 31) (ha : a < 2 ^ 31) (hb : b < 2 ^ 31) : wi (nI j) (nI a) (nI b) = (decide (a ≤ j) && decide (j ≤ b)) := by
  unfold wi
  have e1 : (nI j < nI a) ↔ j < a := nI_ltI hj ha
  have e2 : (nI b < nI j) ↔ b < j := nI_ltI hb hj
  by_cases h1 : j < a <;> by_cases h2 : b < j <;> simp [e1, e2, h1, h2] <;> omega
theorem nI_eqI {a b : Nat} (ha : a < 2 ^ 31) (hb : b < 2 ^ 31) (h : nI a = nI b) : a = b := (nI_eq ha hb).mp h
/-- two-place updates -/
def up1 {α : Type} (f : Nat → α) (k : Nat) (v : α) : Nat → α := fun j => if j = k then v else f j
def up2 {α : Type} (f : Nat → Nat → α) (k i : Nat) (v : α) : Nat → Nat → α := fun q j => if q = k then (if j = i then v else f q j) else f q j
def sumTo (f : Nat → Nat) : Nat → Nat
  | 0 => 0
  | n + 1 => sumTo f n + f n
section KB
variable {p : Program} {l : Launch} {e : Env} {R : Room} {s : State} {m : MethodId} {args : Array Value} {below : List Frame} {meth : Method} {c : Code} {H : Heap} {locs : List Loc} {cells slots : Nat} {Q : State → Prop}
variable {cc : ByteArray} {pc : Nat} {ls : Array Slot} {rest : List Value}
theorem kx_int {x y : Int32} (h : x = y) (k : W p l e R s m args below meth c H locs cells slots Q (F0 m pc ls (.int y :: rest))) : W p l e R s m args below meth c H locs cells slots Q (F0 m pc ls (.int x :: rest)) := by
  rw [h]; exact k
theorem kx_long {x y : Int64} (h : x = y) (k : W p l e R s m args below meth c H locs cells slots Q (F0 m pc ls (.long y :: rest))) : W p l e R s m args below meth c H locs cells slots Q (F0 m pc ls (.long x :: rest)) := by
  rw [h]; exact k
theorem lv_conv {n : Nat} {lv lv' : List (Nat × Value)} (h : lv_has ls n lv) (e : lv = lv') : lv_has ls n lv' := e ▸ h
theorem kn_add (hx : p.tables.exec = Jvm.exec) (hb : c.code = cc) {a b : Nat} (hdg : decode cc pc = .ok (.iadd, 1)) (k : W p l e R s m args below meth c H locs cells slots Q (F0 m (pc + 1) ls (.int (nI (a + b)) :: rest))) : W p l e R s m args below meth c H locs cells slots Q (F0 m pc ls (.int (nI b) :: .int (nI a) :: rest)) :=
  lv_iadd hx hb hdg (by rw [nI_add]; exact k)
theorem kn_mul (hx : p.tables.exec = Jvm.exec) (hb : c.code = cc) {a b : Nat} (hdg : decode cc pc = .ok (.imul, 1)) (k : W p l e R s m args below meth c H locs cells slots Q (F0 m (pc + 1) ls (.int (nI (a * b)) :: rest))) : W p l e R s m args below meth c H locs cells slots Q (F0 m pc ls (.int (nI b) :: .int (nI a) :: rest)) :=
  lv_imul hx hb hdg (by rw [pk_mul]; exact k)
theorem kn_sub (hx : p.tables.exec = Jvm.exec) (hb : c.code = cc) {a b : Nat} (hdg : decode cc pc = .ok (.isub, 1)) (h : b ≤ a) (k : W p l e R s m args below meth c H locs cells slots Q (F0 m (pc + 1) ls (.int (nI (a - b)) :: rest))) : W p l e R s m args below meth c H locs cells slots Q (F0 m pc ls (.int (nI b) :: .int (nI a) :: rest)) :=
  lv_isub hx hb hdg (by rw [pk_sub h]; exact k)
theorem kn_div (hx : p.tables.exec = Jvm.exec) (hb : c.code = cc) {a b : Nat} (hdg : decode cc pc = .ok (.idiv, 1)) (ha : a < 2 ^ 31) (h0 : 0 < b) (hbb : b < 2 ^ 31) (k : W p l e R s m args below meth c H locs cells slots Q (F0 m (pc + 1) ls (.int (nI (a / b)) :: rest))) : W p l e R s m args below meth c H locs cells slots Q (F0 m pc ls (.int (nI b) :: .int (nI a) :: rest)) :=
  lv_idiv hx hb hdg (nI_ne0 h0 hbb) (by rw [pk_div ha h0 hbb]; exact k)
theorem kn_rem (hx : p.tables.exec = Jvm.exec) (hb : c.code = cc) {a b : Nat} (hdg : decode cc pc = .ok (.irem, 1)) (ha : a < 2 ^ 31) (h0 : 0 < b) (hbb : b < 2 ^ 31) (k : W p l e R s m args below meth c H locs cells slots Q (F0 m (pc + 1) ls (.int (nI (a % b)) :: rest))) : W p l e R s m args below meth c H locs cells slots Q (F0 m pc ls (.int (nI b) :: .int (nI a) :: rest)) :=
  lv_irem hx hb hdg (nI_ne0 h0 hbb) (by rw [pk_rem ha h0 hbb]; exact k)
theorem kn_ceq (hx : p.tables.exec = Jvm.exec) (hb : c.code = cc) {a b : Nat} {off : Int} {tgt : Nat} (hdg : decode cc pc = .ok (.if_icmp .eq off, 3)) (ht : (pc : Int) + off = (tgt : Int)) (ha : a < 2 ^ 31) (hbb : b < 2 ^ 31)
    (kt : a = b → W p l e R s m args below meth c H locs cells slots Q (F0 m tgt ls rest)) (kf : ¬ a = b → W p l e R s m args below meth c H locs cells slots Q (F0 m (pc + 3) ls rest)) : W p l e R s m args below meth c H locs cells slots Q (F0 m pc ls (.int (nI b) :: .int (nI a) :: rest)) :=
  lv_icmp_eq hx hb hdg ht (fun h => kt ((nI_eq ha hbb).mp h)) (fun h => kf (fun q => h ((nI_eq ha hbb).mpr q)))
theorem kn_cne (hx : p.tables.exec = Jvm.exec) (hb : c.code = cc) {a b : Nat} {off : Int} {tgt : Nat} (hdg : decode cc pc = .ok (.if_icmp .ne off, 3)) (ht : (pc : Int) + off = (tgt : Int)) (ha : a < 2 ^ 31) (hbb : b < 2 ^ 31)
    (kt : ¬ a = b → W p l e R s m args below meth c H locs cells slots Q (F0 m tgt ls rest)) (kf : a = b → W p l e R s m args below meth c H locs cells slots Q (F0 m (pc + 3) ls rest)) : W p l e R s m args below meth c H locs cells slots Q (F0 m pc ls (.int (nI b) :: .int (nI a) :: rest)) :=
  lv_icmp_ne hx hb hdg ht (fun h => kt (fun q => h ((nI_eq ha hbb).mpr q))) (fun h => kf ((nI_eq ha hbb).mp h))
theorem kn_clt (hx : p.tables.exec = Jvm.exec) (hb : c.code = cc) {a b : Nat} {off : Int} {tgt : Nat} (hdg : decode cc pc = .ok (.if_icmp .lt off, 3)) (ht : (pc : Int) + off = (tgt : Int)) (ha : a < 2 ^ 31) (hbb : b < 2 ^ 31)
    (kt : a < b → W p l e R s m args below meth c H locs cells slots Q (F0 m tgt ls rest)) (kf : b ≤ a → W p l e R s m args below meth c H locs cells slots Q (F0 m (pc + 3) ls rest)) : W p l e R s m args below meth c H locs cells slots Q (F0 m pc ls (.int (nI b) :: .int (nI a) :: rest)) :=
  lv_icmp_lt hx hb hdg ht (fun h => kt ((nI_ltI ha hbb).mp h)) (fun h => kf (Nat.not_lt.mp (fun q => h ((nI_ltI ha hbb).mpr q))))
theorem kn_cge (hx : p.tables.exec = Jvm.exec) (hb : c.code = cc) {a b : Nat} {off : Int} {tgt : Nat} (hdg : decode cc pc = .ok (.if_icmp .ge off, 3)) (ht : (pc : Int) + off = (tgt : Int)) (ha : a < 2 ^ 31) (hbb : b < 2 ^ 31)
    (kt : b ≤ a → W p l e R s m args below meth c H locs cells slots Q (F0 m tgt ls rest)) (kf : a < b → W p l e R s m args below meth c H locs cells slots Q (F0 m (pc + 3) ls rest)) : W p l e R s m args below meth c H locs cells slots Q (F0 m pc ls (.int (nI b) :: .int (nI a) :: rest)) :=
  lv_icmp_ge hx hb hdg ht (fun h => kt ((nI_leI hbb ha).mp h)) (fun h => kf (Nat.not_le.mp (fun q => h ((nI_leI hbb ha).mpr q))))
theorem kn_cgt (hx : p.tables.exec = Jvm.exec) (hb : c.code = cc) {a b : Nat} {off : Int} {tgt : Nat} (hdg : decode cc pc = .ok (.if_icmp .gt off, 3)) (ht : (pc : Int) + off = (tgt : Int)) (ha : a < 2 ^ 31) (hbb : b < 2 ^ 31)
    (kt : b < a → W p l e R s m args below meth c H locs cells slots Q (F0 m tgt ls rest)) (kf : a ≤ b → W p l e R s m args below meth c H locs cells slots Q (F0 m (pc + 3) ls rest)) : W p l e R s m args below meth c H locs cells slots Q (F0 m pc ls (.int (nI b) :: .int (nI a) :: rest)) :=
  lv_icmp_gt hx hb hdg ht (fun h => kt ((nI_ltI hbb ha).mp h)) (fun h => kf (Nat.not_lt.mp (fun q => h ((nI_ltI hbb ha).mpr q))))
theorem kn_cle (hx : p.tables.exec = Jvm.exec) (hb : c.code = cc) {a b : Nat} {off : Int} {tgt : Nat} (hdg : decode cc pc = .ok (.if_icmp .le off, 3)) (ht : (pc : Int) + off = (tgt : Int)) (ha : a < 2 ^ 31) (hbb : b < 2 ^ 31)
    (kt : a ≤ b → W p l e R s m args below meth c H locs cells slots Q (F0 m tgt ls rest)) (kf : b < a → W p l e R s m args below meth c H locs cells slots Q (F0 m (pc + 3) ls rest)) : W p l e R s m args below meth c H locs cells slots Q (F0 m pc ls (.int (nI b) :: .int (nI a) :: rest)) :=
  lv_icmp_le hx hb hdg ht (fun h => kt ((nI_leI ha hbb).mp h)) (fun h => kf (Nat.not_le.mp (fun q => h ((nI_leI ha hbb).mpr q))))
theorem kn_zeq (hx : p.tables.exec = Jvm.exec) (hb : c.code = cc) {a : Nat} {off : Int} {tgt : Nat} (hdg : decode cc pc = .ok (.ifCond .eq off, 3)) (ht : (pc : Int) + off = (tgt : Int)) (ha : a < 2 ^ 31)
    (kt : a = 0 → W p l e R s m args below meth c H locs cells slots Q (F0 m tgt ls rest)) (kf : ¬ a = 0 → W p l e R s m args below meth c H locs cells slots Q (F0 m (pc + 3) ls rest)) : W p l e R s m args below meth c H locs cells slots Q (F0 m pc ls (.int (nI a) :: rest)) :=
  lv_if_eq hx hb hdg ht (fun h => kt ((nI_eq ha (by decide)).mp (h.trans nI_0.symm))) (fun h => kf (fun q => h (by rw [q]; exact nI_0)))
theorem kn_zne (hx : p.tables.exec = Jvm.exec) (hb : c.code = cc) {a : Nat} {off : Int} {tgt : Nat} (hdg : decode cc pc = .ok (.ifCond .ne off, 3)) (ht : (pc : Int) + off = (tgt : Int)) (ha : a < 2 ^ 31)
    (kt : ¬ a = 0 → W p l e R s m args below meth c H locs cells slots Q (F0 m tgt ls rest)) (kf : a = 0 → W p l e R s m args below meth c H locs cells slots Q (F0 m (pc + 3) ls rest)) : W p l e R s m args below meth c H locs cells slots Q (F0 m pc ls (.int (nI a) :: rest)) :=
  lv_if_ne hx hb hdg ht (fun h => kt (fun q => h (by rw [q]; exact nI_0))) (fun h => kf ((nI_eq ha (by decide)).mp (h.trans nI_0.symm)))
theorem kn_zgt (hx : p.tables.exec = Jvm.exec) (hb : c.code = cc) {a : Nat} {off : Int} {tgt : Nat} (hdg : decode cc pc = .ok (.ifCond .gt off, 3)) (ht : (pc : Int) + off = (tgt : Int)) (ha : a < 2 ^ 31)
    (kt : 0 < a → W p l e R s m args below meth c H locs cells slots Q (F0 m tgt ls rest)) (kf : a = 0 → W p l e R s m args below meth c H locs cells slots Q (F0 m (pc + 3) ls rest)) : W p l e R s m args below meth c H locs cells slots Q (F0 m pc ls (.int (nI a) :: rest)) :=
  lv_if_gt hx hb hdg ht (fun h => kt ((nI_ltI (by decide) ha).mp (show nI 0 < nI a from h))) (fun h => kf (Nat.eq_zero_of_not_pos (fun q => h (show nI 0 < nI a from (nI_ltI (by decide) ha).mpr q))))
theorem kn_zle (hx : p.tables.exec = Jvm.exec) (hb : c.code = cc) {a : Nat} {off : Int} {tgt : Nat} (hdg : decode cc pc = .ok (.ifCond .le off, 3)) (ht : (pc : Int) + off = (tgt : Int)) (ha : a < 2 ^ 31)
    (kt : a = 0 → W p l e R s m args below meth c H locs cells slots Q (F0 m tgt ls rest)) (kf : 0 < a → W p l e R s m args below meth c H locs cells slots Q (F0 m (pc + 3) ls rest)) : W p l e R s m args below meth c H locs cells slots Q (F0 m pc ls (.int (nI a) :: rest)) :=
  lv_if_le hx hb hdg ht (fun h => kt (by have := (nI_leI ha (by decide)).mp (show nI a ≤ nI 0 from h); omega)) (fun h => kf (Nat.pos_of_ne_zero (fun q => h (show nI a ≤ 0 by rw [q]; decide))))
/-- a number that is a natural isn't below zero -/
theorem kn_zlt (hx : p.tables.exec = Jvm.exec) (hb : c.code = cc) {a : Nat} {off : Int} (hdg : decode cc pc = .ok (.ifCond .lt off, 3)) {tgt : Nat} (ht : (pc : Int) + off = (tgt : Int)) (ha : a < 2 ^ 31)
    (kf : W p l e R s m args below meth c H locs cells slots Q (F0 m (pc + 3) ls rest)) : W p l e R s m args below meth c H locs cells slots Q (F0 m pc ls (.int (nI a) :: rest)) :=
  lv_if_lt hx hb hdg ht (fun h => absurd h (nI_pos ha)) (fun _ => kf)
theorem kn_zge (hx : p.tables.exec = Jvm.exec) (hb : c.code = cc) {a : Nat} {off : Int} {tgt : Nat} (hdg : decode cc pc = .ok (.ifCond .ge off, 3)) (ht : (pc : Int) + off = (tgt : Int)) (ha : a < 2 ^ 31)
    (kt : W p l e R s m args below meth c H locs cells slots Q (F0 m tgt ls rest)) : W p l e R s m args below meth c H locs cells slots Q (F0 m pc ls (.int (nI a) :: rest)) :=
  lv_if_ge hx hb hdg ht (fun _ => kt) (fun h => absurd (nI_pos' ha) h)
theorem kb_eq (hx : p.tables.exec = Jvm.exec) (hb : c.code = cc) {b : Bool} {off : Int} {tgt : Nat} (hdg : decode cc pc = .ok (.ifCond .eq off, 3)) (ht : (pc : Int) + off = (tgt : Int))
    (kt : b = false → W p l e R s m args below meth c H locs cells slots Q (F0 m tgt ls rest)) (kf : b = true → W p l e R s m args below meth c H locs cells slots Q (F0 m (pc + 3) ls rest)) : W p l e R s m args below meth c H locs cells slots Q (F0 m pc ls (.int (bI b) :: rest)) :=
  lv_if_eq hx hb hdg ht (fun h => kt (bI_0.mp h)) (fun h => kf (bI_n0.mp h))
theorem kb_ne (hx : p.tables.exec = Jvm.exec) (hb : c.code = cc) {b : Bool} {off : Int} {tgt : Nat} (hdg : decode cc pc = .ok (.ifCond .ne off, 3)) (ht : (pc : Int) + off = (tgt : Int))
    (kt : b = true → W p l e R s m args below meth c H locs cells slots Q (F0 m tgt ls rest)) (kf : b = false → W p l e R s m args below meth c H locs cells slots Q (F0 m (pc + 3) ls rest)) : W p l e R s m args below meth c H locs cells slots Q (F0 m pc ls (.int (bI b) :: rest)) :=
  lv_if_ne hx hb hdg ht (fun h => kt (bI_n0.mp h)) (fun h => kf (bI_0.mp h))
end KB
section KC
variable {p : Program} {l : Launch} {e : Env} {R : Room} {s : State} {m : MethodId} {args : Array Value} {below : List Frame} {meth : Method} {c : Code} {H : Heap} {locs : List Loc} {cells slots : Nat} {Q : State → Prop}
variable {cc : ByteArray} {pc : Nat} {ls : Array Slot} {rest : List Value} {D : va_G} {cl : List vw_C} {A : Nat → Prop} {a : Nat} {tys : List (ClassId × FieldType)} {H0 : Heap}
theorem ka_one {q : Nat × va_E} (h : va_at D cl q H) : va_P D cl [q] H := by
  intro k x hx
  have hz : k < 1 := (List.getElem?_eq_some_iff.mp hx).1
  rw [show k = 0 by omega] at hx
  cases hx
  exact h
theorem ka_get1 {q : Nat × va_E} (h : va_P D cl [q] H) : va_at D cl q H := h 0 q rfl
theorem ka_iald (hx : p.tables.exec = Jvm.exec) (hb : c.code = cc) (hK : va_K D cl tys s) {cA : ClassId} {n : Nat} {f : Nat → Int32} (ha : va_at D cl (a, .inl (cA, n, .inl f)) H) (t0 : Nat) (ht : tys[t0]? = some (cA, .int)) {i : Nat} {v : Int32} (hi : i < n) (hn : n < 2 ^ 31) (hv : f i = v) (hdg : decode cc pc = .ok (.iaload, 1))
    (kk : W p l e R s m args below meth c H locs cells slots Q (F0 m (pc + 1) ls (.int v :: rest))) : W p l e R s m args below meth c H locs cells slots Q (F0 m pc ls (.int (nI i) :: .ref a :: rest)) :=
  va_iald hx hb hK (ka_one ha) 0 t0 rfl ht (vp_in_nI hi hn) hdg (by rw [nI_clamp (by omega), hv]; exact kk)
theorem ka_bald (hx : p.tables.exec = Jvm.exec) (hb : c.code = cc) (hK : va_K D cl tys s) {cA : ClassId} {n : Nat} {f : Nat → Int32} (ha : va_at D cl (a, .inl (cA, n, .inl f)) H) (t0 : Nat) (ht : tys[t0]? = some (cA, .byte)) {i : Nat} {v : Int32} (hi : i < n) (hn : n < 2 ^ 31) (hv : f i = v) (hdg : decode cc pc = .ok (.baload, 1))
    (kk : W p l e R s m args below meth c H locs cells slots Q (F0 m (pc + 1) ls (.int v :: rest))) : W p l e R s m args below meth c H locs cells slots Q (F0 m pc ls (.int (nI i) :: .ref a :: rest)) :=
  va_bald hx hb hK (ka_one ha) 0 t0 rfl ht (vp_in_nI hi hn) hdg (by rw [nI_clamp (by omega), hv]; exact kk)
theorem ka_zald (hx : p.tables.exec = Jvm.exec) (hb : c.code = cc) (hK : va_K D cl tys s) {cA : ClassId} {n : Nat} {f : Nat → Int32} (ha : va_at D cl (a, .inl (cA, n, .inl f)) H) (t0 : Nat) (ht : tys[t0]? = some (cA, .boolean)) {i : Nat} {v : Int32} (hi : i < n) (hn : n < 2 ^ 31) (hv : f i = v) (hdg : decode cc pc = .ok (.baload, 1))
    (kk : W p l e R s m args below meth c H locs cells slots Q (F0 m (pc + 1) ls (.int v :: rest))) : W p l e R s m args below meth c H locs cells slots Q (F0 m pc ls (.int (nI i) :: .ref a :: rest)) :=
  va_zald hx hb hK (ka_one ha) 0 t0 rfl ht (vp_in_nI hi hn) hdg (by rw [nI_clamp (by omega), hv]; exact kk)
theorem ka_alen (hx : p.tables.exec = Jvm.exec) (hb : c.code = cc) (hK : va_K D cl tys s) {cA : ClassId} {x : vp_A} (ha : va_at D cl (a, .inl (cA, x)) H) (t0 : Nat) {ty : FieldType} (ht : tys[t0]? = some (cA, ty)) (hdg : decode cc pc = .ok (.arraylength, 1))
    (kk : W p l e R s m args below meth c H locs cells slots Q (F0 m (pc + 1) ls (.int (nI x.1) :: rest))) : W p l e R s m args below meth c H locs cells slots Q (F0 m pc ls (.ref a :: rest)) :=
  va_alen hx hb hK (ka_one ha) 0 t0 rfl ht rfl hdg kk
/-- the frame's growth by one written cell -/
theorem ka_put {H1 : Heap} {k : Nat} (h : va_S A H0 H locs) (z : H1.size = H.size) (oq : ∀ q : Nat, q ≠ a → H1[q]? = H[q]?) (ha : A a) : va_S A H0 H1 (locs ++ [⟨a, k⟩]) := h.put z oq ha
theorem ka_iast (hx : p.tables.exec = Jvm.exec) (hb : c.code = cc) (hK : va_K D cl tys s) (hS : va_S A H0 H locs) (hA : A a) {cA : ClassId} {n : Nat} {f : Nat → Int32} (ha : va_at D cl (a, .inl (cA, n, .inl f)) H) (t0 : Nat) (ht : tys[t0]? = some (cA, .int)) {i : Nat} {x : Int32} (hi : i < n) (hn : n < 2 ^ 31) (hdg : decode cc pc = .ok (.iastore, 1))
    (kk : ∀ (H1 : Heap) (locs1 : List Loc), va_at D cl (a, .inl (cA, n, .inl (upd f i x))) H1 → H1.size = H.size → (∀ q : Nat, q ≠ a → H1[q]? = H[q]?) → va_S A H0 H1 locs1 → W p l e R s m args below meth c H1 locs1 cells slots Q (F0 m (pc + 1) ls rest)) : W p l e R s m args below meth c H locs cells slots Q (F0 m pc ls (.int x :: .int (nI i) :: .ref a :: rest)) := by
  refine W.iast hx hb ha ((hK.2 t0 _ ht).1 n (fun j => .int (f j))) (fun q => by cases q) (by show ¬ (nI i < 0 ∨ (arrV _ _ _).slots.size ≤ _); rw [arrV_size]; exact vp_in_nI hi hn) rfl rfl hdg fun H1 e1 z oq => ?_
  refine kk H1 _ ?_ z oq (hS.put z oq hA)
  show H1[a]? = some (vp_cell _ _)
  rw [e1]
  rw [vp_cell_i, vp_cell_i, arrV_store, nI_clamp (by omega)]
  congr 2
  funext q
  by_cases hq : q = i
  · subst hq; simp [updV, upd]
  · simp [updV, upd, hq]
theorem ka_bast (hx : p.tables.exec = Jvm.exec) (hb : c.code = cc) (hK : va_K D cl tys s) (hS : va_S A H0 H locs) (hA : A a) {cA : ClassId} {n : Nat} {f : Nat → Int32} (ha : va_at D cl (a, .inl (cA, n, .inl f)) H) (t0 : Nat) (ht : tys[t0]? = some (cA, .byte)) {i : Nat} {x : Int32} (hi : i < n) (hn : n < 2 ^ 31) (hdg : decode cc pc = .ok (.bastore, 1))
    (kk : ∀ (H1 : Heap) (locs1 : List Loc), va_at D cl (a, .inl (cA, n, .inl (upd f i (vp_nar .byte x)))) H1 → H1.size = H.size → (∀ q : Nat, q ≠ a → H1[q]? = H[q]?) → va_S A H0 H1 locs1 → W p l e R s m args below meth c H1 locs1 cells slots Q (F0 m (pc + 1) ls rest)) : W p l e R s m args below meth c H locs cells slots Q (F0 m pc ls (.int x :: .int (nI i) :: .ref a :: rest)) := by
  refine W.bast hx hb ha ((hK.2 t0 _ ht).1 n (fun j => .int (f j))) (fun q => by cases q) (by show ¬ (nI i < 0 ∨ (arrV _ _ _).slots.size ≤ _); rw [arrV_size]; exact vp_in_nI hi hn) rfl rfl hdg fun H1 e1 z oq => ?_
  refine kk H1 _ ?_ z oq (hS.put z oq hA)
  show H1[a]? = some (vp_cell _ _)
  rw [e1]
  rw [vp_cell_i, vp_cell_i, arrV_store, nI_clamp (by omega)]
  congr 2
  funext q
  by_cases hq : q = i
  · subst hq
    simp [updV, upd, vp_nar]
    try rfl
  · simp [updV, upd, hq]
theorem ka_zast (hx : p.tables.exec = Jvm.exec) (hb : c.code = cc) (hK : va_K D cl tys s) (hS : va_S A H0 H locs) (hA : A a) {cA : ClassId} {n : Nat} {f : Nat → Int32} (ha : va_at D cl (a, .inl (cA, n, .inl f)) H) (t0 : Nat) (ht : tys[t0]? = some (cA, .boolean)) {i : Nat} {x : Int32} (hi : i < n) (hn : n < 2 ^ 31) (hdg : decode cc pc = .ok (.bastore, 1))
    (kk : ∀ (H1 : Heap) (locs1 : List Loc), va_at D cl (a, .inl (cA, n, .inl (upd f i (vp_nar .boolean x)))) H1 → H1.size = H.size → (∀ q : Nat, q ≠ a → H1[q]? = H[q]?) → va_S A H0 H1 locs1 → W p l e R s m args below meth c H1 locs1 cells slots Q (F0 m (pc + 1) ls rest)) : W p l e R s m args below meth c H locs cells slots Q (F0 m pc ls (.int x :: .int (nI i) :: .ref a :: rest)) := by
  refine W.zast hx hb ha ((hK.2 t0 _ ht).1 n (fun j => .int (f j))) (fun q => by cases q) (by show ¬ (nI i < 0 ∨ (arrV _ _ _).slots.size ≤ _); rw [arrV_size]; exact vp_in_nI hi hn) rfl rfl hdg fun H1 e1 z oq => ?_
  refine kk H1 _ ?_ z oq (hS.put z oq hA)
  show H1[a]? = some (vp_cell _ _)
  rw [e1]
  rw [vp_cell_i, vp_cell_i, arrV_store, nI_clamp (by omega)]
  congr 2
  funext q
  by_cases hq : q = i
  · subst hq
    simp [updV, upd, vp_nar]
    try rfl
  · simp [updV, upd, hq]
theorem ko_get (hx : p.tables.exec = Jvm.exec) (hb : c.code = cc) {own ref C : String} {T : u_T} {N ci index : Nat} {Ts : List Cond} (hts : ∀ w ∈ Ts, w.before args s = true) (hin : ∀ w ∈ u_ws C T N, w ∈ Ts) (hown : s.vm.findClass own = some m.cls) (hK : va_K D cl tys s) {fs : List Value} (he : va_at D cl (a, .inr (ci, fs)) H) (hc : cl[ci]? = some (C, T, N)) (k : Nat) (hk : k < N) (hlink : Cond.fieldLink own index ref (T k).2.1 (T k).2.2.1 ∈ Ts) (hsame : ∀ x, s.fieldFound? (T k).1 (T k).2.1 (T k).2.2.1 = some x → s.fieldFound? ref (T k).2.1 (T k).2.2.1 = some x) {v : Value} (hv : fs[k]? = some v) (hdg : decode cc pc = .ok (.getfield index, 3))
    (kk : W p l e R s m args below meth c H locs cells slots Q (F0 m (pc + 3) ls (v :: rest))) : W p l e R s m args below meth c H locs cells slots Q (F0 m pc ls (.ref a :: rest)) :=
  va_get hx hb hts hin hown hK (ka_one he) 0 rfl hc k hk (hts _ hlink) hsame hv hdg kk
theorem ko_put (hx : p.tables.exec = Jvm.exec) (hb : c.code = cc) {own ref C : String} {T : u_T} {N ci index : Nat} {Ts : List Cond} (hts : ∀ w ∈ Ts, w.before args s = true) (hin : ∀ w ∈ u_ws C T N, w ∈ Ts) (ty0 : Nat → FieldType) (hty : ∀ k, k < N → parseFieldDescriptor (T k).2.2.1 = some (ty0 k)) (hnm : ∀ a, a < N → ∀ b, b < N → a ≠ b → (T a).2.1 ≠ (T b).2.1) (hown : s.vm.findClass own = some m.cls) (hK : va_K D cl tys s) (hS0 : va_S A H0 H locs) (hA : A a) {fs : List Value} (he : va_at D cl (a, .inr (ci, fs)) H) (hc : cl[ci]? = some (C, T, N)) (k : Nat) (hk : k < N) (hlink : Cond.fieldLink own index ref (T k).2.1 (T k).2.2.1 ∈ Ts) (hsame : ∀ x, s.fieldFound? (T k).1 (T k).2.1 (T k).2.2.1 = some x → s.fieldFound? ref (T k).2.1 (T k).2.2.1 = some x) (hfin : (T k).2.2.2 = false) {v : Value} (hn : narrow (ty0 k) v = v) (hfit : fits (ty0 k) v = true) (hl : k < fs.length)
    (hdg : decode cc pc = .ok (.putfield index, 3)) (kk : ∀ (H1 : Heap) (locs1 : List Loc), va_at D cl (a, .inr (ci, fs.set k v)) H1 → H1.size = H.size → (∀ q : Nat, q ≠ a → H1[q]? = H[q]?) → va_S A H0 H1 locs1 → W p l e R s m args below meth c H1 locs1 cells slots Q (F0 m (pc + 3) ls rest)) : W p l e R s m args below meth c H locs cells slots Q (F0 m pc ls (v :: .ref a :: rest)) := by
  have hap := va_apart (own := own) hts hin ty0 hty hnm hK hc
  obtain ⟨r, h1, cell, q1, q2, q3, q4⟩ := he
  have hr : r = (C, T, N) := Option.some.inj (h1.symm.trans hc)
  subst hr
  obtain ⟨hSl, hfc, kC, hkC, hkind⟩ := hK.1 ci _ hc
  obtain ⟨cf, kf, fi, f, hi, hsl⟩ := hSl k hk
  have hlay := hts _ (hin _ (u_in_lay hk))
  unfold u_lay at hlay
  rw [if_neg (by rw [hfin]; decide)] at hlay
  have hst := (u_facts hfc hkC (u_lays hts hin hk) hi).1
  have h6 := u_store hfc hkC hkind hlay hi (hty k hk) hn hfit
  refine W.putK hx hb (f := f) ⟨hown, hts _ hlink, ⟨_, _, _, hsame _ hi⟩, hst⟩ (by rw [q2]; exact h6) q1 q3 (by rw [hsl]; exact k2_hasslot (q4 k hk)) rfl rfl hdg fun H' e1 e2 e3 => ?_
  rw [hsl] at e1 ⊢
  exact kk H' _ ⟨_, hc, t_OB.to (V := updV (vp_V fs) k v) ⟨_, e1, q2, q3, t_set q4 hap hk v⟩ (fun j _ => vp_updV_set hl v j)⟩ e2 e3 (hS0.put e2 e3 hA)
theorem ko_putF (hx : p.tables.exec = Jvm.exec) (hb : c.code = cc) {own ref C : String} {T : u_T} {N ci index : Nat} {Ts : List Cond} (hts : ∀ w ∈ Ts, w.before args s = true) (hin : ∀ w ∈ u_ws C T N, w ∈ Ts) (ty0 : Nat → FieldType) (hty : ∀ k, k < N → parseFieldDescriptor (T k).2.2.1 = some (ty0 k)) (hnm : ∀ a, a < N → ∀ b, b < N → a ≠ b → (T a).2.1 ≠ (T b).2.1) (hown : s.vm.findClass own = some m.cls) (hK : va_K D cl tys s) (hS0 : va_S A H0 H locs) (hA : A a) {fs : List Value} (he : va_at D cl (a, .inr (ci, fs)) H) (hc : cl[ci]? = some (C, T, N)) (k : Nat) (hk : k < N) (hlink : Cond.fieldLink own index ref (T k).2.1 (T k).2.2.1 ∈ Ts) (hsame : ∀ x, s.fieldFound? (T k).1 (T k).2.1 (T k).2.2.1 = some x → s.fieldFound? ref (T k).2.1 (T k).2.2.1 = some x) (hfin : (T k).2.2.2 = true) (hin2 : meth.name = "<init>") (hdecl : (T k).1 = own) {v : Value} (hn : narrow (ty0 k) v = v) (hfit : fits (ty0 k) v = true) (hl : k < fs.length)
    (hdg : decode cc pc = .ok (.putfield index, 3)) (kk : ∀ (H1 : Heap) (locs1 : List Loc), va_at D cl (a, .inr (ci, fs.set k v)) H1 → H1.size = H.size → (∀ q : Nat, q ≠ a → H1[q]? = H[q]?) → va_S A H0 H1 locs1 → W p l e R s m args below meth c H1 locs1 cells slots Q (F0 m (pc + 3) ls rest)) : W p l e R s m args below meth c H locs cells slots Q (F0 m pc ls (v :: .ref a :: rest)) := by
  have hap := va_apart (own := own) hts hin ty0 hty hnm hK hc
  obtain ⟨r, h1, cell, q1, q2, q3, q4⟩ := he
  have hr : r = (C, T, N) := Option.some.inj (h1.symm.trans hc)
  subst hr
  obtain ⟨hSl, hfc, kC, hkC, hkind⟩ := hK.1 ci _ hc
  obtain ⟨cf, kf, fi, f, hi, hsl⟩ := hSl k hk
  have hlay := hts _ (hin _ (u_in_lay hk))
  unfold u_lay at hlay
  rw [if_pos hfin] at hlay
  have hst := (u_facts hfc hkC (u_lays hts hin hk) hi).1
  have hcf : m.cls = cf := by
    obtain ⟨_, _, c', _, _, _, -, -, hf', -, -, -, hown2, -⟩ := Cond.laysFinal_spec hlay
    have e1 : c' = cf := by have := hi.symm.trans hf'; simp at this; exact this.1.symm
    rw [hdecl] at hown2
    rw [← e1]; exact Option.some.inj (hown.symm.trans hown2)
  have h6 := u_fits hfc hkC hkind (Or.inr hlay) hi (hty k hk) hn hfit
  refine W.putFinK hx hb hown (hts _ hlink) (hsame _ hi) hst hcf hin2 (by rw [q2]; exact h6) q1 q3 (by rw [hsl]; exact k2_hasslot (q4 k hk)) rfl rfl hdg fun H' e1 e2 e3 => ?_
  rw [hsl] at e1 ⊢
  exact kk H' _ ⟨_, hc, t_OB.to (V := updV (vp_V fs) k v) ⟨_, e1, q2, q3, t_set q4 hap hk v⟩ (fun j _ => vp_updV_set hl v j)⟩ e2 e3 (hS0.put e2 e3 hA)
/-- a new array of whole numbers -/
theorem ka_newi (hx : p.tables.exec = Jvm.exec) (hb : c.code = cc) (hS : va_S A H0 H locs) {atype : ArrayType} (harr : (Cond.arrayClass (newarray.typeOf atype)).before args s = true) (hd : defaultValue (newarray.typeOf atype) = .int 0) (hdg : decode cc pc = .ok (.newarray atype, 2)) {n : Nat} {cA0 : ClassId} (hf : s.vm.findClass ("[" ++ (newarray.typeOf atype).toString) = some cA0) (hn : n < 2 ^ 31) (hbytes : n * componentBytes (newarray.typeOf atype) ≤ 536870912) (hcells : cells + 1 ≤ R.cells) (hslots : slots + n ≤ R.slots)
    (kk : ∀ (H1 : Heap), va_at D cl (H.size, .inl (cA0, n, .inl (fun _ => 0))) H1 → H1.size = H.size + 1 → (∀ q : Nat, q < H.size → H1[q]? = H[q]?) → va_S A H0 H1 locs → W p l e R s m args below meth c H1 locs (cells + 1) (slots + n) Q (F0 m (pc + 2) ls (.ref H.size :: rest))) : W p l e R s m args below meth c H locs cells slots Q (F0 m pc ls (.int (nI n) :: rest)) := by
  refine va_newaK hx hb harr rfl hdg rfl (nI_pos hn) (nI_clamp hn) hbytes hcells hslots rfl fun H1 cA e1 z1 o1 hAr hNm => ?_
  have e0 : cA = cA0 := Option.some.inj (hNm.symm.trans hf)
  subst e0
  refine kk H1 ?_ z1 o1 ⟨Nat.le_trans hS.1 (by omega), fun x h1 h2 => (o1 x (Nat.lt_of_lt_of_le h1 hS.1)).trans (hS.2.1 x h1 h2), hS.2.2⟩
  show H1[H.size]? = some (vp_cell _ _)
  rw [e1, vp_cell_i, hd]
theorem ko_new {c0 : Code} (hx : p.tables.exec = Jvm.exec) (hb : c0.code = cc) {own C : String} {T : u_T} {N ci index : Nat} {Ts : List Cond} (hts : ∀ w ∈ Ts, w.before args s = true) (hin : ∀ w ∈ u_ws C T N, w ∈ Ts) (ty : Nat → FieldType) (hty : ∀ k, k < N → parseFieldDescriptor (T k).2.2.1 = some (ty k)) (hown : s.vm.findClass own = some m.cls) (hcl : Cond.classLink own index C ∈ Ts) (hinst : Cond.instantiable C N ∈ Ts) (hini : Cond.initialized C ∈ Ts)
    (hK : va_K D cl tys s) (hS : va_S A H0 H locs) (hc : cl[ci]? = some (C, T, N)) {fs : List Value} (hfs : ∀ j, j < N → defaultValue (ty j) = vp_V fs j) (hcells : cells + 1 ≤ R.cells) (hslots : slots + N ≤ R.slots) (hdg : decode cc pc = .ok (.new index, 3))
    (kk : ∀ (H1 : Heap), va_at D cl (H.size, .inr (ci, fs)) H1 → H1.size = H.size + 1 → (∀ q : Nat, q < H.size → H1[q]? = H[q]?) → va_S A H0 H1 locs →
      W p l e R s m args below meth c0 H1 locs (cells + 1) (slots + N) Q (F0 m (pc + 3) ls (.ref H.size :: rest))) : W p l e R s m args below meth c0 H locs cells slots Q (F0 m pc ls rest) := by
  have hKn := hK.1 ci _ hc
  refine W.newcK hx hb hown (hts _ hcl) (hts _ hinst) (hts _ hini) rfl hdg hcells hslots hKn.2.1 rfl fun H1 kC hkC e1 z1 o1 => ?_
  refine kk H1 ⟨_, hc, (u_born ty hts hin hKn hkC e1 hty).to hfs⟩ z1 o1 ⟨Nat.le_trans hS.1 (by omega), fun x h1 h2 => (o1 x (Nat.lt_of_lt_of_le h1 hS.1)).trans (hS.2.1 x h1 h2), hS.2.2⟩
end KC
