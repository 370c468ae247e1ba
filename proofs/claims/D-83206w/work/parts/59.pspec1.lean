set_option maxRecDepth 100000
/-- elements of one class, none of them in A -/
def EL (A : Nat → Prop) (C : String) (f : Nat → Option Nat) (n : Nat) (U : State) (H : Heap) : Prop := ∀ i, i < n → ∀ y, f i = some y → (∃ cell : Cell, H[y]? = some cell ∧ cell.vm.isStatics = false ∧ U.vm.findClass C = some cell.cls) ∧ ¬ A y
theorem EL.mv {A : Nat → Prop} {C : String} {f : Nat → Option Nat} {n : Nat} : Mv (EL A C f n) := Mv.alike fun s U H w h i hi y e => by
  obtain ⟨⟨cell, h1, h2, h3⟩, h4⟩ := h i hi y e
  exact ⟨⟨cell, h1, h2, by rw [w.findClass]; exact h3⟩, h4⟩
theorem EL.at {A B : Nat → Prop} {C : String} {f : Nat → Option Nat} {n : Nat} {s : State} {H : Heap} {locs : List Loc} (h : EL A C f n s s.heap) (hS : va_S A s.heap H locs) (hAB : ∀ q, B q → A q) : EL B C f n s H := by
  intro i hi y e
  obtain ⟨⟨cell, h1, h2, h3⟩, h4⟩ := h i hi y e
  exact ⟨⟨cell, by rw [hS.2.1 y (Array.getElem?_eq_some_iff.mp h1).1 h4]; exact h1, h2, h3⟩, fun q => h4 (hAB y q)⟩
theorem cast_asg {E C : String} {s : State} (h : va_Nw (.castable C E) s) : ∀ comp c0 : ClassId, s.vm.findClass E = some comp → s.vm.findClass C = some c0 → s.vm.assignable c0 comp = true := by
  intro comp c0 h1 h2
  obtain ⟨c, t, f1, f2, f3⟩ := Cond.castable_spec (va_Nw.use (A := #[]) rfl h)
  cases h2.symm.trans f1
  cases h1.symm.trans f2
  exact f3
theorem KC.at {A B : Nat → Prop} {s : State} {H : Heap} {locs : List Loc} (h : KC A s s.heap) (hS : va_S A s.heap H locs) (hAB : ∀ q, B q → A q) : KC B s H := (h.kept hS.2.1).narrow hAB
theorem shr1 {n : Nat} (h : n < 2 ^ 31) : nI n >>> (nI 1 &&& 31) = nI (n / 2) := by
  have k := pk_shrN (n := n) h (nI 1 &&& 31) 1 (by decide)
  rw [Nat.pow_one] at k
  exact k
theorem mx_n {a b : Nat} (ha : a < 2 ^ 31) (hb : b < 2 ^ 31) : (if nI a < nI b then nI b else nI a) = nI (if a < b then b else a) := by
  by_cases h : a < b
  · rw [if_pos ((nI_ltI ha hb).mpr h), if_pos h]
  · rw [if_neg (fun q => h ((nI_ltI ha hb).mp q)), if_neg h]
theorem mi_n {a b : Nat} (ha : a < 2 ^ 31) (hb : b < 2 ^ 31) : (if nI b < nI a then nI b else nI a) = nI (if b < a then b else a) := by
  by_cases h : b < a
  · rw [if_pos ((nI_ltI hb ha).mpr h), if_pos h]
  · rw [if_neg (fun q => h ((nI_ltI hb ha).mp q)), if_neg h]
