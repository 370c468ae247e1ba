set_option maxRecDepth 100000
/-! elements of several classes, none of them in A -/
def EM (A : Nat → Prop) (f : Nat → Option Nat) (n : Nat) (U : State) (H : Heap) : Prop := ∀ i, i < n → ∀ y, f i = some y → (∃ C : String, Cond.castable C "java/lang/Object" ∈ lw_tbl ∧ ∃ cell : Cell, H[y]? = some cell ∧ cell.vm.isStatics = false ∧ U.vm.findClass C = some cell.cls) ∧ ¬ A y
theorem EM.mv {A : Nat → Prop} {f : Nat → Option Nat} {n : Nat} : Mv (EM A f n) := Mv.alike fun s U H w h i hi y e => by
  obtain ⟨⟨C, h0, cell, h1, h2, h3⟩, h4⟩ := h i hi y e
  exact ⟨⟨C, h0, cell, h1, h2, by rw [w.findClass]; exact h3⟩, h4⟩
theorem EM.at {A B : Nat → Prop} {f : Nat → Option Nat} {n : Nat} {s : State} {H : Heap} {locs : List Loc} (h : EM A f n s s.heap) (hS : va_S A s.heap H locs) (hAB : ∀ q, B q → A q) : EM B f n s H := by
  intro i hi y e
  obtain ⟨⟨C, h0, cell, h1, h2, h3⟩, h4⟩ := h i hi y e
  exact ⟨⟨C, h0, cell, by rw [hS.2.1 y (Array.getElem?_eq_some_iff.mp h1).1 h4]; exact h1, h2, h3⟩, fun q => h4 (hAB y q)⟩
theorem EM.any {A : Nat → Prop} {f : Nat → Option Nat} {n : Nat} {s : State} {H : Heap} {D : va_G} {dA : Nat → ClassId} (hG : GK D dA s) (h : EM A f n s H) {i y : Nat} (hi : i < n) (e : f i = some y) : va_Any "java/lang/Object" s H y := by
  obtain ⟨⟨C, h0, cell, h1, h2, h3⟩, -⟩ := h i hi y e
  obtain ⟨kC, hkC, -⟩ := Vm.findClass_spec h3
  exact ⟨cell, h1, h2, ⟨kC, hkC⟩, fun comp hc => cast_asg (hG.2.1 _ h0 rfl) comp cell.cls hc h3⟩
