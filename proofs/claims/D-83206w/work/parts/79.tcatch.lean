set_option maxRecDepth 100000
section TK
variable {p : Program} {l : Launch} {e : Env} {R : Room} {s : State} {m : MethodId} {args : Array Value} {below : List Frame} {meth : Method} {c : Code} {H : Heap} {locs : List Loc} {cells slots : Nat} {Q : State → Prop}
/-- the search for a handler ends at the first row that covers the place, whose class can be linked, and of which the thrown object is -/
theorem find_row {U : State} {f : JFrame} {a : Addr} {mt : Method} {code : Code} (hm : U.vm.method? f.method = some mt) (hc : mt.code = some code) {x : ExceptionTableEntry} {post : List ExceptionTableEntry} (hs : code.exceptionTable.toList = x :: post)
    (hx : covers x f.pc = true) (h0 : x.catchType ≠ 0) {cT : ClassId} {cell : Cell} (hl : U.vm.ClassLinks e.platform f.method.cls x.catchType cT) (hcell : U.heap[a]? = some cell) (hobj : ∀ k, cell.vm ≠ .statics k)
    (hk : ∃ k, U.vm.classes[cell.cls]? = some k) (hcl : ∃ k, U.vm.classes[cT]? = some k) (hfit : U.vm.assignable cell.cls cT = true) (Qh : Handler → Pre) (E : CtlPost) (d : Bool) (acts : List Action) :
    wp (findHandler f a) Qh E e d acts U ↔ Qh (.found x.handlerPc) d acts (U.setVm (U.vm.noted f.method.cls x.catchType (.cls cT))) := by
  have hal : U.vm.Alike (U.vm.noted f.method.cls x.catchType (.cls cT)) := (Vm.Alike.refl U.vm).noted _ _ _
  obtain ⟨k1, hk1⟩ := hk
  obtain ⟨k2, hk2⟩ := hcl
  obtain ⟨j1, hj1, -⟩ := hal.2.2 _ _ hk1
  obtain ⟨j2, hj2, -⟩ := hal.2.2 _ _ hk2
  have hfit2 : (U.vm.noted f.method.cls x.catchType (.cls cT)).assignable cell.cls cT = true := by rw [hal.assignable]; exact hfit
  obtain ⟨r1, r2⟩ := (resolveClass_links e.toSetting hl).op (op := VmOp.resolveClass f.method.cls x.catchType) rfl
  rw [W.findHandler_eq hm hc, hs]
  simp only [covers] at hx
  simp [findHandler.go, hx, h0, r1, r2, hcell, hobj, hj1, hj2, hfit2, VmOp.dirties, VmOp.acts]
theorem catch_steps {T : State} {g : JFrame} {a : Addr} {tb : Tables} {pc : Nat} {vm1 : Vm} {target : State} (h : At T g.method c below) (hfind : ∀ (Qh : Handler → Pre) (E : CtlPost) (d : Bool) (acts : List Action), wp (findHandler g a) Qh E e d acts ((T.setTop g).pushFrame (.throwing a)) ↔ Qh (.found pc) d acts (((T.setTop g).pushFrame (.throwing a)).setVm vm1))
    (hrest : Steps tb e below ((T.setVm vm1).setTop { g with pc := pc, stack := [.ref a] }) target) : Steps tb e below ((T.setTop g).pushFrame (.throwing a)) target := by
  obtain ⟨hgo, hw⟩ := h.throwing a
  refine Steps.head hgo hw ?_
  have hstep : ∀ r : List Frame, (stepThrowing e ((T.setTop g).pushFrame (.throwing a)) a (.java g :: r)).Is ((((T.setTop g).pushFrame (.throwing a)).setVm vm1).setFrames (.java { g with pc := pc, stack := [.ref a] } :: r)) [] := by
    intro r
    simp only [stepThrowing, searchFrame, vmDo]
    generalize hr : Sem.go _ e false [] ((T.setTop g).pushFrame (.throwing a)) = res
    obtain ⟨as, rfl, ha⟩ := Sem.eq_ok_of hr (a := Handler.found pc) (s' := ((T.setTop g).pushFrame (.throwing a)).setVm vm1) (acts' := []) (by simp [hfind _ _ _ _])
    exact ⟨rfl, ha⟩
  rw [stepThread_throwing (frames_entered h.top _), (hstep _).1]
  obtain ⟨g₀, hg⟩ := Option.isSome_iff_exists.mp h.top
  obtain ⟨r, hr⟩ := State.topJava?_eq_some.mp hg
  have hr1 : (T.setVm vm1).frames = .java g₀ :: r := hr
  rw [State.setTop_of_frames _ hr1] at hrest
  have e1 : ∀ (u : State) (F F2 : List Frame), ((u.setFrames F).setVm vm1).setFrames F2 = (u.setVm vm1).setFrames F2 := fun u F F2 => by
    show ((u.setVm vm1).setFrames F).setFrames F2 = _
    rw [State.setFrames_setFrames]
  rw [hr, List.tail_cons, State.pushFrame, e1, State.setTop_of_frames _ hr, e1]
  exact hrest
end TK
