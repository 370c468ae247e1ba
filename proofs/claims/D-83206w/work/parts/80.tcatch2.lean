set_option maxRecDepth 100000
section TK2
variable {p : Program} {l : Launch} {e : Env} {R : Room} {s : State} {m : MethodId} {args : Array Value} {below : List Frame} {meth : Method} {c : Code} {H : Heap} {locs : List Loc} {cells slots : Nat} {Q : State → Prop} {rest : List Value}
/-- the throw that lies over the frame is caught by the table's first row -/
theorem W.catchT {own name : String} (hown : s.vm.findClass own = some m.cls) {ct : Nat} (hlink : (Cond.classLink own ct name).before args s = true) {T : State} (X : Stand p l e R s m args below meth c T locs cells slots) {pc : Nat} {ls : Array Slot} {x : Addr}
    {row : ExceptionTableEntry} {post : List ExceptionTableEntry} (hs : c.exceptionTable.toList = row :: post) (hx : covers row pc = true) (hct : row.catchType = ct) (h0 : ct ≠ 0) {cell : Cell} {cT : ClassId} (hcT : s.vm.findClass name = some cT) (hcell : T.heap[x]? = some cell) (hobj : cell.vm.isStatics = false)
    (hk : ∃ k, s.vm.classes[cell.cls]? = some k) (hfit : s.vm.assignable cell.cls cT = true) (kk : W p l e R s m args below meth c T.heap locs cells slots Q (F0 m row.handlerPc ls [.ref x])) :
    ∃ tt, Steps p.tables e below ((T.setTop (F0 m pc ls rest)).pushFrame (.throwing x)) tt ∧ Q tt := by
  subst hct
  have hpl : e.platform.magicAccessors = ({} : Platform).magicAccessors := by rw [X.admits.platform]
  obtain ⟨c1, hc1, hl⟩ := Cond.classLink_spec hown hlink e.platform hpl
  cases hcT.symm.trans hc1
  have hal := X.warmed.alike
  obtain ⟨dk, _, _, kt, hd, _, _, _, _, hkt, _, hopen⟩ := hl.here
  have hlT := X.warmed.classLinks hl
  have hWn : s.WarmedH (T.vm.noted m.cls row.catchType (.cls cT)) := X.warmed.noted hd hopen (State.rightAt_cls hl)
  obtain ⟨k1, hk1⟩ := hk
  obtain ⟨j1, hj1, -⟩ := hal.2.2 _ _ hk1
  obtain ⟨j2, hj2, -⟩ := hal.2.2 _ _ hkt
  have hvm := Stand.throwing_vm T (F0 m pc ls rest) x
  have hhp := Stand.throwing_heap T (F0 m pc ls rest) x
  obtain ⟨tt, a1, b1⟩ := kk (T.setVm (T.vm.noted m.cls row.catchType (.cls cT))) rfl (X.noted hWn)
  refine ⟨tt, catch_steps (c := c) (g := F0 m pc ls rest) (pc := row.handlerPc) (vm1 := T.vm.noted m.cls row.catchType (.cls cT)) X.here (fun Qh E d acts => ?_) a1, b1⟩
  have hfind := find_row (e := e) (U := (T.setTop (F0 m pc ls rest)).pushFrame (.throwing x)) (f := F0 m pc ls rest) (a := x) (mt := meth) (code := c) (by rw [hvm]; exact X.method') X.code hs hx h0 (cT := cT) (cell := cell) (by rw [hvm]; exact hlT) (by rw [hhp]; exact hcell) (fun k h => by rw [h] at hobj; cases hobj) ⟨j1, by rw [hvm]; exact hj1⟩ ⟨j2, by rw [hvm]; exact hj2⟩ (by rw [hvm, hal.assignable]; exact hfit) Qh E d acts
  rw [hvm] at hfind
  exact hfind
end TK2
