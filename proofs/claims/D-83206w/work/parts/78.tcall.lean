set_option maxRecDepth 100000
section TC
variable {p : Program} {l : Launch} {e : Env} {R : Room} {s : State} {m : MethodId} {args : Array Value} {below : List Frame} {meth : Method} {c : Code} {H : Heap} {locs : List Loc} {cells slots : Nat} {Q : State → Prop}
variable {y : MethodName} {bytes cc : ByteArray} {maxL nL mc ms n index : Nat} {ret : Option FieldType} {ws : List Cond} {rm : Room} {Pc : Array Value → State → Prop} {Qc : Array Value → State → Outcome → State → Prop} {free : Addr → Prop} {Ts : List Cond} {own C : String} {b : Addr} {As rest : List Value}
/-- invokevirtual of a method that throws: the throw lies over the caller's frame -/
theorem W.callT (S : CallFix p m c cc nL s args Ts own) (hM : MetT l y ws rm Pc Qc mc ms free) (cw : CallW R s args own C index y bytes maxL ret ws rm mc ms n) (hp : PreV s H C b Pc As) {pc : Nat} {ls : Array Slot}
    (hn : As.length = n) (hsize : ls.size = nL) (hW : 2 * (F0 m pc ls rest).monitorRoom + (rest.map fun v => v.category).sum ≤ 8) (hdg : decode cc pc = .ok (.invokevirtual index, 3)) (hf : cells + mc ≤ R.cells ∧ slots + ms ≤ R.slots)
    (kk : ∀ (x : Addr) (st₀ t T' : State) (L : List Loc), st₀.heap = H → T'.heap = t.heap → s.WarmedH T'.vm → (∀ q ∈ L, free q.base) → Qc (Value.ref b :: As).toArray st₀ (.threw x) t → Stand p l e R s m args below meth c T' (locs ++ L) (cells + mc) (slots + ms) →
      ∃ tt, Steps p.tables e below ((T'.setTop (F0 m pc ls rest)).pushFrame (.throwing x)) tt ∧ Q tt) : W p l e R s m args below meth c H locs cells slots Q (F0 m pc ls (As.reverse ++ .ref b :: rest)) := by
  intro T hT X
  obtain ⟨⟨hrc, hrs, hfr, hlo, hws, hcw, hcode, hini, hy, hlen, hl⟩, hin, hse⟩ := cw
  obtain ⟨hx, hb, hml, ho, -⟩ := S
  obtain ⟨hbl, ⟨cellB, hcB, hoB, hclB⟩, hPc⟩ := hp
  subst hb
  obtain ⟨mk, methM, hnamed, hmethM, hstM, habM⟩ := Cond.instanceMethod_spec hin
  obtain ⟨methM', cM, hmethM', -, -, -, -, -, -, hsigM⟩ := Cond.code_spec hnamed hcode
  cases hmethM.symm.trans hmethM'
  obtain ⟨c2, r2, m2, q1, q2, q3, q4, kP, hkP, hkPi⟩ := Cond.selects_spec hse
  cases hclB.symm.trans q1
  cases (State.methodFound?_of_named hnamed hy).symm.trans q2
  cases hnamed.symm.trans q3
  have hsel : selectMethod e.platform s.vm cellB.cls mk = .method mk := by rw [Launch.admits_selectMethod X.admits]; exact q4
  obtain ⟨vm₁, X₁, hstep₁⟩ := X.invokevirtual hx ho hl hnamed hmethM hstM hkP hkPi hy (a := b) (cell := cellB) (by rw [hT]; exact hcB) (fun z h => by rw [h] at hoB; cases hoB) hsel hmethM habM hkP hkPi (g := F0 m pc ls (As.reverse ++ .ref b :: rest)) rfl (argsL := As) (rest := rest) (hn.trans (hlen _ hsigM)) rfl hdg
  have hn1 := X₁.named hnamed
  have hwarm := X₁.warmed
  obtain ⟨methY, cY, hmY, hcY, -, hlY, -⟩ := Cond.code_spec hn1 (hws _ hcw (Value.ref b :: As).toArray _ hwarm)
  obtain ⟨kY, hkY, -⟩ := className_of_methodNamed hn1
  have hi1 : (Cond.initialized y.cls).before (Value.ref b :: As).toArray (T.setVm vm₁) = true := word_at hwarm (Or.inl (by first | rfl | simp [Cond.onTables, Cond.keeps, Cond.steady])) hini
  have hinitY : kY.init = .initialized := Cond.initialized_spec (findClass_of_methodNamed hn1) hkY hi1
  have happ : (headSpec ws rm).appliesLoose y e.platform ((T.setVm vm₁).calling (F0 m pc ls rest) mk (Value.ref b :: As).toArray) = true :=
    Spec.appliesLoose_calling (g := F0 m pc ls rest) X₁.here hdg hn1 hkY hinitY
      (X₁.room_calling (g := F0 m pc ls rest) (R' := (headSpec ws rm).room) (hsize.trans hml.symm) hmY hcY hfr (by rw [hlY]; exact Nat.le_trans (Nat.add_le_add_right (Nat.add_le_add_right hW _) _) hlo) (by show cells + rm.cells ≤ _; rw [hrc]; exact hf.1) (by show slots + rm.slots ≤ _; rw [hrs]; exact hf.2))
      (atoms_intro fun w hw => hws w hw _ _ hwarm)
  have hfrm : ((T.setVm vm₁).setTop (F0 m pc ls rest)).frames = .java (F0 m pc ls rest) :: below := by rw [State.frames_setTop' _ X₁.here.top, X₁.tail]
  obtain ⟨o, s₂, hsteps, -, hend, hq⟩ := Steps.callFree hM p X₁.admits X₁.cas X₁.clock (acts := []) (mid := [.java (F0 m pc ls rest)]) hfrm happ (hbl _ _ _ _ (hPc (T.setVm vm₁) hT hwarm)) trivial
  rw [hfrm] at hend
  obtain ⟨hQ, L, ⟨⟨x, rfl⟩, hWW, hsame⟩, hL⟩ := hq
  obtain ⟨T', X', hW', -, ht⟩ := X₁.outOfThrown (g := F0 m pc ls rest) rfl hend hWW hsame
  have hth : T'.heap = s₂.heap := by rw [ht, Stand.throwing_heap]
  obtain ⟨tt, a1, b1⟩ := kk x _ s₂ T' L (by show (T.setVm vm₁).heap = H; exact hT) hth (State.WarmedH.trans hwarm hW') hL hQ X'
  refine ⟨tt, hstep₁ _ (fun acts => ?_), b1⟩
  rw [doInvoke_state]
  refine hsteps.trans ?_
  rw [ht]
  exact a1
/-- .. and no handler of the caller's: the caller throws it on -/
theorem W.passT (he : c.exceptionTable.isEmpty = true) (hlocks : meth.locks = false) {pc : Nat} {ls : Array Slot} {x : Addr} {T' : State} {locs' : List Loc} {cells' slots' : Nat} {Qd : Array Value → State → Outcome → State → Prop} {fr : Addr → Prop} (X : Stand p l e R s m args below meth c T' locs' cells' slots') (hq : ∀ t : State, t.heap = T'.heap → s.WarmedH t.vm → Qd args s (.threw x) t) (hf : ∀ q ∈ locs', fr q.base) :
    ∃ tt, Steps p.tables e below ((T'.setTop (F0 m pc ls rest)).pushFrame (.throwing x)) tt ∧ MQT below Qd args s cells' slots' fr tt := by
  obtain ⟨st, h1, h2, h3, h4⟩ := X.leaveThrown x (g := F0 m pc ls rest) rfl rfl rfl (no_cover he pc) hlocks
  exact ⟨_, st, .threw x, h1, h2, hq _ rfl h3, locs', ⟨⟨x, rfl⟩, h3, h4⟩, hf⟩
end TC
