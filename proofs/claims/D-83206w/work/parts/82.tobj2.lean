set_option maxRecDepth 100000
section OE2
variable {p : Program} {l : Launch} {e : Env} {R : Room} {s : State} {m : MethodId} {args : Array Value} {below : List Frame} {meth : Method} {c : Code} {H : Heap} {locs : List Loc} {cells slots : Nat} {Q : State → Prop}
variable {cc : ByteArray} {index : Nat} {own C : String} {b v : Addr} {rest : List Value}
/-- invokevirtual of Object.equals -/
theorem W.objEq (hx : p.tables.exec = Jvm.exec) (hb : c.code = cc) (hown : s.vm.findClass own = some m.cls) (hl : (Cond.methodLink own index yJ18_equals).before args s = true) (hin : (Cond.instanceMethod yJ18_equals).before args s = true) (hse : (Cond.selects C yJ18_equals yJ18_equals).before args s = true) (hcode : (Cond.code yJ18_equals cJ18_equals 2 (some .boolean)).before args s = true)
    {cellB : Cell} (hcB : H[b]? = some cellB) (hoB : cellB.vm.isStatics = false) (hclB : s.vm.findClass C = some cellB.cls) {pc : Nat} {ls : Array Slot} (hsize : ls.size = c.maxLocals) (hW : 2 * (F0 m pc ls rest).monitorRoom + (rest.map fun v => v.category).sum + 13 ≤ R.locals) (hfr : 1 ≤ R.frames) (hcs : cells ≤ R.cells ∧ slots ≤ R.slots) (hdg : decode cc pc = .ok (.invokevirtual index, 3))
    (kk : W p l e R s m args below meth c H locs cells slots Q (F0 m (pc + 3) ls (.int (bI (decide (b = v))) :: rest))) : W p l e R s m args below meth c H locs cells slots Q (F0 m pc ls (.ref v :: .ref b :: rest)) := by
  intro T hT X
  subst hb
  obtain ⟨mk, methM, hnamed, hmethM, hstM, habM⟩ := Cond.instanceMethod_spec hin
  obtain ⟨methM', cM, hmethM', hcM, hbM, hlM, hrM, hkM, -, hsigM⟩ := Cond.code_spec hnamed hcode
  cases hmethM.symm.trans hmethM'
  obtain ⟨c2, r2, m2, q1, q2, q3, q4, kP, hkP, hkPi⟩ := Cond.selects_spec hse
  cases hclB.symm.trans q1
  cases (State.methodFound?_of_named hnamed (by decide)).symm.trans q2
  cases hnamed.symm.trans q3
  have hsel : selectMethod e.platform s.vm cellB.cls mk = .method mk := by rw [Launch.admits_selectMethod X.admits]; exact q4
  have hlen : ([Value.ref v] : List Value).length = methM.sig.parameters.length := by
    have h1 : parseMethodDescriptor yJ18_equals.desc = some methM.sig := hsigM
    have h2 : (parseMethodDescriptor yJ18_equals.desc).map (fun d => d.parameters.length) = some 1 := by decide +kernel
    rw [h1] at h2
    exact (Option.some.inj h2).symm
  obtain ⟨vm₁, X₁, hstep₁⟩ := X.invokevirtual hx hown hl hnamed hmethM hstM hkP hkPi (by decide) (a := b) (cell := cellB) (by rw [hT]; exact hcB) (fun z h => by rw [h] at hoB; cases hoB) hsel hmethM habM hkP hkPi (g := F0 m pc ls (.ref v :: .ref b :: rest)) rfl (argsL := [.ref v]) (rest := rest) hlen rfl hdg
  have hmU : (T.setVm vm₁).vm.method? mk = some methM := by rw [X₁.warmed.alike.method?]; exact hmethM
  have hpk : (T.setVm vm₁).plainMethod mk := State.plainMethod.of_named (s := T.setVm vm₁) (by decide +kernel : plainFor yJ18_equals = true) (X₁.named hnamed) hmU
  obtain ⟨XX, hdo⟩ := X₁.into (g := F0 m pc ls rest) rfl hsize hdg (mk := mk) (methk := methM) (ck := cM) #[.ref b, .ref v] (R' := { frames := 0, cells := 0, slots := 0, locals := 0 }) hmU hcM hkM hpk hfr (by rw [hlM]; exact hW) (by simpa using hcs.1) (by simpa using hcs.2)
  rw [hlM] at XX hdo
  obtain ⟨t, st, o, -, hend, hq, L, ⟨⟨w, rfl⟩, hWW, hsame⟩, hL⟩ := eq_body (b := b) (v := v) hx hbM hrM hkM _ (show (((T.setVm vm₁).setTop (F0 m pc ls rest)).pushFrame (Frame.java (entryFrame mk #[Value.ref b, Value.ref v] 2))).heap = ((T.setVm vm₁).calling (F0 m pc ls rest) mk #[Value.ref b, Value.ref v]).heap from by rw [State.pushFrame, State.calling, State.pushFrame]; rfl) XX
  obtain ⟨r, ho, hr, hth⟩ := hq
  cases ho
  subst hr
  obtain ⟨T', X', -, -, ht⟩ := X₁.outOf (g := F0 m pc ls rest) rfl hdg hend hWW hsame
  have hL0 : L = [] := List.eq_nil_iff_forall_not_mem.mpr (fun q hq => hL q hq)
  subst hL0
  rw [List.append_nil] at X'
  have hT' : T'.heap = H := by
    have h1 : t.heap = T'.heap := by rw [ht]; simp [State.setTop, State.modifyTopJava]
    rw [← h1, hth]
    exact hT
  obtain ⟨tt, a1, b1⟩ := kk T' hT' X'
  refine ⟨tt, hstep₁ _ (fun acts => ?_), b1⟩
  rw [show (Value.ref b :: [Value.ref v]).toArray = #[.ref b, .ref v] from rfl, hdo acts]
  refine (steps_up st).trans ?_
  rw [ht]
  exact a1
end OE2
