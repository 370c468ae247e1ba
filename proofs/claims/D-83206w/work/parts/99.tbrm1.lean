set_option maxRecDepth 100000
/-! MORE ROOM IS ENOUGH ROOM -/
theorem hasRoom_mono {s : State} {pl : Platform} {r r' : Room} (hf : r.frames ≤ r'.frames) (hc : r.cells ≤ r'.cells) (hs : r.slots ≤ r'.slots) (hl : r.locals ≤ r'.locals) (h : s.hasRoom pl r' = true) : s.hasRoom pl r = true := by
  unfold State.hasRoom at h ⊢
  simp only [Bool.and_eq_true, decide_eq_true_eq] at h ⊢
  obtain ⟨⟨⟨⟨h1, h2, h3, h4, h5, h6⟩, h7⟩, h8⟩, h9⟩ := h
  exact ⟨⟨⟨⟨by omega, by omega, by omega, by omega, by omega, h6⟩, by omega⟩, by omega⟩, h9⟩
theorem applies_mono {ws : List Cond} {y : MethodName} {pl : Platform} {s : State} {r r' : Room} (hf : r.frames ≤ r'.frames) (hc : r.cells ≤ r'.cells) (hs : r.slots ≤ r'.slots) (hl : r.locals ≤ r'.locals) (h : (headSpec ws r').appliesLoose y pl s = true) : (headSpec ws r).appliesLoose y pl s = true := by
  unfold Spec.appliesLoose at h ⊢
  split at h
  · simp only [Bool.and_eq_true] at h ⊢
    obtain ⟨⟨h1, h2⟩, h3⟩ := h
    exact ⟨⟨h1, hasRoom_mono hf hc hs hl h2⟩, h3⟩
  · cases h
theorem Met.room {l : Launch} {y : MethodName} {ws : List Cond} {rm rm' : Room} {Pc : Array Value → State → Prop} {Qc : Array Value → State → Outcome → State → Prop} {mc ms mc' ms' : Nat} {free : Addr → Prop} (h : Met l y ws rm Pc Qc mc ms free) (hf : rm.frames ≤ rm'.frames) (hc : rm.cells ≤ rm'.cells) (hs : rm.slots ≤ rm'.slots) (hl : rm.locals ≤ rm'.locals) (h1 : mc ≤ mc') (h2 : ms ≤ ms') : Met l y ws rm' Pc Qc mc' ms' free := by
  intro p e ha hx hy s m args below hfr happ hP hK
  obtain ⟨n, o, a1, a2, a3, a4, L, a5, a6⟩ := h p e ha hx hy s m args below hfr (applies_mono hf hc hs hl happ) hP hK
  exact ⟨n, o, a1, a2, a3, a4, L, ⟨a5.1, a5.2.1, a5.2.2.mono h1 h2⟩, a6⟩
theorem MetT.room {l : Launch} {y : MethodName} {ws : List Cond} {rm rm' : Room} {Pc : Array Value → State → Prop} {Qc : Array Value → State → Outcome → State → Prop} {mc ms mc' ms' : Nat} {free : Addr → Prop} (h : MetT l y ws rm Pc Qc mc ms free) (hf : rm.frames ≤ rm'.frames) (hc : rm.cells ≤ rm'.cells) (hs : rm.slots ≤ rm'.slots) (hl : rm.locals ≤ rm'.locals) (h1 : mc ≤ mc') (h2 : ms ≤ ms') : MetT l y ws rm' Pc Qc mc' ms' free := by
  intro p e ha hx hy s m args below hfr happ hP hK
  obtain ⟨n, o, a1, a2, a3, a4, L, a5, a6⟩ := h p e ha hx hy s m args below hfr (applies_mono hf hc hs hl happ) hP hK
  exact ⟨n, o, a1, a2, a3, a4, L, ⟨a5.1, a5.2.1, a5.2.2.mono h1 h2⟩, a6⟩
