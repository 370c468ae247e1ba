set_option maxRecDepth 100000
/-! rows on the house's cells -/
theorem va_Run.call {p : Program} {l : Launch} {e : Env} {R : Room} {s : State} {m : MethodId} {args : Array Value} {below : List Frame} {meth : Method} {c : Code} {H : Heap} {locs : List Loc} {cells slots mc ms : Nat} {g : JFrame} {rest : List Value} {Qa : State → Outcome → State → Prop} {free : Addr → Prop} (h : va_Run p l e R s m args below meth c H locs cells slots mc ms g rest Qa free) : CallRun p l e R s m args below meth c H locs cells slots mc ms g rest Qa free := by
  intro T hT X
  obtain ⟨v, st₀, t, T', L, h0, X', hL, e1, -, hq, st⟩ := h T hT X
  exact ⟨v, st₀, t, T', L, h0, X', hL, e1, hq, st⟩
theorem tr20_in {f : Nat → Nat} {l : Nat} (h : l < 20) : tr20 f l = nI (f l) := if_pos h
section KN
variable {p : Program} {l : Launch} {e : Env} {R : Room} {s : State} {m : MethodId} {args : Array Value} {below : List Frame} {meth : Method} {c : Code} {H : Heap} {locs : List Loc} {cells slots : Nat} {Q : State → Prop}
variable {cc : ByteArray} {pc : Nat} {ls : Array Slot} {rest : List Value} {D : va_G} {cl : List vw_C} {A : Nat → Prop} {a : Nat} {tys : List (ClassId × FieldType)} {H0 : Heap}
theorem ko_getN (hx : p.tables.exec = Jvm.exec) (hb : c.code = cc) {own ref C host : String} {T : u_T} {N ci index : Nat} {Ts : List Cond} (hts : ∀ w ∈ Ts, w.before args s = true) (hin : ∀ w ∈ u_ws C T N, w ∈ Ts) (hown : s.vm.findClass own = some m.cls) (hK : va_K D cl tys s) {fs : List Value} (he : va_at D cl (a, .inr (ci, fs)) H) (hc : cl[ci]? = some (C, T, N)) (k : Nat) (hk : k < N) (hlink : va_Nw (.fieldLinkNest own index ref (T k).2.1 (T k).2.2.1 host) s) (hsame : ∀ x, s.fieldFound? (T k).1 (T k).2.1 (T k).2.2.1 = some x → s.fieldFound? ref (T k).2.1 (T k).2.2.1 = some x) {v : Value} (hv : fs[k]? = some v) (hdg : decode cc pc = .ok (.getfield index, 3))
    (kk : W p l e R s m args below meth c H locs cells slots Q (F0 m (pc + 3) ls (v :: rest))) : W p l e R s m args below meth c H locs cells slots Q (F0 m pc ls (.ref a :: rest)) :=
  va_getN hx hb hts hin hown hK (ka_one he) 0 rfl hc k hk (va_Nw.use rfl hlink) hsame hv hdg kk
theorem ko_putN (hx : p.tables.exec = Jvm.exec) (hb : c.code = cc) {own ref C host : String} {T : u_T} {N ci index : Nat} {Ts : List Cond} (hts : ∀ w ∈ Ts, w.before args s = true) (hin : ∀ w ∈ u_ws C T N, w ∈ Ts) (ty0 : Nat → FieldType) (hty : ∀ k, k < N → parseFieldDescriptor (T k).2.2.1 = some (ty0 k)) (hnm : ∀ a, a < N → ∀ b, b < N → a ≠ b → (T a).2.1 ≠ (T b).2.1) (hown : s.vm.findClass own = some m.cls) (hK : va_K D cl tys s) (hS0 : va_S A H0 H locs) (hA : A a) {fs : List Value} (he : va_at D cl (a, .inr (ci, fs)) H) (hc : cl[ci]? = some (C, T, N)) (k : Nat) (hk : k < N) (hlink : va_Nw (.fieldLinkNest own index ref (T k).2.1 (T k).2.2.1 host) s) (hsame : ∀ x, s.fieldFound? (T k).1 (T k).2.1 (T k).2.2.1 = some x → s.fieldFound? ref (T k).2.1 (T k).2.2.1 = some x) (hfin : (T k).2.2.2 = false) {v : Value} (hn : narrow (ty0 k) v = v) (hfit : fits (ty0 k) v = true) (hl : k < fs.length)
    (hdg : decode cc pc = .ok (.putfield index, 3)) (kk : ∀ (H1 : Heap) (locs1 : List Loc), va_at D cl (a, .inr (ci, fs.set k v)) H1 → H1.size = H.size → (∀ q : Nat, q ≠ a → H1[q]? = H[q]?) → va_S A H0 H1 locs1 → W p l e R s m args below meth c H1 locs1 cells slots Q (F0 m (pc + 3) ls rest)) : W p l e R s m args below meth c H locs cells slots Q (F0 m pc ls (v :: .ref a :: rest)) := by
  have hap := va_apart (own := own) hts hin ty0 hty hnm hK hc
  obtain ⟨r, h1, cell, q1, q2, q3, q4⟩ := he
  have hr : r = (C, T, N) := Option.some.inj (h1.symm.trans hc)
  subst hr
  obtain ⟨hSl, hfc, kC, hkC, hkind⟩ := hK.1 ci _ hc
  obtain ⟨cf, kf, fi, f, hi, hsl⟩ := hSl k hk
  have hlay := hts _ (hin _ (u_in_lay hk))
  unfold u_lay at hlay
  rw [if_neg (by rw [hfin]; decide)] at hlay
  have hst := (u_facts hfc hkC (u_lays hts hin hk) hi).1
  have h6 := u_store hfc hkC hkind hlay hi (hty k hk) hn hfit
  refine va_WputK hx hb (f := f) hown (va_Nw.use rfl hlink) (hsame _ hi) hst (by rw [q2]; exact h6) q1 q3 (by rw [hsl]; exact k2_hasslot (q4 k hk)) rfl rfl hdg fun H' e1 e2 e3 => ?_
  rw [hsl] at e1 ⊢
  exact kk H' _ ⟨_, hc, t_OB.to (V := updV (vp_V fs) k v) ⟨_, e1, q2, q3, t_set q4 hap hk v⟩ (fun j _ => vp_updV_set hl v j)⟩ e2 e3 (hS0.put e2 e3 hA)
theorem ka_aald (hx : p.tables.exec = Jvm.exec) (hb : c.code = cc) (hK : va_K D cl tys s) {cA : ClassId} {n : Nat} {f : Nat → Option Nat} (ha : va_at D cl (a, .inl (cA, n, rfA f)) H) (t0 : Nat) {C : String} (ht : tys[t0]? = some (cA, .object C)) {i : Nat} {q : Option Nat} (hi : i < n) (hn : n < 2 ^ 31) (hv : f i = q) (hdg : decode cc pc = .ok (.aaload, 1))
    (kk : W p l e R s m args below meth c H locs cells slots Q (F0 m (pc + 1) ls (va_rf q :: rest))) : W p l e R s m args below meth c H locs cells slots Q (F0 m pc ls (.int (nI i) :: .ref a :: rest)) :=
  va_aldq hx hb hK (ka_one ha) 0 t0 rfl ht (vp_in_nI hi hn) hdg (by rw [nI_clamp (by omega), hv]; exact kk)
end KN
/-- an object is a fit receiver -/
theorem O_recv {D : va_G} {dA : Nat → ClassId} {s : State} {H : Heap} {a ci : Nat} {fs : List Value} {C : String} {T : u_T} {n : Nat} (hG : GK D dA s) (h : va_at D CL (a, .inr (ci, fs)) H) (hc : CL[ci]? = some (C, T, n)) : ∃ cell : Cell, H[a]? = some cell ∧ cell.vm.isStatics = false ∧ s.vm.findClass C = some cell.cls :=
  va_recv hG.1 (ka_one h) (ci := ci) (q0 := 0) hc rfl
section RHA
variable {A : Nat → Prop} {D : va_G} {dA : Nat → ClassId} {K : Nat → Nat} {ad X : Nat → Nat → Nat} {Y : Nat → Nat → Nat → Int32} {N : Nat → Nat} {I : Nat → Int32} {G : Nat → Nat → Nat} {J : Nat → Nat → Int32} {H : Heap}
theorem RH.o0 (hH : RH A D dA K ad X Y N I G J H) : va_at D CL (ad 0 0, .inr (1, fH ad Y N I)) H := hH.1 0 0 rfl
theorem RH.arr (hH : RH A D dA K ad X Y N I G J H) (i : Nat) (h : isH i = true) : va_at D CL (ad 1 i, .inl (dA (tyH i), lenH i, .inl (fnH Y G J i))) H := hH.1 1 i h
theorem RH.wm (hH : RH A D dA K ad X Y N I G J H) : va_at D CL (ad 2 0, .inl (dA 5, 3, rfA (rwH ad X))) H := hH.1 2 0 rfl
theorem RH.rw (hH : RH A D dA K ad X Y N I G J H) {z : Nat} (h : z < 3 ∧ X 1 z = 1) : va_at D CL (ad 3 z, .inl (dA 1, 600, .inl (Y 2 z))) H := hH.1 3 z h
theorem RH.li (hH : RH A D dA K ad X Y N I G J H) (l : Nat) (h : l < 4) : va_at D CL (ad 4 l, .inr (15, [.int (Y 3 l 0), .ref (elH K ad X l), .int (nI (szH N l))])) H := hH.1 4 l h
theorem RH.lo (hH : RH A D dA K ad X Y N I G J H) (l : Nat) (h : l < 4) (h0 : X 0 l ≠ 0) : va_at D CL (ad 4 l, .inr (15, [.int (Y 3 l 0), .ref (ad 5 l), .int (nI (szH N l))])) H := by
  have e := hH.li l h
  rw [show elH K ad X l = ad 5 l from if_neg h0] at e
  exact e
theorem RH.la (hH : RH A D dA K ad X Y N I G J H) (l : Nat) (h : l < 4) (h0 : X 0 l ≠ 0) : va_at D CL (ad 5 l, .inl (dA 4, X 0 l, rfA (ltH ad (kdH l) (szH N l) 0))) H := hH.1 5 l ⟨h, h0⟩
theorem RH.cr (hH : RH A D dA K ad X Y N I G J H) {c : Nat} (h : c < N 3) : va_at D CL (ad 6 c, .inr (2, fC ad Y G J c)) H := hH.1 6 c h
theorem RH.gm (hH : RH A D dA K ad X Y N I G J H) {c : Nat} (h : c < N 3) : va_at D CL (ad 7 c, .inl (dA 0, 20, .inl (tr20 (fun l => G 4 (20 * c + l))))) H := hH.1 7 c h
theorem RH.rt (hH : RH A D dA K ad X Y N I G J H) {c : Nat} (h : c < N 3) : va_at D CL (ad 8 c, .inl (dA 1, 600, .inl (Y 1 c))) H := hH.1 8 c h
theorem RH.te (hH : RH A D dA K ad X Y N I G J H) {k : Nat} (h : k < N 19) : va_at D CL (ad 9 k, .inr (4, fT ad G k)) H := hH.1 9 k h
theorem RH.re (hH : RH A D dA K ad X Y N I G J H) {k : Nat} (h : k < N 23) : va_at D CL (ad 10 k, .inr (5, fR ad G k)) H := hH.1 10 k h
theorem RH.ja (hH : RH A D dA K ad X Y N I G J H) {k : Nat} (h : k < N 40) : va_at D CL (ad 11 k, .inr (3, [.ref (ad 12 k)])) H := hH.1 11 k h
theorem RH.jg (hH : RH A D dA K ad X Y N I G J H) {k : Nat} (h : k < N 40) : va_at D CL (ad 12 k, .inl (dA 0, 20, .inl (tr20 (fun l => G 41 (20 * k + l))))) H := hH.1 12 k h
end RHA
/-- the house's state -/
abbrev HgT : Type := (Nat → Nat → Nat) × (Nat → Nat → Nat) × (Nat → Nat → Nat → Int32) × SgT
abbrev BmH (A : Nat → Prop) (D : va_G) (dA : Nat → ClassId) (K : Nat → Nat) (u : HgT) (t : State) : Prop := RH A D dA K u.1 u.2.1 u.2.2.1 u.2.2.2.1 u.2.2.2.2.1 u.2.2.2.2.2.1 u.2.2.2.2.2.2 t.heap ∧ GK D dA t
/-- lists have room for what they hold -/
def XOk (N : Nat → Nat) (G X : Nat → Nat → Nat) : Prop := (∀ l, l < 4 → szH N l ≤ X 0 l ∧ X 0 l < 2 ^ 31) ∧ (∀ r, r < N 23 → G 25 r ≤ X 2 r ∧ X 2 r < 2 ^ 31) ∧ ∀ i, i / 10 < N 23 → i % 10 < G 25 (i / 10) → G 28 i ≤ X 3 i ∧ X 3 i < 2 ^ 31
/-- what a call of an inherited method asks -/
theorem lw_U {own : String} {idx : Nat} {C owner : String} {x y : MethodName} {b : ByteArray} {L : Nat} {r : Option FieldType} (h1 : Cond.methodLink own idx x ∈ lw_all) (h2 : Cond.sameMethod x.cls owner x.name x.desc ∈ lw_all) (h3 : Cond.selects C x y ∈ lw_all) (h4 : Cond.instanceMethod y ∈ lw_all) (h5 : Cond.initialized y.cls ∈ lw_all) (h6 : Cond.code y b L r ∈ lw_all) : GoodIn lw_all (va_wsU own idx C owner x y (ws_ y b L r)) := by
  refine lw_app ?_ (lw_meth h6)
  intro w hw
  simp only [List.mem_cons, List.not_mem_nil, or_false] at hw
  rcases hw with e | e | e | e | e <;> rw [e] <;> assumption
theorem lw_O {own : String} {idx : Nat} {C owner : String} {x y : MethodName} {b : ByteArray} {L : Nat} {r : Option FieldType} (h1 : Cond.methodLink own idx x ∈ lw_all) (h2 : Cond.sameMethod x.cls owner x.name x.desc ∈ lw_all) (h0 : Cond.instanceMethod ⟨owner, x.name, x.desc⟩ ∈ lw_all) (h3 : Cond.selects C x y ∈ lw_all) (h4 : Cond.instanceMethod y ∈ lw_all) (h5 : Cond.initialized y.cls ∈ lw_all) (h6 : Cond.code y b L r ∈ lw_all) : GoodIn lw_all (va_wsO own idx C owner x y (ws_ y b L r)) := by
  refine lw_app ?_ (lw_meth h6)
  intro w hw
  simp only [List.mem_cons, List.not_mem_nil, or_false] at hw
  rcases hw with e | e | e | e | e | e <;> rw [e] <;> assumption
