set_option maxRecDepth 100000
/-! TEXTS: private methods of a superclass; arrays of bytes -/
theorem sel_priv {C owner : String} {y : MethodName} {s : State} {args : Array Value} {n : Nat} (hy : y.cls ≠ "java/lang/invoke/MethodHandle" ∧ y.cls ≠ "java/lang/invoke/VarHandle")
    (hins : (Cond.instantiable C n).before args s = true) (hpriv : (Cond.privateMethod y).before args s = true) (hinst : (Cond.instanceMethod y).before args s = true) (hsame : (Cond.sameMethod y.cls owner y.name y.desc).before args s = true) : (Cond.selects C y y).before args s = true := by
  obtain ⟨c, k, hc, hk, -, hniab, -, -⟩ := Cond.instantiable_spec hins
  have hni : k.isInterface = false := (Bool.or_eq_false_iff.mp hniab).1
  obtain ⟨mk, methM, hnamed, hmethM, -, -⟩ := Cond.instanceMethod_spec hinst
  have hfound : s.methodFound? y.cls y.name y.desc = some mk := State.methodFound?_of_named hnamed hy
  have hsel : selectMethod {} s.vm c mk = .method mk := selectMethod_private hmethM (Cond.privateMethod_at hpriv mk methM hnamed hmethM)
  obtain ⟨-, k2, hk2, hni2⟩ := Cond.sameMethod_spec (findClass_of_methodNamed hnamed) hfound hsame
  simp only [Cond.before, Cond.holds, Cond.value, hc, hfound, hnamed, hsel, hk, hk2]
  simp [hni, hni2]
theorem va_cwUP {R : Room} {s : State} {args : Array Value} {own C owner : String} {index maxL mc ms ni : Nat} {x : MethodName} {bytes : ByteArray} {ret : Option FieldType} {rm : Room} (n : Nat) (hts : ∀ w ∈ lw_all, w.before args s = true) (h1 : Cond.methodLink own index x ∈ lw_all) (h2 : Cond.sameMethod x.cls owner x.name x.desc ∈ lw_all) (h3 : va_Nw (Cond.privateMethod x) s) (h4 : Cond.instanceMethod x ∈ lw_all) (h5 : Cond.initialized x.cls ∈ lw_all) (h6 : Cond.code x bytes maxL ret ∈ lw_all) (h7 : Cond.instantiable C ni ∈ lw_all) (hrc : rm.cells = mc) (hrs : rm.slots = ms)
    (hyx : x = ⟨owner, x.name, x.desc⟩) (hd : owner ≠ "java/lang/invoke/MethodHandle" ∧ owner ≠ "java/lang/invoke/VarHandle" ∧ (parseMethodDescriptor x.desc).map (fun d => d.parameters.length) = some n) (hR : rm.frames + 1 ≤ R.frames ∧ 8 + (maxL + 11) + rm.locals ≤ R.locals) : va_CU R s args own C owner index x x bytes maxL ret (ws_ x bytes maxL ret) rm mc ms n := by
  have hG : GoodIn lw_all (ws_ x bytes maxL ret) := lw_meth h6
  have ho : x.cls = owner := by rw [hyx]
  refine ⟨⟨hrc, hrs, hR.1, hR.2, pay_in hts hG, List.mem_cons_self⟩, hts _ h6, hts _ h5, ⟨hd.1, hd.2.1⟩, fun sig h => ?_, hts _ h1, hts _ h2, by rw [← hyx]; exact va_Decl.of (hts _ h4) (hts _ h6), sel_priv ⟨by rw [ho]; exact hd.1, by rw [ho]; exact hd.2.1⟩ (hts _ h7) (va_Nw.use rfl h3) (hts _ h4) (hts _ h2), hts _ h4⟩
  have h2 := hd.2.2
  rw [h] at h2
  exact (Option.some.inj h2).symm
/-- an array's function counts below its length alone -/
theorem va_at_fn {D : va_G} {cl : List vw_C} {q n : Nat} {cA : ClassId} {f g : Nat → Int32} {H : Heap} (h : va_at D cl (q, .inl (cA, n, .inl g)) H) (e : ∀ j, j < n → g j = f j) : va_at D cl (q, .inl (cA, n, .inl f)) H := va_at_cg h e
theorem va_P_fn {D : va_G} {cl : List vw_C} {ws : va_W} {k q n : Nat} {cA : ClassId} {f g : Nat → Int32} {H : Heap} (hP : va_P D cl ws H) (hk : ws[k]? = some (q, .inl (cA, n, .inl g))) (e : ∀ j, j < n → g j = f j) : va_P D cl (ws.set k (q, .inl (cA, n, .inl f))) H := by
  intro i y hy
  by_cases hi : i = k
  · subst hi
    have hl := (List.getElem?_eq_some_iff.mp hk).1
    rw [List.getElem?_set_self hl] at hy
    cases hy
    exact va_at_fn (hP _ _ hk) e
  · rw [List.getElem?_set_ne (fun q => hi q.symm)] at hy
    exact hP i y hy
theorem sh0_l {n : Nat} : nI n <<< (nI 0 &&& 31) = nI n := by
  rw [show (nI 0 &&& 31 : Int32) = 0 from rfl]
  simp
theorem fit_b {x : Nat} (h : x < 128) : fits .byte (.int (nI x)) = true := by
  have h1 : ∀ x, x < 128 → fits .byte (.int (nI x)) = true := by decide +kernel
  exact h1 x h
section SB
variable {p : Program} {l : Launch} {e : Env} {R : Room} {s : State} {m : MethodId} {args : Array Value} {below : List Frame} {meth : Method} {c : Code} {H : Heap} {locs : List Loc} {cells slots : Nat} {Q : State → Prop}
variable {cc : ByteArray} {pc : Nat} {ls : Array Slot} {rest : List Value} {D : va_G} {cl : List vw_C} {A : Nat → Prop} {a : Nat} {tys : List (ClassId × FieldType)} {ws : va_W} {H0 : Heap}
/-- System.arraycopy out of a text's bytes -/
theorem T_copy (hexec : p.tables.exec = Jvm.exec) (hb : c.code = cc) (hml : c.maxLocals = ls.size) {own : String} {index : Nat} (hown : s.vm.findClass own = some m.cls) (hlink : (Cond.methodLink own index arraycopyName).before args s = true) (hnat : (Cond.native arraycopyName).before args s = true) (hstat : (Cond.static arraycopyName).before args s = true) (hini : (Cond.initialized "java/lang/System").before args s = true)
    (hK : va_K D cl tys s) (hP : va_P D cl ws H) (hD : va_D A ws) (hS : va_S A H0 H locs) {b0 n0 : Nat} {f : Nat → Nat} (hX : TB nA b0 n0 f s H) (q1 t1 : Nat) {c1 : ClassId} {n1 : Nat} {g : Nat → Int32} (ha1 : ws[q1]? = some (a, .inl (c1, n1, .inl g))) (ht1 : tys[t1]? = some (c1, .byte))
    {sp dp n : Int32} (h1 : ¬ sp < 0) (h2 : ¬ dp < 0) (h3 : ¬ n < 0) (h4 : sp.toNatClampNeg + n.toNatClampNeg ≤ n0) (h5 : dp.toNatClampNeg + n.toNatClampNeg ≤ n1)
    (hframes : 1 ≤ R.frames) (hlocals : (rest.map fun v => v.category).sum + (nativeFrameWords "java/lang/System" "arraycopy" 5 + 11) ≤ R.locals) (hdg : decode cc pc = .ok (.invokestatic index, 3))
    (kk : ∀ (H1 : Heap) (locs1 : List Loc), va_P D cl (ws.set q1 (a, .inl (c1, n1, .inl (va_cpy (fun j => nI (f j)) g sp.toNatClampNeg dp.toNatClampNeg n.toNatClampNeg)))) H1 → va_D A (ws.set q1 (a, .inl (c1, n1, .inl (va_cpy (fun j => nI (f j)) g sp.toNatClampNeg dp.toNatClampNeg n.toNatClampNeg)))) → va_S A H0 H1 locs1 → W p l e R s m args below meth c H1 locs1 cells slots Q (F0 m (pc + 3) ls rest)) : W p l e R s m args below meth c H locs cells slots Q (F0 m pc ls (.int n :: .int dp :: .ref a :: .int sp :: .ref b0 :: rest)) := by
  have nn : ∀ z : Int32, ¬ z < 0 → z.toInt = (z.toNatClampNeg : Int) := by
    intro z hz
    have hz0 : (0 : Int) ≤ z.toInt := by
      have := Int32.not_lt.mp hz
      simpa using Int32.le_iff_toInt_le.mp this
    show z.toInt = ((z.toInt.toNat : Nat) : Int)
    omega
  intro T hT X
  obtain ⟨⟨scr, hs1, hs2, hs3, hs4, -, hs5, -⟩, -, hs8⟩ := hX
  have hc1 : H[a]? = some (vp_cell c1 (n1, .inl g)) := hP q1 _ ha1
  obtain ⟨hs6, k0, hk0, cm0, hkk0⟩ := hs2
  obtain ⟨-, k1, hk1, cm1, hkk1⟩ := (hK.2 t1 _ ht1).1 n1 (fun j => .int (g j))
  obtain ⟨vm', X', step⟩ := X.arraycopy hexec hown hlink hnat hstat hini (src := b0) (dst := a) (cs := scr) (cd := vp_cell c1 (n1, .inl g)) (srcPos := sp) (destPos := dp) (n := n) (by rw [hT]; exact hs1) (by rw [hT]; exact hc1)
    hs6 (fun _ h => by cases h) hs3 (fun h => by cases h) hk0 hk1 hkk0 hkk1 (by simp [refKind]) h1 h2 h3
    (by rw [nn sp h1, nn n h3]; omega)
    (by rw [nn dp h2, nn n h3]; show ¬ _ > ((arrV c1 n1 (fun j => .int (g j))).slots.size : Int); rw [arrV_size]; omega)
    (fun vm₁ _ i hi => by
      have e : scr.slots.getD (sp.toNatClampNeg + i) .null = .int (nI (f (sp.toNatClampNeg + i))) := by
        rw [Array.getD_eq_getD_getElem?, hs5 _ (by omega)]
        rfl
      refine ⟨?_, ?_⟩
      · rw [e]
        exact fit_b (hs8 _ (by omega))
      · rw [e]
        exact trivial)
    (g := F0 m pc ls (.int n :: .int dp :: .ref a :: .int sp :: .ref b0 :: rest)) rfl (by rw [hml]) (rest := rest) rfl (by rw [hb]; exact hdg) hframes (by show 2 * 0 + _ + _ ≤ _; omega)
  have e1 : copied scr (vp_cell c1 (n1, .inl g)) sp dp n = vp_cell c1 (n1, .inl (va_cpy (fun j => nI (f j)) g sp.toNatClampNeg dp.toNatClampNeg n.toNatClampNeg)) := va_copiedX (fun z => .int z) scr c1 (fun j => nI (f j)) g hs5 h4
  rw [e1] at X' step
  have hl : a < H.size := (Array.getElem?_eq_some_iff.mp hc1).1
  have hheap : ((T.setVm vm').setCell a (vp_cell c1 (n1, .inl (va_cpy (fun j => nI (f j)) g sp.toNatClampNeg dp.toNatClampNeg n.toNatClampNeg)))).heap = H.setIfInBounds a (vp_cell c1 (n1, .inl (va_cpy (fun j => nI (f j)) g sp.toNatClampNeg dp.toNatClampNeg n.toNatClampNeg))) := by rw [← hT]; rfl
  have oq : ∀ q : Nat, q ≠ a → (H.setIfInBounds a (vp_cell c1 (n1, .inl (va_cpy (fun j => nI (f j)) g sp.toNatClampNeg dp.toNatClampNeg n.toNatClampNeg))))[q]? = H[q]? := fun q hq => by simp [Array.getElem?_setIfInBounds, Ne.symm hq]
  obtain ⟨t, a1, b1⟩ := kk _ _ (hP.set hD ha1 (show (H.setIfInBounds a _)[a]? = some _ by simp [Array.getElem?_setIfInBounds, hl]) oq) (hD.set ha1) ⟨by simp; exact hS.1, fun q g1 g2 => by
      rw [oq q (fun e => g2 (by rw [e]; exact hD.2 q1 _ ha1))]
      exact hS.2.1 q g1 g2, fun q hq => by
      rcases List.mem_append.mp hq with h | h
      · exact hS.2.2 q h
      · obtain ⟨z, -, hz⟩ := List.mem_map.mp h
        rw [← hz]
        exact hD.2 q1 _ ha1⟩ _ hheap X'
  exact ⟨t, step t a1, b1⟩
end SB
/-- a String that is cells of a world -/
theorem SA.of {D : va_G} {dA : Nat → ClassId} {args : Array Value} {s : State} {H : Heap} {ws : va_W} {a b n i j : Nat} {f : Nat → Nat} {g : Nat → Int32} {x y : Value} (hts : ∀ w ∈ lw_all, w.before args s = true) (hG : GK D dA s) (hP : va_P D CL ws H) (hi : ws[i]? = some (a, .inr (16, [.ref b, .int (nI 0), x, y]))) (hj : ws[j]? = some (b, .inl (dA 1, n, .inl g))) (hn : n < 2 ^ 31) (hg : ∀ j, j < n → g j = nI (f j) ∧ f j < 128) : SA nA a b n f s H := by
  obtain ⟨r, h1, cell, q1, q2, q3, q4⟩ := hP i _ hi
  have hr : r = (RJ3, TJ3, 4) := Option.some.inj (h1.symm.trans (show CL[16]? = some (RJ3, TJ3, 4) from rfl))
  subst hr
  obtain ⟨hS, hfc, kC, hkC, hkind⟩ := hG.1.1 16 _ (show CL[16]? = some (RJ3, TJ3, 4) from rfl)
  obtain ⟨cell2, k1, k2, k3⟩ := va_recv hG.1 hP (ci := 16) (show CL[16]? = some (RJ3, TJ3, 4) from rfl) hi
  refine ⟨⟨cell2, k1, k2, k3, fun q => q⟩, ?_, ?_, ?_⟩
  · obtain ⟨cf, kf, fi, fd, hfi, hsl⟩ := hS 1 (by decide)
    refine ⟨cf, kf, fi, fd, cell, hfi, (u_facts hfc hkC (u_lays hts in_J3 (show 1 < 4 by decide)) hfi).1, q1, (by rw [q3]; exact (fun h => by cases h)), ?_, fun q => q⟩
    rw [hsl, q4 1 (by decide)]
    rfl
  · obtain ⟨cf, kf, fi, fd, hfi, hsl⟩ := hS 0 (by decide)
    refine ⟨cf, kf, fi, fd, cell, hfi, (u_facts hfc hkC (u_lays hts in_J3 (show 0 < 4 by decide)) hfi).1, q1, (by rw [q3]; exact (fun h => by cases h)), ?_, fun q => q⟩
    rw [hsl, q4 0 (by decide)]
    rfl
  · have hc : H[b]? = some (vp_cell (dA 1) (n, .inl g)) := hP j _ hj
    refine ⟨⟨_, hc, (hG.1.2 1 _ (rfl : (tysG dA)[1]? = some (dA 1, .byte))).1 n (fun j => .int (g j)), (fun h => by cases h), ?_, ?_, fun k hk => ?_, fun q => q⟩, hn, fun k hk => (hg k hk).2⟩
    · show n ≤ (arrV _ n _).slots.size
      exact Nat.le_of_eq (arrV_size _ _ _).symm
    · show (arrV _ n _).slots.size.toInt32 = _
      rw [arrV_size]
    · show (arrV _ n _).slots[k]? = _
      rw [arrV_read _ _ hk, (hg k hk).1]
