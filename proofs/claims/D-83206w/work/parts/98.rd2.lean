set_option maxRecDepth 100000
theorem SA.out {A : Nat → Prop} {a b n : Nat} {f : Nat → Nat} {s : State} {H : Heap} (h : SA nA a b n f s H) (ha : ¬ A a) (hb : ¬ A b) : SA A a b n f s H := by
  obtain ⟨⟨c1, q1, q2, q3, -⟩, ⟨cf, k, i, fd, c2, r1, r2, r3, r4, r5, -⟩, ⟨cf', k', i', fd', c3, t1, t2, t3, t4, t5, -⟩, ⟨⟨c4, u1, u2, u3, u4, u5, u6, -⟩, u8⟩⟩ := h
  exact ⟨⟨c1, q1, q2, q3, ha⟩, ⟨cf, k, i, fd, c2, r1, r2, r3, r4, r5, ha⟩, ⟨cf', k', i', fd', c3, t1, t2, t3, t4, t5, ha⟩, ⟨⟨c4, u1, u2, u3, u4, u5, u6, hb⟩, u8⟩⟩
theorem va_A_rest {D : va_G} {cl : List vw_C} {A : Nat → Prop} {w0 wr : va_W} {H : Heap} (hP : va_P D cl (w0 ++ wr) H) (hD : va_D A (w0 ++ wr)) {k : Nat} {q : Nat × va_E} (hk : wr[k]? = some q) : ¬ va_A w0 H.size q.1 := by
  intro h
  have hlt := (hP _ _ (va_in_right hk)).lt
  rcases h with ⟨j, e, hj⟩ | h
  · have := hD.1 j (w0.length + k) _ _ (va_in_left hj) (va_in_right hk) rfl
    have hl := (List.getElem?_eq_some_iff.mp hj).1
    omega
  · omega
theorem SA.rest {D : va_G} {cl : List vw_C} {A : Nat → Prop} {w0 wr : va_W} {H : Heap} {a b n : Nat} {f : Nat → Nat} {s : State} (hP : va_P D cl (w0 ++ wr) H) (hD : va_D A (w0 ++ wr)) (h : SA nA a b n f s H) {i j : Nat} {x y : va_E} (hi : wr[i]? = some (a, x)) (hj : wr[j]? = some (b, y)) : SA (va_A w0 H.size) a b n f s H := h.out (va_A_rest hP hD hi) (va_A_rest hP hD hj)
/-! statics that Throwable reads -/
def KT (A : Nat → Prop) (U : State) (H : Heap) : Prop := va_Zq "java/lang/Throwable" "UNASSIGNED_STACK" "[Ljava/lang/StackTraceElement;" A U H ∧ va_Zq "java/lang/Throwable" "SUPPRESSED_SENTINEL" "Ljava/util/List;" A U H
theorem KT.mv {A : Nat → Prop} : Mv (KT A) := Mv.alike fun _ _ _ w q => ⟨va_Zq.moved w q.1, va_Zq.moved w q.2⟩
theorem KT.at {A B : Nat → Prop} {s : State} {H : Heap} {locs : List Loc} (h : KT A s s.heap) (hS : va_S A s.heap H locs) (hAB : ∀ q, B q → A q) : KT B s H := ⟨(h.1.kept hS.2.1).narrow hAB, (h.2.kept hS.2.1).narrow hAB⟩
section ZQ
variable {p : Program} {lh : Launch} {e : Env} {R : Room} {s : State} {m : MethodId} {args : Array Value} {below : List Frame} {meth : Method} {c : Code} {H : Heap} {locs : List Loc} {cells slots : Nat} {Q : State → Prop}
variable {cc : ByteArray} {pc : Nat} {ls : Array Slot} {rest : List Value} {A : Nat → Prop}
theorem Zq_get (hx : p.tables.exec = Jvm.exec) (hb : c.code = cc) {own C n d : String} {index : Nat} (hK : va_Zq C n d A s s.heap) (hS : va_S A s.heap H locs) (hown : s.vm.findClass own = some m.cls) (hlink : (Cond.fieldLink own index C n d).before args s = true) (hdg : decode cc pc = .ok (.getstatic index, 3))
    (kk : ∀ q : Option Nat, W p lh e R s m args below meth c H locs cells slots Q (F0 m (pc + 3) ls (va_rf q :: rest))) : W p lh e R s m args below meth c H locs cells slots Q (F0 m pc ls rest) := by
  rcases hK.kept hS.2.1 with ⟨cf, kf, fi, fd, a, cell, h1, h2, h3, h4, h5, h6, h7, h8⟩ | ⟨t, cf, kf, fi, fd, a, cell, h1, h2, h3, h4, h5, h6, h7, h8⟩
  · exact W.gets hx hb hown hlink h1 h2 h3 h4 h5 (fun e => by rw [e] at h6; cases h6) h7 rfl hdg (kk none)
  · exact W.gets hx hb hown hlink h1 h2 h3 h4 h5 (fun e => by rw [e] at h6; cases h6) h7 rfl hdg (kk (some t))
end ZQ
/-- a word between blanks -/
def spW (g : Nat → Nat) (n : Nat) : Nat → Nat := fun j => if j = 0 then 32 else if j < n + 1 then g (j - 1) else 32
theorem spW_bw {g g0 : Nat → Nat} {n : Nat} : bw (ap (ap (ap g0 0 (kch 4)) (0 + klen 4) g) (0 + klen 4 + n) (kch 4)) (0 + klen 4 + n + klen 4) = bw (spW g n) (n + 2) := by
  have e1 : klen 4 = 1 := rfl
  have e2 : kch 4 0 = 32 := rfl
  funext j
  unfold bw
  rw [e1]
  by_cases h : j < n + 2
  · rw [if_pos (by omega), if_pos h]
    congr 1
    unfold ap spW
    by_cases h0 : j = 0
    · subst h0
      rw [if_pos (by omega), if_pos (by omega), if_neg (by omega), if_pos rfl, Nat.sub_zero]
      exact e2
    · rw [if_neg h0]
      by_cases h1 : j < n + 1
      · rw [if_pos (by omega), if_neg (by omega), if_pos h1]
      · rw [if_neg (by omega), if_neg h1, show j - (0 + 1 + n) = 0 by omega]
        exact e2
  · rw [if_neg (by omega), if_neg h]
theorem spW_lt {g : Nat → Nat} {n : Nat} (h : ∀ j, j < n → g j < 128) : ∀ j, j < n + 2 → spW g n j < 128 := by
  intro j hj
  unfold spW
  split
  · decide
  · split
    · exact h _ (by omega)
    · decide
