set_option maxRecDepth 100000
section KA2
variable {p : Program} {l : Launch} {e : Env} {R : Room} {s : State} {m : MethodId} {args : Array Value} {below : List Frame} {meth : Method} {c : Code} {H : Heap} {locs : List Loc} {cells slots : Nat} {Q : State → Prop}
variable {cc : ByteArray} {pc : Nat} {ls : Array Slot} {rest : List Value} {D : va_G} {cl : List vw_C} {A : Nat → Prop} {a : Nat} {tys : List (ClassId × FieldType)} {H0 : Heap}
theorem ka_aaldA (hx : p.tables.exec = Jvm.exec) (hb : c.code = cc) (hK : va_K D cl tys s) {cA : ClassId} {n : Nat} {f : Nat → Option Nat} (ha : va_at D cl (a, .inl (cA, n, rfA f)) H) (t0 : Nat) {ty : FieldType} (ht : tys[t0]? = some (cA, .array ty)) {i : Nat} {q : Option Nat} (hi : i < n) (hn : n < 2 ^ 31) (hv : f i = q) (hdg : decode cc pc = .ok (.aaload, 1))
    (kk : W p l e R s m args below meth c H locs cells slots Q (F0 m (pc + 1) ls (va_rf q :: rest))) : W p l e R s m args below meth c H locs cells slots Q (F0 m pc ls (.int (nI i) :: .ref a :: rest)) := by
  have hin : vp_in (nI i) n := vp_in_nI hi hn
  have hc : (nI i).toNatClampNeg = i := nI_clamp (by omega)
  exact W.aald (v := va_rf q) (ty := .array ty) hx hb ha ((hK.2 t0 _ ht).1 n (fun j => va_rf (f j))) rfl (fun q => by cases q) (by show ¬ (nI i < 0 ∨ (arrV _ _ _).slots.size ≤ _); rw [arrV_size]; exact hin) (by show (arrV _ _ _).slots[_]? = _; rw [hc, arrV_read _ _ hi, hv]) rfl rfl hdg kk
end KA2
theorem RtOk.inc {N : Nat → Nat} {G : Nat → Nat → Nat} {Y : Nat → Nat → Nat → Int32} (h : RtOk N G Y) {c k : Nat} (hc : c < N 3) (hl : lv G c = true) (h1 : G 9 c ≤ k) (h2 : k < N 14) : Y 1 c k = nI (G 12 (600 * c + k)) - nI 1 := by
  obtain ⟨r, h3, h4, h5⟩ := h c hc hl k h1 h2
  rw [h5, h4]
  exact (nI_pred r).symm
theorem min_cap (v : Int32) : (if v < nI 1000 then v else nI 1000) = cap v := by
  unfold cap
  by_cases h : v < nI 1000
  · rw [if_pos h, if_pos (Int32.le_of_lt h)]
  · rw [if_neg h]
    by_cases h2 : v ≤ nI 1000
    · rw [if_pos h2]
      exact Int32.le_antisymm (Int32.not_lt.mp h) h2
    · rw [if_neg h2]
theorem n100 {x : Int32} {k : Nat} (hk : k ≤ 47) (h : x + nI 5 = nI k) : ¬ x = nI 100 := by
  intro q
  rw [q, nI_add] at h
  have := (nI_eq (by decide) (by omega)).mp h
  omega
theorem rwH_1 {ad X : Nat → Nat → Nat} {z : Nat} (h : X 1 z = 1) : rwH ad X z = some (ad 3 z) := if_pos h
theorem rwH_0 {ad X : Nat → Nat → Nat} {z : Nat} (h : ¬ X 1 z = 1) : rwH ad X z = none := if_neg h
theorem Wr_1 {G : Nat → Nat → Nat} {J : Nat → Nat → Int32} {X : Nat → Nat → Nat} {Y : Nat → Nat → Nat → Int32} (h : WrOk G J X Y) {z k : Nat} (hz : z < 3) (hx : X 1 z = 1) (hk : k < 600) : Y 2 z k = if G 17 (600 * z + k) = 0 then nI 100 else J 16 (600 * z + k) := by
  rcases h z hz with q | q
  · exact q.2 k hk
  · exact absurd hx q.1
theorem Wr_0 {G : Nat → Nat → Nat} {J : Nat → Nat → Int32} {X : Nat → Nat → Nat} {Y : Nat → Nat → Nat → Int32} (h : WrOk G J X Y) {z : Nat} (hz : z < 3) (hx : ¬ X 1 z = 1) : ∀ n, n ≤ 600 → warmS G J z n = nI 15 := by
  rcases h z hz with q | q
  · exact absurd q.1 hx
  · intro n
    induction n with
    | zero => intro _; rfl
    | succ n ih =>
      intro hn
      rw [warmS, if_pos (q.2 n (by omega)), ih (by omega)]
/-- two weighed numbers, as the house mixes them -/
theorem mix_d (a b w v : Int64) : (a * w + b * v + 0) / (w + v) = (w * a + v * b) / (w + v) := by
  rw [Int64.add_zero, Int64.mul_comm a w, Int64.mul_comm b v]
theorem mix_u (a b w v : Int64) : (a * w + b * v + (w + v - 1)) / (w + v) = (w * a + v * b + w + v - 1) / (w + v) := by
  rw [Int64.mul_comm a w, Int64.mul_comm b v, Int64.sub_eq_add_neg, Int64.sub_eq_add_neg, Int64.add_assoc, Int64.add_assoc, Int64.add_assoc, Int64.add_assoc, Int64.add_assoc]
