set_option maxRecDepth 100000
theorem steps_up {tb : Tables} {e : Env} {g : Frame} {below : List Frame} {a b : State} (h : Steps tb e (g :: below) a b) : Steps tb e below a b := by
  obtain ⟨n, h1, h2⟩ := h
  exact ⟨n, h1, fun k hk => Within.weaken (mid := [g]) (h2 k hk)⟩
section OE
variable {p : Program} {l : Launch} {e : Env} {R : Room} {s : State} {m : MethodId} {args : Array Value} {below : List Frame} {meth : Method} {c : Code} {H : Heap} {locs : List Loc} {cells slots : Nat} {Q : State → Prop}
variable {cc : ByteArray} {nL index : Nat} {Ts : List Cond} {own C : String} {b v : Addr} {rest : List Value}
/-- the walk through Object.equals -/
theorem eq_body (hx : p.tables.exec = Jvm.exec) (hb : c.code = cJ18_equals) (hrt : meth.sig.returnType = some .boolean) (hlocks : meth.locks = false) : W p l e R s m #[.ref b, .ref v] below meth c s.heap [] 0 0 (MQ below (vp_Si (fun r => r = bI (decide (b = v)))) #[.ref b, .ref v] s 0 0 (fun _ => False)) (entryFrame m #[.ref b, .ref v] 2) := by
  have hE : entryFrame m #[.ref b, .ref v] 2 = F0 m 0 ((lg_sl [.ref b, .ref v] ++ List.replicate (2 - (lg_sl [.ref b, .ref v]).length) Slot.unset).toArray) [] := lg_entry_eq m _ 2
  have hl := lv_entry [.ref b, .ref v] (n := 2) (Nat.le_of_ble_eq_true rfl)
  rw [hE]
  generalize (lg_sl [.ref b, .ref v] ++ List.replicate (2 - (lg_sl [.ref b, .ref v]).length) Slot.unset).toArray = ls at hl ⊢
  have hl : lv_has ls 2 [(0, .ref b), (1, .ref v)] := hl
  refine lv_aload_n hx hb dJ18_equals_0 rfl (lv_at hl 0 rfl) ?_
  refine lv_aload_n hx hb dJ18_equals_1 rfl (lv_at hl 1 rfl) ?_
  refine lv_acmp_ne (rx := some b) (ry := some v) (tgt := 9) hx hb dJ18_equals_2 (by decide) (fun c2 => ?_) (fun c2 => ?_)
  · refine lv_iconst (v := nI 0) hx hb dJ18_equals_9 (by decide) ?_
    exact W.zret (v := nI 0) hx hb hrt rfl (fun t ht _ => ⟨_, rfl, retB0 (decide_eq_false (fun q => c2 (by rw [q]))), ht⟩) t_nil dJ18_equals_10
  · refine lv_iconst (v := nI 1) hx hb dJ18_equals_5 (by decide) ?_
    refine lv_goto (tgt := 10) hx hb dJ18_equals_6 (by decide) ?_
    exact W.zret (v := nI 1) hx hb hrt rfl (fun t ht _ => ⟨_, rfl, retB1 (decide_eq_true (Option.some.inj c2)), ht⟩) t_nil dJ18_equals_10
end OE
