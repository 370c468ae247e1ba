set_option maxRecDepth 100000
def AI (a0 sz : Nat) : Nat → Prop := fun q => q = a0 ∨ sz ≤ q
theorem AI.o {a0 sz : Nat} : AI a0 sz a0 := Or.inl rfl
theorem AI.n {a0 sz q : Nat} (h : sz ≤ q) : AI a0 sz q := Or.inr h
theorem RMp.off {D : va_G} {dA : Nat → ClassId} {a0 : Nat} {ad : Nat → Nat} {L : Nat → Bool} {N : Nat → Nat} {I : Nat → Int32} {z q : Nat} {H H1 : Heap} (h : RMp D dA a0 ad L N I z H) (hq : z ≤ q) (hqn : ∀ j, L j = true → ad j ≠ q) (o : ∀ x : Nat, x ≠ q → H1[x]? = H[x]?) : RMp D dA a0 ad L N I z H1 :=
  ⟨h.1.kept (o _ (by have := h.2.2.2; omega)), fun j hj => ⟨(h.2.1 j hj).1.kept (o _ (hqn j hj)), (h.2.1 j hj).2⟩, h.2.2⟩
theorem arrV_cg {cI : ClassId} {N : Nat} {f g : Nat → Value} (h : ∀ j, j < N → f j = g j) : arrV cI N f = arrV cI N g := by
  unfold arrV
  rw [show (fun j : Fin N => f j.val) = (fun j : Fin N => g j.val) from funext (fun j => h j.1 j.2)]
theorem va_at_cg {D : va_G} {cl : List vw_C} {q : Nat} {cA : ClassId} {n : Nat} {f g : Nat → Int32} {H : Heap} (h : va_at D cl (q, .inl (cA, n, .inl f)) H) (e : ∀ j, j < n → f j = g j) : va_at D cl (q, .inl (cA, n, .inl g)) H := by
  show H[q]? = some (vp_cell _ _)
  rw [show H[q]? = some (vp_cell cA (n, .inl f)) from h]
  rw [vp_cell_i, vp_cell_i]
  exact congrArg some (arrV_cg (fun j hj => by rw [e j hj]))
theorem RMp.all {D : va_G} {dA : Nat → ClassId} {a0 : Nat} {ad : Nat → Nat} {L : Nat → Bool} {N : Nat → Nat} {I : Nat → Int32} {z : Nat} {H : Heap} (h : RMp D dA a0 ad L N I z H) (hL : ∀ k, k < 54 → isA k = true → L k = true) (hA : ∀ k, isA k = true → k < 54) (hf : fP ad L N I = fM ad N I) : RM D dA a0 ad N I G00 J00 H ∧ ∀ k, isA k = true → z ≤ ad k :=
  ⟨⟨by rw [← hf]; exact h.1, fun k hk => (h.2.1 k (hL k (hA k hk) hk)).1, fun k hk e => by have a := (h.2.1 k (hL k (hA k hk) hk)).2; have b := h.2.2.2; omega, fun k k' hk hk' e => h.2.2.1 k k' (hL k (hA k hk) hk) (hL k' (hA k' hk') hk') e⟩, fun k hk => (h.2.1 k (hL k (hA k hk) hk)).2⟩
theorem isA_54 : ∀ k, isA k = true → k < 54 := by
  intro k h
  rcases Nat.lt_or_ge k 54 with q | q
  · exact q
  · exfalso
    obtain ⟨j, rfl⟩ : ∃ j, k = 54 + j := ⟨k - 54, by omega⟩
    unfold isA lenM at h
    split at h <;> first | omega | (simp at h)
theorem RM.n0 {D : va_G} {dA : Nat → ClassId} {a0 : Nat} {ad : Nat → Nat} {H : Heap} (h : RM D dA a0 ad (up1 (fun _ => 0) 43 1000) (up1 (fun _ => 0) 35 (-1)) G00 J00 H) : RM D dA a0 ad N00 I00 G00 J00 H := h
abbrev r_X2_init : Room := { frames := 1, cells := 34, slots := 13161, locals := 13 }
set_option maxHeartbeats 1000000 in
theorem c_X2_init (lh : Launch) (D : va_G) (dA : Nat → ClassId) (a0 sz : Nat) (ad0 : Nat → Nat) (hz : a0 < sz) : Met lh yX2_init (ws_ yX2_init cX2_init 1 none) r_X2_init (va_Pc [.ref a0] (fun U => U.heap.size = sz ∧ va_at D CL (a0, .inr (0, fP ad0 (fun _ => false) (fun _ => 0) (fun _ => 0))) U.heap ∧ GK D dA U)) (va_Qv (fun ad : Nat → Nat => ∀ k, isA k = true → sz ≤ ad k) (fun ad t => RM D dA a0 ad N00 I00 G00 J00 t.heap ∧ GK D dA t) (AI a0 sz)) 34 13161 (AI a0 sz) := by
  refine Met.ofW (cc := cX2_init) (maxL := 1) (ret := none) (by decide) rfl ?_
  intro p e s m args below meth cd s₁ B hml hv
  obtain ⟨hargs, hsz, ho, hG⟩ := hv
  have hx := B.exec
  have hb := B.bytes
  have hrt := B.returns
  have hts := atoms_spec (ws := (ws_ yX2_init cX2_init 1 none)) B.pre
  have hts : ∀ w ∈ lw_all, w.before _ s = true := fun w h => hts w (List.mem_cons_of_mem _ h)
  have hown : s.vm.findClass RX2 = some m.cls := findClass_of_methodNamed B.named
  have hlocks := B.notSynchronized
  have hin : meth.name = "<init>" := (name_of_methodNamed B.named B.method).1
  subst hsz
  have hS : va_S (AI a0 s.heap.size) s.heap s.heap [] := va_S.rf
  have hP : RMp D dA a0 ad0 (fun _ => false) (fun _ => 0) (fun _ => 0) s.heap.size s.heap := ⟨ho, fun _ h => Bool.noConfusion h, fun _ _ h => Bool.noConfusion h, hz⟩
  clear ho
  have hE : entryFrame m args 1 = F0 m 0 ((lg_sl ([.ref a0]) ++ List.replicate (1 - (lg_sl ([.ref a0])).length) Slot.unset).toArray) [] := by rw [hargs]; exact lg_entry_eq m _ 1
  have hl := lv_entry ([.ref a0]) (n := 1) (Nat.le_of_ble_eq_true rfl)
  rw [hE]
  clear hE
  generalize (lg_sl ([.ref a0]) ++ List.replicate (1 - (lg_sl ([.ref a0])).length) Slot.unset).toArray = ls at hl ⊢
  have hl : lv_has ls 1 [(0, .ref a0)] := hl
  refine lv_aload_n hx hb dX2_init_0 rfl (lv_at hl 0 rfl) ?_
  refine W.objInit hx hb hown (hts _ q1291) (hts _ q105) (hts _ q106) rfl (by rw [hml]; exact hl.1) rfl dX2_init_1 (Nat.le_of_ble_eq_true rfl) (Nat.le_of_ble_eq_true rfl) ?_
  refine W.eq (g2 := F0 m 4 ls []) rfl ?_
  refine lv_aload_n hx hb dX2_init_4 rfl (lv_at hl 0 rfl) ?_
  refine lv_bipush (v := nI 20) hx hb dX2_init_5 (by decide) ?_
  refine M_mk (atype := .int) hx hb hts hown hG hS AI.o hin hP 2 (by decide) rfl rfl (by decide) q1294 rfl rfl (fun _ => ⟨rfl, rfl⟩) (hts _ q135) rfl rfl rfl (n := 20) rfl (by decide) (Nat.le_of_ble_eq_true rfl) (Nat.le_of_ble_eq_true rfl) dX2_init_7 dX2_init_9 (fun ad H locs hP hS => ?_)
  refine lv_aload_n hx hb dX2_init_12 rfl (lv_at hl 0 rfl) ?_
  refine lv_sipush (v := nI 200) hx hb dX2_init_13 (by decide) ?_
  refine M_mk (atype := .int) hx hb hts hown hG hS AI.o hin hP 4 (by decide) rfl rfl (by decide) q1296 rfl rfl (fun _ => ⟨rfl, rfl⟩) (hts _ q135) rfl rfl rfl (n := 200) rfl (by decide) (Nat.le_of_ble_eq_true rfl) (Nat.le_of_ble_eq_true rfl) dX2_init_16 dX2_init_18 (fun ad H locs hP hS => ?_)
  refine lv_aload_n hx hb dX2_init_21 rfl (lv_at hl 0 rfl) ?_
  refine lv_bipush (v := nI 10) hx hb dX2_init_22 (by decide) ?_
  refine M_mk (atype := .int) hx hb hts hown hG hS AI.o hin hP 5 (by decide) rfl rfl (by decide) q1297 rfl rfl (fun _ => ⟨rfl, rfl⟩) (hts _ q135) rfl rfl rfl (n := 10) rfl (by decide) (Nat.le_of_ble_eq_true rfl) (Nat.le_of_ble_eq_true rfl) dX2_init_24 dX2_init_26 (fun ad H locs hP hS => ?_)
  refine lv_aload_n hx hb dX2_init_29 rfl (lv_at hl 0 rfl) ?_
  refine lv_bipush (v := nI 10) hx hb dX2_init_30 (by decide) ?_
  refine M_mk (atype := .int) hx hb hts hown hG hS AI.o hin hP 6 (by decide) rfl rfl (by decide) q1298 rfl rfl (fun _ => ⟨rfl, rfl⟩) (hts _ q135) rfl rfl rfl (n := 10) rfl (by decide) (Nat.le_of_ble_eq_true rfl) (Nat.le_of_ble_eq_true rfl) dX2_init_32 dX2_init_34 (fun ad H locs hP hS => ?_)
  refine lv_aload_n hx hb dX2_init_37 rfl (lv_at hl 0 rfl) ?_
  refine lv_bipush (v := nI 10) hx hb dX2_init_38 (by decide) ?_
  refine M_mk (atype := .int) hx hb hts hown hG hS AI.o hin hP 7 (by decide) rfl rfl (by decide) q1299 rfl rfl (fun _ => ⟨rfl, rfl⟩) (hts _ q135) rfl rfl rfl (n := 10) rfl (by decide) (Nat.le_of_ble_eq_true rfl) (Nat.le_of_ble_eq_true rfl) dX2_init_40 dX2_init_42 (fun ad H locs hP hS => ?_)
  refine lv_aload_n hx hb dX2_init_45 rfl (lv_at hl 0 rfl) ?_
  refine lv_bipush (v := nI 10) hx hb dX2_init_46 (by decide) ?_
  refine M_mk (atype := .int) hx hb hts hown hG hS AI.o hin hP 8 (by decide) rfl rfl (by decide) q1300 rfl rfl (fun _ => ⟨rfl, rfl⟩) (hts _ q135) rfl rfl rfl (n := 10) rfl (by decide) (Nat.le_of_ble_eq_true rfl) (Nat.le_of_ble_eq_true rfl) dX2_init_48 dX2_init_50 (fun ad H locs hP hS => ?_)
  refine lv_aload_n hx hb dX2_init_53 rfl (lv_at hl 0 rfl) ?_
  refine lv_bipush (v := nI 10) hx hb dX2_init_54 (by decide) ?_
  refine M_mk (atype := .int) hx hb hts hown hG hS AI.o hin hP 9 (by decide) rfl rfl (by decide) q1301 rfl rfl (fun _ => ⟨rfl, rfl⟩) (hts _ q135) rfl rfl rfl (n := 10) rfl (by decide) (Nat.le_of_ble_eq_true rfl) (Nat.le_of_ble_eq_true rfl) dX2_init_56 dX2_init_58 (fun ad H locs hP hS => ?_)
  refine lv_aload_n hx hb dX2_init_61 rfl (lv_at hl 0 rfl) ?_
  refine lv_bipush (v := nI 10) hx hb dX2_init_62 (by decide) ?_
  refine M_mk (atype := .int) hx hb hts hown hG hS AI.o hin hP 10 (by decide) rfl rfl (by decide) q1302 rfl rfl (fun _ => ⟨rfl, rfl⟩) (hts _ q135) rfl rfl rfl (n := 10) rfl (by decide) (Nat.le_of_ble_eq_true rfl) (Nat.le_of_ble_eq_true rfl) dX2_init_64 dX2_init_66 (fun ad H locs hP hS => ?_)
  refine lv_aload_n hx hb dX2_init_69 rfl (lv_at hl 0 rfl) ?_
  refine lv_bipush (v := nI 10) hx hb dX2_init_70 (by decide) ?_
  refine M_mk (atype := .int) hx hb hts hown hG hS AI.o hin hP 11 (by decide) rfl rfl (by decide) q1303 rfl rfl (fun _ => ⟨rfl, rfl⟩) (hts _ q135) rfl rfl rfl (n := 10) rfl (by decide) (Nat.le_of_ble_eq_true rfl) (Nat.le_of_ble_eq_true rfl) dX2_init_72 dX2_init_74 (fun ad H locs hP hS => ?_)
  refine lv_aload_n hx hb dX2_init_77 rfl (lv_at hl 0 rfl) ?_
  refine lv_sipush (v := nI 6000) hx hb dX2_init_78 (by decide) ?_
  refine M_mk (atype := .byte) hx hb hts hown hG hS AI.o hin hP 12 (by decide) rfl rfl (by decide) q1304 rfl rfl (fun _ => ⟨rfl, rfl⟩) (hts _ q270) rfl rfl rfl (n := 6000) rfl (by decide) (Nat.le_of_ble_eq_true rfl) (Nat.le_of_ble_eq_true rfl) dX2_init_81 dX2_init_83 (fun ad H locs hP hS => ?_)
  refine lv_aload_n hx hb dX2_init_86 rfl (lv_at hl 0 rfl) ?_
  refine lv_bipush (v := nI 10) hx hb dX2_init_87 (by decide) ?_
  refine M_mk (atype := .int) hx hb hts hown hG hS AI.o hin hP 13 (by decide) rfl rfl (by decide) q1305 rfl rfl (fun _ => ⟨rfl, rfl⟩) (hts _ q135) rfl rfl rfl (n := 10) rfl (by decide) (Nat.le_of_ble_eq_true rfl) (Nat.le_of_ble_eq_true rfl) dX2_init_89 dX2_init_91 (fun ad H locs hP hS => ?_)
  refine lv_aload_n hx hb dX2_init_94 rfl (lv_at hl 0 rfl) ?_
  refine lv_sipush (v := nI 1800) hx hb dX2_init_95 (by decide) ?_
  refine M_mk (atype := .byte) hx hb hts hown hG hS AI.o hin hP 16 (by decide) rfl rfl (by decide) q1308 rfl rfl (fun _ => ⟨rfl, rfl⟩) (hts _ q270) rfl rfl rfl (n := 1800) rfl (by decide) (Nat.le_of_ble_eq_true rfl) (Nat.le_of_ble_eq_true rfl) dX2_init_98 dX2_init_100 (fun ad H locs hP hS => ?_)
  refine lv_aload_n hx hb dX2_init_103 rfl (lv_at hl 0 rfl) ?_
  refine lv_sipush (v := nI 1800) hx hb dX2_init_104 (by decide) ?_
  refine M_mk (atype := .boolean) hx hb hts hown hG hS AI.o hin hP 17 (by decide) rfl rfl (by decide) q1309 rfl rfl (fun _ => ⟨rfl, rfl⟩) (hts _ q271) rfl rfl rfl (n := 1800) rfl (by decide) (Nat.le_of_ble_eq_true rfl) (Nat.le_of_ble_eq_true rfl) dX2_init_107 dX2_init_109 (fun ad H locs hP hS => ?_)
  refine lv_aload_n hx hb dX2_init_112 rfl (lv_at hl 0 rfl) ?_
  refine lv_bipush (v := nI 24) hx hb dX2_init_113 (by decide) ?_
  refine M_na (atype := .int) hx hb hG hS hP (hts _ q135) rfl 0 rfl rfl (n := 24) (by decide) (by decide) (Nat.le_of_ble_eq_true rfl) (Nat.le_of_ble_eq_true rfl) dX2_init_115 (fun q18 H hP hX hq hqn hS => ?_)
  refine lv_dup hx hb dX2_init_117 rfl ?_
  refine lv_iconst (v := nI 0) hx hb dX2_init_118 (by decide) ?_
  refine lv_iconst (v := nI 0) hx hb dX2_init_119 (by decide) ?_
  refine ka_iast hx hb hG.1 hS (AI.n hq) hX 0 rfl (show 0 < 24 by decide) (by decide) dX2_init_120 (fun H locs hX z1 o1 hS => ?_)
  have hP := hP.off hq hqn o1
  refine lv_dup hx hb dX2_init_121 rfl ?_
  refine lv_iconst (v := nI 1) hx hb dX2_init_122 (by decide) ?_
  refine lv_iconst (v := nI 0) hx hb dX2_init_123 (by decide) ?_
  refine ka_iast hx hb hG.1 hS (AI.n hq) hX 0 rfl (show 1 < 24 by decide) (by decide) dX2_init_124 (fun H locs hX z1 o1 hS => ?_)
  have hP := hP.off hq hqn o1
  refine lv_dup hx hb dX2_init_125 rfl ?_
  refine lv_iconst (v := nI 2) hx hb dX2_init_126 (by decide) ?_
  refine lv_iconst (v := nI 0) hx hb dX2_init_127 (by decide) ?_
  refine ka_iast hx hb hG.1 hS (AI.n hq) hX 0 rfl (show 2 < 24 by decide) (by decide) dX2_init_128 (fun H locs hX z1 o1 hS => ?_)
  have hP := hP.off hq hqn o1
  refine lv_dup hx hb dX2_init_129 rfl ?_
  refine lv_iconst (v := nI 3) hx hb dX2_init_130 (by decide) ?_
  refine lv_iconst (v := nI 0) hx hb dX2_init_131 (by decide) ?_
  refine ka_iast hx hb hG.1 hS (AI.n hq) hX 0 rfl (show 3 < 24 by decide) (by decide) dX2_init_132 (fun H locs hX z1 o1 hS => ?_)
  have hP := hP.off hq hqn o1
  refine lv_dup hx hb dX2_init_133 rfl ?_
  refine lv_iconst (v := nI 4) hx hb dX2_init_134 (by decide) ?_
  refine lv_iconst (v := nI 2) hx hb dX2_init_135 (by decide) ?_
  refine ka_iast hx hb hG.1 hS (AI.n hq) hX 0 rfl (show 4 < 24 by decide) (by decide) dX2_init_136 (fun H locs hX z1 o1 hS => ?_)
  have hP := hP.off hq hqn o1
  refine lv_dup hx hb dX2_init_137 rfl ?_
  refine lv_iconst (v := nI 5) hx hb dX2_init_138 (by decide) ?_
  refine lv_iconst (v := nI 1) hx hb dX2_init_139 (by decide) ?_
  refine ka_iast hx hb hG.1 hS (AI.n hq) hX 0 rfl (show 5 < 24 by decide) (by decide) dX2_init_140 (fun H locs hX z1 o1 hS => ?_)
  have hP := hP.off hq hqn o1
  refine lv_dup hx hb dX2_init_141 rfl ?_
  refine lv_bipush (v := nI 6) hx hb dX2_init_142 (by decide) ?_
  refine lv_iconst (v := nI 0) hx hb dX2_init_144 (by decide) ?_
  refine ka_iast hx hb hG.1 hS (AI.n hq) hX 0 rfl (show 6 < 24 by decide) (by decide) dX2_init_145 (fun H locs hX z1 o1 hS => ?_)
  have hP := hP.off hq hqn o1
  refine lv_dup hx hb dX2_init_146 rfl ?_
  refine lv_bipush (v := nI 7) hx hb dX2_init_147 (by decide) ?_
  refine lv_iconst (v := nI 0) hx hb dX2_init_149 (by decide) ?_
  refine ka_iast hx hb hG.1 hS (AI.n hq) hX 0 rfl (show 7 < 24 by decide) (by decide) dX2_init_150 (fun H locs hX z1 o1 hS => ?_)
  have hP := hP.off hq hqn o1
  refine lv_dup hx hb dX2_init_151 rfl ?_
  refine lv_bipush (v := nI 8) hx hb dX2_init_152 (by decide) ?_
  refine lv_iconst (v := nI 4) hx hb dX2_init_154 (by decide) ?_
  refine ka_iast hx hb hG.1 hS (AI.n hq) hX 0 rfl (show 8 < 24 by decide) (by decide) dX2_init_155 (fun H locs hX z1 o1 hS => ?_)
  have hP := hP.off hq hqn o1
  refine lv_dup hx hb dX2_init_156 rfl ?_
  refine lv_bipush (v := nI 9) hx hb dX2_init_157 (by decide) ?_
  refine lv_iconst (v := nI 3) hx hb dX2_init_159 (by decide) ?_
  refine ka_iast hx hb hG.1 hS (AI.n hq) hX 0 rfl (show 9 < 24 by decide) (by decide) dX2_init_160 (fun H locs hX z1 o1 hS => ?_)
  have hP := hP.off hq hqn o1
  refine lv_dup hx hb dX2_init_161 rfl ?_
  refine lv_bipush (v := nI 10) hx hb dX2_init_162 (by decide) ?_
  refine lv_iconst (v := nI 2) hx hb dX2_init_164 (by decide) ?_
  refine ka_iast hx hb hG.1 hS (AI.n hq) hX 0 rfl (show 10 < 24 by decide) (by decide) dX2_init_165 (fun H locs hX z1 o1 hS => ?_)
  have hP := hP.off hq hqn o1
  refine lv_dup hx hb dX2_init_166 rfl ?_
  refine lv_bipush (v := nI 11) hx hb dX2_init_167 (by decide) ?_
  refine lv_iconst (v := nI 1) hx hb dX2_init_169 (by decide) ?_
  refine ka_iast hx hb hG.1 hS (AI.n hq) hX 0 rfl (show 11 < 24 by decide) (by decide) dX2_init_170 (fun H locs hX z1 o1 hS => ?_)
  have hP := hP.off hq hqn o1
  refine lv_dup hx hb dX2_init_171 rfl ?_
  refine lv_bipush (v := nI 12) hx hb dX2_init_172 (by decide) ?_
  refine lv_bipush (v := nI 8) hx hb dX2_init_174 (by decide) ?_
  refine ka_iast hx hb hG.1 hS (AI.n hq) hX 0 rfl (show 12 < 24 by decide) (by decide) dX2_init_176 (fun H locs hX z1 o1 hS => ?_)
  have hP := hP.off hq hqn o1
  refine lv_dup hx hb dX2_init_177 rfl ?_
  refine lv_bipush (v := nI 13) hx hb dX2_init_178 (by decide) ?_
  refine lv_bipush (v := nI 6) hx hb dX2_init_180 (by decide) ?_
  refine ka_iast hx hb hG.1 hS (AI.n hq) hX 0 rfl (show 13 < 24 by decide) (by decide) dX2_init_182 (fun H locs hX z1 o1 hS => ?_)
  have hP := hP.off hq hqn o1
  refine lv_dup hx hb dX2_init_183 rfl ?_
  refine lv_bipush (v := nI 14) hx hb dX2_init_184 (by decide) ?_
  refine lv_iconst (v := nI 4) hx hb dX2_init_186 (by decide) ?_
  refine ka_iast hx hb hG.1 hS (AI.n hq) hX 0 rfl (show 14 < 24 by decide) (by decide) dX2_init_187 (fun H locs hX z1 o1 hS => ?_)
  have hP := hP.off hq hqn o1
  refine lv_dup hx hb dX2_init_188 rfl ?_
  refine lv_bipush (v := nI 15) hx hb dX2_init_189 (by decide) ?_
  refine lv_iconst (v := nI 2) hx hb dX2_init_191 (by decide) ?_
  refine ka_iast hx hb hG.1 hS (AI.n hq) hX 0 rfl (show 15 < 24 by decide) (by decide) dX2_init_192 (fun H locs hX z1 o1 hS => ?_)
  have hP := hP.off hq hqn o1
  refine lv_dup hx hb dX2_init_193 rfl ?_
  refine lv_bipush (v := nI 16) hx hb dX2_init_194 (by decide) ?_
  refine lv_bipush (v := nI 12) hx hb dX2_init_196 (by decide) ?_
  refine ka_iast hx hb hG.1 hS (AI.n hq) hX 0 rfl (show 16 < 24 by decide) (by decide) dX2_init_198 (fun H locs hX z1 o1 hS => ?_)
  have hP := hP.off hq hqn o1
  refine lv_dup hx hb dX2_init_199 rfl ?_
  refine lv_bipush (v := nI 17) hx hb dX2_init_200 (by decide) ?_
  refine lv_bipush (v := nI 9) hx hb dX2_init_202 (by decide) ?_
  refine ka_iast hx hb hG.1 hS (AI.n hq) hX 0 rfl (show 17 < 24 by decide) (by decide) dX2_init_204 (fun H locs hX z1 o1 hS => ?_)
  have hP := hP.off hq hqn o1
  refine lv_dup hx hb dX2_init_205 rfl ?_
  refine lv_bipush (v := nI 18) hx hb dX2_init_206 (by decide) ?_
  refine lv_iconst (v := nI 5) hx hb dX2_init_208 (by decide) ?_
  refine ka_iast hx hb hG.1 hS (AI.n hq) hX 0 rfl (show 18 < 24 by decide) (by decide) dX2_init_209 (fun H locs hX z1 o1 hS => ?_)
  have hP := hP.off hq hqn o1
  refine lv_dup hx hb dX2_init_210 rfl ?_
  refine lv_bipush (v := nI 19) hx hb dX2_init_211 (by decide) ?_
  refine lv_iconst (v := nI 2) hx hb dX2_init_213 (by decide) ?_
  refine ka_iast hx hb hG.1 hS (AI.n hq) hX 0 rfl (show 19 < 24 by decide) (by decide) dX2_init_214 (fun H locs hX z1 o1 hS => ?_)
  have hP := hP.off hq hqn o1
  refine lv_dup hx hb dX2_init_215 rfl ?_
  refine lv_bipush (v := nI 20) hx hb dX2_init_216 (by decide) ?_
  refine lv_bipush (v := nI 6) hx hb dX2_init_218 (by decide) ?_
  refine ka_iast hx hb hG.1 hS (AI.n hq) hX 0 rfl (show 20 < 24 by decide) (by decide) dX2_init_220 (fun H locs hX z1 o1 hS => ?_)
  have hP := hP.off hq hqn o1
  refine lv_dup hx hb dX2_init_221 rfl ?_
  refine lv_bipush (v := nI 21) hx hb dX2_init_222 (by decide) ?_
  refine lv_iconst (v := nI 4) hx hb dX2_init_224 (by decide) ?_
  refine ka_iast hx hb hG.1 hS (AI.n hq) hX 0 rfl (show 21 < 24 by decide) (by decide) dX2_init_225 (fun H locs hX z1 o1 hS => ?_)
  have hP := hP.off hq hqn o1
  refine lv_dup hx hb dX2_init_226 rfl ?_
  refine lv_bipush (v := nI 22) hx hb dX2_init_227 (by decide) ?_
  refine lv_iconst (v := nI 2) hx hb dX2_init_229 (by decide) ?_
  refine ka_iast hx hb hG.1 hS (AI.n hq) hX 0 rfl (show 22 < 24 by decide) (by decide) dX2_init_230 (fun H locs hX z1 o1 hS => ?_)
  have hP := hP.off hq hqn o1
  refine lv_dup hx hb dX2_init_231 rfl ?_
  refine lv_bipush (v := nI 23) hx hb dX2_init_232 (by decide) ?_
  refine lv_iconst (v := nI 1) hx hb dX2_init_234 (by decide) ?_
  refine ka_iast hx hb hG.1 hS (AI.n hq) hX 0 rfl (show 23 < 24 by decide) (by decide) dX2_init_235 (fun H locs hX z1 o1 hS => ?_)
  have hP := hP.off hq hqn o1
  have hX : va_at D CL (q18, .inl (dA (tyM 18), lenM 18, .inl (fnM G00 J00 18))) H := va_at_cg hX (by decide +kernel)
  refine M_lay hx hb hts hown hG hS AI.o hin hP 18 (by decide) rfl rfl q1310 rfl rfl hq hqn hX rfl rfl dX2_init_236 (fun ad H locs hP hS => ?_)
  clear hX hq hqn z1 o1
  refine lv_aload_n hx hb dX2_init_239 rfl (lv_at hl 0 rfl) ?_
  refine lv_bipush (v := nI 100) hx hb dX2_init_240 (by decide) ?_
  refine M_mk (atype := .int) hx hb hts hown hG hS AI.o hin hP 20 (by decide) rfl rfl (by decide) q1312 rfl rfl (fun _ => ⟨rfl, rfl⟩) (hts _ q135) rfl rfl rfl (n := 100) rfl (by decide) (Nat.le_of_ble_eq_true rfl) (Nat.le_of_ble_eq_true rfl) dX2_init_242 dX2_init_244 (fun ad H locs hP hS => ?_)
  refine lv_aload_n hx hb dX2_init_247 rfl (lv_at hl 0 rfl) ?_
  refine lv_bipush (v := nI 100) hx hb dX2_init_248 (by decide) ?_
  refine M_mk (atype := .int) hx hb hts hown hG hS AI.o hin hP 21 (by decide) rfl rfl (by decide) q1313 rfl rfl (fun _ => ⟨rfl, rfl⟩) (hts _ q135) rfl rfl rfl (n := 100) rfl (by decide) (Nat.le_of_ble_eq_true rfl) (Nat.le_of_ble_eq_true rfl) dX2_init_250 dX2_init_252 (fun ad H locs hP hS => ?_)
  refine lv_aload_n hx hb dX2_init_255 rfl (lv_at hl 0 rfl) ?_
  refine lv_bipush (v := nI 100) hx hb dX2_init_256 (by decide) ?_
  refine M_mk (atype := .int) hx hb hts hown hG hS AI.o hin hP 22 (by decide) rfl rfl (by decide) q1314 rfl rfl (fun _ => ⟨rfl, rfl⟩) (hts _ q135) rfl rfl rfl (n := 100) rfl (by decide) (Nat.le_of_ble_eq_true rfl) (Nat.le_of_ble_eq_true rfl) dX2_init_258 dX2_init_260 (fun ad H locs hP hS => ?_)
  refine lv_aload_n hx hb dX2_init_263 rfl (lv_at hl 0 rfl) ?_
  refine lv_bipush (v := nI 10) hx hb dX2_init_264 (by decide) ?_
  refine M_mk (atype := .int) hx hb hts hown hG hS AI.o hin hP 24 (by decide) rfl rfl (by decide) q1316 rfl rfl (fun _ => ⟨rfl, rfl⟩) (hts _ q135) rfl rfl rfl (n := 10) rfl (by decide) (Nat.le_of_ble_eq_true rfl) (Nat.le_of_ble_eq_true rfl) dX2_init_266 dX2_init_268 (fun ad H locs hP hS => ?_)
  refine lv_aload_n hx hb dX2_init_271 rfl (lv_at hl 0 rfl) ?_
  refine lv_bipush (v := nI 11) hx hb dX2_init_272 (by decide) ?_
  refine M_mk (atype := .int) hx hb hts hown hG hS AI.o hin hP 25 (by decide) rfl rfl (by decide) q1317 rfl rfl (fun _ => ⟨rfl, rfl⟩) (hts _ q135) rfl rfl rfl (n := 11) rfl (by decide) (Nat.le_of_ble_eq_true rfl) (Nat.le_of_ble_eq_true rfl) dX2_init_274 dX2_init_276 (fun ad H locs hP hS => ?_)
  refine lv_aload_n hx hb dX2_init_279 rfl (lv_at hl 0 rfl) ?_
  refine lv_bipush (v := nI 110) hx hb dX2_init_280 (by decide) ?_
  refine M_mk (atype := .int) hx hb hts hown hG hS AI.o hin hP 26 (by decide) rfl rfl (by decide) q1318 rfl rfl (fun _ => ⟨rfl, rfl⟩) (hts _ q135) rfl rfl rfl (n := 110) rfl (by decide) (Nat.le_of_ble_eq_true rfl) (Nat.le_of_ble_eq_true rfl) dX2_init_282 dX2_init_284 (fun ad H locs hP hS => ?_)
  refine lv_aload_n hx hb dX2_init_287 rfl (lv_at hl 0 rfl) ?_
  refine lv_bipush (v := nI 110) hx hb dX2_init_288 (by decide) ?_
  refine M_mk (atype := .int) hx hb hts hown hG hS AI.o hin hP 27 (by decide) rfl rfl (by decide) q1319 rfl rfl (fun _ => ⟨rfl, rfl⟩) (hts _ q135) rfl rfl rfl (n := 110) rfl (by decide) (Nat.le_of_ble_eq_true rfl) (Nat.le_of_ble_eq_true rfl) dX2_init_290 dX2_init_292 (fun ad H locs hP hS => ?_)
  refine lv_aload_n hx hb dX2_init_295 rfl (lv_at hl 0 rfl) ?_
  refine lv_bipush (v := nI 110) hx hb dX2_init_296 (by decide) ?_
  refine M_mk (atype := .int) hx hb hts hown hG hS AI.o hin hP 28 (by decide) rfl rfl (by decide) q1320 rfl rfl (fun _ => ⟨rfl, rfl⟩) (hts _ q135) rfl rfl rfl (n := 110) rfl (by decide) (Nat.le_of_ble_eq_true rfl) (Nat.le_of_ble_eq_true rfl) dX2_init_298 dX2_init_300 (fun ad H locs hP hS => ?_)
  refine lv_aload_n hx hb dX2_init_303 rfl (lv_at hl 0 rfl) ?_
  refine lv_sipush (v := nI 330) hx hb dX2_init_304 (by decide) ?_
  refine M_mk (atype := .int) hx hb hts hown hG hS AI.o hin hP 29 (by decide) rfl rfl (by decide) q1321 rfl rfl (fun _ => ⟨rfl, rfl⟩) (hts _ q135) rfl rfl rfl (n := 330) rfl (by decide) (Nat.le_of_ble_eq_true rfl) (Nat.le_of_ble_eq_true rfl) dX2_init_307 dX2_init_309 (fun ad H locs hP hS => ?_)
  refine lv_aload_n hx hb dX2_init_312 rfl (lv_at hl 0 rfl) ?_
  refine lv_sipush (v := nI 330) hx hb dX2_init_313 (by decide) ?_
  refine M_mk (atype := .int) hx hb hts hown hG hS AI.o hin hP 30 (by decide) rfl rfl (by decide) q1322 rfl rfl (fun _ => ⟨rfl, rfl⟩) (hts _ q135) rfl rfl rfl (n := 330) rfl (by decide) (Nat.le_of_ble_eq_true rfl) (Nat.le_of_ble_eq_true rfl) dX2_init_316 dX2_init_318 (fun ad H locs hP hS => ?_)
  refine lv_aload_n hx hb dX2_init_321 rfl (lv_at hl 0 rfl) ?_
  refine lv_sipush (v := nI 330) hx hb dX2_init_322 (by decide) ?_
  refine M_mk (atype := .int) hx hb hts hown hG hS AI.o hin hP 31 (by decide) rfl rfl (by decide) q1323 rfl rfl (fun _ => ⟨rfl, rfl⟩) (hts _ q135) rfl rfl rfl (n := 330) rfl (by decide) (Nat.le_of_ble_eq_true rfl) (Nat.le_of_ble_eq_true rfl) dX2_init_325 dX2_init_327 (fun ad H locs hP hS => ?_)
  refine lv_aload_n hx hb dX2_init_330 rfl (lv_at hl 0 rfl) ?_
  refine lv_sipush (v := nI 300) hx hb dX2_init_331 (by decide) ?_
  refine M_mk (atype := .byte) hx hb hts hown hG hS AI.o hin hP 32 (by decide) rfl rfl (by decide) q1324 rfl rfl (fun _ => ⟨rfl, rfl⟩) (hts _ q270) rfl rfl rfl (n := 300) rfl (by decide) (Nat.le_of_ble_eq_true rfl) (Nat.le_of_ble_eq_true rfl) dX2_init_334 dX2_init_336 (fun ad H locs hP hS => ?_)
  refine lv_aload_n hx hb dX2_init_339 rfl (lv_at hl 0 rfl) ?_
  refine lv_iconst (v := (-1)) hx hb dX2_init_340 (by decide) ?_
  refine M_pi hx hb hts hown hG hS AI.o hP 35 (by decide) q1327 rfl rfl rfl _ _ fP_I dX2_init_341 (fun H locs hP hS => ?_)
  refine lv_aload_n hx hb dX2_init_344 rfl (lv_at hl 0 rfl) ?_
  refine lv_sipush (v := nI 1200) hx hb dX2_init_345 (by decide) ?_
  refine M_mk (atype := .int) hx hb hts hown hG hS AI.o hin hP 41 (by decide) rfl rfl (by decide) q1333 rfl rfl (fun _ => ⟨rfl, rfl⟩) (hts _ q135) rfl rfl rfl (n := 1200) rfl (by decide) (Nat.le_of_ble_eq_true rfl) (Nat.le_of_ble_eq_true rfl) dX2_init_348 dX2_init_350 (fun ad H locs hP hS => ?_)
  refine lv_aload_n hx hb dX2_init_353 rfl (lv_at hl 0 rfl) ?_
  refine lv_sipush (v := nI 1000) hx hb dX2_init_354 (by decide) ?_
  refine M_pi hx hb hts hown hG hS AI.o hP 43 (by decide) q1335 rfl rfl rfl _ _ fP_N dX2_init_357 (fun H locs hP hS => ?_)
  refine lv_aload_n hx hb dX2_init_360 rfl (lv_at hl 0 rfl) ?_
  refine lv_bipush (v := nI 6) hx hb dX2_init_361 (by decide) ?_
  refine M_mk (atype := .int) hx hb hts hown hG hS AI.o hin hP 45 (by decide) rfl rfl (by decide) q1337 rfl rfl (fun _ => ⟨rfl, rfl⟩) (hts _ q135) rfl rfl rfl (n := 6) rfl (by decide) (Nat.le_of_ble_eq_true rfl) (Nat.le_of_ble_eq_true rfl) dX2_init_363 dX2_init_365 (fun ad H locs hP hS => ?_)
  refine lv_aload_n hx hb dX2_init_368 rfl (lv_at hl 0 rfl) ?_
  refine lv_bipush (v := nI 6) hx hb dX2_init_369 (by decide) ?_
  refine M_mk (atype := .int) hx hb hts hown hG hS AI.o hin hP 46 (by decide) rfl rfl (by decide) q1338 rfl rfl (fun _ => ⟨rfl, rfl⟩) (hts _ q135) rfl rfl rfl (n := 6) rfl (by decide) (Nat.le_of_ble_eq_true rfl) (Nat.le_of_ble_eq_true rfl) dX2_init_371 dX2_init_373 (fun ad H locs hP hS => ?_)
  refine lv_aload_n hx hb dX2_init_376 rfl (lv_at hl 0 rfl) ?_
  refine lv_bipush (v := nI 6) hx hb dX2_init_377 (by decide) ?_
  refine M_mk (atype := .int) hx hb hts hown hG hS AI.o hin hP 47 (by decide) rfl rfl (by decide) q1339 rfl rfl (fun _ => ⟨rfl, rfl⟩) (hts _ q135) rfl rfl rfl (n := 6) rfl (by decide) (Nat.le_of_ble_eq_true rfl) (Nat.le_of_ble_eq_true rfl) dX2_init_379 dX2_init_381 (fun ad H locs hP hS => ?_)
  refine lv_aload_n hx hb dX2_init_384 rfl (lv_at hl 0 rfl) ?_
  refine lv_bipush (v := nI 6) hx hb dX2_init_385 (by decide) ?_
  refine M_mk (atype := .int) hx hb hts hown hG hS AI.o hin hP 48 (by decide) rfl rfl (by decide) q1340 rfl rfl (fun _ => ⟨rfl, rfl⟩) (hts _ q135) rfl rfl rfl (n := 6) rfl (by decide) (Nat.le_of_ble_eq_true rfl) (Nat.le_of_ble_eq_true rfl) dX2_init_387 dX2_init_389 (fun ad H locs hP hS => ?_)
  refine lv_aload_n hx hb dX2_init_392 rfl (lv_at hl 0 rfl) ?_
  refine lv_bipush (v := nI 60) hx hb dX2_init_393 (by decide) ?_
  refine M_mk (atype := .boolean) hx hb hts hown hG hS AI.o hin hP 49 (by decide) rfl rfl (by decide) q1341 rfl rfl (fun _ => ⟨rfl, rfl⟩) (hts _ q271) rfl rfl rfl (n := 60) rfl (by decide) (Nat.le_of_ble_eq_true rfl) (Nat.le_of_ble_eq_true rfl) dX2_init_395 dX2_init_397 (fun ad H locs hP hS => ?_)
  refine lv_aload_n hx hb dX2_init_400 rfl (lv_at hl 0 rfl) ?_
  refine lv_bipush (v := nI 6) hx hb dX2_init_401 (by decide) ?_
  refine M_mk (atype := .int) hx hb hts hown hG hS AI.o hin hP 50 (by decide) rfl rfl (by decide) q1342 rfl rfl (fun _ => ⟨rfl, rfl⟩) (hts _ q135) rfl rfl rfl (n := 6) rfl (by decide) (Nat.le_of_ble_eq_true rfl) (Nat.le_of_ble_eq_true rfl) dX2_init_403 dX2_init_405 (fun ad H locs hP hS => ?_)
  refine lv_aload_n hx hb dX2_init_408 rfl (lv_at hl 0 rfl) ?_
  refine lv_bipush (v := nI 6) hx hb dX2_init_409 (by decide) ?_
  refine M_mk (atype := .int) hx hb hts hown hG hS AI.o hin hP 51 (by decide) rfl rfl (by decide) q1343 rfl rfl (fun _ => ⟨rfl, rfl⟩) (hts _ q135) rfl rfl rfl (n := 6) rfl (by decide) (Nat.le_of_ble_eq_true rfl) (Nat.le_of_ble_eq_true rfl) dX2_init_411 dX2_init_413 (fun ad H locs hP hS => ?_)
  obtain ⟨hM, hge⟩ := hP.all (by decide +kernel) isA_54 rfl
  exact W.vret hx hb hrt (fun t ht hW => ⟨⟨ad, rfl, hge, by rw [ht]; exact RM.n0 hM, GK.warm hW hG⟩, hS.F ht⟩) hS.2.2 dX2_init_416
