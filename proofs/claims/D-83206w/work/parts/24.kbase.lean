set_option maxRecDepth 100000
/-! what is there from the start: statics, String constants; and texts of any kind -/
abbrev nA : Nat → Prop := fun _ => False
/-- X holds of tables and heap, and tables may grow -/
def Mv (X : State → Heap → Prop) : Prop := (∀ (s U : State) (H : Heap), s.WarmedH U.vm → X s H → X U H) ∧ ∀ (s U : State) (H : Heap), s.vm = U.vm → X s H → X U H
theorem Mv.and {X Y : State → Heap → Prop} (h1 : Mv X) (h2 : Mv Y) : Mv (fun U H => X U H ∧ Y U H) := ⟨fun s U H w q => ⟨h1.1 s U H w q.1, h2.1 s U H w q.2⟩, fun s U H w q => ⟨h1.2 s U H w q.1, h2.2 s U H w q.2⟩⟩
theorem Mv.heap {Y : Heap → Prop} : Mv (fun _ H => Y H) := ⟨fun _ _ _ _ q => q, fun _ _ _ _ q => q⟩
theorem Mv.alike {X : State → Heap → Prop} (h : ∀ (s U : State) (H : Heap), s.vm.Alike U.vm → X s H → X U H) : Mv X := ⟨fun s U H w q => h s U H w.alike q, fun s U H w q => h s U H (by rw [w]; exact Vm.Alike.refl _) q⟩
theorem Mv.gk {D : va_G} {dA : Nat → ClassId} : Mv (fun U _ => GK D dA U) := ⟨fun _ _ _ w q => GK.warm w q, fun _ _ _ w q => GK.same w q⟩
abbrev PX (X : State → Heap → Prop) (av : List Value) : Array Value → State → Prop := va_Pc av (fun U => X U U.heap)
theorem PX.blind {X : State → Heap → Prop} {av : List Value} (h : Mv X) : FrameBlind (PX X av) := fun _ U g mk q => ⟨q.1, h.2 U (U.calling g mk _) U.heap rfl q.2⟩
theorem PX.pre {X : State → Heap → Prop} {av : List Value} {s : State} {H : Heap} (h : Mv X) (hX : X s H) : ∀ U : State, U.heap = H → s.WarmedH U.vm → PX X av av.toArray U := fun U hU hW => ⟨rfl, by show X U U.heap; rw [hU]; exact h.1 s U H hW hX⟩
/-- statics of the JDK -/
def KC (A : Nat → Prop) (U : State) (H : Heap) : Prop := va_Z "java/lang/String" "COMPACT_STRINGS" "Z" (.int 1) A U H ∧ va_Zq "jdk/internal/util/Preconditions" "SIOOBE_FORMATTER" "Ljava/util/function/BiFunction;" A U H
theorem KC.mv {A : Nat → Prop} : Mv (KC A) := Mv.alike fun _ _ _ w q => ⟨va_Z.moved w q.1, va_Zq.moved w q.2⟩
theorem KC.kept {A : Nat → Prop} {U : State} {H H1 : Heap} (h : KC A U H) (hq : ∀ a : Nat, a < H.size → ¬ A a → H1[a]? = H[a]?) : KC A U H1 := ⟨h.1.kept hq, h.2.kept hq⟩
theorem KC.narrow {A B : Nat → Prop} {U : State} {H : Heap} (h : KC A U H) (hAB : ∀ q, B q → A q) : KC B U H := ⟨h.1.narrow hAB, h.2.narrow hAB⟩
/-- an array of bytes that are letters -/
def TB (A : Nat → Prop) (b n : Nat) (f : Nat → Nat) (U : State) (H : Heap) : Prop := va_T .byte b n (fun j => .int (nI (f j))) A U H ∧ n < 2 ^ 31 ∧ ∀ j, j < n → f j < 128
theorem TB.mv {A : Nat → Prop} {b n : Nat} {f : Nat → Nat} : Mv (TB A b n f) := Mv.alike fun _ _ _ w q => ⟨va_T.moved w q.1, q.2⟩
theorem TB.kept {A : Nat → Prop} {b n : Nat} {f : Nat → Nat} {U : State} {H H1 : Heap} (h : TB A b n f U H) (hq : ∀ a : Nat, a < H.size → ¬ A a → H1[a]? = H[a]?) : TB A b n f U H1 := ⟨h.1.kept hq, h.2⟩
theorem TB.narrow {A B : Nat → Prop} {b n : Nat} {f : Nat → Nat} {U : State} {H : Heap} (h : TB A b n f U H) (hAB : ∀ q, B q → A q) : TB B b n f U H := ⟨h.1.narrow hAB, h.2⟩
/-- a String of letters: its bytes at b -/
def SA (A : Nat → Prop) (a b n : Nat) (f : Nat → Nat) (U : State) (H : Heap) : Prop := va_O "java/lang/String" a A U H ∧ va_OF "java/lang/String" "coder" "B" (.int 0) a A U H ∧ va_OF "java/lang/String" "value" "[B" (.ref b) a A U H ∧ TB A b n f U H
theorem SA.mv {A : Nat → Prop} {a b n : Nat} {f : Nat → Nat} : Mv (SA A a b n f) := Mv.alike fun _ _ _ w q => ⟨va_O.moved w q.1, va_OF.moved w q.2.1, va_OF.moved w q.2.2.1, va_T.moved w q.2.2.2.1, q.2.2.2.2⟩
theorem SA.kept {A : Nat → Prop} {a b n : Nat} {f : Nat → Nat} {U : State} {H H1 : Heap} (h : SA A a b n f U H) (hq : ∀ a : Nat, a < H.size → ¬ A a → H1[a]? = H[a]?) : SA A a b n f U H1 := ⟨h.1.kept hq, h.2.1.kept hq, h.2.2.1.kept hq, h.2.2.2.kept hq⟩
theorem SA.narrow {A B : Nat → Prop} {a b n : Nat} {f : Nat → Nat} {U : State} {H : Heap} (h : SA A a b n f U H) (hAB : ∀ q, B q → A q) : SA B a b n f U H := ⟨h.1.narrow hAB, h.2.1.narrow hAB, h.2.2.1.narrow hAB, h.2.2.2.narrow hAB⟩
theorem SA.recv {A : Nat → Prop} {a b n : Nat} {f : Nat → Nat} {s : State} {H : Heap} (h : SA A a b n f s H) : ∃ cell : Cell, H[a]? = some cell ∧ cell.vm.isStatics = false ∧ s.vm.findClass RJ3 = some cell.cls := by
  obtain ⟨cell, h1, h2, h3, -⟩ := h.1
  exact ⟨cell, h1, h2, h3⟩
section SROW
variable {p : Program} {lh : Launch} {e : Env} {R : Room} {s : State} {m : MethodId} {args : Array Value} {below : List Frame} {meth : Method} {c : Code} {H : Heap} {locs : List Loc} {cells slots : Nat} {Q : State → Prop}
variable {cc : ByteArray} {pc : Nat} {ls : Array Slot} {rest : List Value} {A : Nat → Prop} {a b n : Nat} {f : Nat → Nat}
/-- getfield of a String -/
theorem S_getv (hx : p.tables.exec = Jvm.exec) (hb : c.code = cc) {own : String} {index : Nat} (hs : SA nA a b n f s H) (hown : s.vm.findClass own = some m.cls) (hlink : (Cond.fieldLink own index "java/lang/String" "value" "[B").before args s = true) (hdg : decode cc pc = .ok (.getfield index, 3))
    (kk : W p lh e R s m args below meth c H locs cells slots Q (F0 m (pc + 3) ls (.ref b :: rest))) : W p lh e R s m args below meth c H locs cells slots Q (F0 m pc ls (.ref a :: rest)) := by
  obtain ⟨cf, k, fi, fd, cell, h1, h2, h3, h4, h5, h6⟩ := hs.2.2.1
  exact W.getf hx hb hown hlink h1 h2 h3 h4 h5 rfl rfl hdg kk
theorem S_getc (hx : p.tables.exec = Jvm.exec) (hb : c.code = cc) {own : String} {index : Nat} (hs : SA nA a b n f s H) (hown : s.vm.findClass own = some m.cls) (hlink : (Cond.fieldLink own index "java/lang/String" "coder" "B").before args s = true) (hdg : decode cc pc = .ok (.getfield index, 3))
    (kk : W p lh e R s m args below meth c H locs cells slots Q (F0 m (pc + 3) ls (.int (nI 0) :: rest))) : W p lh e R s m args below meth c H locs cells slots Q (F0 m pc ls (.ref a :: rest)) := by
  obtain ⟨cf, k, fi, fd, cell, h1, h2, h3, h4, h5, h6⟩ := hs.2.1
  exact W.getf hx hb hown hlink h1 h2 h3 h4 h5 rfl rfl hdg kk
theorem T_len (hx : p.tables.exec = Jvm.exec) (hb : c.code = cc) (hT : TB nA b n f s H) (hdg : decode cc pc = .ok (.arraylength, 1))
    (kk : W p lh e R s m args below meth c H locs cells slots Q (F0 m (pc + 1) ls (.int (nI n) :: rest))) : W p lh e R s m args below meth c H locs cells slots Q (F0 m pc ls (.ref b :: rest)) := by
  obtain ⟨cell, h1, h2, h3, h4, h5, h6, h7⟩ := hT.1
  exact W.alen (n := nI n) hx hb h1 h2 h5 rfl rfl hdg kk
theorem T_bald (hx : p.tables.exec = Jvm.exec) (hb : c.code = cc) (hT : TB nA b n f s H) {i : Nat} (hi : i < n) (hdg : decode cc pc = .ok (.baload, 1))
    (kk : W p lh e R s m args below meth c H locs cells slots Q (F0 m (pc + 1) ls (.int (nI (f i)) :: rest))) : W p lh e R s m args below meth c H locs cells slots Q (F0 m pc ls (.int (nI i) :: .ref b :: rest)) := by
  obtain ⟨cell, h1, h2, h3, h4, h5, h6, h7⟩ := hT.1
  have hn := hT.2.1
  have hc : (nI i).toNatClampNeg = i := nI_clamp (by omega)
  exact W.bald (v := .int (nI (f i))) hx hb h1 h2 h3 (by rw [hc]; intro q; rcases q with q | q; exact nI_pos (show i < 2 ^ 31 by omega) q; omega) (by rw [hc]; exact h6 i hi) rfl rfl hdg kk
/-- a static, in a method that only reads -/
theorem K_getz (hx : p.tables.exec = Jvm.exec) (hb : c.code = cc) {own : String} {index : Nat} (hK : KC nA s H) (hown : s.vm.findClass own = some m.cls) (hlink : (Cond.fieldLink own index "java/lang/String" "COMPACT_STRINGS" "Z").before args s = true) (hdg : decode cc pc = .ok (.getstatic index, 3))
    (kk : W p lh e R s m args below meth c H locs cells slots Q (F0 m (pc + 3) ls (.int (nI 1) :: rest))) : W p lh e R s m args below meth c H locs cells slots Q (F0 m pc ls rest) := by
  obtain ⟨cf, kf, fi, fd, a, cell, h1, h2, h3, h4, h5, h6, h7, h8⟩ := hK.1
  exact W.gets hx hb hown hlink h1 h2 h3 h4 h5 (fun e => by rw [e] at h6; cases h6) h7 rfl hdg kk
theorem K_getq (hx : p.tables.exec = Jvm.exec) (hb : c.code = cc) {own : String} {index : Nat} (hK : KC nA s H) (hown : s.vm.findClass own = some m.cls) (hlink : (Cond.fieldLink own index "jdk/internal/util/Preconditions" "SIOOBE_FORMATTER" "Ljava/util/function/BiFunction;").before args s = true) (hdg : decode cc pc = .ok (.getstatic index, 3))
    (kk : ∀ q : Option Nat, W p lh e R s m args below meth c H locs cells slots Q (F0 m (pc + 3) ls (va_rf q :: rest))) : W p lh e R s m args below meth c H locs cells slots Q (F0 m pc ls rest) := by
  rcases hK.2 with ⟨cf, kf, fi, fd, a, cell, h1, h2, h3, h4, h5, h6, h7, h8⟩ | ⟨t, cf, kf, fi, fd, a, cell, h1, h2, h3, h4, h5, h6, h7, h8⟩
  · exact W.gets hx hb hown hlink h1 h2 h3 h4 h5 (fun e => by rw [e] at h6; cases h6) h7 rfl hdg (kk none)
  · exact W.gets hx hb hown hlink h1 h2 h3 h4 h5 (fun e => by rw [e] at h6; cases h6) h7 rfl hdg (kk (some t))
end SROW
def kown : Nat → String := fun i => match i with | 0 => "PickleHouse" | 1 => "PickleHouse$Reader" | 2 => "PickleHouse$Reader" | 3 => "PickleHouse$Reader" | 4 => "PickleHouse$Reader" | 5 => "PickleHouse$Reader" | 6 => "PickleHouse$Reader" | 7 => "PickleHouse$Reader" | 8 => "PickleHouse$Reader" | 9 => "PickleHouse$Reader" | 10 => "PickleHouse$Reader" | 11 => "PickleHouse$Reader" | 12 => "PickleHouseModel" | 13 => "PickleHouseModel" | 14 => "PickleHouseModel" | 15 => "PickleHouseModel" | 16 => "PickleHouseModel" | 17 => "PickleHouseModel" | 18 => "PickleHouseModel" | 19 => "PickleHouseModel" | 20 => "PickleHouseModel" | _ => ""
def kidx : Nat → Nat := fun i => match i with | 0 => 79 | 1 => 9 | 2 => 83 | 3 => 89 | 4 => 64 | 5 => 132 | 6 => 111 | 7 => 149 | 8 => 151 | 9 => 153 | 10 => 155 | 11 => 157 | 12 => 228 | 13 => 211 | 14 => 217 | 15 => 219 | 16 => 221 | 17 => 223 | 18 => 236 | 19 => 238 | 20 => 243 | _ => 0
def ktx : Nat → String := fun i => match i with | 0 => "0 0 0 0 2 1 0 0 4 3 2 1 8 6 4 2 12 9 5 2 6 4 2 1 " | 1 => "" | 2 => "if" | 3 => " press throw ready cool warm salt " | 4 => " " | 5 => " low high gas salt hours tests cold day " | 6 => "and" | 7 => "press" | 8 => "throw" | 9 => "ready" | 10 => "cool" | 11 => "warm" | 12 => "if" | 13 => "press throw ready cool warm salt " | 14 => "low high gas salt hours tests cold day " | 15 => "<" | 16 => "=" | 17 => ">" | 18 => "and" | 19 => ":" | 20 => ";" | _ => ""
def klen : Nat → Nat := fun i => match i with | 0 => 49 | 1 => 0 | 2 => 2 | 3 => 34 | 4 => 1 | 5 => 40 | 6 => 3 | 7 => 5 | 8 => 5 | 9 => 5 | 10 => 4 | 11 => 4 | 12 => 2 | 13 => 33 | 14 => 39 | 15 => 1 | 16 => 1 | 17 => 1 | 18 => 3 | 19 => 1 | 20 => 1 | _ => 0
def kls : Nat → List Nat := fun i => match i with | 0 => [48, 32, 48, 32, 48, 32, 48, 32, 50, 32, 49, 32, 48, 32, 48, 32, 52, 32, 51, 32, 50, 32, 49, 32, 56, 32, 54, 32, 52, 32, 50, 32, 49, 50, 32, 57, 32, 53, 32, 50, 32, 54, 32, 52, 32, 50, 32, 49, 32] | 1 => [] | 2 => [105, 102] | 3 => [32, 112, 114, 101, 115, 115, 32, 116, 104, 114, 111, 119, 32, 114, 101, 97, 100, 121, 32, 99, 111, 111, 108, 32, 119, 97, 114, 109, 32, 115, 97, 108, 116, 32] | 4 => [32] | 5 => [32, 108, 111, 119, 32, 104, 105, 103, 104, 32, 103, 97, 115, 32, 115, 97, 108, 116, 32, 104, 111, 117, 114, 115, 32, 116, 101, 115, 116, 115, 32, 99, 111, 108, 100, 32, 100, 97, 121, 32] | 6 => [97, 110, 100] | 7 => [112, 114, 101, 115, 115] | 8 => [116, 104, 114, 111, 119] | 9 => [114, 101, 97, 100, 121] | 10 => [99, 111, 111, 108] | 11 => [119, 97, 114, 109] | 12 => [105, 102] | 13 => [112, 114, 101, 115, 115, 32, 116, 104, 114, 111, 119, 32, 114, 101, 97, 100, 121, 32, 99, 111, 111, 108, 32, 119, 97, 114, 109, 32, 115, 97, 108, 116, 32] | 14 => [108, 111, 119, 32, 104, 105, 103, 104, 32, 103, 97, 115, 32, 115, 97, 108, 116, 32, 104, 111, 117, 114, 115, 32, 116, 101, 115, 116, 115, 32, 99, 111, 108, 100, 32, 100, 97, 121, 32] | 15 => [60] | 16 => [61] | 17 => [62] | 18 => [97, 110, 100] | 19 => [58] | 20 => [59] | _ => []
def kch (i j : Nat) : Nat := (kls i).getD j 0
/-- the String constants and statics, by their addresses K -/
def KZ (K : Nat → Nat) (A : Nat → Prop) (U : State) (H : Heap) : Prop := KC A U H ∧ (∀ i, i < 21 → SA A (K i) (K (100 + i)) (klen i) (kch i) U H) ∧ ∀ i, i < 21 → vk_R (kown i) (kidx i) (ktx i) (K i) U
theorem KZ.mv {K : Nat → Nat} {A : Nat → Prop} : Mv (KZ K A) := ⟨fun s U H w q => ⟨KC.mv.1 s U H w q.1, fun i hi => SA.mv.1 s U H w (q.2.1 i hi), fun i hi => vk_R.warm w (q.2.2 i hi)⟩, fun s U H w q => ⟨KC.mv.2 s U H w q.1, fun i hi => SA.mv.2 s U H w (q.2.1 i hi), fun i hi => vk_R.same w.symm (q.2.2 i hi)⟩⟩
theorem KZ.at {K : Nat → Nat} {A B : Nat → Prop} {s : State} {H : Heap} {locs : List Loc} (h : KZ K A s s.heap) (hS : va_S A s.heap H locs) (hAB : ∀ q, B q → A q) : KZ K B s H := ⟨(h.1.kept hS.2.1).narrow hAB, fun i hi => ((h.2.1 i hi).kept hS.2.1).narrow hAB, h.2.2⟩
theorem KZ.kc {K : Nat → Nat} {A : Nat → Prop} {s : State} {H : Heap} {locs : List Loc} (h : KZ K A s s.heap) (hS : va_S A s.heap H locs) : KC nA s H := (h.at hS (B := nA) (fun _ q => q.elim)).1
theorem KZ.str {K : Nat → Nat} {A : Nat → Prop} {s : State} {H : Heap} {locs : List Loc} (h : KZ K A s s.heap) (hS : va_S A s.heap H locs) (i : Nat) (hi : i < 21) : SA nA (K i) (K (100 + i)) (klen i) (kch i) s H := (h.at hS (B := nA) (fun _ q => q.elim)).2.1 i hi
