set_option maxRecDepth 100000
theorem narB (b : Bool) : narrow .boolean (.int (bI b)) = .int (bI b) := by cases b <;> rfl
theorem retB0 {b : Bool} (h : b = false) : nI 0 = bI b := by rw [h]; rfl
theorem retB1 {b : Bool} (h : b = true) : nI 1 = bI b := by rw [h]; rfl
theorem nI_dec {a : Nat} (k : Nat) (h : k ≤ a) : nI a + Int32.ofInt (-(k : Int)) = nI (a - k) := by
  have h1 : Int32.ofInt (-(k : Int)) = - nI k := by
    unfold nI
    rw [Int32.ofInt_neg]
    rfl
  rw [h1, ← pk_sub h, Int32.sub_eq_add_neg]
/-- a start without a world -/
abbrev P0 (av : List Value) : Array Value → State → Prop := va_Pc av (fun _ => True)
theorem P0.blind {av : List Value} : FrameBlind (P0 av) := fun _ _ _ _ h => h
theorem P0.pre {av : List Value} {s : State} {H : Heap} : ∀ U : State, U.heap = H → s.WarmedH U.vm → P0 av av.toArray U := fun _ _ _ => ⟨rfl, trivial⟩
/-- the reference's state: naturals, ints, arrays of naturals, arrays of ints -/
abbrev SgT : Type := (Nat → Nat) × (Nat → Int32) × (Nat → Nat → Nat) × (Nat → Nat → Int32)
abbrev PmM (D : va_G) (dA : Nat → ClassId) (a0 : Nat) (ad : Nat → Nat) (N : Nat → Nat) (I : Nat → Int32) (G : Nat → Nat → Nat) (J : Nat → Nat → Int32) (sz : Nat) (av : List Value) : Array Value → State → Prop := va_Pc av (fun U => U.heap.size = sz ∧ RM D dA a0 ad N I G J U.heap ∧ GK D dA U)
theorem PmM.blind {D : va_G} {dA : Nat → ClassId} {a0 : Nat} {ad : Nat → Nat} {N : Nat → Nat} {I : Nat → Int32} {G : Nat → Nat → Nat} {J : Nat → Nat → Int32} {sz : Nat} {av : List Value} : FrameBlind (PmM D dA a0 ad N I G J sz av) := fun _ U g mk h => ⟨h.1, h.2.1, h.2.2.1, GK.same (s := U) rfl h.2.2.2⟩
theorem PmM.pre {D : va_G} {dA : Nat → ClassId} {a0 : Nat} {ad : Nat → Nat} {N : Nat → Nat} {I : Nat → Int32} {G : Nat → Nat → Nat} {J : Nat → Nat → Int32} {av : List Value} {s : State} {H : Heap} (hG : GK D dA s) (hM : RM D dA a0 ad N I G J H) : ∀ U : State, U.heap = H → s.WarmedH U.vm → PmM D dA a0 ad N I G J H.size av av.toArray U := fun U hU hW => ⟨rfl, by rw [hU], by rw [hU]; exact hM, GK.warm hW hG⟩
abbrev BmM (D : va_G) (dA : Nat → ClassId) (a0 : Nat) (ad : Nat → Nat) (u : SgT) (t : State) : Prop := RM D dA a0 ad u.1 u.2.1 u.2.2.1 u.2.2.2 t.heap ∧ GK D dA t
theorem hB_up {G : Nat → Nat → Nat} {k i v : Nat} (h : ∀ a b, G a b < 2 ^ 31) (hv : v < 2 ^ 31) : ∀ a b, up2 G k i v a b < 2 ^ 31 := by
  intro a b
  unfold up2
  split
  · split
    · exact hv
    · exact h a b
  · exact h a b
/-! the law in plain words: the state's functions -/
/-- grams of a crock -/
def grT (G : Nat → Nat → Nat) (c n : Nat) : Nat := sumTo (fun l => G 4 (20 * c + l)) n
def gr (G : Nat → Nat → Nat) (c : Nat) : Nat := grT G c 20
/-- a living crock -/
def lv (G : Nat → Nat → Nat) (c : Nat) : Bool := decide (G 6 c ≤ 1)
def frS (G : Nat → Nat → Nat) (p : Nat) : Nat → Bool
  | 0 => true
  | n + 1 => frS G p n && !(lv G n && decide (G 5 n = p))
/-- isCrock and alive, by the int that is asked -/
def lvI (n : Nat) (G : Nat → Nat → Nat) (c : Int32) : Bool := wi c (nI 0) (nI n - nI 1) && lv G c.toNatClampNeg
theorem frS_no {G : Nat → Nat → Nat} {p k n : Nat} (hk : k < n) (h : (lv G k && decide (G 5 k = p)) = true) : frS G p n = false := by
  induction n with
  | zero => omega
  | succ n ih =>
    unfold frS
    rcases Nat.lt_or_ge k n with q | q
    · rw [ih q]; rfl
    · have e : k = n := by omega
      subst e
      rw [h]
      simp
