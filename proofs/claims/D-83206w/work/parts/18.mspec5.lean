set_option maxRecDepth 100000
/-! segments of an array -/
def sg (G : Nat → Nat → Nat) (a lo n : Nat) (f : Nat → Nat) : Nat → Nat → Nat := fun k i => if k = a ∧ lo ≤ i ∧ i < lo + n then f (i - lo) else G k i
theorem sg_0 {G : Nat → Nat → Nat} {a lo : Nat} {f : Nat → Nat} : sg G a lo 0 f = G := by
  funext k i
  unfold sg
  rw [if_neg (by omega)]
theorem sg_s {G : Nat → Nat → Nat} {a lo n v : Nat} {f : Nat → Nat} (hv : v = f n) : up2 (sg G a lo n f) a (lo + n) v = sg G a lo (n + 1) f := by
  subst hv
  funext k i
  unfold up2 sg
  by_cases hk : k = a
  · by_cases hi : i = lo + n
    · rw [if_pos hk, if_pos hi, if_pos ⟨hk, by omega, by omega⟩, hi, show lo + n - lo = n by omega]
    · rw [if_pos hk, if_neg hi]
      by_cases h2 : lo ≤ i ∧ i < lo + n
      · rw [if_pos ⟨hk, h2⟩, if_pos ⟨hk, by omega, by omega⟩]
      · rw [if_neg (fun q => h2 q.2), if_neg (fun q => h2 ⟨q.2.1, by omega⟩)]
  · rw [if_neg hk, if_neg (fun q => hk q.1), if_neg (fun q => hk q.1)]
theorem sg_o {G : Nat → Nat → Nat} {a lo n k : Nat} {f : Nat → Nat} (h : k ≠ a) : sg G a lo n f k = G k := by
  funext i
  unfold sg
  rw [if_neg (fun q => h q.1)]
theorem sg_in {G : Nat → Nat → Nat} {a lo n l : Nat} {f : Nat → Nat} (h : l < n) : sg G a lo n f a (lo + l) = f l := by
  unfold sg
  rw [if_pos ⟨rfl, by omega, by omega⟩, show lo + l - lo = l by omega]
theorem sg_out {G : Nat → Nat → Nat} {a lo n i : Nat} {f : Nat → Nat} (h : i < lo ∨ lo + n ≤ i) : sg G a lo n f a i = G a i := by
  unfold sg
  rw [if_neg (by omega)]
theorem sg_up {G : Nat → Nat → Nat} {a lo n b v : Nat} {f : Nat → Nat} (h : b < n) : up2 (sg G a lo n f) a (lo + b) v = sg G a lo n (up1 f b v) := by
  funext k i
  unfold up2 sg up1
  by_cases hk : k = a
  · by_cases hi : i = lo + b
    · rw [if_pos hk, if_pos hi, if_pos ⟨hk, by omega, by omega⟩, if_pos (by omega)]
    · rw [if_pos hk, if_neg hi]
      by_cases h2 : lo ≤ i ∧ i < lo + n
      · rw [if_pos ⟨hk, h2⟩, if_pos ⟨hk, h2⟩, if_neg (by omega)]
      · rw [if_neg (fun q => h2 q.2), if_neg (fun q => h2 q.2)]
  · rw [if_neg hk, if_neg (fun q => hk q.1), if_neg (fun q => hk q.1)]
theorem sg_cg {G : Nat → Nat → Nat} {a lo n : Nat} {f g : Nat → Nat} (h : ∀ l, l < n → f l = g l) : sg G a lo n f = sg G a lo n g := by
  funext k i
  unfold sg
  by_cases q : k = a ∧ lo ≤ i ∧ i < lo + n
  · rw [if_pos q, if_pos q, h _ (by omega)]
  · rw [if_neg q, if_neg q]
/-! a jar's share of each lot -/
theorem sumTo_div {x : Nat → Nat} {g al : Nat} : ∀ n, sumTo (fun l => x l * g / al) n * al + sumTo (fun l => x l * g % al) n = sumTo x n * g := by
  intro n
  induction n with
  | zero => simp [sumTo]
  | succ n ih =>
    show (sumTo _ n + x n * g / al) * al + (sumTo _ n + x n * g % al) = (sumTo x n + x n) * g
    have h1 := Nat.div_add_mod (x n * g) al
    rw [Nat.add_mul, Nat.add_mul, ← ih]
    have h2 : x n * g / al * al = al * (x n * g / al) := Nat.mul_comm _ _
    omega
def goS (x : Nat → Nat) (g al l : Nat) : Nat := x l * g / al
def reS (x : Nat → Nat) (g al l : Nat) : Nat := x l * g % al
theorem sumTo_mono {f : Nat → Nat} : ∀ {n m : Nat}, n ≤ m → sumTo f n ≤ sumTo f m := by
  intro n m h
  induction m with
  | zero => rw [show n = 0 by omega]; exact Nat.le_refl _
  | succ m ih =>
    rcases Nat.lt_or_ge m n with q | q
    · rw [show n = m + 1 by omega]; exact Nat.le_refl _
    · exact Nat.le_trans (ih q) (Nat.le_add_right _ _)
theorem go_sum {x : Nat → Nat} {g al : Nat} (h0 : 0 < al) (hs : sumTo x 20 = al) {n : Nat} (hn : n ≤ 20) : sumTo (goS x g al) n ≤ g := by
  have h1 := sumTo_div (x := x) (g := g) (al := al) 20
  have h2 : sumTo (goS x g al) n ≤ sumTo (goS x g al) 20 := sumTo_mono hn
  have h3 : sumTo (goS x g al) 20 * al ≤ al * g := by
    rw [hs] at h1
    rw [← h1]
    exact Nat.le_add_right _ _
  have h4 : sumTo (goS x g al) 20 ≤ g := Nat.le_of_mul_le_mul_left (by rw [Nat.mul_comm al]; exact h3) h0
  omega
/-- what is missing when each lot has its whole grams -/
def misS (x : Nat → Nat) (g al : Nat) : Nat := g - sumTo (goS x g al) 20
theorem mis_re {x : Nat → Nat} {g al : Nat} (h0 : 0 < al) (hs : sumTo x 20 = al) : misS x g al * al = sumTo (reS x g al) 20 := by
  have h1 := sumTo_div (x := x) (g := g) (al := al) 20
  have h2 := go_sum (g := g) h0 hs (Nat.le_refl 20)
  unfold misS
  rw [Nat.sub_mul]
  rw [hs] at h1
  have h3 : sumTo (reS x g al) 20 = sumTo (fun l => x l * g % al) 20 := rfl
  have h4 : sumTo (goS x g al) 20 = sumTo (fun l => x l * g / al) 20 := rfl
  rw [h3, h4, Nat.mul_comm g al]
  omega
theorem mis_lt {x : Nat → Nat} {g al : Nat} (h0 : 0 < al) (hs : sumTo x 20 = al) : misS x g al < 20 := by
  have h1 := mis_re (g := g) h0 hs
  have h2 : sumTo (reS x g al) 20 ≤ 20 * (al - 1) := sumTo_le (fun k _ => by
    have := Nat.mod_lt (x k * g) h0
    show x k * g % al ≤ al - 1
    omega)
  rcases Nat.lt_or_ge (misS x g al) 20 with q | q
  · exact q
  · have h3 : 20 * al ≤ misS x g al * al := Nat.mul_le_mul_right al q
    omega
/-- the first of the greatest rests among those not marked, of the first n -/
def bsS (o R : Nat → Nat) : Nat → Option Nat
  | 0 => none
  | n + 1 => if o n = 0 ∧ (∀ k, bsS o R n = some k → R k < R n) then some n else bsS o R n
theorem bsS_lt {o R : Nat → Nat} : ∀ {n k : Nat}, bsS o R n = some k → k < n ∧ o k = 0 := by
  intro n
  induction n with
  | zero => intro k h; cases h
  | succ n ih =>
    intro k h
    unfold bsS at h
    split at h
    · rename_i q; cases h; exact ⟨by omega, q.1⟩
    · have := ih h; exact ⟨by omega, this.2⟩
theorem bsS_y {o R : Nat → Nat} {n : Nat} (h1 : o n = 0) (h2 : ∀ k, bsS o R n = some k → R k < R n) : bsS o R (n + 1) = some n := by
  rw [bsS, if_pos ⟨h1, h2⟩]
theorem bsS_n {o R : Nat → Nat} {n : Nat} (h : ¬ (o n = 0 ∧ (∀ k, bsS o R n = some k → R k < R n))) : bsS o R (n + 1) = bsS o R n := by
  rw [bsS, if_neg h]
theorem bsS_none {o R : Nat → Nat} : ∀ {n : Nat}, bsS o R n = none → ∀ j, j < n → o j ≠ 0 := by
  intro n
  induction n with
  | zero => intro _ j hj; omega
  | succ n ih =>
    intro h j hj
    unfold bsS at h
    split at h
    · cases h
    · rename_i q
      rcases Nat.lt_or_ge j n with q2 | q2
      · exact ih h j q2
      · have e : j = n := by omega
        subst e
        intro q5
        exact q ⟨q5, fun k' hk' => by rw [h] at hk'; cases hk'⟩
theorem bsS_max {o R : Nat → Nat} : ∀ {n k : Nat}, bsS o R n = some k → ∀ j, j < n → o j = 0 → R j ≤ R k := by
  intro n
  induction n with
  | zero => intro k h; cases h
  | succ n ih =>
    intro k h j hj hoj
    unfold bsS at h
    split at h
    · rename_i q
      cases h
      rcases Nat.lt_or_ge j n with q2 | q2
      · cases hb : bsS o R n with
        | none => exact absurd hoj (bsS_none hb j q2)
        | some b =>
          have h1 := ih hb j q2 hoj
          have h2 := q.2 b hb
          omega
      · have e : j = n := by omega
        subst e
        exact Nat.le_refl _
    · rename_i q
      rcases Nat.lt_or_ge j n with q2 | q2
      · exact ih h j q2 hoj
      · have e : j = n := by omega
        subst e
        rcases Nat.lt_or_ge (R k) (R j) with q3 | q3
        · exact absurd ⟨hoj, fun k' hk' => by rw [h] at hk'; cases hk'; exact q3⟩ q
        · exact q3
/-- the marks after k picks -/
def pkS (R : Nat → Nat) : Nat → Nat → Nat
  | 0 => fun _ => 0
  | k + 1 => match bsS (pkS R k) R 20 with
    | none => pkS R k
    | some b => up1 (pkS R k) b 1
theorem pkS_s {R : Nat → Nat} {k b : Nat} (h : bsS (pkS R k) R 20 = some b) : pkS R (k + 1) = up1 (pkS R k) b 1 := by
  rw [pkS, h]
theorem sumTo_up {f : Nat → Nat} {b v : Nat} : ∀ {n : Nat}, b < n → sumTo (up1 f b v) n + f b = sumTo f n + v := by
  have h0 : ∀ n, n ≤ b → sumTo (up1 f b v) n = sumTo f n := by
    intro n
    induction n with
    | zero => intro _; rfl
    | succ n ih =>
      intro h
      show sumTo _ n + up1 f b v n = sumTo f n + f n
      rw [ih (by omega)]
      simp [up1, show ¬ n = b by omega]
  intro n
  induction n with
  | zero => intro h; omega
  | succ n ih =>
    intro h
    show sumTo (up1 f b v) n + up1 f b v n + f b = sumTo f n + f n + v
    rcases Nat.lt_or_ge b n with q | q
    · have := ih q
      simp [up1, show ¬ n = b by omega]
      omega
    · have e : n = b := by omega
      subst e
      rw [h0 n (Nat.le_refl _)]
      simp [up1]
      omega
theorem pkS_le {R : Nat → Nat} : ∀ k l, pkS R k l ≤ 1 := by
  intro k
  induction k with
  | zero => intro l; exact Nat.zero_le _
  | succ k ih =>
    intro l
    cases hb : bsS (pkS R k) R 20 with
    | none => rw [show pkS R (k + 1) = pkS R k by rw [pkS, hb]]; exact ih l
    | some b =>
      rw [pkS_s hb]
      unfold up1
      split
      · exact Nat.le_refl _
      · exact ih l
theorem pkS_sum {R : Nat → Nat} : ∀ {k : Nat}, k ≤ 20 → sumTo (pkS R k) 20 = k := by
  intro k
  induction k with
  | zero => intro _; simp [pkS, sumTo]
  | succ k ih =>
    intro h
    have h1 := ih (by omega)
    cases hb : bsS (pkS R k) R 20 with
    | none =>
      exfalso
      have h2 := bsS_none hb
      have h3 : ∀ n, n ≤ 20 → n ≤ sumTo (pkS R k) n := by
        intro n
        induction n with
        | zero => intro _; exact Nat.zero_le _
        | succ n ihn =>
          intro hn
          have a1 := ihn (by omega)
          have a2 := h2 n (by omega)
          show n + 1 ≤ sumTo _ n + pkS R k n
          omega
      have := h3 20 (Nat.le_refl _)
      omega
    | some b =>
      rw [pkS_s hb]
      have h2 := bsS_lt hb
      have := sumTo_up (f := pkS R k) (v := 1) h2.1
      omega
theorem pk_some {R : Nat → Nat} {k : Nat} (h : k < 20) : ∃ b, bsS (pkS R k) R 20 = some b := by
  cases hb : bsS (pkS R k) R 20 with
  | some b => exact ⟨b, rfl⟩
  | none =>
    exfalso
    have h1 : pkS R (k + 1) = pkS R k := by rw [pkS, hb]
    have h2 := pkS_sum (R := R) (k := k) (by omega)
    have h3 := pkS_sum (R := R) (k := k + 1) (by omega)
    rw [h1] at h3
    omega
/-- a pick that is owed has a rest -/
theorem pk_pos {R : Nat → Nat} {k b al m : Nat} (hal : 0 < al) (hR : ∀ l, l < 20 → R l < al) (hm : m * al = sumTo R 20) (hk : k < m) (h20 : k < 20) (hb : bsS (pkS R k) R 20 = some b) : 0 < R b := by
  rcases Nat.eq_zero_or_pos (R b) with q | q
  · exfalso
    have h1 := bsS_max hb
    have h2 : ∀ n, n ≤ 20 → sumTo R n ≤ sumTo (pkS R k) n * (al - 1) := by
      intro n
      induction n with
      | zero => intro _; simp [sumTo]
      | succ n ih =>
        intro hn
        have a1 := ih (by omega)
        show sumTo R n + R n ≤ (sumTo _ n + pkS R k n) * (al - 1)
        rw [Nat.add_mul]
        rcases Nat.eq_zero_or_pos (pkS R k n) with q2 | q2
        · have := h1 n (by omega) q2
          omega
        · have a2 := hR n (by omega)
          have a3 := pkS_le (R := R) k n
          rw [show pkS R k n = 1 by omega, Nat.one_mul]
          omega
    have h3 := h2 20 (Nat.le_refl _)
    rw [pkS_sum (by omega), ← hm] at h3
    have h4 : (k + 1) * al ≤ m * al := Nat.mul_le_mul_right al hk
    have h5 : k * (al - 1) ≤ k * al := Nat.mul_le_mul_left k (by omega)
    rw [Nat.add_mul] at h4
    omega
  · exact q
/-- only lots with a rest are picked -/
theorem pk_re {R : Nat → Nat} {al m : Nat} (hal : 0 < al) (hR : ∀ l, l < 20 → R l < al) (hm : m * al = sumTo R 20) : ∀ {k : Nat}, k ≤ m → k ≤ 20 → ∀ l, pkS R k l ≠ 0 → 0 < R l := by
  intro k
  induction k with
  | zero => intro _ _ l h; exact absurd rfl h
  | succ k ih =>
    intro h1 h2 l hl
    obtain ⟨b, hb⟩ := pk_some (R := R) (k := k) (by omega)
    rw [pkS_s hb] at hl
    by_cases e : l = b
    · subst e; exact pk_pos hal hR hm (by omega) (by omega) hb
    · simp only [up1, if_neg e] at hl
      exact ih (by omega) (by omega) l hl
/-- the share of lot l, of g grams of a crock that holds al -/
def shS (x : Nat → Nat) (g al l : Nat) : Nat := goS x g al l + pkS (reS x g al) (misS x g al) l
theorem shS_le {x : Nat → Nat} {g al l : Nat} (h0 : 0 < al) (hs : sumTo x 20 = al) (hg : g ≤ al) : shS x g al l ≤ x l := by
  have h1 := mis_lt (g := g) h0 hs
  have h2 := pkS_le (R := reS x g al) (misS x g al) l
  have h3 := Nat.div_add_mod (x l * g) al
  have h4 : x l * g ≤ al * x l := by rw [Nat.mul_comm al]; exact Nat.mul_le_mul_left _ hg
  unfold shS goS
  rcases Nat.eq_zero_or_pos (pkS (reS x g al) (misS x g al) l) with q | q
  · rw [q]
    exact Nat.div_le_of_le_mul h4
  · have h5 := pk_re (R := reS x g al) h0 (fun k _ => Nat.mod_lt _ h0) (mis_re h0 hs) (Nat.le_refl _) (by omega) l (by omega)
    have h6 : 0 < x l * g % al := h5
    have h7 : x l * g / al < x l := by
      rcases Nat.lt_or_ge (x l * g / al) (x l) with q2 | q2
      · exact q2
      · have := Nat.mul_le_mul_left al q2
        omega
    omega
theorem shS_sum {x : Nat → Nat} {g al : Nat} (h0 : 0 < al) (hs : sumTo x 20 = al) : sumTo (shS x g al) 20 = g := by
  have h1 := mis_lt (g := g) h0 hs
  have h2 := pkS_sum (R := reS x g al) (k := misS x g al) (by omega)
  have h3 := go_sum (g := g) h0 hs (Nat.le_refl 20)
  have h4 : ∀ n, sumTo (shS x g al) n = sumTo (goS x g al) n + sumTo (pkS (reS x g al) (misS x g al)) n := by
    intro n
    induction n with
    | zero => rfl
    | succ n ih =>
      show sumTo _ n + (goS x g al n + pkS _ _ n) = sumTo _ n + goS x g al n + (sumTo _ n + pkS _ _ n)
      rw [ih]
      omega
  rw [h4, h2]
  unfold misS
  omega
/-- the contents of a crock -/
def conS (G : Nat → Nat → Nat) (c l : Nat) : Nat := G 4 (20 * c + l)
def ptG (G : Nat → Nat → Nat) (c g jar : Nat) : Nat → Nat → Nat := sg G 41 (20 * jar) 20 (shS (conS G c) g (gr G c))
def jarB (N : Nat → Nat) (G : Nat → Nat → Nat) (c g : Int32) : Bool := lvI (N 3) G c && (!decide (g < nI 1) && (!decide (nI (gr G (tn c)) < g) && !decide (N 40 = 60)))
def jarG (N : Nat → Nat) (G : Nat → Nat → Nat) (c g : Nat) : Nat → Nat → Nat := sg (ptG G c g (N 40)) 4 (20 * c) 20 (fun l => G 4 (20 * c + l) - shS (conS G c) g (gr G c) l)
theorem pk_step {G : Nat → Nat → Nat} {a lo k b : Nat} {F R : Nat → Nat} (hb : bsS (pkS R k) R 20 = some b) : up2 (sg G a lo 20 (fun l => F l + pkS R k l)) a (lo + b) (F b + pkS R k b + 1) = sg G a lo 20 (fun l => F l + pkS R (k + 1) l) := by
  have h2 := bsS_lt hb
  rw [sg_up h2.1, pkS_s hb]
  refine sg_cg (fun l _ => ?_)
  by_cases e : l = b
  · subst e
    simp [up1, h2.2]
  · simp [up1, e]
theorem pk_mark {k b : Nat} {R : Nat → Nat} (hb : bsS (pkS R k) R 20 = some b) : upd (fun l => nI (pkS R k l)) b (nI 1) = fun l => nI (pkS R (k + 1) l) := by
  rw [pkS_s hb]
  funext l
  by_cases e : l = b
  · simp [upd, up1, e]
  · simp [upd, up1, e]
theorem sg_B {G : Nat → Nat → Nat} {a lo n : Nat} {f : Nat → Nat} (h : ∀ a b, G a b < 2 ^ 31) (hf : ∀ l, l < n → f l < 2 ^ 31) : ∀ x y, sg G a lo n f x y < 2 ^ 31 := by
  intro x y
  unfold sg
  split
  · exact hf _ (by omega)
  · exact h x y
/-! an array of ours beside the reference's cells -/
section XAR
variable {p : Program} {lh : Launch} {e : Env} {R : Room} {s : State} {m : MethodId} {args : Array Value} {below : List Frame} {meth : Method} {c : Code} {H : Heap} {locs : List Loc} {cells slots : Nat} {Q : State → Prop}
variable {cc : ByteArray} {pc : Nat} {ls : Array Slot} {rest : List Value} {A : Nat → Prop} {H0 : Heap}
variable {D : va_G} {dA : Nat → ClassId} {a0 : Nat} {ad : Nat → Nat} {N : Nat → Nat} {I : Nat → Int32} {G : Nat → Nat → Nat} {J : Nat → Nat → Int32}
theorem va_at_lt {cl : List vw_C} {a : Nat} {x : va_E} (h : va_at D cl (a, x) H) : a < H.size := by
  cases x with
  | inl x => exact (Array.getElem?_eq_some_iff.mp h).1
  | inr x =>
    obtain ⟨_, _, cell, q, _⟩ := h
    exact (Array.getElem?_eq_some_iff.mp q).1
/-- q isn't a cell of the reference -/
def notM (a0 : Nat) (ad : Nat → Nat) (q : Nat) : Prop := q ≠ a0 ∧ ∀ k, isA k = true → q ≠ ad k
theorem RM.fresh (hM : RM D dA a0 ad N I G J H) : notM a0 ad H.size := by
  refine ⟨fun q => ?_, fun k hk q => ?_⟩
  · have := va_at_lt hM.1
    omega
  · have := va_at_lt (hM.2.1 k hk)
    omega
theorem RM.grow {H1 : Heap} (hM : RM D dA a0 ad N I G J H) (o : ∀ q : Nat, q < H.size → H1[q]? = H[q]?) : RM D dA a0 ad N I G J H1 :=
  hM.kept (o _ (va_at_lt hM.1)) (fun k hk => o _ (va_at_lt (hM.2.1 k hk)))
theorem M_newa (hx : p.tables.exec = Jvm.exec) (hb : c.code = cc) (hG : GK D dA s) (hS : va_S A H0 H locs) (hM : RM D dA a0 ad N I G J H) {atype : ArrayType} (harr : (Cond.arrayClass (newarray.typeOf atype)).before args s = true) (hd : defaultValue (newarray.typeOf atype) = .int 0) (t : Nat) (ht : va_RA s (dA t) (newarray.typeOf atype) = (s.vm.findClass ("[" ++ (newarray.typeOf atype).toString) = some (dA t))) (htt : (tysG dA)[t]? = some (dA t, newarray.typeOf atype)) {n : Nat} (hn : n < 2 ^ 31) (hbytes : n * componentBytes (newarray.typeOf atype) ≤ 536870912) (hcells : cells + 1 ≤ R.cells) (hslots : slots + n ≤ R.slots) (hdg : decode cc pc = .ok (.newarray atype, 2))
    (kk : ∀ (q : Nat) (H1 : Heap), RM D dA a0 ad N I G J H1 → va_at D CL (q, .inl (dA t, n, .inl (fun _ => 0))) H1 → notM a0 ad q → H0.size ≤ q → va_S A H0 H1 locs → W p lh e R s m args below meth c H1 locs (cells + 1) (slots + n) Q (F0 m (pc + 2) ls (.ref q :: rest))) : W p lh e R s m args below meth c H locs cells slots Q (F0 m pc ls (.int (nI n) :: rest)) :=
  ka_newi (cA0 := dA t) hx hb hS harr hd hdg (by rw [← ht]; exact (hG.arr t htt).2) hn hbytes hcells hslots (fun H1 e1 _ o1 hS1 => kk H.size H1 (hM.grow o1) e1 hM.fresh hS.1 hS1)
theorem X_zast (hx : p.tables.exec = Jvm.exec) (hb : c.code = cc) (hG : GK D dA s) (hS : va_S A H0 H locs) (hM : RM D dA a0 ad N I G J H) {q n : Nat} {f : Nat → Int32} (hX : va_at D CL (q, .inl (dA 2, n, .inl f)) H) (hq : notM a0 ad q) (hA : A q) {i : Nat} {x : Int32} (hi : i < n) (hn : n < 2 ^ 31) {v : Int32} (hv : vp_nar .boolean x = v) (hdg : decode cc pc = .ok (.bastore, 1))
    (kk : ∀ (H1 : Heap) (locs1 : List Loc), RM D dA a0 ad N I G J H1 → va_at D CL (q, .inl (dA 2, n, .inl (upd f i v))) H1 → va_S A H0 H1 locs1 → W p lh e R s m args below meth c H1 locs1 cells slots Q (F0 m (pc + 1) ls rest)) : W p lh e R s m args below meth c H locs cells slots Q (F0 m pc ls (.int x :: .int (nI i) :: .ref q :: rest)) :=
  ka_zast hx hb hG.1 hS hA hX 2 rfl hi hn hdg (fun H1 locs1 e1 _ o1 hS1 => kk H1 locs1 (hM.kept (o1 _ (fun h => hq.1 h.symm)) (fun k hk => o1 _ (fun h => hq.2 k hk h.symm))) (by rw [← hv]; exact e1) hS1)
end XAR
