set_option maxRecDepth 100000
theorem lw_SU {own : String} {idx : Nat} {y : MethodName} {b : ByteArray} {L : Nat} {r : Option FieldType} (h1 : Cond.methodLink own idx y ∈ lw_all) (h2 : Cond.sameMethod y.cls y.cls y.name y.desc ∈ lw_all) (h3 : Cond.superclass own y.cls ∈ lw_all) (h4 : Cond.instanceMethod y ∈ lw_all) (h5 : Cond.initialized y.cls ∈ lw_all) (h6 : Cond.code y b L r ∈ lw_all) : GoodIn lw_all (va_wsSU own idx y (ws_ y b L r)) := by
  refine lw_app ?_ (lw_meth h6)
  intro w hw
  simp only [List.mem_cons, List.not_mem_nil, or_false] at hw
  rcases hw with e | e | e | e | e <;> rw [e] <;> assumption
/-- what was wasted of each lot -/
def wsY (Y : Nat → Nat → Nat → Int32) (G : Nat → Nat → Nat) (c : Nat) : Nat → Nat → Nat → Nat → Int32
  | 0 => Y
  | n + 1 => up3 (wsY Y G c n) 4 0 n (wsY Y G c n 4 0 n + nI (G 4 (20 * c + n)))
theorem wsY_o {Y : Nat → Nat → Nat → Int32} {G : Nat → Nat → Nat} {c a : Nat} (h : a ≠ 4) : ∀ n, wsY Y G c n a = Y a := by
  intro n
  induction n with
  | zero => rfl
  | succ n ih => rw [wsY, up3_o h, ih]
theorem zeroG_hi {G : Nat → Nat → Nat} {c : Nat} : ∀ {n l : Nat}, n ≤ l → zeroG G c n 4 (20 * c + l) = G 4 (20 * c + l) := by
  intro n
  induction n with
  | zero => intro l _; rfl
  | succ n ih => intro l h; rw [zeroG, up2_n (by omega), ih (by omega)]
theorem pourT_hi {G : Nat → Nat → Nat} {a b : Nat} (hab : a ≠ b) : ∀ {n l : Nat}, n ≤ l → l < 20 → pourT G a b n 4 (20 * b + l) = G 4 (20 * b + l) ∧ pourT G a b n 4 (20 * a + l) = G 4 (20 * a + l) := by
  intro n
  induction n with
  | zero => intro l _ _; exact ⟨rfl, rfl⟩
  | succ n ih =>
    intro l h hl
    obtain ⟨h1, h2⟩ := ih (l := l) (by omega) hl
    rw [pourT, up2_n (by omega), up2_n (by omega), up2_n (by omega), up2_n (by omega)]
    exact ⟨h1, h2⟩
/-! the house's search -/
def trY (Y : Nat → Nat → Nat → Int32) (x : TrT) : Nat → Nat → Nat → Int32 := fun a i => if a = 8 ∧ i = 0 then x.1 else if a = 9 ∧ i = 0 then x.2.1 else if a = 12 ∧ i = 0 then (fun j => if j = 0 then x.2.2.1 else if j = 1 then x.2.2.2 else Y 12 0 j) else Y a i
theorem trY_id (Y : Nat → Nat → Nat → Int32) (a b : Int32) : up3 (up3 Y 12 0 0 a) 12 0 1 b = trY Y (Y 8 0, Y 9 0, a, b) := by
  funext q i j
  unfold up3 trY
  by_cases h : q = 12
  · subst h
    by_cases hi : i = 0
    · subst hi
      by_cases h1 : j = 1
      · subst h1; simp
      · by_cases h0 : j = 0 <;> simp [h0, h1]
    · simp [hi]
  · by_cases h8 : q = 8
    · subst h8
      by_cases hi : i = 0
      · subst hi; simp
      · simp [hi]
    · by_cases h9 : q = 9
      · subst h9
        by_cases hi : i = 0
        · subst hi; simp
        · simp [hi]
      · simp [h, h8, h9]
theorem trY_up (Y : Nat → Nat → Nat → Int32) (x : TrT) (a b : Int32) : up3 (up3 (trY Y x) 12 0 0 a) 12 0 1 b = trY Y (x.1, x.2.1, a, b) := by
  funext q i j
  unfold up3 trY
  by_cases h : q = 12
  · subst h
    by_cases hi : i = 0
    · subst hi
      by_cases h1 : j = 1
      · subst h1; simp
      · by_cases h0 : j = 0 <;> simp [h0, h1]
    · simp [hi]
  · simp [h]
theorem trY_t (Y : Nat → Nat → Nat → Int32) (x : TrT) (o : Nat) (v : Int32) : up3 (trY Y x) 8 0 o v = trY Y (up1 x.1 o v, x.2) := by
  funext q i j
  unfold up3 trY up1
  by_cases h : q = 8
  · subst h
    by_cases hi : i = 0
    · subst hi
      by_cases h0 : j = o <;> simp [h0]
    · simp [hi]
  · simp [h]
theorem trY_cp (Y : Nat → Nat → Nat → Int32) (T B : Nat → Int32) (q : Int32 × Int32) (k : Nat) : up3 (trY Y (T, cpT T B k, q)) 9 0 k (T k) = trY Y (T, cpT T B (k + 1), q) := by
  funext a i j
  unfold up3 trY cpT
  by_cases h : a = 9
  · subst h
    by_cases hi : i = 0
    · subst hi
      by_cases h2 : j = k
      · subst h2; simp
      · by_cases h3 : j < k
        · simp [h2, h3, Nat.lt_succ_of_lt h3]
        · simp [h2, h3, show ¬ j < k + 1 by omega]
    · simp [hi]
  · simp [h]
def trP (mm bh : Nat → Nat) (N : Nat → Nat) (G : Nat → Nat → Nat) : Nat → Nat → Int32 → Nat → Nat → TrT → TrT
  | 0, _, _, sm, al, x => if nI sm < x.2.2.1 ∨ (nI sm = x.2.2.1 ∧ ¬ nI al < x.2.2.2) then x else (x.1, cpT x.1 x.2.1 (N 44), nI sm, nI al)
  | d + 1, o, u, sm, al, x =>
    if nI (sm + bh (o + 1)) < (itN (fun c y => if bitS u c = true ∨ mm (10 * o + c) = 0 then y else trP mm bh N G d (o + 1) (u ||| (nI 1 <<< (nI c &&& 31))) (sm + G 48 o) (al + gr G c) (up1 y.1 o (nI c), y.2)) x (N 3)).2.2.1
    then (up1 (itN (fun c y => if bitS u c = true ∨ mm (10 * o + c) = 0 then y else trP mm bh N G d (o + 1) (u ||| (nI 1 <<< (nI c &&& 31))) (sm + G 48 o) (al + gr G c) (up1 y.1 o (nI c), y.2)) x (N 3)).1 o (-1), (itN (fun c y => if bitS u c = true ∨ mm (10 * o + c) = 0 then y else trP mm bh N G d (o + 1) (u ||| (nI 1 <<< (nI c &&& 31))) (sm + G 48 o) (al + gr G c) (up1 y.1 o (nI c), y.2)) x (N 3)).2)
    else trP mm bh N G d (o + 1) u sm al (up1 (itN (fun c y => if bitS u c = true ∨ mm (10 * o + c) = 0 then y else trP mm bh N G d (o + 1) (u ||| (nI 1 <<< (nI c &&& 31))) (sm + G 48 o) (al + gr G c) (up1 y.1 o (nI c), y.2)) x (N 3)).1 o (-1), (itN (fun c y => if bitS u c = true ∨ mm (10 * o + c) = 0 then y else trP mm bh N G d (o + 1) (u ||| (nI 1 <<< (nI c &&& 31))) (sm + G 48 o) (al + gr G c) (up1 y.1 o (nI c), y.2)) x (N 3)).2)
def trQ (mm bh : Nat → Nat) (N : Nat → Nat) (G : Nat → Nat → Nat) (d o : Nat) (u : Int32) (sm al c : Nat) (y : TrT) : TrT :=
  if bitS u c = true ∨ mm (10 * o + c) = 0 then y else trP mm bh N G d (o + 1) (u ||| (nI 1 <<< (nI c &&& 31))) (sm + G 48 o) (al + gr G c) (up1 y.1 o (nI c), y.2)
theorem trP_s (mm bh : Nat → Nat) (N : Nat → Nat) (G : Nat → Nat → Nat) (d o : Nat) (u : Int32) (sm al : Nat) (x : TrT) : trP mm bh N G (d + 1) o u sm al x = if nI (sm + bh (o + 1)) < (itN (trQ mm bh N G d o u sm al) x (N 3)).2.2.1 then (up1 (itN (trQ mm bh N G d o u sm al) x (N 3)).1 o (-1), (itN (trQ mm bh N G d o u sm al) x (N 3)).2) else trP mm bh N G d (o + 1) u sm al (up1 (itN (trQ mm bh N G d o u sm al) x (N 3)).1 o (-1), (itN (trQ mm bh N G d o u sm al) x (N 3)).2) := rfl
/-- what the search reads -/
def PlT (mm bh : Nat → Nat) (N : Nat → Nat) (G : Nat → Nat → Nat) (Y : Nat → Nat → Nat → Int32) : Prop := (∀ o c, o < N 44 → c < N 3 → Y 5 0 (10 * o + c) = nI (mm (10 * o + c)) ∧ mm (10 * o + c) < 2) ∧ (∀ c, c < N 3 → Y 6 0 c = nI (gr G c)) ∧ ∀ o, o ≤ N 44 → Y 7 0 o = nI (bh o)
/-! the search's arrays are filled -/
def pmY (N : Nat → Nat) (G : Nat → Nat → Nat) (J : Nat → Nat → Int32) (Y : Nat → Nat → Nat → Int32) (n c : Nat) : Nat → Nat → Nat → Int32 := fun a i j =>
  if a = 5 ∧ i = 0 ∧ ((j / 10 < n ∧ j % 10 < N 3) ∨ (j / 10 = n ∧ j % 10 < c)) then bI (dmS G J (j % 10) (j / 10) (N 14) (N 19) (N 42) (N 43)) else Y a i j
theorem pmY_0 (N : Nat → Nat) (G : Nat → Nat → Nat) (J : Nat → Nat → Int32) (Y : Nat → Nat → Nat → Int32) : pmY N G J Y 0 0 = Y := by
  funext a i j
  unfold pmY
  rw [if_neg (by omega)]
theorem pmY_n (N : Nat → Nat) (G : Nat → Nat → Nat) (J : Nat → Nat → Int32) (Y : Nat → Nat → Nat → Int32) (n : Nat) : pmY N G J Y n (N 3) = pmY N G J Y (n + 1) 0 := by
  funext a i j
  unfold pmY
  by_cases h : a = 5 ∧ i = 0 ∧ (j / 10 < n + 1 ∧ j % 10 < N 3)
  · rw [if_pos (by omega), if_pos (by omega)]
  · rw [if_neg (by omega), if_neg (by omega)]
theorem pmY_s {N : Nat → Nat} {G : Nat → Nat → Nat} {J : Nat → Nat → Int32} {Y : Nat → Nat → Nat → Int32} {n c : Nat} {v : Int32} (hc : c < 10) (hv : v = bI (dmS G J c n (N 14) (N 19) (N 42) (N 43))) : up3 (pmY N G J Y n c) 5 0 (10 * n + c) v = pmY N G J Y n (c + 1) := by
  subst hv
  funext a i j
  unfold up3 pmY
  by_cases h : a = 5
  · by_cases hi : i = 0
    · by_cases h2 : j = 10 * n + c
      · rw [if_pos h, if_pos hi, if_pos h2, if_pos (by omega), show j % 10 = c by omega, show j / 10 = n by omega]
      · rw [if_pos h, if_pos hi, if_neg h2]
        by_cases h3 : (j / 10 < n ∧ j % 10 < N 3) ∨ (j / 10 = n ∧ j % 10 < c)
        · rw [if_pos ⟨h, hi, h3⟩, if_pos (by omega)]
        · rw [if_neg (by omega), if_neg (by omega)]
    · rw [if_pos h, if_neg hi, if_neg (by omega), if_neg (by omega)]
  · rw [if_neg h, if_neg (by omega), if_neg (by omega)]
/-- a segment of a family -/
def sy (Y : Nat → Nat → Nat → Int32) (a lo n : Nat) (f : Nat → Int32) : Nat → Nat → Nat → Int32 := fun q i j => if q = a ∧ i = 0 ∧ lo ≤ j ∧ j < lo + n then f j else Y q i j
theorem sy_0 {Y : Nat → Nat → Nat → Int32} {a lo : Nat} {f : Nat → Int32} : sy Y a lo 0 f = Y := by
  funext q i j
  unfold sy
  rw [if_neg (by omega)]
theorem sy_s {Y : Nat → Nat → Nat → Int32} {a lo n : Nat} {f : Nat → Int32} {v : Int32} (hv : v = f (lo + n)) : up3 (sy Y a lo n f) a 0 (lo + n) v = sy Y a lo (n + 1) f := by
  subst hv
  funext q i j
  unfold up3 sy
  by_cases h : q = a
  · by_cases hi : i = 0
    · by_cases hj : j = lo + n
      · rw [if_pos h, if_pos hi, if_pos hj, if_pos (by omega), hj]
      · rw [if_pos h, if_pos hi, if_neg hj]
        by_cases h3 : lo ≤ j ∧ j < lo + n
        · rw [if_pos ⟨h, hi, h3⟩, if_pos (by omega)]
        · rw [if_neg (by omega), if_neg (by omega)]
    · rw [if_pos h, if_neg hi, if_neg (by omega), if_neg (by omega)]
  · rw [if_neg h, if_neg (by omega), if_neg (by omega)]
theorem sy_d {Y : Nat → Nat → Nat → Int32} {a lo n : Nat} {f : Nat → Int32} {v : Int32} (hv : v = f lo) : up3 (sy Y a (lo + 1) n f) a 0 lo v = sy Y a lo (n + 1) f := by
  subst hv
  funext q i j
  unfold up3 sy
  by_cases h : q = a
  · by_cases hi : i = 0
    · by_cases hj : j = lo
      · rw [if_pos h, if_pos hi, if_pos hj, if_pos (by omega), hj]
      · rw [if_pos h, if_pos hi, if_neg hj]
        by_cases h3 : lo + 1 ≤ j ∧ j < lo + 1 + n
        · rw [if_pos ⟨h, hi, h3⟩, if_pos (by omega)]
        · rw [if_neg (by omega), if_neg (by omega)]
    · rw [if_pos h, if_neg hi, if_neg (by omega), if_neg (by omega)]
  · rw [if_neg h, if_neg (by omega), if_neg (by omega)]
theorem sy_in {Y : Nat → Nat → Nat → Int32} {a lo n j : Nat} {f : Nat → Int32} (h : lo ≤ j ∧ j < lo + n) : sy Y a lo n f a 0 j = f j := if_pos ⟨rfl, rfl, h⟩
/-- the prices of an order and all behind it -/
def bhS (G : Nat → Nat → Nat) (m o : Nat) : Nat := sumTo (fun t => G 48 (o + t)) (m - o)
theorem sumTo_sh {f : Nat → Nat} : ∀ n, sumTo f (n + 1) = f 0 + sumTo (fun t => f (t + 1)) n := by
  intro n
  induction n with
  | zero => show 0 + f 0 = f 0 + 0; omega
  | succ n ih =>
    show sumTo f (n + 1) + f (n + 1) = f 0 + (sumTo (fun t => f (t + 1)) n + f (n + 1))
    rw [ih]
    omega
theorem bhS_s {G : Nat → Nat → Nat} {m o : Nat} (h : o < m) : bhS G m o = bhS G m (o + 1) + G 48 o := by
  unfold bhS
  rw [show m - o = (m - (o + 1)) + 1 by omega, sumTo_sh, Nat.add_comm]
  congr 1
  have e : (fun t => G 48 (o + (t + 1))) = (fun t => G 48 (o + 1 + t)) := by funext t; rw [show o + (t + 1) = o + 1 + t by omega]
  rw [e]
theorem bhS_m {G : Nat → Nat → Nat} {m : Nat} : bhS G m m = 0 := by
  unfold bhS
  rw [Nat.sub_self]
  rfl
def mmS (N : Nat → Nat) (G : Nat → Nat → Nat) (J : Nat → Nat → Int32) (i : Nat) : Nat := bN (dmS G J (i % 10) (i / 10) (N 14) (N 19) (N 42) (N 43))
/-- the search's arrays, filled -/
def pfY (N : Nat → Nat) (G : Nat → Nat → Nat) (J : Nat → Nat → Int32) (Y : Nat → Nat → Nat → Int32) : Nat → Nat → Nat → Int32 := sy (sy (pmY N G J Y (N 44) 0) 6 0 (N 3) (fun c => nI (gr G c))) 7 0 (N 44 + 1) (fun o => nI (bhS G (N 44) o))
theorem pfY_ok (N : Nat → Nat) (G : Nat → Nat → Nat) (J : Nat → Nat → Int32) (Y : Nat → Nat → Nat → Int32) (h3 : N 3 ≤ 10) : PlT (mmS N G J) (bhS G (N 44)) N G (pfY N G J Y) := by
  refine ⟨fun o c ho hc => ⟨?_, ?_⟩, fun c hc => ?_, fun o ho => ?_⟩
  · show pmY N G J Y (N 44) 0 5 0 (10 * o + c) = _
    unfold pmY mmS
    rw [if_pos (by omega), bN_I]
  · unfold mmS bN
    split <;> decide
  · show sy (pmY N G J Y (N 44) 0) 6 0 (N 3) (fun c => nI (gr G c)) 6 0 c = _
    exact sy_in (by omega)
  · exact sy_in (by omega)
/-- the house's plan -/
def phT (N : Nat → Nat) (G : Nat → Nat → Nat) (J : Nat → Nat → Int32) (Y : Nat → Nat → Nat → Int32) : TrT := trP (mmS N G J) (bhS G (N 44)) N G (N 44) 0 (nI 0) 0 0 (Y 8 0, Y 9 0, -1, nI 0)
def phY (N : Nat → Nat) (G : Nat → Nat → Nat) (J : Nat → Nat → Int32) (Y : Nat → Nat → Nat → Int32) : Nat → Nat → Nat → Int32 := trY (pfY N G J Y) (phT N G J Y)
