set_option maxRecDepth 100000
/-! the search for a plan -/
abbrev TrT : Type := (Nat → Int32) × (Nat → Int32) × Int32 × Int32
def itN {α : Type} (f : Nat → α → α) (x : α) : Nat → α
  | 0 => x
  | n + 1 => f n (itN f x n)
def cpT (T B : Nat → Int32) (n : Nat) : Nat → Int32 := fun k => if k < n then T k else B k
def bitS (u : Int32) (c : Nat) : Bool := decide ((u >>> (nI c &&& 31)) &&& nI 1 = nI 1)
def trS (N : Nat → Nat) (G : Nat → Nat → Nat) : Nat → Nat → Int32 → Nat → Nat → TrT → TrT
  | 0, _, _, sm, al, x => if nI sm < x.2.2.1 ∨ (nI sm = x.2.2.1 ∧ ¬ nI al < x.2.2.2) then x else (x.1, cpT x.1 x.2.1 (N 44), nI sm, nI al)
  | d + 1, o, u, sm, al, x =>
    trS N G d (o + 1) u sm al (up1 (itN (fun c y => if bitS u c = true ∨ G 49 (10 * o + c) = 0 then y else trS N G d (o + 1) (u ||| (nI 1 <<< (nI c &&& 31))) (sm + G 48 o) (al + gr G c) (up1 y.1 o (nI c), y.2)) x (N 3)).1 o (-1), (itN (fun c y => if bitS u c = true ∨ G 49 (10 * o + c) = 0 then y else trS N G d (o + 1) (u ||| (nI 1 <<< (nI c &&& 31))) (sm + G 48 o) (al + gr G c) (up1 y.1 o (nI c), y.2)) x (N 3)).2)
def trF (N : Nat → Nat) (G : Nat → Nat → Nat) (d o : Nat) (u : Int32) (sm al c : Nat) (y : TrT) : TrT :=
  if bitS u c = true ∨ G 49 (10 * o + c) = 0 then y else trS N G d (o + 1) (u ||| (nI 1 <<< (nI c &&& 31))) (sm + G 48 o) (al + gr G c) (up1 y.1 o (nI c), y.2)
theorem trS_s (N : Nat → Nat) (G : Nat → Nat → Nat) (d o : Nat) (u : Int32) (sm al : Nat) (x : TrT) : trS N G (d + 1) o u sm al x = trS N G d (o + 1) u sm al (up1 (itN (trF N G d o u sm al) x (N 3)).1 o (-1), (itN (trF N G d o u sm al) x (N 3)).2) := rfl
def trI (I : Nat → Int32) (x : TrT) : Nat → Int32 := fun k => if k = 52 then x.2.2.1 else if k = 53 then x.2.2.2 else I k
def trJ (J : Nat → Nat → Int32) (x : TrT) : Nat → Nat → Int32 := fun k => if k = 50 then x.1 else if k = 51 then x.2.1 else J k
theorem trI_mk (I : Nat → Int32) (T B : Nat → Int32) (a b : Int32) : up1 (up1 I 52 a) 53 b = trI I (T, B, a, b) := by
  funext k
  unfold up1 trI
  by_cases h : k = 53
  · subst h; simp
  · by_cases h2 : k = 52 <;> simp [h, h2]
theorem trI_up (I : Nat → Int32) (x : TrT) (a b : Int32) : up1 (up1 (trI I x) 52 a) 53 b = trI I (x.1, x.2.1, a, b) := by
  funext k
  unfold up1 trI
  by_cases h : k = 53
  · subst h; simp
  · by_cases h2 : k = 52 <;> simp [h, h2]
theorem trJ_id (J : Nat → Nat → Int32) (a b : Int32) : trJ J (J 50, J 51, a, b) = J := by
  funext k
  unfold trJ
  by_cases h : k = 50
  · subst h; simp
  · by_cases h2 : k = 51
    · subst h2; simp
    · simp [h, h2]
theorem trJ_up (J : Nat → Nat → Int32) (x : TrT) (o : Nat) (v : Int32) : up2 (trJ J x) 50 o v = trJ J (up1 x.1 o v, x.2) := by
  funext k i
  unfold up2 trJ up1
  by_cases h : k = 50
  · subst h; simp
  · by_cases h2 : k = 51 <;> simp [h, h2]
theorem cpT_0 (T B : Nat → Int32) : cpT T B 0 = B := by
  funext k
  simp [cpT]
theorem trJ_cp (J : Nat → Nat → Int32) (T B : Nat → Int32) (q : Int32 × Int32) (k : Nat) : up2 (trJ J (T, cpT T B k, q)) 51 k (T k) = trJ J (T, cpT T B (k + 1), q) := by
  funext a i
  unfold up2 trJ cpT
  by_cases h : a = 51
  · subst h
    by_cases h2 : i = k
    · subst h2; simp
    · by_cases h3 : i < k
      · simp [h2, h3, Nat.lt_succ_of_lt h3]
      · simp [h2, h3, show ¬ i < k + 1 by omega]
  · by_cases h2 : a = 50 <;> simp [h, h2]
/-! which crock does for which order -/
def bN (b : Bool) : Nat := if b then 1 else 0
theorem bN_I (b : Bool) : nI (bN b) = bI b := by cases b <;> rfl
def plR (N : Nat → Nat) (G : Nat → Nat → Nat) (J : Nat → Nat → Int32) (n c : Nat) : Nat → Nat → Nat := fun a i =>
  if a = 49 ∧ ((i / 10 < n ∧ i % 10 < N 3) ∨ (i / 10 = n ∧ i % 10 < c)) then bN (dmS G J (i % 10) (i / 10) (N 14) (N 19) (N 42) (N 43)) else G a i
def plG (N : Nat → Nat) (G : Nat → Nat → Nat) (J : Nat → Nat → Int32) : Nat → Nat → Nat := plR N G J (N 44) 0
theorem plR_0 (N : Nat → Nat) (G : Nat → Nat → Nat) (J : Nat → Nat → Int32) : plR N G J 0 0 = G := by
  funext a i
  unfold plR
  rw [if_neg (by omega)]
theorem plR_n (N : Nat → Nat) (G : Nat → Nat → Nat) (J : Nat → Nat → Int32) (n : Nat) : plR N G J n (N 3) = plR N G J (n + 1) 0 := by
  funext a i
  unfold plR
  by_cases h : a = 49 ∧ (i / 10 < n + 1 ∧ i % 10 < N 3)
  · rw [if_pos (by omega), if_pos (by omega)]
  · rw [if_neg (by omega), if_neg (by omega)]
theorem plR_o {N : Nat → Nat} {G : Nat → Nat → Nat} {J : Nat → Nat → Int32} {n c a : Nat} (h : a ≠ 49) : plR N G J n c a = G a := by
  funext i
  unfold plR
  rw [if_neg (by omega)]
theorem plR_s {N : Nat → Nat} {G : Nat → Nat → Nat} {J : Nat → Nat → Int32} {n c v : Nat} (hc : c < 10) (hv : v = bN (dmS G J c n (N 14) (N 19) (N 42) (N 43))) : up2 (plR N G J n c) 49 (10 * n + c) v = plR N G J n (c + 1) := by
  subst hv
  funext a i
  unfold up2 plR
  by_cases h : a = 49
  · by_cases h2 : i = 10 * n + c
    · rw [if_pos h, if_pos h2, if_pos (by omega), show i % 10 = c by omega, show i / 10 = n by omega]
    · rw [if_pos h, if_neg h2]
      by_cases h3 : (i / 10 < n ∧ i % 10 < N 3) ∨ (i / 10 = n ∧ i % 10 < c)
      · rw [if_pos ⟨h, h3⟩, if_pos (by omega)]
      · rw [if_neg (by omega), if_neg (by omega)]
  · rw [if_neg h, if_neg (by omega), if_neg (by omega)]
theorem latS_cg {G G' : Nat → Nat → Nat} (h20 : G' 20 = G 20) (h21 : G' 21 = G 21) (h9 : G' 9 = G 9) (c hr : Nat) : ∀ n, latS G' c hr n = latS G c hr n := by
  intro n
  induction n with
  | zero => rfl
  | succ n ih => simp only [latS, ih, h20, h21, h9]
theorem spL_cg {G G' : Nat → Nat → Nat} (h12 : G' 12 = G 12) (c : Nat) (hi : Bool) (v0 : Int32) (fr : Nat) : ∀ n, spL G' c hi v0 fr n = spL G c hi v0 fr n := by
  intro n
  induction n with
  | zero => rfl
  | succ n ih => simp only [spL, ih, h12]
theorem spanS_cg {G G' : Nat → Nat → Nat} {J : Nat → Nat → Int32} (h9 : G' 9 = G 9) (h12 : G' 12 = G 12) (h20 : G' 20 = G 20) (h21 : G' 21 = G 21) (h22 : G' 22 = G 22) (c hr n : Nat) (hi : Bool) : spanS G' J c hr n hi = spanS G J c hr n hi := by
  simp only [spanS, latS_cg h20 h21 h9, spL_cg h12, h9, h21, h22]
theorem gr_cg {G G' : Nat → Nat → Nat} (h4 : G' 4 = G 4) (c : Nat) : gr G' c = gr G c := by
  simp only [gr, grT, h4]
theorem fitS_cg {G G' : Nat → Nat → Nat} (h6 : G' 6 = G 6) (h9 : G' 9 = G 9) (h20 : G' 20 = G 20) (h21 : G' 21 = G 21) (h22 : G' 22 = G 22) (c now tests lo hi : Nat) : fitS G' c now tests lo hi = fitS G c now tests lo hi := by
  simp only [fitS, latS_cg h20 h21 h9, h6, h22]
theorem dmS_cg {G G' : Nat → Nat → Nat} {J : Nat → Nat → Int32} (h : ∀ a, a ≠ 49 → G' a = G a) (c o now tests lo hi : Nat) : dmS G' J c o now tests lo hi = dmS G J c o now tests lo hi := by
  simp only [dmS, fitS_cg (h 6 (by decide)) (h 9 (by decide)) (h 20 (by decide)) (h 21 (by decide)) (h 22 (by decide)), gr_cg (h 4 (by decide)), spanS_cg (J := J) (h 9 (by decide)) (h 12 (by decide)) (h 20 (by decide)) (h 21 (by decide)) (h 22 (by decide)), h 45 (by decide), h 46 (by decide), h 47 (by decide)]
/-- the plan: the search's cells behind it -/
def plT (N : Nat → Nat) (I : Nat → Int32) (G : Nat → Nat → Nat) (J : Nat → Nat → Int32) : TrT := trS N (plG N G J) (N 44) 0 (nI 0) 0 0 (J 50, J 51, -1, nI 0)
abbrev r_tr (d : Nat) : Room := { frames := d + 1, cells := 0, slots := 0, locals := 25 * d + 25 }
/-! segments of an array of ints -/
def sj (G : Nat → Nat → Int32) (a lo n : Nat) (f : Nat → Int32) : Nat → Nat → Int32 := fun k i => if k = a ∧ lo ≤ i ∧ i < lo + n then f (i - lo) else G k i
theorem sj_0 {G : Nat → Nat → Int32} {a lo : Nat} {f : Nat → Int32} : sj G a lo 0 f = G := by
  funext k i
  unfold sj
  rw [if_neg (by omega)]
theorem sj_s {G : Nat → Nat → Int32} {a lo n : Nat} {v : Int32} {f : Nat → Int32} (hv : v = f n) : up2 (sj G a lo n f) a (lo + n) v = sj G a lo (n + 1) f := by
  subst hv
  funext k i
  unfold up2 sj
  by_cases hk : k = a
  · by_cases hi : i = lo + n
    · rw [if_pos hk, if_pos hi, if_pos ⟨hk, by omega, by omega⟩, hi, show lo + n - lo = n by omega]
    · rw [if_pos hk, if_neg hi]
      by_cases h2 : lo ≤ i ∧ i < lo + n
      · rw [if_pos ⟨hk, h2⟩, if_pos ⟨hk, by omega, by omega⟩]
      · rw [if_neg (fun q => h2 q.2), if_neg (fun q => h2 ⟨q.2.1, by omega⟩)]
  · rw [if_neg hk, if_neg (fun q => hk q.1), if_neg (fun q => hk q.1)]
theorem sj_o {G : Nat → Nat → Int32} {a lo n k : Nat} {f : Nat → Int32} (h : k ≠ a) : sj G a lo n f k = G k := by
  funext i
  unfold sj
  rw [if_neg (fun q => h q.1)]
/-- the k-th byte of five ints -/
def fdW (a b c d e : Int32) (k : Nat) : Int32 := if k < 4 then a else if k < 8 then b else if k < 12 then c else if k < 16 then d else e
def fdB (a b c d e : Int32) (k : Nat) : Int32 := ((fdW a b c d e k) >>> ((nI (24 - 8 * (k % 4))) &&& 31)).toInt8.toInt32
/-! the reader -/
def bv (x : Int32) : Nat := (x &&& nI 255).toNatClampNeg
theorem bv_eq (x : Int32) : x &&& nI 255 = nI (bv x) := by
  obtain ⟨j, hj, e⟩ := pk_andE x (m := nI 255) 8 (by decide)
  unfold bv
  rw [e, nI_clamp (by omega)]
theorem bv_lt (x : Int32) : bv x < 256 := by
  obtain ⟨j, hj, e⟩ := pk_andE x (m := nI 255) 8 (by decide)
  unfold bv
  rw [e, nI_clamp (by omega)]
  exact hj
/-- the byte at a place of the text of t bytes; 0 behind it -/
def byS (t : Nat) (f : Nat → Int32) (k : Nat) : Nat := if k < t then bv (f k) else 0
theorem byS_lt (t : Nat) (f : Nat → Int32) (k : Nat) : byS t f k < 256 := by
  unfold byS
  split
  · exact bv_lt _
  · decide
theorem byS_in {t : Nat} {f : Nat → Int32} {k : Nat} (h : byS t f k ≠ 0) : k < t := by
  unfold byS at h
  split at h
  · assumption
  · exact absurd rfl h
def skW (b : Nat → Nat) : Nat → Nat → Nat
  | 0, p => p
  | n + 1, p => if b p = 32 ∨ b p = 10 then skW b n (p + 1) else p
def ruC (b : Nat → Nat) (lo hi : Nat) : Nat → Nat → Nat
  | 0, p => p
  | n + 1, p => if lo ≤ b p ∧ b p ≤ hi then ruC b lo hi n (p + 1) else p
def vaC (b : Nat → Nat) (f : Nat) : Nat → Nat
  | 0 => 0
  | n + 1 => if n < 4 then 10 * vaC b f n + b (f + n) - 48 else vaC b f n
theorem skW_le (b : Nat → Nat) : ∀ n p, p ≤ skW b n p ∧ skW b n p ≤ p + n := by
  intro n
  induction n with
  | zero => intro p; exact ⟨Nat.le_refl _, Nat.le_refl _⟩
  | succ n ih =>
    intro p
    unfold skW
    split
    · have := ih (p + 1); omega
    · omega
theorem ruC_le (b : Nat → Nat) (lo hi : Nat) : ∀ n p, p ≤ ruC b lo hi n p ∧ ruC b lo hi n p ≤ p + n := by
  intro n
  induction n with
  | zero => intro p; exact ⟨Nat.le_refl _, Nat.le_refl _⟩
  | succ n ih =>
    intro p
    unfold ruC
    split
    · have := ih (p + 1); omega
    · omega
theorem vaC_le {b : Nat → Nat} {f : Nat} : ∀ {n : Nat}, (∀ j, j < n → 48 ≤ b (f + j) ∧ b (f + j) ≤ 57) → vaC b f n ≤ 9999 ∧ (n ≤ 4 → vaC b f n + 1 ≤ 10 ^ n) := by
  intro n
  induction n with
  | zero => intro _; exact ⟨Nat.zero_le _, fun _ => Nat.le_refl 1⟩
  | succ n ih =>
    intro h
    obtain ⟨h1, h2⟩ := ih (fun j hj => h j (by omega))
    have h3 := h n (by omega)
    unfold vaC
    by_cases q : n < 4
    · rw [if_pos q]
      have h4 := h2 (by omega)
      have h5 : 10 ^ (n + 1) = 10 * 10 ^ n := by rw [Nat.pow_succ, Nat.mul_comm]
      have h6 : 10 ^ (n + 1) ≤ 10 ^ 4 := Nat.pow_le_pow_right (by decide) (by omega)
      refine ⟨by omega, fun _ => by omega⟩
    · rw [if_neg q]
      exact ⟨h1, fun q2 => by omega⟩
def sgnB (c : Nat) : Bool := decide (c = 60) || (decide (c = 61) || (decide (c = 62) || (decide (c = 58) || decide (c = 59))))
/-- a token of the text (t, b) from a place on: its kind, where it begins, where it ends, its number -/
def tkQ (t : Nat) (b : Nat → Nat) (p v0 : Nat) : Nat × Nat × Nat × Nat :=
  if t ≤ skW b (t - p) p then (0, skW b (t - p) p, skW b (t - p) p, v0)
  else if 97 ≤ b (skW b (t - p) p) ∧ b (skW b (t - p) p) ≤ 122 then (if 8 < ruC b 97 122 (t - skW b (t - p) p) (skW b (t - p) p) - skW b (t - p) p then 4 else 1, skW b (t - p) p, ruC b 97 122 (t - skW b (t - p) p) (skW b (t - p) p), v0)
  else if 48 ≤ b (skW b (t - p) p) ∧ b (skW b (t - p) p) ≤ 57 then (if 4 < ruC b 48 57 (t - skW b (t - p) p) (skW b (t - p) p) - skW b (t - p) p then 4 else 2, skW b (t - p) p, ruC b 48 57 (t - skW b (t - p) p) (skW b (t - p) p), vaC b (skW b (t - p) p) (ruC b 48 57 (t - skW b (t - p) p) (skW b (t - p) p) - skW b (t - p) p))
  else (if sgnB (b (skW b (t - p) p)) = true then 3 else 4, skW b (t - p) p, skW b (t - p) p + 1, v0)
def tokQ (N : Nat → Nat) (q : Nat × Nat × Nat × Nat) : Nat → Nat := up1 (up1 (up1 (up1 N 37 q.2.1) 38 q.2.2.1) 39 q.2.2.2) 36 q.1
def tokN (N : Nat → Nat) (J : Nat → Nat → Int32) : Nat → Nat := tokQ N (tkQ (N 33) (byS (N 33) (J 32)) (N 38) (N 39))
theorem tokQ3 (N : Nat → Nat) (a b k : Nat) : up1 (up1 (up1 N 37 a) 38 b) 36 k = tokQ N (k, a, b, N 39) := by
  funext z
  unfold tokQ up1
  by_cases h : z = 36
  · simp [h]
  · by_cases h2 : z = 39
    · subst h2; simp
    · simp [h, h2]
def wrN (N : Nat → Nat) (k : Nat) : Nat → Nat := if N 34 = 0 then up1 N 34 k else N
def wrI (N : Nat → Nat) (I : Nat → Int32) : Nat → Int32 := if N 34 = 0 then up1 I 35 (nI (N 37)) else I
def nuV (N : Nat → Nat) : Nat := if N 36 = 2 then N 39 else 0
def nuN (N : Nat → Nat) (J : Nat → Nat → Int32) : Nat → Nat := if N 36 = 2 then tokN N J else wrN N 1
def nuI (N : Nat → Nat) (I : Nat → Int32) : Nat → Int32 := if N 36 = 2 then I else wrI N I
