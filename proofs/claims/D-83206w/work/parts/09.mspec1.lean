set_option maxRecDepth 100000
/-! an int that is -1 or a natural -/
def oI : Option Nat → Int32
  | none => -1
  | some k => nI k
theorem nI_nm1 {k : Nat} (h : k < 2 ^ 31) : ¬ nI k = -1 := by
  intro q
  have a := nI_toInt h
  rw [q, toInt_m1] at a
  omega
def tn (x : Int32) : Nat := x.toNatClampNeg
theorem tn_nI {n : Nat} (h : n < 2 ^ 31) : tn (nI n) = n := nI_clamp h
def dI (n : Nat) : Int32 := nI n + Int32.ofInt (-1)
theorem dI_s (n : Nat) : dI (n + 1) = nI n := pk_m1 n
theorem dI_0 : dI 0 = -1 := by decide
section KO
variable {p : Program} {l : Launch} {e : Env} {R : Room} {s : State} {m : MethodId} {args : Array Value} {below : List Frame} {meth : Method} {c : Code} {H : Heap} {locs : List Loc} {cells slots : Nat} {Q : State → Prop}
variable {cc : ByteArray} {pc : Nat} {ls : Array Slot} {rest : List Value}
theorem kO_eq (hx : p.tables.exec = Jvm.exec) (hb : c.code = cc) {b : Option Nat} {off : Int} {tgt : Nat} (hdg : decode cc pc = .ok (.if_icmp .eq off, 3)) (ht : (pc : Int) + off = (tgt : Int)) (hk : ∀ k, b = some k → k < 2 ^ 31)
    (kt : b = none → W p l e R s m args below meth c H locs cells slots Q (F0 m tgt ls rest)) (kf : ∀ k, b = some k → W p l e R s m args below meth c H locs cells slots Q (F0 m (pc + 3) ls rest)) : W p l e R s m args below meth c H locs cells slots Q (F0 m pc ls (.int (-1) :: .int (oI b) :: rest)) := by
  cases hbb : b with
  | none => exact lv_icmp_eq hx hb hdg ht (fun _ => kt hbb) (fun h => absurd rfl h)
  | some k => exact lv_icmp_eq hx hb hdg ht (fun h => absurd h (nI_nm1 (hk k hbb))) (fun _ => kf k hbb)
theorem kO_ne (hx : p.tables.exec = Jvm.exec) (hb : c.code = cc) {b : Option Nat} {off : Int} {tgt : Nat} (hdg : decode cc pc = .ok (.if_icmp .ne off, 3)) (ht : (pc : Int) + off = (tgt : Int)) (hk : ∀ k, b = some k → k < 2 ^ 31)
    (kt : ∀ k, b = some k → W p l e R s m args below meth c H locs cells slots Q (F0 m tgt ls rest)) (kf : b = none → W p l e R s m args below meth c H locs cells slots Q (F0 m (pc + 3) ls rest)) : W p l e R s m args below meth c H locs cells slots Q (F0 m pc ls (.int (-1) :: .int (oI b) :: rest)) := by
  cases hbb : b with
  | none => exact lv_icmp_ne hx hb hdg ht (fun h => absurd rfl h) (fun _ => kf hbb)
  | some k => exact lv_icmp_ne hx hb hdg ht (fun _ => kt k hbb) (fun h => absurd h (nI_nm1 (hk k hbb)))
end KO
/-! ===== the law in plain words ===== -/
/-- the latest of the first n tests of crock c up to an hour -/
def latS (G : Nat → Nat → Nat) (c hr : Nat) : Nat → Option Nat
  | 0 => none
  | n + 1 => if G 20 n = c ∧ G 9 c ≤ G 21 n ∧ G 21 n ≤ hr ∧ (∀ k, latS G c hr n = some k → G 21 k ≤ G 21 n) then some n else latS G c hr n
theorem latS_lt {G : Nat → Nat → Nat} {c hr : Nat} : ∀ {n k : Nat}, latS G c hr n = some k → k < n := by
  intro n
  induction n with
  | zero => intro k h; cases h
  | succ n ih =>
    intro k h
    unfold latS at h
    split at h
    · cases h; omega
    · have := ih h; omega
theorem latS_ok {G : Nat → Nat → Nat} {c hr : Nat} : ∀ {n k : Nat}, latS G c hr n = some k → G 20 k = c ∧ G 9 c ≤ G 21 k ∧ G 21 k ≤ hr := by
  intro n
  induction n with
  | zero => intro k h; cases h
  | succ n ih =>
    intro k h
    unfold latS at h
    split at h
    · rename_i q; cases h; exact ⟨q.1, q.2.1, q.2.2.1⟩
    · exact ih h
theorem latS_y {G : Nat → Nat → Nat} {c hr n : Nat} (h1 : G 20 n = c) (h2 : G 9 c ≤ G 21 n) (h3 : G 21 n ≤ hr) (h4 : ∀ k, latS G c hr n = some k → G 21 k ≤ G 21 n) : latS G c hr (n + 1) = some n := by
  rw [latS, if_pos ⟨h1, h2, h3, h4⟩]
theorem latS_n {G : Nat → Nat → Nat} {c hr n : Nat} (h : ¬ (G 20 n = c ∧ G 9 c ≤ G 21 n ∧ G 21 n ≤ hr ∧ (∀ k, latS G c hr n = some k → G 21 k ≤ G 21 n))) : latS G c hr (n + 1) = latS G c hr n := by
  rw [latS, if_neg h]
/-- what an hour adds to a span; x: one more than the rate -/
def incS (hi : Bool) (x : Nat) : Int32 := if hi then nI x - nI 1 + (nI x - nI 1) / nI 2 + nI 1 else nI x - nI 1
def spL (G : Nat → Nat → Nat) (c : Nat) (hi : Bool) (v0 : Int32) (fr : Nat) : Nat → Int32
  | 0 => v0
  | n + 1 => spL G c hi v0 fr n + incS hi (G 12 (600 * c + (fr + n)))
def cap (v : Int32) : Int32 := if v ≤ nI 1000 then v else nI 1000
/-- the span of crock c at an hour, by the first n tests -/
def spanS (G : Nat → Nat → Nat) (J : Nat → Nat → Int32) (c hr n : Nat) (hi : Bool) : Int32 :=
  match latS G c hr n with
  | none => cap (spL G c hi (if hi then J 11 c else J 10 c) (G 9 c) (hr - G 9 c))
  | some k => cap (spL G c hi (nI (G 22 k)) (G 21 k) (hr - G 21 k))
/-- the warmth of a zone, told at the latest of the hours below n -/
def warmS (G : Nat → Nat → Nat) (J : Nat → Nat → Int32) (z : Nat) : Nat → Int32
  | 0 => nI 15
  | n + 1 => if G 17 (600 * z + n) = 0 then warmS G J z n else J 16 (600 * z + n)
/-- all warmths that are told lie from -5 to 42 -/
def WmOk (G : Nat → Nat → Nat) (J : Nat → Nat → Int32) : Prop := ∀ i, G 17 i ≠ 0 → ∃ k, k ≤ 47 ∧ J 16 i + nI 5 = nI k
theorem warmS_nat {G : Nat → Nat → Nat} {J : Nat → Nat → Int32} (h : WmOk G J) (z : Nat) : ∀ n, ∃ k, k ≤ 47 ∧ warmS G J z n + nI 5 = nI k := by
  intro n
  induction n with
  | zero => exact ⟨20, by decide, show nI 15 + nI 5 = nI 20 by decide⟩
  | succ n ih =>
    unfold warmS
    split
    · exact ih
    · rename_i q; exact h _ q
/-- the rate of crock c at an hour -/
def rateS (G : Nat → Nat → Nat) (J : Nat → Nat → Int32) (c hr : Nat) : Nat := G 18 (4 * (tn (warmS G J (G 5 c / 4) (hr + 1) + nI 5) / 8) + G 7 c / 16)
theorem rateS_at {G : Nat → Nat → Nat} {J : Nat → Nat → Int32} {c hr k : Nat} (hk : k ≤ 47) (h : warmS G J (G 5 c / 4) (hr + 1) + nI 5 = nI k) : rateS G J c hr = G 18 (4 * (k / 8) + G 7 c / 16) := by
  unfold rateS
  rw [h, tn_nI (by omega)]
/-! guards and effects of what is asked from outside -/
def lotB (N : Nat → Nat) (g : Int32) : Bool := !decide (N 1 = 20) && wi g (nI 1) (nI 100000)
def crockB (N : Nat → Nat) (G : Nat → Nat → Nat) (p s : Int32) : Bool := !decide (N 3 = 10) && (wi p (nI 0) (nI 11) && (wi s (nI 0) (nI 60) && frS G (tn p) (N 3)))
def crockG (G : Nat → Nat → Nat) (n p s now : Nat) : Nat → Nat → Nat := up2 (up2 (up2 G 5 n p) 7 n s) 9 n now
def putB (N : Nat → Nat) (G : Nat → Nat → Nat) (c l g : Int32) : Bool := lvI (N 3) G c && (wi l (nI 0) (nI (N 1) - nI 1) && (!decide (g < nI 1) && decide (g ≤ nI (G 2 (tn l)))))
def putG (G : Nat → Nat → Nat) (j k g : Nat) : Nat → Nat → Nat := up2 (up2 G 2 k (G 2 k - g)) 4 (20 * j + k) (G 4 (20 * j + k) + g)
def partB (N : Nat → Nat) (c l : Int32) : Bool := wi c (nI 0) (nI (N 3) - nI 1) && wi l (nI 0) (nI (N 1) - nI 1)
def warmB (N : Nat → Nat) (z h v : Int32) : Bool := wi z (nI 0) (nI 2) && (wi h (nI (N 14)) (nI 599) && wi v (-5) (nI 42))
def testB (N : Nat → Nat) (G : Nat → Nat → Nat) (c h v : Int32) : Bool := lvI (N 3) G c && (wi h (nI (G 9 (tn c))) (nI (N 14)) && (wi v (nI 0) (nI 1000) && !decide (N 19 = 100)))
def testG (G : Nat → Nat → Nat) (n c h v : Nat) : Nat → Nat → Nat := up2 (up2 (up2 G 20 n c) 21 n h) 22 n v
def spanB (N : Nat → Nat) (G : Nat → Nat → Nat) (c h n w : Int32) : Bool := lvI (N 3) G c && (wi h (nI (G 9 (tn c))) (nI (N 14)) && (wi n (nI 0) (nI (N 19)) && wi w (nI 0) (nI 1)))
/-- all grams of a crock are gone -/
def zeroG (G : Nat → Nat → Nat) (c : Nat) : Nat → Nat → Nat → Nat
  | 0 => G
  | n + 1 => up2 (zeroG G c n) 4 (20 * c + n) 0
def goesG (G : Nat → Nat → Nat) (c s : Nat) : Nat → Nat → Nat := up2 (zeroG G c 20) 6 c s
theorem lvI_nat {n : Nat} {G : Nat → Nat → Nat} {c : Int32} (hn : n < 2 ^ 31) (h : lvI n G c = true) : ∃ j : Nat, j < n ∧ c = nI j ∧ G 6 j ≤ 1 := by
  unfold lvI at h
  rw [Bool.and_eq_true] at h
  obtain ⟨j, hj, rfl⟩ := wi_cnt hn h.1
  refine ⟨j, hj, rfl, ?_⟩
  have h2 := h.2
  rw [nI_clamp (by omega)] at h2
  simpa [lv] using h2
theorem nI_ge1 {g : Int32} (h : ¬ g < nI 1) : ∃ j : Nat, 1 ≤ j ∧ j < 2 ^ 31 ∧ g = nI j := by
  have h0 : ¬ g < 0 := by
    intro q
    apply h
    rw [Int32.lt_iff_toInt_lt] at q ⊢
    rw [Int32.toInt_zero] at q
    rw [nI_toInt (by decide)]
    omega
  obtain ⟨j, hj, rfl⟩ := nI_of h0
  refine ⟨j, ?_, hj, rfl⟩
  rcases Nat.lt_or_ge j 1 with q | q
  · exact absurd (nI_lt q (by decide)) h
  · exact q
