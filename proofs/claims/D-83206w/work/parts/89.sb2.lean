set_option maxRecDepth 100000
/-! a builder's bytes: the first n of them are letters -/
def bw (g : Nat → Nat) (n : Nat) : Nat → Int32 := fun j => if j < n then nI (g j) else 0
theorem bw_0 (g : Nat → Nat) : (fun _ => 0) = bw g 0 := by
  funext j
  unfold bw
  rw [if_neg (Nat.not_lt_zero j)]
theorem bw_upd {g : Nat → Nat} {n x : Nat} (h : x = g n) : upd (bw g n) n (nI x) = bw g (n + 1) := by
  subst h
  funext j
  unfold bw upd
  by_cases e : j = n
  · rw [if_pos e, if_pos (by omega), e]
  · rw [if_neg e]
    show (if j < n then nI (g j) else 0) = _
    by_cases e2 : j < n
    · rw [if_pos e2, if_pos (by omega)]
    · rw [if_neg e2, if_neg (by omega)]
theorem bw_cpy {g : Nat → Nat} {n : Nat} : va_cpy (bw g n) (fun _ => 0) 0 0 n = bw g n := by
  funext j
  unfold va_cpy bw
  by_cases e : j < n
  · rw [if_pos (by omega), if_pos (by omega), if_pos e]
    rw [show 0 + (j - 0) = j by omega]
  · rw [if_neg (by omega), if_neg e]
def ap (g : Nat → Nat) (n : Nat) (h : Nat → Nat) : Nat → Nat := fun j => if j < n then g j else h (j - n)
theorem bw_ap {g h : Nat → Nat} {n k : Nat} : va_cpy (fun j => nI (h j)) (bw g n) 0 n k = bw (ap g n h) (n + k) := by
  funext j
  unfold va_cpy bw ap
  by_cases e : n ≤ j ∧ j < n + k
  · rw [if_pos (by omega), if_pos e.2, if_neg (by omega)]
    rw [show 0 + (j - n) = j - n by omega]
  · rw [if_neg (by omega)]
    by_cases e2 : j < n
    · rw [if_pos e2, if_pos (by omega), if_pos e2]
    · rw [if_neg e2, if_neg (by omega)]
theorem bw_fit {g : Nat → Nat} {n : Nat} (h : ∀ j, j < n → g j < 128) (j : Nat) : fits .byte (.int (bw g n j)) = true := by
  unfold bw
  split
  · rename_i e
    exact fit_b (h j e)
  · decide
theorem bw_in {g : Nat → Nat} {n j : Nat} (h : j < n) : bw g n j = nI (g j) := if_pos h
theorem i2b_n {x : Nat} (h : x < 128) : (nI x).toInt8.toInt32 = nI x := by
  have h1 : ∀ x, x < 128 → (nI x).toInt8.toInt32 = nI x := by decide +kernel
  exact h1 x h
theorem byt_n {x : Nat} (h : x < 128) : vp_nar .byte (nI x) = nI x := byt h
theorem sub_le0 {a b : Nat} (h : a ≤ b) (hb : b < 2 ^ 31) : nI a - nI b ≤ 0 := by
  refine Int32.not_lt.mp (fun q => ?_)
  have h1 := Int32.lt_iff_toInt_lt.mp q
  rw [Int32.toInt_sub, nI_toInt (by omega), nI_toInt hb, Int.bmod_eq_of_le (by omega) (by omega)] at h1
  have h2 : (0 : Int32).toInt = 0 := rfl
  rw [h2] at h1
  omega
theorem SA.at {A : Nat → Prop} {a b n : Nat} {f : Nat → Nat} {s : State} {H : Heap} {locs : List Loc} (h : SA A a b n f s s.heap) (hS : va_S A s.heap H locs) : SA nA a b n f s H := (h.kept hS.2.1).narrow (fun _ q => q.elim)
theorem SA.lt {A : Nat → Prop} {a b n : Nat} {f : Nat → Nat} {s : State} {H : Heap} (h : SA A a b n f s H) : n < 2 ^ 31 ∧ ∀ j, j < n → f j < 128 := h.2.2.2.2
/-! private methods' words -/
def pvOk : Cond → Bool
  | .privateMethod _ => true
  | _ => false
def PV (U : State) : Prop := ∀ w ∈ lw_tbl, pvOk w = true → va_Nw w U
theorem va_Nw.warmP {x : MethodName} {s U : State} (hW : s.WarmedH U.vm) (hZ : va_Nw (.privateMethod x) s) : va_Nw (.privateMethod x) U := va_tabs rfl (rfl : (s.setVm U.vm).vm = U.vm) (by rw [Cond.privateMethod_setVm hW.alike]; exact hZ)
theorem PV.mv : Mv (fun U _ => PV U) := ⟨fun s U H hW h w hw hk => by
  have h1 := h w hw hk
  cases w <;> first | (exact absurd hk Bool.false_ne_true) | exact va_Nw.warmP hW h1, fun s U H hv h w hw hk => by
  have h1 := h w hw hk
  exact va_Nw.same (by cases w <;> first | (exact absurd hk Bool.false_ne_true) | rfl) hv h1⟩
