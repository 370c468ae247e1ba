set_option maxRecDepth 100000
theorem va_P_arr {D : va_G} {cl : List vw_C} {A : Nat → Prop} {ws : va_W} {H : Heap} (hP : va_P D cl ws H) (hD : va_D A ws) (k : Nat) {a : Nat} {cA : ClassId} {n : Nat} {f : Nat → Int32} (hk : ws[k]? = some (a, .inl (cA, n, .inl f))) (g : Nat → Int32) (e : ∀ j, j < n → f j = g j) : va_P D cl (ws.set k (a, .inl (cA, n, .inl g))) H ∧ va_D A (ws.set k (a, .inl (cA, n, .inl g))) :=
  ⟨hP.set hD hk (va_at_cg (hP k _ hk) e) (fun _ _ => rfl), hD.set hk⟩
theorem upd_s {f : Nat → Int32} {k : Nat} {x : Int32} : upd f k x k = x := pk_us
theorem upd_n {f : Nat → Int32} {k j : Nat} {x : Int32} (h : j ≠ k) : upd f k x j = f j := pk_un h
/-- the place of the greatest rest, as the house seeks it -/
def hbS (o R : Nat → Nat) (n : Nat) : Nat := (bsS o R n).getD 0
theorem hbS_lt {o R : Nat → Nat} {n : Nat} (h : 0 < n) : hbS o R n < n := by
  unfold hbS
  cases e : bsS o R n with
  | none => exact h
  | some j => exact (bsS_lt e).1
/-- the rest that the house sees -/
def rsS (o R : Nat → Nat) (l : Nat) : Int32 := if o l = 0 then nI (R l) else -1
theorem rs_m1 {a : Nat} (ha : a < 2 ^ 31) : ¬ nI a ≤ (-1 : Int32) := by
  intro q
  have h1 := Int32.le_iff_toInt_le.mp q
  rw [nI_toInt ha, toInt_m1] at h1
  omega
theorem rs_ge {o R : Nat → Nat} {l : Nat} (ha : ∀ l, R l < 2 ^ 31) : (-1 : Int32) ≤ rsS o R l := by
  unfold rsS
  split
  · have := nI_toInt (ha l)
    rw [Int32.le_iff_toInt_le, this, toInt_m1]
    omega
  · exact Int32.le_refl _
/-- one step of the search -/
theorem hbS_step {o R : Nat → Nat} {n : Nat} (hn : 0 < n) (hR : ∀ l, R l < 2 ^ 31) : hbS o R (n + 1) = if rsS o R n ≤ rsS o R (hbS o R n) then hbS o R n else n := by
  by_cases ho : o n = 0
  · cases e : bsS o R n with
    | none =>
      have e1 : bsS o R (n + 1) = some n := bsS_y ho (fun k q => by rw [e] at q; cases q)
      have e2 : hbS o R n = 0 := by unfold hbS; rw [e]; rfl
      have e3 : rsS o R 0 = -1 := if_neg (bsS_none e 0 hn)
      rw [e2, e3, show rsS o R n = nI (R n) from if_pos ho, if_neg (rs_m1 (hR n))]
      unfold hbS; rw [e1]; rfl
    | some j =>
      have hj := bsS_lt e
      have e2 : hbS o R n = j := by unfold hbS; rw [e]; rfl
      rw [e2, show rsS o R n = nI (R n) from if_pos ho, show rsS o R j = nI (R j) from if_pos hj.2]
      by_cases hc : R n ≤ R j
      · rw [if_pos ((nI_leI (hR n) (hR j)).mpr hc)]
        unfold hbS
        rw [bsS_n (fun q => by have := q.2 j e; omega), e]; rfl
      · rw [if_neg (fun q => hc ((nI_leI (hR n) (hR j)).mp q))]
        unfold hbS
        rw [bsS_y ho (fun k q => by rw [e] at q; cases q; omega)]; rfl
  · rw [if_pos (by rw [show rsS o R n = -1 from if_neg ho]; exact rs_ge hR)]
    unfold hbS
    rw [bsS_n (fun q => ho q.1)]
theorem hbS_1 {o R : Nat → Nat} : hbS o R 1 = 0 := by
  have := hbS_lt (o := o) (R := R) (n := 1) (by decide)
  omega
theorem sumTo_s {f : Nat → Nat} {n : Nat} : sumTo f (n + 1) = sumTo f n + f n := rfl
