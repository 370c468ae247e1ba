set_option maxRecDepth 100000
/-- what is known of a reader's state -/
def RdOk (t : Nat) (b : Nat → Nat) (x : Nat × Nat × Nat × Nat) : Prop := x.2.1 ≤ x.2.2.1 ∧ x.2.2.1 ≤ t ∧ x.1 ≤ 4 ∧ x.2.2.2 ≤ 9999 ∧ (x.1 = 1 → 1 ≤ x.2.2.1 - x.2.1 ∧ x.2.2.1 - x.2.1 ≤ 8 ∧ ∀ j, j < x.2.2.1 - x.2.1 → 97 ≤ b (x.2.1 + j) ∧ b (x.2.1 + j) ≤ 122)
theorem nxT_ok {t : Nat} {b : Nat → Nat} {p v : Nat} (hb : ∀ k, b k < 256) (hp : p ≤ t) (hv : v ≤ 9999) : RdOk t b (nxT t b p v) ∧ p ≤ (nxT t b p v).2.2.1 ∧ p ≤ (nxT t b p v).2.1 ∧ ((nxT t b p v).1 ≠ 0 → p < (nxT t b p v).2.2.1) := by
  have hs := skW_le b (t - p) p
  unfold nxT
  generalize skW b (t - p) p = q at hs ⊢
  split
  · exact ⟨⟨Nat.le_refl _, by show q ≤ t; omega, Nat.zero_le _, hv, fun e => by cases e⟩, hs.1, hs.1, fun e => absurd rfl e⟩
  · rename_i h1
    split
    · rename_i h2
      have hr := ruC_le b 97 122 (t - q) q
      have hg := ruC_go (b := b) (lo := 97) (hi := 122) (t := t) (p := q) (by omega) h2
      have hr2 := (ruC_le b 97 122 (t - (q + 1)) (q + 1)).1
      rw [← hg] at hr2
      have ha := ruC_all b 97 122 (t - q) q
      generalize ruC b 97 122 (t - q) q = z at hr hr2 ha ⊢
      refine ⟨⟨hr.1, by show z ≤ t; omega, by show (if _ then 4 else 1) ≤ 4; split <;> omega, hv, fun e => ⟨by show 1 ≤ z - q; omega, ?_, fun j hj => ha (q + j) (by omega) (by have : j < z - q := hj; omega)⟩⟩, by show p ≤ z; omega, hs.1, fun _ => by show p < z; omega⟩
      show z - q ≤ 8
      have e : (if 8 < z - q then 4 else 1) = 1 := e
      split at e
      · cases e
      · omega
    · split
      · rename_i h3
        have hr := ruC_le b 48 57 (t - q) q
        have hg := ruC_go (b := b) (lo := 48) (hi := 57) (t := t) (p := q) (by omega) h3
        have hr2 := (ruC_le b 48 57 (t - (q + 1)) (q + 1)).1
        rw [← hg] at hr2
        have ha := ruC_all b 48 57 (t - q) q
        generalize ruC b 48 57 (t - q) q = z at hr hr2 ha ⊢
        have hva := (vaC_le (b := b) (f := q) (n := z - q) (fun j hj => ha (q + j) (by omega) (by omega))).1
        refine ⟨⟨hr.1, by show z ≤ t; omega, by show (if _ then 4 else 2) ≤ 4; split <;> omega, hva, fun e => ?_⟩, by show p ≤ z; omega, hs.1, fun _ => by show p < z; omega⟩
        have e : (if 4 < z - q then 4 else 2) = 1 := e
        split at e <;> cases e
      · have := hb q
        refine ⟨⟨Nat.le_succ _, by show q + 1 ≤ t; omega, by show (if _ then 3 else 4) ≤ 4; split <;> omega, by show b q ≤ 9999; omega, fun e => ?_⟩, by show p ≤ q + 1; omega, hs.1, fun _ => by show p < q + 1; omega⟩
        have e : (if sgnB (b q) = true then 3 else 4) = 1 := e
        split at e <;> cases e
/-- the next state -/
def nx (t : Nat) (b : Nat → Nat) (x : Nat × Nat × Nat × Nat) : Nat × Nat × Nat × Nat := nxT t b x.2.2.1 x.2.2.2
theorem RdOk.nx {t : Nat} {b : Nat → Nat} {x : Nat × Nat × Nat × Nat} (hb : ∀ k, b k < 256) (h : RdOk t b x) : RdOk t b (nx t b x) := (nxT_ok hb h.2.1 h.2.2.2.1).1
theorem nx_L {t : Nat} {b : Nat → Nat} {x : Nat × Nat × Nat × Nat} (hb : ∀ k, b k < 256) (h : RdOk t b x) : (nx t b x).2.2.1 = x.2.2.1 + nxL t b x.2.2.1 := by
  have h1 := (nxT_ok (v := x.2.2.2) hb h.2.1 h.2.2.2.1).2.1
  rw [nxL_eq t b x.2.2.1 x.2.2.2]
  show (nxT t b x.2.2.1 x.2.2.2).2.2.1 = _
  omega
