set_option maxRecDepth 100000
/-! the pruned search finds what the whole search finds -/
theorem itN_rel {α β : Type} {R : α → β → Prop} {f : Nat → α → α} {g : Nat → β → β} {x : α} {y : β} (h0 : R x y) : ∀ n, (∀ c, c < n → ∀ a b, R a b → R (f c a) (g c b)) → R (itN f x n) (itN g y n) := by
  intro n
  induction n with
  | zero => intro _; exact h0
  | succ n ih => intro h; exact h n (Nat.lt_succ_self n) _ _ (ih (fun c hc => h c (Nat.lt_succ_of_lt hc)))
theorem itN_inv {α : Type} {R : α → Prop} {f : Nat → α → α} {x : α} (h0 : R x) : ∀ n, (∀ c, c < n → ∀ a, R a → R (f c a)) → R (itN f x n) := by
  intro n
  induction n with
  | zero => intro _; exact h0
  | succ n ih => intro h; exact h n (Nat.lt_succ_self n) _ (ih (fun c hc => h c (Nat.lt_succ_of_lt hc)))
theorem bhS_d {G : Nat → Nat → Nat} {o d : Nat} : bhS G (o + (d + 1)) o = bhS G (o + 1 + d) (o + 1) + G 48 o := by
  rw [bhS_s (by omega), show o + 1 + d = o + (d + 1) by omega]
theorem nI_ltT {a b : Nat} {m : Int32} (h : a ≤ b) (hb : b < 2 ^ 31) (q : nI b < m) : nI a < m := Int32.lt_of_le_of_lt (nI_le h hb) q
/-- nothing better lies behind: the search leaves the best -/
theorem trS_skip (N : Nat → Nat) (G : Nat → Nat → Nat) : ∀ (d o : Nat) (u : Int32) (sm al : Nat) (x : TrT), sm + bhS G (o + d) o < 2 ^ 31 → nI (sm + bhS G (o + d) o) < x.2.2.1 → (trS N G d o u sm al x).2 = x.2 ∧ ∀ k, k < o → (trS N G d o u sm al x).1 k = x.1 k := by
  intro d
  induction d with
  | zero =>
    intro o u sm al x hb h
    rw [Nat.add_zero, bhS_m, Nat.add_zero] at h
    rw [trS, if_pos (Or.inl h)]
    exact ⟨rfl, fun _ _ => rfl⟩
  | succ d ih =>
    intro o u sm al x hb h
    rw [bhS_d] at hb h
    have hI : (itN (trF N G d o u sm al) x (N 3)).2 = x.2 ∧ ∀ k, k < o → (itN (trF N G d o u sm al) x (N 3)).1 k = x.1 k := by
      refine itN_inv (R := fun y : TrT => y.2 = x.2 ∧ ∀ k, k < o → y.1 k = x.1 k) ⟨rfl, fun _ _ => rfl⟩ (N 3) ?_
      intro c hc y hy
      unfold trF
      split
      · exact hy
      · have hs : sm + G 48 o + bhS G (o + 1 + d) (o + 1) = sm + (bhS G (o + 1 + d) (o + 1) + G 48 o) := by omega
        obtain ⟨a1, a2⟩ := ih (o + 1) (u ||| (nI 1 <<< (nI c &&& 31))) (sm + G 48 o) (al + gr G c) (up1 y.1 o (nI c), y.2) (by rw [hs]; exact hb) (by rw [hs]; show _ < y.2.2.1; rw [hy.1]; exact h)
        refine ⟨a1.trans hy.1, fun k hk => ?_⟩
        rw [a2 k (by omega)]
        show up1 y.1 o (nI c) k = _
        unfold up1
        rw [if_neg (by omega)]
        exact hy.2 k hk
    rw [trS_s]
    generalize itN (trF N G d o u sm al) x (N 3) = y at hI
    obtain ⟨a1, a2⟩ := ih (o + 1) u sm al (up1 y.1 o (-1), y.2) (by omega) (by show _ < y.2.2.1; rw [hI.1]; exact nI_ltT (b := sm + (bhS G (o + 1 + d) (o + 1) + G 48 o)) (by omega) hb h)
    refine ⟨a1.trans hI.1, fun k hk => ?_⟩
    rw [a2 k (by omega)]
    show up1 y.1 o (-1) k = _
    unfold up1
    rw [if_neg (by omega)]
    exact hI.2 k hk
def SeR (n o : Nat) (x y : TrT) : Prop := x.2.2 = y.2.2 ∧ (∀ k, k < o → x.1 k = y.1 k) ∧ ((∀ k, k < n → x.2.1 k = y.2.1 k) ∨ x.2.2.1 = -1)
theorem SeR.up {n o : Nat} {x y : TrT} (h : SeR n o x y) (v : Int32) : SeR n (o + 1) (up1 x.1 o v, x.2) (up1 y.1 o v, y.2) := by
  refine ⟨h.1, fun k hk => ?_, h.2.2⟩
  show up1 x.1 o v k = up1 y.1 o v k
  unfold up1
  by_cases e : k = o
  · rw [if_pos e, if_pos e]
  · rw [if_neg e, if_neg e]
    exact h.2.1 k (by omega)
theorem SeR.dn {n o : Nat} {x y : TrT} (h : SeR n (o + 1) x y) : SeR n o x y := ⟨h.1, fun k hk => h.2.1 k (by omega), h.2.2⟩
theorem trP_trS {mm : Nat → Nat} {N : Nat → Nat} {G G' : Nat → Nat → Nat} (h48 : G' 48 = G 48) (h4 : G' 4 = G 4) (hm : ∀ o c, o < N 44 → c < N 3 → G' 49 (10 * o + c) = mm (10 * o + c)) : ∀ (d o : Nat) (u : Int32) (sm al : Nat) (x y : TrT), o + d = N 44 → sm + bhS G (N 44) o < 2 ^ 31 → SeR (N 44) o x y → SeR (N 44) o (trP mm (bhS G (N 44)) N G d o u sm al x) (trS N G' d o u sm al y) := by
  have hbh : ∀ a b, bhS G' a b = bhS G a b := fun a b => by simp only [bhS, h48]
  intro d
  induction d with
  | zero =>
    intro o u sm al x y ho hb h
    rw [trP, trS, h.1]
    split
    · exact h
    · refine ⟨rfl, h.2.1, Or.inl fun k hk => ?_⟩
      show cpT x.1 x.2.1 (N 44) k = cpT y.1 y.2.1 (N 44) k
      unfold cpT
      rw [if_pos hk, if_pos hk]
      exact h.2.1 k (by omega)
  | succ d ih =>
    intro o u sm al x y ho hb h
    have hs := bhS_s (G := G) (m := N 44) (o := o) (by omega)
    have hI : SeR (N 44) o (itN (trQ mm (bhS G (N 44)) N G d o u sm al) x (N 3)) (itN (trF N G' d o u sm al) y (N 3)) := by
      refine itN_rel (R := SeR (N 44) o) h (N 3) ?_
      intro c hc a b hab
      unfold trQ trF
      rw [hm o c (by omega) hc, h48, gr_cg h4]
      split
      · exact hab
      · exact (ih (o + 1) _ _ _ _ _ (by omega) (by omega) (hab.up (nI c))).dn
    rw [trP_s, trS_s]
    generalize itN (trQ mm (bhS G (N 44)) N G d o u sm al) x (N 3) = X at hI
    generalize itN (trF N G' d o u sm al) y (N 3) = Y at hI
    split
    · rename_i hp
      have hsk := trS_skip N G' d (o + 1) u sm al (up1 Y.1 o (-1), Y.2) (by rw [hbh, show o + 1 + d = N 44 by omega]; omega) (by rw [hbh, show o + 1 + d = N 44 by omega]; show _ < Y.2.2.1; rw [← hI.1]; exact hp)
      have hU := hI.up (-1)
      refine ⟨hI.1.trans (congrArg Prod.snd hsk.1).symm, fun k hk => (hU.2.1 k (by omega)).trans (hsk.2 k (by omega)).symm, ?_⟩
      rcases hI.2.2 with q | q
      · exact Or.inl fun k hk => (q k hk).trans (congrFun (congrArg Prod.fst hsk.1) k).symm
      · exact Or.inr q
    · exact (ih (o + 1) u sm al _ _ (by omega) (by omega) (hI.up (-1))).dn
theorem nI_nlt_m1 {a : Nat} (h : a < 2 ^ 31) : ¬ nI a < -1 := by
  intro q
  have := Int32.lt_iff_toInt_lt.mp q
  rw [nI_toInt h, toInt_m1] at this
  omega
/-- the whole search finds a plan -/
theorem trS_found (N : Nat → Nat) (G : Nat → Nat → Nat) : ∀ (d o : Nat) (u : Int32) (sm al : Nat) (x : TrT), sm + bhS G (o + d) o < 2 ^ 31 → (trS N G d o u sm al x).2.2.1 ≠ -1 := by
  intro d
  induction d with
  | zero =>
    intro o u sm al x hb
    have hb : sm < 2 ^ 31 := by omega
    rw [trS]
    split
    · rename_i h
      intro e
      rcases h with h | h
      · rw [e] at h; exact nI_nlt_m1 hb h
      · exact nI_nm1 hb (h.1.trans e)
    · exact nI_nm1 hb
  | succ d ih =>
    intro o u sm al x hb
    rw [bhS_d] at hb
    rw [trS_s]
    exact ih (o + 1) u sm al _ (by omega)
def PrOk (G : Nat → Nat → Nat) : Prop := ∀ i, G 48 i ≤ 10000
theorem bhS_le {G : Nat → Nat → Nat} (h : PrOk G) (m o : Nat) : bhS G m o ≤ 10000 * (m - o) := by
  unfold bhS
  generalize m - o = n
  induction n with
  | zero => exact Nat.le_refl _
  | succ n ih => show sumTo _ n + G 48 (o + n) ≤ _; have := h (o + n); omega
theorem phT_plT {N : Nat → Nat} {I : Nat → Int32} {G : Nat → Nat → Nat} {J : Nat → Nat → Int32} {Y : Nat → Nat → Nat → Int32} (h : PrOk G) (h44 : N 44 ≤ 6) (h3 : N 3 ≤ 10) : (phT N G J Y).2.2.1 = (plT N I G J).2.2.1 ∧ ∀ k, k < N 44 → (phT N G J Y).2.1 k = (plT N I G J).2.1 k := by
  have hb := bhS_le h (N 44) 0
  have h48 : plG N G J 48 = G 48 := plR_o (by decide)
  have hb' : ∀ a, bhS (plG N G J) a 0 = bhS G a 0 := fun a => by simp only [bhS, h48]
  have hR := trP_trS (mm := mmS N G J) (N := N) (G := G) (G' := plG N G J) h48 (plR_o (by decide)) (fun o c ho hc => by
    unfold plG plR mmS
    rw [if_pos (by omega)]) (N 44) 0 (nI 0) 0 0 (Y 8 0, Y 9 0, -1, nI 0) (J 50, J 51, -1, nI 0) (by omega) (by omega) ⟨rfl, fun k hk => absurd hk (Nat.not_lt_zero k), Or.inr rfl⟩
  have hF := trS_found N (plG N G J) (N 44) 0 (nI 0) 0 0 (J 50, J 51, -1, nI 0) (by rw [Nat.zero_add (N 44), hb']; omega)
  refine ⟨congrArg Prod.fst hR.1, fun k hk => ?_⟩
  rcases hR.2.2 with q | q
  · exact q k hk
  · exact absurd ((congrArg Prod.fst hR.1).symm.trans q) hF
