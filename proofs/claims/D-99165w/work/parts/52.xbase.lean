/-! THE COMPONENT's SMALL METHODS: a yard y that shows the row f -/
set_option maxRecDepth 100000
def xpl (v : Int32) : Int32 := if v = -2 then -1 else v
def YR (y : Nat) (f : Nat → Int32) (V : Nat → Nat → Int32) : Prop := (∀ p, p < 16 → V (y + 2 + p) 3 = f p ∧ V (y + 2 + p) 0 = f (16 + p) ∧ V (y + 2 + p) 1 = f (32 + p) ∧ V (y + 2 + p) 2 = xpl (f (48 + p))) ∧ V y 1 = f 64 ∧ V y 2 = f 65
def WF (f : Nat → Int32) : Prop := (∀ p, p < 16 → (f p = 0 ∨ f p = 1) ∧ (∃ t, t < 65536 ∧ f (16 + p) = nI t) ∧ (∃ m, m ≤ 99 ∧ f (32 + p) = nI m) ∧ (f (48 + p) = -2 ∨ ∃ k, k < 60 ∧ f (48 + p) = nI k)) ∧ (∃ n, n ≤ 9999 ∧ f 64 = nI n) ∧ ∃ x, x < 65536 ∧ f 65 = nI x
def EO (E : EE) : Prop := E.2.2.2 0 = .inl (0, 4, fOver) ∧ E.2.2.2 1 = .inl (0, 4, fDown) ∧ E.2.2.2 3 = .inr (.inr (15, [.inr (some 4), .inl 0])) ∧ E.2.2.2 4 = .inl (1, 8, fun j => bPks.getD j 0) ∧ E.2.2.2 5 = .inr (.inr (15, [.inr (some 6), .inl 0])) ∧ E.2.2.2 6 = .inl (1, 5, fun j => bEhg.getD j 0) ∧ 109 ≤ E.1
theorem YR.told {y : Nat} {f : Nat → Int32} {V : Nat → Nat → Int32} (r : YR y f V) {p : Nat} (hp : p < 16) : V (y + 2 + p) 3 = f p := (r.1 p hp).1
theorem YR.topics {y : Nat} {f : Nat → Int32} {V : Nat → Nat → Int32} (r : YR y f V) {p : Nat} (hp : p < 16) : V (y + 2 + p) 0 = f (16 + p) := (r.1 p hp).2.1
theorem YR.mood {y : Nat} {f : Nat → Int32} {V : Nat → Nat → Int32} (r : YR y f V) {p : Nat} (hp : p < 16) : V (y + 2 + p) 1 = f (32 + p) := (r.1 p hp).2.2.1
theorem YR.plot {y : Nat} {f : Nat → Int32} {V : Nat → Nat → Int32} (r : YR y f V) {p : Nat} (hp : p < 16) : V (y + 2 + p) 2 = xpl (f (48 + p)) := (r.1 p hp).2.2.2
theorem xpl_nI {k : Nat} (hk : k < 2 ^ 31) : xpl (nI k) = nI k := by
  unfold xpl
  rw [if_neg]
  intro e
  have := congrArg Int32.toInt e
  rw [nI_toInt hk] at this
  have h2 : (-2 : Int32).toInt = -2 := by decide
  omega
theorem nI_ge0 {k : Nat} (hk : k < 2 ^ 31) : (0 : Int32) ≤ nI k := nI_pos' hk
theorem nI_ne1 {k : Nat} (hk : k < 2 ^ 31) : ¬ nI k = -1 := by
  intro e
  have := congrArg Int32.toInt e
  rw [nI_toInt hk] at this
  have h2 : (-1 : Int32).toInt = -1 := by decide
  omega
theorem nI_ne2 {k : Nat} (hk : k < 2 ^ 31) : ¬ nI k = -2 := by
  intro e
  have := congrArg Int32.toInt e
  rw [nI_toInt hk] at this
  have h2 : (-2 : Int32).toInt = -2 := by decide
  omega
/-- a laid one lies on a plot of the yard -/
theorem laid_plot {f : Nat → Int32} (w : WF f) {p : Nat} (hp : p < 16) (hl : laidB f p = true) : f p = 1 ∧ ∃ k, k < 60 ∧ f (48 + p) = nI k := by
  unfold laidB at hl
  simp only [Bool.and_eq_true, decide_eq_true_eq] at hl
  refine ⟨hl.1, ?_⟩
  rcases (w.1 p hp).2.2.2 with e | e
  · rw [e] at hl
    exact absurd hl.2 (by decide)
  · exact e
theorem laid_iff {f : Nat → Int32} (w : WF f) {p : Nat} (hp : p < 16) : laidB f p = (decide (¬ f p = 0) && decide (¬ xpl (f (48 + p)) = -1)) := by
  unfold laidB
  obtain ⟨h1, -, -, h4⟩ := w.1 p hp
  rcases h1 with e | e <;> rcases h4 with e4 | ⟨k, hk, e4⟩ <;> rw [e, e4]
  · decide
  · rfl
  · decide
  · rw [xpl_nI (by omega), decide_eq_true (nI_ge0 (by omega)), decide_eq_true (nI_ne1 (by omega))]; rfl
section XB
variable {E : EE} {V : Nat → Nat → Int32} {h : PH} {y : Nat} {f : Nat → Int32}
theorem tp_in_eq (v n : Int32) : tp_in v n h = some (b2i (decide (0 ≤ v) && decide (v < n))) := by
  unfold tp_in tp_in_0
  by_cases h1 : v < 0
  · rw [if_pos h1, decide_eq_false (show ¬ 0 ≤ v from nle.mpr h1)]; rfl
  · rw [if_neg h1, decide_eq_true (nlt.mp h1)]
    by_cases h2 : n ≤ v
    · rw [if_pos h2, decide_eq_false (show ¬ v < n from nlt.mpr h2)]; rfl
    · rw [if_neg h2, decide_eq_true (nle.mp h2)]; rfl
theorem tp_within_eq (v lo hi : Int32) : tp_within v lo hi h = some (b2i (inB v lo hi)) := mo_in_eq (h := h) v lo hi
theorem tp_has_eq (s k : Int32) : tp_has s k h = some (b2i (hasB s k)) := mo_has_eq (h := h) s k
theorem jM_max_eq (a b : Int32) : jM_max a b h = some (if a < b then b else a) := by
  unfold jM_max jM_max_0
  split <;> rfl
theorem jM_min_eq (a b : Int32) : jM_min a b h = some (if a ≤ b then a else b) := by
  unfold jM_min jM_min_0
  by_cases h1 : b < a
  · rw [if_pos h1, if_neg (nle.mpr h1)]
  · rw [if_neg h1, if_pos (nlt.mp h1)]
theorem pe_isLaid_eq {p : Nat} (hy : isY y) (hp : p < 16) (r : YR y f V) (w : WF f) : pe_isLaid (some (y + 2 + p)) (mkH E V) = some (b2i (laidB f p)) := by
  unfold pe_isLaid pe_isLaid_0
  simp (disch := first | omega | decide) only [nI_lel, nI_ltl, nI_ler, nI_ltr, nI_addl, nI_addr, nI_eqN, nI_leN, nI_ltN, Nat.zero_add, Option.bind_some, Option.bind_none, Option.map_some, bd2_some, b2i_0, b2i_1, b2i_t, b2i_f, ↓reduceIte, if_true, if_false, grd_t (isC_p hy hp), p_told hy hp, p_plot hy hp, r.told hp, r.plot hp, laid_iff w hp]
  by_cases h1 : f p = 0
  · rw [if_pos h1, decide_eq_false (fun q => q h1)]; rfl
  · rw [if_neg h1, decide_eq_true h1]
    by_cases h2 : xpl (f (48 + p)) = -1
    · rw [if_pos h2, decide_eq_false (fun q => q h2)]; rfl
    · rw [if_neg h2, decide_eq_true h2]; rfl
end XB
