/-! hold, good -/
set_option maxRecDepth 100000
def dI (k : Nat) : Int32 := nI k - 1
theorem dI_s (k : Nat) : dI (k + 1) = nI k := by
  unfold dI
  rw [← nI_add k 1]
  exact Int32.add_sub_cancel _ _
theorem dI_m (k : Nat) : nI k + (-1) = dI k := by
  unfold dI
  apply Int32.toBitVec_inj.1
  show (nI k).toBitVec + (-1#32) = (nI k).toBitVec - 1#32
  exact (BitVec.sub_eq_add_neg ..).symm
theorem dI_0 : dI 0 < 0 := by decide
theorem dI_z : (dI 0 < 0) = True := eq_true dI_0
theorem nI_n0 {k : Nat} (h : k < 2 ^ 31) : (nI k < 0) = False := eq_false (nlt.mpr (nI_ge0 h))
/-- the wishes of both sides are the same -/
def WI (V : Nat → Nat → Int32) : Prop := ∃ n, n ≤ 24 ∧ V 7 11 = nI n ∧ V 77 34 = nI n ∧ ∀ i, i < n → ∃ a, a < 16 ∧ V 68 i = nI a ∧ V 95 i = nI a ∧ V 70 i = V 96 i ∧ ((V 96 i = 43 ∨ V 96 i = 45) ∧ (∃ q, q < 16 ∧ V 69 i = nI q ∧ V 97 i = nI q) ∨ (V 96 i = 35 ∨ V 96 i = 46) ∧ V 69 i = nI a ∧ V 97 i = -1)
def walB (v : Int32) : Bool := decide (irm v 10 = 0) || decide (irm v 10 = 9) || decide (v / 10 = 0) || decide (v / 10 = 5)
def wshB (f : Nat → Int32) (V : Nat → Nat → Int32) (i : Nat) : Bool := if V 96 i = 35 then laidB f (V 95 i).toNatClampNeg && walB (f (48 + (V 95 i).toNatClampNeg)) else if V 96 i = 43 then besB f (V 95 i).toNatClampNeg (V 97 i).toNatClampNeg else if V 96 i = 45 then !besB f (V 95 i).toNatClampNeg (V 97 i).toNatClampNeg else laidB f (V 95 i).toNatClampNeg && decide (bsdF f (V 95 i).toNatClampNeg = 0)
theorem fnd_snoc {P : Nat → Bool} : ∀ n k, k + n < 2 ^ 31 → fnd P nI (-2 : Int32) (n + 1) k = if fnd P nI (-2 : Int32) n k = -2 then (if P (k + n) = true then nI (k + n) else -2) else fnd P nI (-2 : Int32) n k
  | 0, k, _ => by
    show (if P k = true then nI k else -2) = if (-2 : Int32) = -2 then _ else _
    rw [if_pos rfl]; rfl
  | n + 1, k, h => by
    have ih := fnd_snoc (P := P) n (k + 1) (by omega)
    rw [show fnd P nI (-2 : Int32) (n + 1 + 1) k = if P k = true then nI k else fnd P nI (-2) (n + 1) (k + 1) from rfl, ih, show fnd P nI (-2 : Int32) (n + 1) k = if P k = true then nI k else fnd P nI (-2) n (k + 1) from rfl]
    by_cases hp : P k = true
    · rw [if_pos hp, if_pos hp, if_neg (nI_ne2 (by omega))]
    · rw [if_neg hp, if_neg hp, show k + 1 + n = k + (n + 1) by omega]
def cnN (P : Nat → Bool) : Nat → Nat → Nat
  | 0, _ => 0
  | n + 1, k => (if P k = true then 1 else 0) + cnN P n (k + 1)
theorem cnN_snoc (P : Nat → Bool) : ∀ n k, cnN P (n + 1) k = cnN P n k + if P (k + n) = true then 1 else 0
  | 0, k => by
    show (if P k = true then 1 else 0) + 0 = 0 + if P (k + 0) = true then 1 else 0
    rw [Nat.add_zero, Nat.zero_add, Nat.add_zero]
  | n + 1, k => by
    have ih := cnN_snoc P n (k + 1)
    rw [show cnN P (n + 1 + 1) k = (if P k = true then 1 else 0) + cnN P (n + 1) (k + 1) from rfl, ih, show cnN P (n + 1) k = (if P k = true then 1 else 0) + cnN P n (k + 1) from rfl, show k + 1 + n = k + (n + 1) by omega]
    omega
section HO
variable {E : EE} {V : Nat → Nat → Int32} {f : Nat → Int32} {h : PH}
theorem tp_isWall_eq (v : Int32) : tp_isWall v h = some (b2i (walB v)) := by
  unfold tp_isWall tp_isWall_0 walB
  by_cases h1 : irm v 10 = 0
  · simp (disch := first | omega | decide) only [nI_lel, nI_ltl, nI_ler, nI_ltr, nI_addl, nI_addr, nI_eqN, nI_leN, nI_ltN, Nat.zero_add, Option.bind_some, Option.bind_none, Option.map_some, bd2_some, b2i_0, b2i_1, b2i_t, b2i_f, ↓reduceIte, if_true, if_false, Bool.true_eq_false, Bool.false_eq_true, not_true_eq_false, not_false_eq_true, true_and, and_true, false_and, and_false, true_or, or_true, false_or, or_false, decide_true, decide_false, Bool.true_and, Bool.false_and, Bool.and_true, Bool.and_false, and_self, Nat.le_refl, Nat.lt_irrefl, ite_self, i10, i01, Option.some.injEq, h1, Bool.true_or]
  · by_cases h2 : irm v 10 = 9
    · simp (disch := first | omega | decide) only [nI_lel, nI_ltl, nI_ler, nI_ltr, nI_addl, nI_addr, nI_eqN, nI_leN, nI_ltN, Nat.zero_add, Option.bind_some, Option.bind_none, Option.map_some, bd2_some, b2i_0, b2i_1, b2i_t, b2i_f, ↓reduceIte, if_true, if_false, Bool.true_eq_false, Bool.false_eq_true, not_true_eq_false, not_false_eq_true, true_and, and_true, false_and, and_false, true_or, or_true, false_or, or_false, decide_true, decide_false, Bool.true_and, Bool.false_and, Bool.and_true, Bool.and_false, and_self, Nat.le_refl, Nat.lt_irrefl, ite_self, i10, i01, Option.some.injEq, h1, h2, Bool.or_true, Bool.true_or]
    · by_cases h3 : v / 10 = 0
      · simp (disch := first | omega | decide) only [nI_lel, nI_ltl, nI_ler, nI_ltr, nI_addl, nI_addr, nI_eqN, nI_leN, nI_ltN, Nat.zero_add, Option.bind_some, Option.bind_none, Option.map_some, bd2_some, b2i_0, b2i_1, b2i_t, b2i_f, ↓reduceIte, if_true, if_false, Bool.true_eq_false, Bool.false_eq_true, not_true_eq_false, not_false_eq_true, true_and, and_true, false_and, and_false, true_or, or_true, false_or, or_false, decide_true, decide_false, Bool.true_and, Bool.false_and, Bool.and_true, Bool.and_false, and_self, Nat.le_refl, Nat.lt_irrefl, ite_self, i10, i01, Option.some.injEq, h1, h2, h3, Bool.or_true, Bool.true_or]
      · by_cases h4 : v / 10 = 5
        · simp (disch := first | omega | decide) only [nI_lel, nI_ltl, nI_ler, nI_ltr, nI_addl, nI_addr, nI_eqN, nI_leN, nI_ltN, Nat.zero_add, Option.bind_some, Option.bind_none, Option.map_some, bd2_some, b2i_0, b2i_1, b2i_t, b2i_f, ↓reduceIte, if_true, if_false, Bool.true_eq_false, Bool.false_eq_true, not_true_eq_false, not_false_eq_true, true_and, and_true, false_and, and_false, true_or, or_true, false_or, or_false, decide_true, decide_false, Bool.true_and, Bool.false_and, Bool.and_true, Bool.and_false, and_self, Nat.le_refl, Nat.lt_irrefl, ite_self, i10, i01, Option.some.injEq, h1, h2, h3, h4, Bool.or_true, Bool.true_or]
        · simp (disch := first | omega | decide) only [nI_lel, nI_ltl, nI_ler, nI_ltr, nI_addl, nI_addr, nI_eqN, nI_leN, nI_ltN, Nat.zero_add, Option.bind_some, Option.bind_none, Option.map_some, bd2_some, b2i_0, b2i_1, b2i_t, b2i_f, ↓reduceIte, if_true, if_false, Bool.true_eq_false, Bool.false_eq_true, not_true_eq_false, not_false_eq_true, true_and, and_true, false_and, and_false, true_or, or_true, false_or, or_false, decide_true, decide_false, Bool.true_and, Bool.false_and, Bool.and_true, Bool.and_false, and_self, Nat.le_refl, Nat.lt_irrefl, ite_self, i10, i01, Option.some.injEq, h1, h2, h3, h4, Bool.or_false]
theorem mo_isByWall_eq (v : Int32) : mo_isByWall v h = some (b2i (walB v)) := tp_isWall_eq (h := h) v
theorem mo_holdsWish_eq {i a : Nat} (hi : i < 24) (ha : a < 16) (e1 : V 95 i = nI a) (hq : (V 96 i = 43 ∨ V 96 i = 45) → ∃ q, q < 16 ∧ V 97 i = nI q) : mo_holdsWish (some 77) (nI i) (mkH E V) = some (b2i (wshB (V 78) V i)) := by
  unfold mo_holdsWish mo_holdsWish_0 wshB
  simp (disch := first | omega | decide) only [nI_lel, nI_ltl, nI_ler, nI_ltr, nI_addl, nI_addr, nI_eqN, nI_leN, nI_ltN, Nat.zero_add, Option.bind_some, Option.bind_none, Option.map_some, bd2_some, b2i_0, b2i_1, b2i_t, b2i_f, ↓reduceIte, if_true, if_false, Bool.true_eq_false, Bool.false_eq_true, not_true_eq_false, not_false_eq_true, true_and, and_true, false_and, and_false, true_or, or_true, false_or, or_false, decide_true, decide_false, Bool.true_and, Bool.false_and, Bool.and_true, Bool.and_false, and_self, Nat.le_refl, Nat.lt_irrefl, ite_self, i10, i01, Option.some.injEq, grd_t isC_77, m_wishWho, m_wishOther, m_wishHow, ald_95, ald_96, ald_97, e1, nI_clamp (show a < 2 ^ 31 by omega), mo_isLaid_eq ha, m_now, ald_78, mo_isByWall_eq, mo_besideSet_eq ha]
  by_cases c1 : V 96 i = 35
  · simp (disch := first | omega | decide) only [nI_lel, nI_ltl, nI_ler, nI_ltr, nI_addl, nI_addr, nI_eqN, nI_leN, nI_ltN, Nat.zero_add, Option.bind_some, Option.bind_none, Option.map_some, bd2_some, b2i_0, b2i_1, b2i_t, b2i_f, ↓reduceIte, if_true, if_false, Bool.true_eq_false, Bool.false_eq_true, not_true_eq_false, not_false_eq_true, true_and, and_true, false_and, and_false, true_or, or_true, false_or, or_false, decide_true, decide_false, Bool.true_and, Bool.false_and, Bool.and_true, Bool.and_false, and_self, Nat.le_refl, Nat.lt_irrefl, ite_self, i10, i01, Option.some.injEq, c1]
    cases laidB (V 78) a <;> cases walB (V 78 (48 + a)) <;> rfl
  · by_cases c2 : V 96 i = 43
    · obtain ⟨q, hq', eq⟩ := hq (Or.inl c2)
      simp (disch := first | omega | decide) only [nI_lel, nI_ltl, nI_ler, nI_ltr, nI_addl, nI_addr, nI_eqN, nI_leN, nI_ltN, Nat.zero_add, Option.bind_some, Option.bind_none, Option.map_some, bd2_some, b2i_0, b2i_1, b2i_t, b2i_f, ↓reduceIte, if_true, if_false, Bool.true_eq_false, Bool.false_eq_true, not_true_eq_false, not_false_eq_true, true_and, and_true, false_and, and_false, true_or, or_true, false_or, or_false, decide_true, decide_false, Bool.true_and, Bool.false_and, Bool.and_true, Bool.and_false, and_self, Nat.le_refl, Nat.lt_irrefl, ite_self, i10, i01, Option.some.injEq, c2, eq, mo_areBeside_eq ha hq', zok_b, nI_clamp (show q < 2 ^ 31 by omega), show ¬ (43 : Int32) = 35 by decide]
    · by_cases c3 : V 96 i = 45
      · obtain ⟨q, hq', eq⟩ := hq (Or.inr c3)
        simp (disch := first | omega | decide) only [nI_lel, nI_ltl, nI_ler, nI_ltr, nI_addl, nI_addr, nI_eqN, nI_leN, nI_ltN, Nat.zero_add, Option.bind_some, Option.bind_none, Option.map_some, bd2_some, b2i_0, b2i_1, b2i_t, b2i_f, ↓reduceIte, if_true, if_false, Bool.true_eq_false, Bool.false_eq_true, not_true_eq_false, not_false_eq_true, true_and, and_true, false_and, and_false, true_or, or_true, false_or, or_false, decide_true, decide_false, Bool.true_and, Bool.false_and, Bool.and_true, Bool.and_false, and_self, Nat.le_refl, Nat.lt_irrefl, ite_self, i10, i01, Option.some.injEq, c3, eq, mo_areBeside_eq ha hq', nI_clamp (show q < 2 ^ 31 by omega), show ¬ (45 : Int32) = 35 by decide, show ¬ (45 : Int32) = 43 by decide]
        cases besB (V 78) a q <;> rfl
      · simp (disch := first | omega | decide) only [nI_lel, nI_ltl, nI_ler, nI_ltr, nI_addl, nI_addr, nI_eqN, nI_leN, nI_ltN, Nat.zero_add, Option.bind_some, Option.bind_none, Option.map_some, bd2_some, b2i_0, b2i_1, b2i_t, b2i_f, ↓reduceIte, if_true, if_false, Bool.true_eq_false, Bool.false_eq_true, not_true_eq_false, not_false_eq_true, true_and, and_true, false_and, and_false, true_or, or_true, false_or, or_false, decide_true, decide_false, Bool.true_and, Bool.false_and, Bool.and_true, Bool.and_false, and_self, Nat.le_refl, Nat.lt_irrefl, ite_self, i10, i01, Option.some.injEq, c1, c2, c3]
        unfold bsdF
        cases laidB (V 78) a
        · simp (disch := first | omega | decide) only [nI_lel, nI_ltl, nI_ler, nI_ltr, nI_addl, nI_addr, nI_eqN, nI_leN, nI_ltN, Nat.zero_add, Option.bind_some, Option.bind_none, Option.map_some, bd2_some, b2i_0, b2i_1, b2i_t, b2i_f, ↓reduceIte, if_true, if_false, Bool.true_eq_false, Bool.false_eq_true, not_true_eq_false, not_false_eq_true, true_and, and_true, false_and, and_false, true_or, or_true, false_or, or_false, decide_true, decide_false, Bool.true_and, Bool.false_and, Bool.and_true, Bool.and_false, and_self, Nat.le_refl, Nat.lt_irrefl, ite_self, i10, i01, Option.some.injEq]
        · by_cases c4 : setF (besB (V 78) a) 16 = 0 <;> simp (disch := first | omega | decide) only [nI_lel, nI_ltl, nI_ler, nI_ltr, nI_addl, nI_addr, nI_eqN, nI_leN, nI_ltN, Nat.zero_add, Option.bind_some, Option.bind_none, Option.map_some, bd2_some, b2i_0, b2i_1, b2i_t, b2i_f, ↓reduceIte, if_true, if_false, Bool.true_eq_false, Bool.false_eq_true, not_true_eq_false, not_false_eq_true, true_and, and_true, false_and, and_false, true_or, or_true, false_or, or_false, decide_true, decide_false, Bool.true_and, Bool.false_and, Bool.and_true, Bool.and_false, and_self, Nat.le_refl, Nat.lt_irrefl, ite_self, i10, i01, Option.some.injEq, c4]
theorem tp_holds_eq (r : YR 9 f V) (w : WF f) (eo : EO E) {i a : Nat} (hi : i < 24) (ha : a < 16) (e0 : V 68 i = nI a) (e1 : V 95 i = nI a) (e2 : V 70 i = V 96 i) (hq : (V 96 i = 43 ∨ V 96 i = 45) → ∃ q, q < 16 ∧ V 69 i = nI q ∧ V 97 i = nI q) : tp_holds (some 7) (nI i) (mkH E V) = some (b2i (wshB f V i)) := by
  unfold tp_holds tp_holds_0 wshB
  simp (disch := first | omega | decide) only [nI_lel, nI_ltl, nI_ler, nI_ltr, nI_addl, nI_addr, nI_eqN, nI_leN, nI_ltN, Nat.zero_add, Option.bind_some, Option.bind_none, Option.map_some, bd2_some, b2i_0, b2i_1, b2i_t, b2i_f, ↓reduceIte, if_true, if_false, Bool.true_eq_false, Bool.false_eq_true, not_true_eq_false, not_false_eq_true, true_and, and_true, false_and, and_false, true_or, or_true, false_or, or_false, decide_true, decide_false, Bool.true_and, Bool.false_and, Bool.and_true, Bool.and_false, and_self, Nat.le_refl, Nat.lt_irrefl, ite_self, i10, i01, Option.some.injEq, grd_t isC_7, x_yard, yd_people y9, x_wisher, ald_68, e0, e1, people_at y9 ha, yd_beside_eq y9 r w eo ha, x_signs, ald_70, e2, nI_clamp (show a < 2 ^ 31 by omega), pe_isLaid_eq y9 ha r w, p_plot y9 ha, r.plot ha, tp_isWall_eq, x_wished, ald_69]
  by_cases c1 : V 96 i = 35
  · simp (disch := first | omega | decide) only [nI_lel, nI_ltl, nI_ler, nI_ltr, nI_addl, nI_addr, nI_eqN, nI_leN, nI_ltN, Nat.zero_add, Option.bind_some, Option.bind_none, Option.map_some, bd2_some, b2i_0, b2i_1, b2i_t, b2i_f, ↓reduceIte, if_true, if_false, Bool.true_eq_false, Bool.false_eq_true, not_true_eq_false, not_false_eq_true, true_and, and_true, false_and, and_false, true_or, or_true, false_or, or_false, decide_true, decide_false, Bool.true_and, Bool.false_and, Bool.and_true, Bool.and_false, and_self, Nat.le_refl, Nat.lt_irrefl, ite_self, i10, i01, Option.some.injEq, c1]
    by_cases c : laidB f a = true
    · obtain ⟨-, k, hk, ek⟩ := laid_plot w ha c
      simp (disch := first | omega | decide) only [nI_lel, nI_ltl, nI_ler, nI_ltr, nI_addl, nI_addr, nI_eqN, nI_leN, nI_ltN, Nat.zero_add, Option.bind_some, Option.bind_none, Option.map_some, bd2_some, b2i_0, b2i_1, b2i_t, b2i_f, ↓reduceIte, if_true, if_false, Bool.true_eq_false, Bool.false_eq_true, not_true_eq_false, not_false_eq_true, true_and, and_true, false_and, and_false, true_or, or_true, false_or, or_false, decide_true, decide_false, Bool.true_and, Bool.false_and, Bool.and_true, Bool.and_false, and_self, Nat.le_refl, Nat.lt_irrefl, ite_self, i10, i01, Option.some.injEq, c, ek, xpl_nI (show k < 2 ^ 31 by omega)]
      cases walB (nI k) <;> rfl
    · rw [Bool.not_eq_true] at c
      simp (disch := first | omega | decide) only [nI_lel, nI_ltl, nI_ler, nI_ltr, nI_addl, nI_addr, nI_eqN, nI_leN, nI_ltN, Nat.zero_add, Option.bind_some, Option.bind_none, Option.map_some, bd2_some, b2i_0, b2i_1, b2i_t, b2i_f, ↓reduceIte, if_true, if_false, Bool.true_eq_false, Bool.false_eq_true, not_true_eq_false, not_false_eq_true, true_and, and_true, false_and, and_false, true_or, or_true, false_or, or_false, decide_true, decide_false, Bool.true_and, Bool.false_and, Bool.and_true, Bool.and_false, and_self, Nat.le_refl, Nat.lt_irrefl, ite_self, i10, i01, Option.some.injEq, c]
  · by_cases c2 : V 96 i = 43
    · obtain ⟨q, hq', eq, eq'⟩ := hq (Or.inl c2)
      simp (disch := first | omega | decide) only [nI_lel, nI_ltl, nI_ler, nI_ltr, nI_addl, nI_addr, nI_eqN, nI_leN, nI_ltN, Nat.zero_add, Option.bind_some, Option.bind_none, Option.map_some, bd2_some, b2i_0, b2i_1, b2i_t, b2i_f, ↓reduceIte, if_true, if_false, Bool.true_eq_false, Bool.false_eq_true, not_true_eq_false, not_false_eq_true, true_and, and_true, false_and, and_false, true_or, or_true, false_or, or_false, decide_true, decide_false, Bool.true_and, Bool.false_and, Bool.and_true, Bool.and_false, and_self, Nat.le_refl, Nat.lt_irrefl, ite_self, i10, i01, Option.some.injEq, c2, eq, eq', tp_has_eq, bsdF, has_setF hq', zok_b, nI_clamp (show q < 2 ^ 31 by omega), show ¬ (43 : Int32) = 35 by decide]
    · by_cases c3 : V 96 i = 45
      · obtain ⟨q, hq', eq, eq'⟩ := hq (Or.inr c3)
        simp (disch := first | omega | decide) only [nI_lel, nI_ltl, nI_ler, nI_ltr, nI_addl, nI_addr, nI_eqN, nI_leN, nI_ltN, Nat.zero_add, Option.bind_some, Option.bind_none, Option.map_some, bd2_some, b2i_0, b2i_1, b2i_t, b2i_f, ↓reduceIte, if_true, if_false, Bool.true_eq_false, Bool.false_eq_true, not_true_eq_false, not_false_eq_true, true_and, and_true, false_and, and_false, true_or, or_true, false_or, or_false, decide_true, decide_false, Bool.true_and, Bool.false_and, Bool.and_true, Bool.and_false, and_self, Nat.le_refl, Nat.lt_irrefl, ite_self, i10, i01, Option.some.injEq, c3, eq, eq', tp_has_eq, bsdF, has_setF hq', nI_clamp (show q < 2 ^ 31 by omega), show ¬ (45 : Int32) = 35 by decide, show ¬ (45 : Int32) = 43 by decide]
        cases besB f a q <;> rfl
      · simp (disch := first | omega | decide) only [nI_lel, nI_ltl, nI_ler, nI_ltr, nI_addl, nI_addr, nI_eqN, nI_leN, nI_ltN, Nat.zero_add, Option.bind_some, Option.bind_none, Option.map_some, bd2_some, b2i_0, b2i_1, b2i_t, b2i_f, ↓reduceIte, if_true, if_false, Bool.true_eq_false, Bool.false_eq_true, not_true_eq_false, not_false_eq_true, true_and, and_true, false_and, and_false, true_or, or_true, false_or, or_false, decide_true, decide_false, Bool.true_and, Bool.false_and, Bool.and_true, Bool.and_false, and_self, Nat.le_refl, Nat.lt_irrefl, ite_self, i10, i01, Option.some.injEq, c1, c2, c3]
        cases laidB f a
        · simp (disch := first | omega | decide) only [nI_lel, nI_ltl, nI_ler, nI_ltr, nI_addl, nI_addr, nI_eqN, nI_leN, nI_ltN, Nat.zero_add, Option.bind_some, Option.bind_none, Option.map_some, bd2_some, b2i_0, b2i_1, b2i_t, b2i_f, ↓reduceIte, if_true, if_false, Bool.true_eq_false, Bool.false_eq_true, not_true_eq_false, not_false_eq_true, true_and, and_true, false_and, and_false, true_or, or_true, false_or, or_false, decide_true, decide_false, Bool.true_and, Bool.false_and, Bool.and_true, Bool.and_false, and_self, Nat.le_refl, Nat.lt_irrefl, ite_self, i10, i01, Option.some.injEq]
        · by_cases c4 : bsdF f a = 0 <;> simp (disch := first | omega | decide) only [nI_lel, nI_ltl, nI_ler, nI_ltr, nI_addl, nI_addr, nI_eqN, nI_leN, nI_ltN, Nat.zero_add, Option.bind_some, Option.bind_none, Option.map_some, bd2_some, b2i_0, b2i_1, b2i_t, b2i_f, ↓reduceIte, if_true, if_false, Bool.true_eq_false, Bool.false_eq_true, not_true_eq_false, not_false_eq_true, true_and, and_true, false_and, and_false, true_or, or_true, false_or, or_false, decide_true, decide_false, Bool.true_and, Bool.false_and, Bool.and_true, Bool.and_false, and_self, Nat.le_refl, Nat.lt_irrefl, ite_self, i10, i01, Option.some.injEq, c4]
def hldF (P : Nat → Bool) (n : Nat) (what : Int32) : Int32 := if inB what 0 1 = false then -1 else if what = 0 then nI (cnN P n 0) else fnd (fun i => !P i) nI (-2) n 0
theorem mo_hold_q (wi : WI V) {n : Nat} (hn : V 77 34 = nI n) (hl : n ≤ 24) (what : Int32) : mo_hold (some 77) what (mkH E V) = some (hldF (wshB (V 78) V) n what) := by
  obtain ⟨m, hm, -, hm2, hw⟩ := wi
  have hmn : m = n := (nI_eqN (show m < 2 ^ 31 by omega) (show n < 2 ^ 31 by omega)).mp (hm2.symm.trans hn)
  subst hmn
  unfold mo_hold mo_hold_0 hldF
  simp (disch := first | omega | decide) only [nI_lel, nI_ltl, nI_ler, nI_ltr, nI_addl, nI_addr, nI_eqN, nI_leN, nI_ltN, Nat.zero_add, Option.bind_some, Option.bind_none, Option.map_some, bd2_some, b2i_0, b2i_1, b2i_t, b2i_f, ↓reduceIte, if_true, if_false, Bool.true_eq_false, Bool.false_eq_true, not_true_eq_false, not_false_eq_true, true_and, and_true, false_and, and_false, true_or, or_true, false_or, or_false, decide_true, decide_false, Bool.true_and, Bool.false_and, Bool.and_true, Bool.and_false, and_self, Nat.le_refl, Nat.lt_irrefl, ite_self, i10, i01, Option.some.injEq, grd_t isC_77, mo_in_eq, m_wishMany, hn]
  by_cases h2 : inB what 0 1 = false
  · simp (disch := first | omega | decide) only [nI_lel, nI_ltl, nI_ler, nI_ltr, nI_addl, nI_addr, nI_eqN, nI_leN, nI_ltN, Nat.zero_add, Option.bind_some, Option.bind_none, Option.map_some, bd2_some, b2i_0, b2i_1, b2i_t, b2i_f, ↓reduceIte, if_true, if_false, Bool.true_eq_false, Bool.false_eq_true, not_true_eq_false, not_false_eq_true, true_and, and_true, false_and, and_false, true_or, or_true, false_or, or_false, decide_true, decide_false, Bool.true_and, Bool.false_and, Bool.and_true, Bool.and_false, and_self, Nat.le_refl, Nat.lt_irrefl, ite_self, i10, i01, Option.some.injEq, h2]
  · simp (disch := first | omega | decide) only [nI_lel, nI_ltl, nI_ler, nI_ltr, nI_addl, nI_addr, nI_eqN, nI_leN, nI_ltN, Nat.zero_add, Option.bind_some, Option.bind_none, Option.map_some, bd2_some, b2i_0, b2i_1, b2i_t, b2i_f, ↓reduceIte, if_true, if_false, Bool.true_eq_false, Bool.false_eq_true, not_true_eq_false, not_false_eq_true, true_and, and_true, false_and, and_false, true_or, or_true, false_or, or_false, decide_true, decide_false, Bool.true_and, Bool.false_and, Bool.and_true, Bool.and_false, and_self, Nat.le_refl, Nat.lt_irrefl, ite_self, i10, i01, Option.some.injEq, h2]
    unfold mo_hold_L24
    generalize hP : wshB (V 78) V = P
    have key : ∀ k, k ≤ m → iter (fun s : Int32 × Int32 × Int32 => mo_hold_b24 (some 77) what s.1 s.2.1 s.2.2 (mkH E V)) (nI (cnN P (m - k) k), fnd (fun i => !P i) nI (-2) (m - k) k, dI k) = some (if what = 0 then nI (cnN P m 0) else fnd (fun i => !P i) nI (-2) m 0) := by
      intro k
      induction k with
      | zero =>
        intro _
        refine iter_r ?_
        unfold mo_hold_b24
        simp (disch := first | omega | decide) only [nI_lel, nI_ltl, nI_ler, nI_ltr, nI_addl, nI_addr, nI_eqN, nI_leN, nI_ltN, Nat.zero_add, Option.bind_some, Option.bind_none, Option.map_some, bd2_some, b2i_0, b2i_1, b2i_t, b2i_f, ↓reduceIte, if_true, if_false, Bool.true_eq_false, Bool.false_eq_true, not_true_eq_false, not_false_eq_true, true_and, and_true, false_and, and_false, true_or, or_true, false_or, or_false, decide_true, decide_false, Bool.true_and, Bool.false_and, Bool.and_true, Bool.and_false, and_self, Nat.le_refl, Nat.lt_irrefl, ite_self, i10, i01, Option.some.injEq, dI_z, Nat.sub_zero]
        split <;> rfl
      | succ k ih =>
        intro hk
        rw [← ih (by omega)]
        obtain ⟨a, ha, -, e1, -, e3⟩ := hw k (by omega)
        have hx : wshB (V 78) V k = P k := by rw [hP]
        refine iter_l ?_
        unfold mo_hold_b24
        rw [show m - k = (m - (k + 1)) + 1 by omega]
        generalize m - (k + 1) = j
        rw [show cnN P (j + 1) k = (if P k = true then 1 else 0) + cnN P j (k + 1) from rfl, show fnd (fun i => !P i) nI (-2 : Int32) (j + 1) k = if (!P k) = true then nI k else fnd (fun i => !P i) nI (-2) j (k + 1) from rfl]
        simp (disch := first | omega | decide) only [nI_lel, nI_ltl, nI_ler, nI_ltr, nI_addl, nI_addr, nI_eqN, nI_leN, nI_ltN, Nat.zero_add, Option.bind_some, Option.bind_none, Option.map_some, bd2_some, b2i_0, b2i_1, b2i_t, b2i_f, ↓reduceIte, if_true, if_false, Bool.true_eq_false, Bool.false_eq_true, not_true_eq_false, not_false_eq_true, true_and, and_true, false_and, and_false, true_or, or_true, false_or, or_false, decide_true, decide_false, Bool.true_and, Bool.false_and, Bool.and_true, Bool.and_false, and_self, Nat.le_refl, Nat.lt_irrefl, ite_self, i10, i01, Option.some.injEq, dI_s, nI_n0 (show k < 2 ^ 31 by omega), dI_m, mo_holdsWish_eq (show k < 24 by omega) ha e1 (fun c => by
          rcases e3 with ⟨-, q, hq, -, e⟩ | ⟨c', -⟩
          · exact ⟨q, hq, e⟩
          · rcases c with c | c <;> rcases c' with c' | c' <;> rw [c] at c' <;> exact absurd c' (by decide)), hx]
        cases P k
        · simp (disch := first | omega | decide) only [nI_lel, nI_ltl, nI_ler, nI_ltr, nI_addl, nI_addr, nI_eqN, nI_leN, nI_ltN, Nat.zero_add, Option.bind_some, Option.bind_none, Option.map_some, bd2_some, b2i_0, b2i_1, b2i_t, b2i_f, ↓reduceIte, if_true, if_false, Bool.true_eq_false, Bool.false_eq_true, not_true_eq_false, not_false_eq_true, true_and, and_true, false_and, and_false, true_or, or_true, false_or, or_false, decide_true, decide_false, Bool.true_and, Bool.false_and, Bool.and_true, Bool.and_false, and_self, Nat.le_refl, Nat.lt_irrefl, ite_self, i10, i01, Option.some.injEq, Bool.not_false]
        · simp (disch := first | omega | decide) only [nI_lel, nI_ltl, nI_ler, nI_ltr, nI_addl, nI_addr, nI_eqN, nI_leN, nI_ltN, Nat.zero_add, Option.bind_some, Option.bind_none, Option.map_some, bd2_some, b2i_0, b2i_1, b2i_t, b2i_f, ↓reduceIte, if_true, if_false, Bool.true_eq_false, Bool.false_eq_true, not_true_eq_false, not_false_eq_true, true_and, and_true, false_and, and_false, true_or, or_true, false_or, or_false, decide_true, decide_false, Bool.true_and, Bool.false_and, Bool.and_true, Bool.and_false, and_self, Nat.le_refl, Nat.lt_irrefl, ite_self, i10, i01, Option.some.injEq, Bool.not_true, Nat.add_comm]
    have := key m (Nat.le_refl m)
    rw [Nat.sub_self] at this
    exact this
theorem tp_hold_q (r : YR 9 f V) (w : WF f) (eo : EO E) (wi : WI V) {n : Nat} (hn : V 77 34 = nI n) (hl : n ≤ 24) (what : Int32) : tp_hold (some 7) what (mkH E V) = some (hldF (wshB f V) n what) := by
  obtain ⟨m, hm, hm1, hm2, hw⟩ := wi
  have hmn : m = n := (nI_eqN (show m < 2 ^ 31 by omega) (show n < 2 ^ 31 by omega)).mp (hm2.symm.trans hn)
  subst hmn
  unfold tp_hold tp_hold_0 hldF
  simp (disch := first | omega | decide) only [nI_lel, nI_ltl, nI_ler, nI_ltr, nI_addl, nI_addr, nI_eqN, nI_leN, nI_ltN, Nat.zero_add, Option.bind_some, Option.bind_none, Option.map_some, bd2_some, b2i_0, b2i_1, b2i_t, b2i_f, ↓reduceIte, if_true, if_false, Bool.true_eq_false, Bool.false_eq_true, not_true_eq_false, not_false_eq_true, true_and, and_true, false_and, and_false, true_or, or_true, false_or, or_false, decide_true, decide_false, Bool.true_and, Bool.false_and, Bool.and_true, Bool.and_false, and_self, Nat.le_refl, Nat.lt_irrefl, ite_self, i10, i01, Option.some.injEq, grd_t isC_7, tp_in2]
  by_cases h2 : inB what 0 1 = false
  · simp (disch := first | omega | decide) only [nI_lel, nI_ltl, nI_ler, nI_ltr, nI_addl, nI_addr, nI_eqN, nI_leN, nI_ltN, Nat.zero_add, Option.bind_some, Option.bind_none, Option.map_some, bd2_some, b2i_0, b2i_1, b2i_t, b2i_f, ↓reduceIte, if_true, if_false, Bool.true_eq_false, Bool.false_eq_true, not_true_eq_false, not_false_eq_true, true_and, and_true, false_and, and_false, true_or, or_true, false_or, or_false, decide_true, decide_false, Bool.true_and, Bool.false_and, Bool.and_true, Bool.and_false, and_self, Nat.le_refl, Nat.lt_irrefl, ite_self, i10, i01, Option.some.injEq, h2]
  · simp (disch := first | omega | decide) only [nI_lel, nI_ltl, nI_ler, nI_ltr, nI_addl, nI_addr, nI_eqN, nI_leN, nI_ltN, Nat.zero_add, Option.bind_some, Option.bind_none, Option.map_some, bd2_some, b2i_0, b2i_1, b2i_t, b2i_f, ↓reduceIte, if_true, if_false, Bool.true_eq_false, Bool.false_eq_true, not_true_eq_false, not_false_eq_true, true_and, and_true, false_and, and_false, true_or, or_true, false_or, or_false, decide_true, decide_false, Bool.true_and, Bool.false_and, Bool.and_true, Bool.and_false, and_self, Nat.le_refl, Nat.lt_irrefl, ite_self, i10, i01, Option.some.injEq, h2]
    unfold tp_hold_L18
    generalize hP : wshB f V = P
    refine iter_toR (fun i => (nI (cnN P i 0), fnd (fun i => !P i) nI (-2) i 0, nI i)) m (fun i hi => ?_) (by
      unfold tp_hold_b18
      simp (disch := first | omega | decide) only [nI_lel, nI_ltl, nI_ler, nI_ltr, nI_addl, nI_addr, nI_eqN, nI_leN, nI_ltN, Nat.zero_add, Option.bind_some, Option.bind_none, Option.map_some, bd2_some, b2i_0, b2i_1, b2i_t, b2i_f, ↓reduceIte, if_true, if_false, Bool.true_eq_false, Bool.false_eq_true, not_true_eq_false, not_false_eq_true, true_and, and_true, false_and, and_false, true_or, or_true, false_or, or_false, decide_true, decide_false, Bool.true_and, Bool.false_and, Bool.and_true, Bool.and_false, and_self, Nat.le_refl, Nat.lt_irrefl, ite_self, i10, i01, Option.some.injEq, x_wishes, hm1]
      split <;> rfl)
    obtain ⟨a, ha, e0, e1, e2, e3⟩ := hw i hi
    have hx : wshB f V i = P i := by rw [hP]
    unfold tp_hold_b18
    rw [cnN_snoc, fnd_snoc _ _ (by omega)]
    simp (disch := first | omega | decide) only [nI_lel, nI_ltl, nI_ler, nI_ltr, nI_addl, nI_addr, nI_eqN, nI_leN, nI_ltN, Nat.zero_add, Option.bind_some, Option.bind_none, Option.map_some, bd2_some, b2i_0, b2i_1, b2i_t, b2i_f, ↓reduceIte, if_true, if_false, Bool.true_eq_false, Bool.false_eq_true, not_true_eq_false, not_false_eq_true, true_and, and_true, false_and, and_false, true_or, or_true, false_or, or_false, decide_true, decide_false, Bool.true_and, Bool.false_and, Bool.and_true, Bool.and_false, and_self, Nat.le_refl, Nat.lt_irrefl, ite_self, i10, i01, Option.some.injEq, x_wishes, hm1, show ¬ m ≤ i by omega, tp_holds_eq r w eo (show i < 24 by omega) ha e0 e1 e2 (fun c => by
          rcases e3 with ⟨-, q, hq, e⟩ | ⟨c', -⟩
          · exact ⟨q, hq, e⟩
          · rcases c with c | c <;> rcases c' with c' | c' <;> rw [c] at c' <;> exact absurd c' (by decide)), hx]
    cases P i
    · by_cases c : fnd (fun i => !P i) nI (-2 : Int32) i 0 = -2 <;> simp (disch := first | omega | decide) only [nI_lel, nI_ltl, nI_ler, nI_ltr, nI_addl, nI_addr, nI_eqN, nI_leN, nI_ltN, Nat.zero_add, Option.bind_some, Option.bind_none, Option.map_some, bd2_some, b2i_0, b2i_1, b2i_t, b2i_f, ↓reduceIte, if_true, if_false, Bool.true_eq_false, Bool.false_eq_true, not_true_eq_false, not_false_eq_true, true_and, and_true, false_and, and_false, true_or, or_true, false_or, or_false, decide_true, decide_false, Bool.true_and, Bool.false_and, Bool.and_true, Bool.and_false, and_self, Nat.le_refl, Nat.lt_irrefl, ite_self, i10, i01, Option.some.injEq, c, Bool.not_false, Nat.add_zero]
    · by_cases c : fnd (fun i => !P i) nI (-2 : Int32) i 0 = -2 <;> simp (disch := first | omega | decide) only [nI_lel, nI_ltl, nI_ler, nI_ltr, nI_addl, nI_addr, nI_eqN, nI_leN, nI_ltN, Nat.zero_add, Option.bind_some, Option.bind_none, Option.map_some, bd2_some, b2i_0, b2i_1, b2i_t, b2i_f, ↓reduceIte, if_true, if_false, Bool.true_eq_false, Bool.false_eq_true, not_true_eq_false, not_false_eq_true, true_and, and_true, false_and, and_false, true_or, or_true, false_or, or_false, decide_true, decide_false, Bool.true_and, Bool.false_and, Bool.and_true, Bool.and_false, and_self, Nat.le_refl, Nat.lt_irrefl, ite_self, i10, i01, Option.some.injEq, c, Bool.not_true]
end HO
