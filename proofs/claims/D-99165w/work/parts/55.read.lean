/-! READ-ONLY PAIRS: talk, rank, personIs, talkAt, best, alike, move, count -/
set_option maxRecDepth 100000
def setN (P : Nat → Bool) : Nat → Nat := rep (fun k s => if P k = true then s ||| 2 ^ k else s) 0
theorem setN_lt (P : Nat → Bool) : ∀ n, setN P n < 2 ^ n
  | 0 => Nat.zero_lt_one
  | n + 1 => by
    have h := setN_lt P n
    have h2 : 2 ^ n < 2 ^ (n + 1) := Nat.pow_lt_pow_right (by decide) (by omega)
    show (if P n = true then setN P n ||| 2 ^ n else setN P n) < _
    split
    · exact Nat.or_lt_two_pow (by omega) h2
    · omega
theorem setN_tb (P : Nat → Bool) (j : Nat) : ∀ n, (setN P n).testBit j = (decide (j < n) && P j)
  | 0 => by
    show Nat.testBit 0 j = _
    simp
  | n + 1 => by
    have h := setN_tb P j n
    show (if P n = true then setN P n ||| 2 ^ n else setN P n).testBit j = _
    by_cases hp : P n = true
    · rw [if_pos hp, Nat.testBit_or, h, Nat.testBit_two_pow]
      by_cases hj : j = n
      · subst hj; simp [hp]
      · have e : decide (n = j) = false := decide_eq_false (fun q => hj q.symm)
        have e2 : decide (j < n + 1) = decide (j < n) := decide_eq_decide.mpr (by omega)
        rw [e, e2]; simp
    · rw [if_neg hp, h]
      by_cases hj : j = n
      · subst hj
        rw [Bool.not_eq_true] at hp
        simp [hp]
      · have e2 : decide (j < n + 1) = decide (j < n) := decide_eq_decide.mpr (by omega)
        rw [e2]
theorem setF_N (P : Nat → Bool) : ∀ n, n ≤ 31 → setF P n = nI (setN P n)
  | 0, _ => rfl
  | n + 1, hn => by
    have h := setF_N P n (by omega)
    show (if P n = true then setF P n ||| bitF n else setF P n) = nI (if P n = true then setN P n ||| 2 ^ n else setN P n)
    rw [h, nx_bitF (by omega)]
    split
    · exact nx_or _ _
    · rfl
theorem has_setF {P : Nat → Bool} {q : Nat} (hq : q < 16) : hasB (setF P 16) (nI q) = P q := by
  have hl := setN_lt P 16
  rw [setF_N P 16 (by decide), nx_has (by omega) (by omega), setN_tb, decide_eq_true hq, Bool.true_and]
theorem setN16 (P : Nat → Bool) : setN P 16 < 65536 := setN_lt P 16
def takF (f : Nat → Int32) (p : Nat) (plot : Int32) : Nat → Int32 := rep (fun q s => if ¬ q = p ∧ (laidB f q && nxtB plot (f (48 + q))) = true then s + talkF f p q else s) 0
theorem tw_tak (f : Nat → Int32) (p : Nat) (plot : Int32) : twF f p (arnF f plot) 16 = takF f p plot 16 := by
  unfold twF takF
  refine rep_congr fun i hi x => ?_
  unfold arnF
  rw [has_setF hi]
theorem tldB_t {f : Nat → Int32} {p : Int32} (h : tldB f p = true) : ∃ k, k < 16 ∧ p = nI k ∧ f k = 1 := by
  unfold tldB at h
  simp only [Bool.and_eq_true, decide_eq_true_eq] at h
  obtain ⟨k, hk, rfl⟩ := in15 h.1
  refine ⟨k, hk, rfl, ?_⟩
  rw [← h.2, nI_clamp (by omega)]
theorem tldB_n {f : Nat → Int32} {k : Nat} (hk : k < 16) : tldB f (nI k) = decide (f k = 1) := by
  unfold tldB
  rw [inB15 hk, Bool.true_and, nI_clamp (by omega)]
theorem nI_subc {a b : Nat} (ha : a < 2 ^ 30) (hb : b < 2 ^ 30) : (nI a - nI b).toInt = (a : Int) - b := by
  rw [Int32.toInt_sub, nI_toInt (by omega), nI_toInt (by omega)]
  apply Int.bmod_eq_of_le <;> omega
theorem whoX_rng (f : Nat → Int32) (plot : Int32) : ∀ n k, k + n = 16 → (fnd (fun p => laidB f p && decide (f (48 + p) = plot)) nI (-1) n k = -1 ∧ fnd (fun p => laidB f p && decide (f (48 + p) = plot)) nI (-2) n k = -2) ∨ ∃ p, p < 16 ∧ laidB f p = true ∧ f (48 + p) = plot ∧ fnd (fun p => laidB f p && decide (f (48 + p) = plot)) nI (-1) n k = nI p ∧ fnd (fun p => laidB f p && decide (f (48 + p) = plot)) nI (-2) n k = nI p
  | 0, k, _ => Or.inl ⟨rfl, rfl⟩
  | n + 1, k, h => by
    unfold fnd
    by_cases hp : (laidB f k && decide (f (48 + k) = plot)) = true
    · rw [if_pos hp, if_pos hp]
      simp only [Bool.and_eq_true, decide_eq_true_eq] at hp
      exact Or.inr ⟨k, by omega, hp.1, hp.2, rfl, rfl⟩
    · rw [if_neg hp, if_neg hp]
      exact whoX_rng f plot n (k + 1) (by omega)
/-- nobody there, or one -/
theorem who_cases (f : Nat → Int32) (plot : Int32) : (whoX f plot = -1 ∧ whoF f plot = -2) ∨ ∃ p, p < 16 ∧ laidB f p = true ∧ f (48 + p) = plot ∧ whoX f plot = nI p ∧ whoF f plot = nI p := whoX_rng f plot 16 0 rfl
theorem inB_lt2 (v : Int32) (n : Nat) (h0 : 0 < n) (hn : n < 2 ^ 31) : (decide (0 ≤ v) && decide (v < nI n)) = inB v 0 (nI (n - 1)) := by
  unfold inB
  congr 1
  apply decide_eq_decide.mpr
  rw [Int32.lt_iff_toInt_lt, Int32.le_iff_toInt_le, nI_toInt hn, nI_toInt (by omega)]
  omega
theorem tp_in_n (v : Int32) (n m : Nat) (h0 : n = m + 1) (hn : n < 2 ^ 31) {h : PH} : tp_in v (nI n) h = some (b2i (inB v 0 (nI m))) := by
  subst h0
  rw [tp_in_eq, inB_lt2 v _ (by omega) hn]; rfl
theorem i32_ir (a : Int32) : (a < a) = False := eq_false (fun h => by rw [Int32.lt_iff_toInt_lt] at h; omega)
theorem le_rf (a : Int32) : (a ≤ a) = True := eq_true (by rw [Int32.le_iff_toInt_le]; omega)
section RD
variable {E : EE} {V : Nat → Nat → Int32} {f : Nat → Int32} {h : PH}
theorem tp_in2 (v : Int32) : tp_in v 2 h = some (b2i (inB v 0 1)) := tp_in_n v 2 1 rfl (by decide)
theorem tp_in3 (v : Int32) : tp_in v 3 h = some (b2i (inB v 0 2)) := tp_in_n v 3 2 rfl (by decide)
theorem tp_in6 (v : Int32) : tp_in v 6 h = some (b2i (inB v 0 5)) := tp_in_n v 6 5 rfl (by decide)
theorem tp_in7 (v : Int32) : tp_in v 7 h = some (b2i (inB v 0 6)) := tp_in_n v 7 6 rfl (by decide)
theorem tp_in16 (v : Int32) : tp_in v 16 h = some (b2i (inB v 0 15)) := tp_in_n v 16 15 rfl (by decide)
theorem tp_in20 (v : Int32) : tp_in v 20 h = some (b2i (inB v 0 19)) := tp_in_n v 20 19 rfl (by decide)
theorem tp_in60 (v : Int32) : tp_in v 60 h = some (b2i (inB v 0 59)) := tp_in_n v 60 59 rfl (by decide)
theorem tp_in65536 (v : Int32) : tp_in v 65536 h = some (b2i (inB v 0 65535)) := tp_in_n v 65536 65535 rfl (by decide)
theorem tp_isTold_eq (r : YR 9 f V) (w : WF f) {p : Nat} (hp : p < 16) : tp_isTold (some 7) (nI p) (mkH E V) = some (b2i (decide (f p = 1))) := by
  rw [tp_isTold_g r w, tldB_n hp]
def tlkF (f : Nat → Int32) (p q : Int32) : Int32 := if tldB f p = false then -1000 else if tldB f q = false then -1000 else if p = q then -1000 else talkF f p.toNatClampNeg q.toNatClampNeg
theorem mo_talk_q (p q : Int32) : mo_talk (some 77) p q (mkH E V) = some (tlkF (V 78) p q) := by
  unfold mo_talk mo_talk_0 tlkF
  simp (disch := first | omega | decide) only [nI_lel, nI_ltl, nI_ler, nI_ltr, nI_addl, nI_addr, nI_eqN, nI_leN, nI_ltN, Nat.zero_add, Option.bind_some, Option.bind_none, Option.map_some, bd2_some, b2i_0, b2i_1, b2i_t, b2i_f, ↓reduceIte, if_true, if_false, Bool.true_eq_false, Bool.false_eq_true, not_true_eq_false, not_false_eq_true, true_and, and_true, false_and, and_false, true_or, or_true, false_or, or_false, decide_true, decide_false, Bool.true_and, Bool.false_and, Bool.and_true, Bool.and_false, and_self, Nat.le_refl, Nat.lt_irrefl, ite_self, i10, i01, Option.some.injEq, grd_t isC_77, mo_isTold_g]
  by_cases h1 : tldB (V 78) p = false
  · simp (disch := first | omega | decide) only [nI_lel, nI_ltl, nI_ler, nI_ltr, nI_addl, nI_addr, nI_eqN, nI_leN, nI_ltN, Nat.zero_add, Option.bind_some, Option.bind_none, Option.map_some, bd2_some, b2i_0, b2i_1, b2i_t, b2i_f, ↓reduceIte, if_true, if_false, Bool.true_eq_false, Bool.false_eq_true, not_true_eq_false, not_false_eq_true, true_and, and_true, false_and, and_false, true_or, or_true, false_or, or_false, decide_true, decide_false, Bool.true_and, Bool.false_and, Bool.and_true, Bool.and_false, and_self, Nat.le_refl, Nat.lt_irrefl, ite_self, i10, i01, Option.some.injEq, h1]
  · by_cases h2 : tldB (V 78) q = false
    · simp (disch := first | omega | decide) only [nI_lel, nI_ltl, nI_ler, nI_ltr, nI_addl, nI_addr, nI_eqN, nI_leN, nI_ltN, Nat.zero_add, Option.bind_some, Option.bind_none, Option.map_some, bd2_some, b2i_0, b2i_1, b2i_t, b2i_f, ↓reduceIte, if_true, if_false, Bool.true_eq_false, Bool.false_eq_true, not_true_eq_false, not_false_eq_true, true_and, and_true, false_and, and_false, true_or, or_true, false_or, or_false, decide_true, decide_false, Bool.true_and, Bool.false_and, Bool.and_true, Bool.and_false, and_self, Nat.le_refl, Nat.lt_irrefl, ite_self, i10, i01, Option.some.injEq, h1, h2]
    · by_cases h3 : p = q
      · simp (disch := first | omega | decide) only [nI_lel, nI_ltl, nI_ler, nI_ltr, nI_addl, nI_addr, nI_eqN, nI_leN, nI_ltN, Nat.zero_add, Option.bind_some, Option.bind_none, Option.map_some, bd2_some, b2i_0, b2i_1, b2i_t, b2i_f, ↓reduceIte, if_true, if_false, Bool.true_eq_false, Bool.false_eq_true, not_true_eq_false, not_false_eq_true, true_and, and_true, false_and, and_false, true_or, or_true, false_or, or_false, decide_true, decide_false, Bool.true_and, Bool.false_and, Bool.and_true, Bool.and_false, and_self, Nat.le_refl, Nat.lt_irrefl, ite_self, i10, i01, Option.some.injEq, h1, h2, h3]
      · simp (disch := first | omega | decide) only [nI_lel, nI_ltl, nI_ler, nI_ltr, nI_addl, nI_addr, nI_eqN, nI_leN, nI_ltN, Nat.zero_add, Option.bind_some, Option.bind_none, Option.map_some, bd2_some, b2i_0, b2i_1, b2i_t, b2i_f, ↓reduceIte, if_true, if_false, Bool.true_eq_false, Bool.false_eq_true, not_true_eq_false, not_false_eq_true, true_and, and_true, false_and, and_false, true_or, or_true, false_or, or_false, decide_true, decide_false, Bool.true_and, Bool.false_and, Bool.and_true, Bool.and_false, and_self, Nat.le_refl, Nat.lt_irrefl, ite_self, i10, i01, Option.some.injEq, h1, h2, h3]
        rw [Bool.not_eq_false] at h1 h2
        obtain ⟨a, ha, rfl, -⟩ := tldB_t h1
        obtain ⟨b, hb, rfl, -⟩ := tldB_t h2
        simp (disch := first | omega | decide) only [nI_lel, nI_ltl, nI_ler, nI_ltr, nI_addl, nI_addr, nI_eqN, nI_leN, nI_ltN, Nat.zero_add, Option.bind_some, Option.bind_none, Option.map_some, bd2_some, b2i_0, b2i_1, b2i_t, b2i_f, ↓reduceIte, if_true, if_false, Bool.true_eq_false, Bool.false_eq_true, not_true_eq_false, not_false_eq_true, true_and, and_true, false_and, and_false, true_or, or_true, false_or, or_false, decide_true, decide_false, Bool.true_and, Bool.false_and, Bool.and_true, Bool.and_false, and_self, Nat.le_refl, Nat.lt_irrefl, ite_self, i10, i01, Option.some.injEq, mo_talkOf_eq ha hb, nI_clamp (show a < 2 ^ 31 by omega), nI_clamp (show b < 2 ^ 31 by omega)]
theorem tp_talk_q (r : YR 9 f V) (w : WF f) (p q : Int32) : tp_talk (some 7) p q (mkH E V) = some (tlkF f p q) := by
  unfold tp_talk tp_talk_0 tlkF
  simp (disch := first | omega | decide) only [nI_lel, nI_ltl, nI_ler, nI_ltr, nI_addl, nI_addr, nI_eqN, nI_leN, nI_ltN, Nat.zero_add, Option.bind_some, Option.bind_none, Option.map_some, bd2_some, b2i_0, b2i_1, b2i_t, b2i_f, ↓reduceIte, if_true, if_false, Bool.true_eq_false, Bool.false_eq_true, not_true_eq_false, not_false_eq_true, true_and, and_true, false_and, and_false, true_or, or_true, false_or, or_false, decide_true, decide_false, Bool.true_and, Bool.false_and, Bool.and_true, Bool.and_false, and_self, Nat.le_refl, Nat.lt_irrefl, ite_self, i10, i01, Option.some.injEq, grd_t isC_7, tp_isTold_g r w]
  by_cases h1 : tldB f p = false
  · simp (disch := first | omega | decide) only [nI_lel, nI_ltl, nI_ler, nI_ltr, nI_addl, nI_addr, nI_eqN, nI_leN, nI_ltN, Nat.zero_add, Option.bind_some, Option.bind_none, Option.map_some, bd2_some, b2i_0, b2i_1, b2i_t, b2i_f, ↓reduceIte, if_true, if_false, Bool.true_eq_false, Bool.false_eq_true, not_true_eq_false, not_false_eq_true, true_and, and_true, false_and, and_false, true_or, or_true, false_or, or_false, decide_true, decide_false, Bool.true_and, Bool.false_and, Bool.and_true, Bool.and_false, and_self, Nat.le_refl, Nat.lt_irrefl, ite_self, i10, i01, Option.some.injEq, h1]
  · by_cases h2 : tldB f q = false
    · simp (disch := first | omega | decide) only [nI_lel, nI_ltl, nI_ler, nI_ltr, nI_addl, nI_addr, nI_eqN, nI_leN, nI_ltN, Nat.zero_add, Option.bind_some, Option.bind_none, Option.map_some, bd2_some, b2i_0, b2i_1, b2i_t, b2i_f, ↓reduceIte, if_true, if_false, Bool.true_eq_false, Bool.false_eq_true, not_true_eq_false, not_false_eq_true, true_and, and_true, false_and, and_false, true_or, or_true, false_or, or_false, decide_true, decide_false, Bool.true_and, Bool.false_and, Bool.and_true, Bool.and_false, and_self, Nat.le_refl, Nat.lt_irrefl, ite_self, i10, i01, Option.some.injEq, h1, h2]
    · by_cases h3 : p = q
      · simp (disch := first | omega | decide) only [nI_lel, nI_ltl, nI_ler, nI_ltr, nI_addl, nI_addr, nI_eqN, nI_leN, nI_ltN, Nat.zero_add, Option.bind_some, Option.bind_none, Option.map_some, bd2_some, b2i_0, b2i_1, b2i_t, b2i_f, ↓reduceIte, if_true, if_false, Bool.true_eq_false, Bool.false_eq_true, not_true_eq_false, not_false_eq_true, true_and, and_true, false_and, and_false, true_or, or_true, false_or, or_false, decide_true, decide_false, Bool.true_and, Bool.false_and, Bool.and_true, Bool.and_false, and_self, Nat.le_refl, Nat.lt_irrefl, ite_self, i10, i01, Option.some.injEq, h1, h2, h3]
      · simp (disch := first | omega | decide) only [nI_lel, nI_ltl, nI_ler, nI_ltr, nI_addl, nI_addr, nI_eqN, nI_leN, nI_ltN, Nat.zero_add, Option.bind_some, Option.bind_none, Option.map_some, bd2_some, b2i_0, b2i_1, b2i_t, b2i_f, ↓reduceIte, if_true, if_false, Bool.true_eq_false, Bool.false_eq_true, not_true_eq_false, not_false_eq_true, true_and, and_true, false_and, and_false, true_or, or_true, false_or, or_false, decide_true, decide_false, Bool.true_and, Bool.false_and, Bool.and_true, Bool.and_false, and_self, Nat.le_refl, Nat.lt_irrefl, ite_self, i10, i01, Option.some.injEq, h1, h2, h3]
        rw [Bool.not_eq_false] at h1 h2
        obtain ⟨a, ha, rfl, -⟩ := tldB_t h1
        obtain ⟨b, hb, rfl, -⟩ := tldB_t h2
        simp (disch := first | omega | decide) only [nI_lel, nI_ltl, nI_ler, nI_ltr, nI_addl, nI_addr, nI_eqN, nI_leN, nI_ltN, Nat.zero_add, Option.bind_some, Option.bind_none, Option.map_some, bd2_some, b2i_0, b2i_1, b2i_t, b2i_f, ↓reduceIte, if_true, if_false, Bool.true_eq_false, Bool.false_eq_true, not_true_eq_false, not_false_eq_true, true_and, and_true, false_and, and_false, true_or, or_true, false_or, or_false, decide_true, decide_false, Bool.true_and, Bool.false_and, Bool.and_true, Bool.and_false, and_self, Nat.le_refl, Nat.lt_irrefl, ite_self, i10, i01, Option.some.injEq, x_yard, yd_people y9, people_at y9 ha, people_at y9 hb, pe_talk_eq y9 ha hb r w, nI_clamp (show a < 2 ^ 31 by omega), nI_clamp (show b < 2 ^ 31 by omega)]
def rnkF (f : Nat → Int32) (p : Nat) : Nat → Int32 := rep (fun q s => if f q = 1 ∧ (f (32 + p) < f (32 + q) ∨ f (32 + q) = f (32 + p) ∧ q < p) then s + 1 else s) 0
theorem mo_rankOf_eq {p : Nat} (hp : p < 16) : mo_rankOf (some 77) (nI p) (mkH E V) = some (rnkF (V 78) p 16) := by
  unfold mo_rankOf mo_rankOf_0 mo_rankOf_L4
  rw [grd_t isC_77]
  refine iter_toR (fun i => (rnkF (V 78) p i, nI i)) 16 (fun i hi => ?_) rfl
  have hn : ¬ 16 ≤ i := by omega
  unfold mo_rankOf_b4
  simp (disch := first | omega | decide) only [nI_lel, nI_ltl, nI_ler, nI_ltr, nI_addl, nI_addr, nI_eqN, nI_leN, nI_ltN, Nat.zero_add, Option.bind_some, Option.bind_none, Option.map_some, bd2_some, b2i_0, b2i_1, b2i_t, b2i_f, ↓reduceIte, if_true, if_false, Bool.true_eq_false, Bool.false_eq_true, not_true_eq_false, not_false_eq_true, true_and, and_true, false_and, and_false, true_or, or_true, false_or, or_false, decide_true, decide_false, Bool.true_and, Bool.false_and, Bool.and_true, Bool.and_false, and_self, Nat.le_refl, Nat.lt_irrefl, ite_self, i10, i01, Option.some.injEq, hn, mo_isTold_eq, m_now, ald_78, rnkF, rep]
  by_cases h1 : V 78 i = 1
  · by_cases h2 : V 78 (32 + p) < V 78 (32 + i)
    · simp (disch := first | omega | decide) only [nI_lel, nI_ltl, nI_ler, nI_ltr, nI_addl, nI_addr, nI_eqN, nI_leN, nI_ltN, Nat.zero_add, Option.bind_some, Option.bind_none, Option.map_some, bd2_some, b2i_0, b2i_1, b2i_t, b2i_f, ↓reduceIte, if_true, if_false, Bool.true_eq_false, Bool.false_eq_true, not_true_eq_false, not_false_eq_true, true_and, and_true, false_and, and_false, true_or, or_true, false_or, or_false, decide_true, decide_false, Bool.true_and, Bool.false_and, Bool.and_true, Bool.and_false, and_self, Nat.le_refl, Nat.lt_irrefl, ite_self, i10, i01, Option.some.injEq, h1, h2, decide_true, Bool.true_eq_false, true_or, and_self]
    · by_cases h3 : V 78 (32 + i) = V 78 (32 + p)
      · by_cases h4 : p ≤ i
        · simp (disch := first | omega | decide) only [nI_lel, nI_ltl, nI_ler, nI_ltr, nI_addl, nI_addr, nI_eqN, nI_leN, nI_ltN, Nat.zero_add, Option.bind_some, Option.bind_none, Option.map_some, bd2_some, b2i_0, b2i_1, b2i_t, b2i_f, ↓reduceIte, if_true, if_false, Bool.true_eq_false, Bool.false_eq_true, not_true_eq_false, not_false_eq_true, true_and, and_true, false_and, and_false, true_or, or_true, false_or, or_false, decide_true, decide_false, Bool.true_and, Bool.false_and, Bool.and_true, Bool.and_false, and_self, Nat.le_refl, Nat.lt_irrefl, ite_self, i10, i01, Option.some.injEq, h1, h2, h3, h4, show ¬ i < p by omega, i32_ir]
        · simp (disch := first | omega | decide) only [nI_lel, nI_ltl, nI_ler, nI_ltr, nI_addl, nI_addr, nI_eqN, nI_leN, nI_ltN, Nat.zero_add, Option.bind_some, Option.bind_none, Option.map_some, bd2_some, b2i_0, b2i_1, b2i_t, b2i_f, ↓reduceIte, if_true, if_false, Bool.true_eq_false, Bool.false_eq_true, not_true_eq_false, not_false_eq_true, true_and, and_true, false_and, and_false, true_or, or_true, false_or, or_false, decide_true, decide_false, Bool.true_and, Bool.false_and, Bool.and_true, Bool.and_false, and_self, Nat.le_refl, Nat.lt_irrefl, ite_self, i10, i01, Option.some.injEq, h1, h2, h3, h4, show i < p by omega, i32_ir]
      · simp (disch := first | omega | decide) only [nI_lel, nI_ltl, nI_ler, nI_ltr, nI_addl, nI_addr, nI_eqN, nI_leN, nI_ltN, Nat.zero_add, Option.bind_some, Option.bind_none, Option.map_some, bd2_some, b2i_0, b2i_1, b2i_t, b2i_f, ↓reduceIte, if_true, if_false, Bool.true_eq_false, Bool.false_eq_true, not_true_eq_false, not_false_eq_true, true_and, and_true, false_and, and_false, true_or, or_true, false_or, or_false, decide_true, decide_false, Bool.true_and, Bool.false_and, Bool.and_true, Bool.and_false, and_self, Nat.le_refl, Nat.lt_irrefl, ite_self, i10, i01, Option.some.injEq, h1, h2, h3, decide_true, Bool.true_eq_false, false_or, false_and, and_false]
  · simp (disch := first | omega | decide) only [nI_lel, nI_ltl, nI_ler, nI_ltr, nI_addl, nI_addr, nI_eqN, nI_leN, nI_ltN, Nat.zero_add, Option.bind_some, Option.bind_none, Option.map_some, bd2_some, b2i_0, b2i_1, b2i_t, b2i_f, ↓reduceIte, if_true, if_false, Bool.true_eq_false, Bool.false_eq_true, not_true_eq_false, not_false_eq_true, true_and, and_true, false_and, and_false, true_or, or_true, false_or, or_false, decide_true, decide_false, Bool.true_and, Bool.false_and, Bool.and_true, Bool.and_false, and_self, Nat.le_refl, Nat.lt_irrefl, ite_self, i10, i01, Option.some.injEq, h1, decide_false, false_and]
theorem tp_rank_eq (r : YR 9 f V) (w : WF f) {p : Nat} (hp : p < 16) : tp_rank (some 7) (nI p) (mkH E V) = some (rnkF f p 16) := by
  unfold tp_rank tp_rank_0 tp_rank_L4
  rw [grd_t isC_7]
  refine iter_toR (fun i => (rnkF f p i, nI i)) 16 (fun i hi => ?_) rfl
  have hn : ¬ 16 ≤ i := by omega
  unfold tp_rank_b4
  simp (disch := first | omega | decide) only [nI_lel, nI_ltl, nI_ler, nI_ltr, nI_addl, nI_addr, nI_eqN, nI_leN, nI_ltN, Nat.zero_add, Option.bind_some, Option.bind_none, Option.map_some, bd2_some, b2i_0, b2i_1, b2i_t, b2i_f, ↓reduceIte, if_true, if_false, Bool.true_eq_false, Bool.false_eq_true, not_true_eq_false, not_false_eq_true, true_and, and_true, false_and, and_false, true_or, or_true, false_or, or_false, decide_true, decide_false, Bool.true_and, Bool.false_and, Bool.and_true, Bool.and_false, and_self, Nat.le_refl, Nat.lt_irrefl, ite_self, i10, i01, Option.some.injEq, hn, x_yard, yd_people y9, people_at y9 hi, people_at y9 hp, p_mood y9 hi, p_mood y9 hp, r.mood hi, r.mood hp, tp_isTold_eq r w hi, rnkF, rep, add_z]
  obtain ⟨a, ha, ea⟩ := (w.1 i hi).2.2.1
  obtain ⟨b, hb, eb⟩ := (w.1 p hp).2.2.1
  have e1 : ((0 : Int32) < nI a - nI b) = (b < a) := by
    rw [Int32.lt_iff_toInt_lt, nI_subc (by omega) (by omega)]
    apply propext
    show ((0 : Int32).toInt < _) ↔ _
    rw [show (0 : Int32).toInt = 0 by decide]; omega
  have e2 : (nI a - nI b = 0) = (a = b) := by
    apply propext
    constructor
    · intro h0
      have := congrArg Int32.toInt h0
      rw [nI_subc (by omega) (by omega), show (0 : Int32).toInt = 0 by decide] at this
      omega
    · intro h0; subst h0
      apply Int32.toBitVec_inj.1; simp
  simp (disch := first | omega | decide) only [nI_lel, nI_ltl, nI_ler, nI_ltr, nI_addl, nI_addr, nI_eqN, nI_leN, nI_ltN, Nat.zero_add, Option.bind_some, Option.bind_none, Option.map_some, bd2_some, b2i_0, b2i_1, b2i_t, b2i_f, ↓reduceIte, if_true, if_false, Bool.true_eq_false, Bool.false_eq_true, not_true_eq_false, not_false_eq_true, true_and, and_true, false_and, and_false, true_or, or_true, false_or, or_false, decide_true, decide_false, Bool.true_and, Bool.false_and, Bool.and_true, Bool.and_false, and_self, Nat.le_refl, Nat.lt_irrefl, ite_self, i10, i01, Option.some.injEq, ea, eb, e1, e2]
  by_cases h0 : i = p
  · subst h0
    have : ¬ (f i = 1 ∧ (b < a ∨ a = b ∧ i < i)) := by
      rw [ea] at eb
      have := (nI_eqN (show a < 2 ^ 31 by omega) (show b < 2 ^ 31 by omega)).mp eb
      omega
    rw [if_neg this]
    simp (disch := first | omega | decide) only [nI_lel, nI_ltl, nI_ler, nI_ltr, nI_addl, nI_addr, nI_eqN, nI_leN, nI_ltN, Nat.zero_add, Option.bind_some, Option.bind_none, Option.map_some, bd2_some, b2i_0, b2i_1, b2i_t, b2i_f, ↓reduceIte, if_true, if_false, Bool.true_eq_false, Bool.false_eq_true, not_true_eq_false, not_false_eq_true, true_and, and_true, false_and, and_false, true_or, or_true, false_or, or_false, decide_true, decide_false, Bool.true_and, Bool.false_and, Bool.and_true, Bool.and_false, and_self, Nat.le_refl, Nat.lt_irrefl, ite_self, i10, i01, Option.some.injEq]
  · by_cases h1 : f i = 1
    · by_cases h2 : b < a
      · simp (disch := first | omega | decide) only [nI_lel, nI_ltl, nI_ler, nI_ltr, nI_addl, nI_addr, nI_eqN, nI_leN, nI_ltN, Nat.zero_add, Option.bind_some, Option.bind_none, Option.map_some, bd2_some, b2i_0, b2i_1, b2i_t, b2i_f, ↓reduceIte, if_true, if_false, Bool.true_eq_false, Bool.false_eq_true, not_true_eq_false, not_false_eq_true, true_and, and_true, false_and, and_false, true_or, or_true, false_or, or_false, decide_true, decide_false, Bool.true_and, Bool.false_and, Bool.and_true, Bool.and_false, and_self, Nat.le_refl, Nat.lt_irrefl, ite_self, i10, i01, Option.some.injEq, h0, h1, h2, decide_true, Bool.true_eq_false, true_or, and_self]
      · by_cases h3 : a = b
        · by_cases h4 : p ≤ i
          · simp (disch := first | omega | decide) only [nI_lel, nI_ltl, nI_ler, nI_ltr, nI_addl, nI_addr, nI_eqN, nI_leN, nI_ltN, Nat.zero_add, Option.bind_some, Option.bind_none, Option.map_some, bd2_some, b2i_0, b2i_1, b2i_t, b2i_f, ↓reduceIte, if_true, if_false, Bool.true_eq_false, Bool.false_eq_true, not_true_eq_false, not_false_eq_true, true_and, and_true, false_and, and_false, true_or, or_true, false_or, or_false, decide_true, decide_false, Bool.true_and, Bool.false_and, Bool.and_true, Bool.and_false, and_self, Nat.le_refl, Nat.lt_irrefl, ite_self, i10, i01, Option.some.injEq, h0, h1, h2, h3, h4, decide_true, Bool.true_eq_false, show ¬ i < p by omega, Nat.lt_irrefl, false_or, and_false]
          · simp (disch := first | omega | decide) only [nI_lel, nI_ltl, nI_ler, nI_ltr, nI_addl, nI_addr, nI_eqN, nI_leN, nI_ltN, Nat.zero_add, Option.bind_some, Option.bind_none, Option.map_some, bd2_some, b2i_0, b2i_1, b2i_t, b2i_f, ↓reduceIte, if_true, if_false, Bool.true_eq_false, Bool.false_eq_true, not_true_eq_false, not_false_eq_true, true_and, and_true, false_and, and_false, true_or, or_true, false_or, or_false, decide_true, decide_false, Bool.true_and, Bool.false_and, Bool.and_true, Bool.and_false, and_self, Nat.le_refl, Nat.lt_irrefl, ite_self, i10, i01, Option.some.injEq, h0, h1, h2, h3, h4, decide_true, Bool.true_eq_false, show i < p by omega, or_true, and_self, Nat.lt_irrefl]
        · simp (disch := first | omega | decide) only [nI_lel, nI_ltl, nI_ler, nI_ltr, nI_addl, nI_addr, nI_eqN, nI_leN, nI_ltN, Nat.zero_add, Option.bind_some, Option.bind_none, Option.map_some, bd2_some, b2i_0, b2i_1, b2i_t, b2i_f, ↓reduceIte, if_true, if_false, Bool.true_eq_false, Bool.false_eq_true, not_true_eq_false, not_false_eq_true, true_and, and_true, false_and, and_false, true_or, or_true, false_or, or_false, decide_true, decide_false, Bool.true_and, Bool.false_and, Bool.and_true, Bool.and_false, and_self, Nat.le_refl, Nat.lt_irrefl, ite_self, i10, i01, Option.some.injEq, h0, h1, h2, h3, decide_true, Bool.true_eq_false, false_or, false_and, and_false]
    · simp (disch := first | omega | decide) only [nI_lel, nI_ltl, nI_ler, nI_ltr, nI_addl, nI_addr, nI_eqN, nI_leN, nI_ltN, Nat.zero_add, Option.bind_some, Option.bind_none, Option.map_some, bd2_some, b2i_0, b2i_1, b2i_t, b2i_f, ↓reduceIte, if_true, if_false, Bool.true_eq_false, Bool.false_eq_true, not_true_eq_false, not_false_eq_true, true_and, and_true, false_and, and_false, true_or, or_true, false_or, or_false, decide_true, decide_false, Bool.true_and, Bool.false_and, Bool.and_true, Bool.and_false, and_self, Nat.le_refl, Nat.lt_irrefl, ite_self, i10, i01, Option.some.injEq, h0, h1, decide_false, false_and]
def pisF (f : Nat → Int32) (p what : Int32) : Int32 := if tldB f p = false then -1 else if what = 0 then f (16 + p.toNatClampNeg) else if what = 1 then f (32 + p.toNatClampNeg) else if what = 2 then f (48 + p.toNatClampNeg) else if what = 3 then bsdF f p.toNatClampNeg else if what = 4 then rnkF f p.toNatClampNeg 16 else -1
theorem mo_personIs_q (p what : Int32) : mo_personIs (some 77) p what (mkH E V) = some (pisF (V 78) p what) := by
  unfold mo_personIs mo_personIs_0 pisF
  simp (disch := first | omega | decide) only [nI_lel, nI_ltl, nI_ler, nI_ltr, nI_addl, nI_addr, nI_eqN, nI_leN, nI_ltN, Nat.zero_add, Option.bind_some, Option.bind_none, Option.map_some, bd2_some, b2i_0, b2i_1, b2i_t, b2i_f, ↓reduceIte, if_true, if_false, Bool.true_eq_false, Bool.false_eq_true, not_true_eq_false, not_false_eq_true, true_and, and_true, false_and, and_false, true_or, or_true, false_or, or_false, decide_true, decide_false, Bool.true_and, Bool.false_and, Bool.and_true, Bool.and_false, and_self, Nat.le_refl, Nat.lt_irrefl, ite_self, i10, i01, Option.some.injEq, grd_t isC_77, mo_isTold_g]
  by_cases h1 : tldB (V 78) p = false
  · simp (disch := first | omega | decide) only [nI_lel, nI_ltl, nI_ler, nI_ltr, nI_addl, nI_addr, nI_eqN, nI_leN, nI_ltN, Nat.zero_add, Option.bind_some, Option.bind_none, Option.map_some, bd2_some, b2i_0, b2i_1, b2i_t, b2i_f, ↓reduceIte, if_true, if_false, Bool.true_eq_false, Bool.false_eq_true, not_true_eq_false, not_false_eq_true, true_and, and_true, false_and, and_false, true_or, or_true, false_or, or_false, decide_true, decide_false, Bool.true_and, Bool.false_and, Bool.and_true, Bool.and_false, and_self, Nat.le_refl, Nat.lt_irrefl, ite_self, i10, i01, Option.some.injEq, h1]
  · simp (disch := first | omega | decide) only [nI_lel, nI_ltl, nI_ler, nI_ltr, nI_addl, nI_addr, nI_eqN, nI_leN, nI_ltN, Nat.zero_add, Option.bind_some, Option.bind_none, Option.map_some, bd2_some, b2i_0, b2i_1, b2i_t, b2i_f, ↓reduceIte, if_true, if_false, Bool.true_eq_false, Bool.false_eq_true, not_true_eq_false, not_false_eq_true, true_and, and_true, false_and, and_false, true_or, or_true, false_or, or_false, decide_true, decide_false, Bool.true_and, Bool.false_and, Bool.and_true, Bool.and_false, and_self, Nat.le_refl, Nat.lt_irrefl, ite_self, i10, i01, Option.some.injEq, h1]
    rw [Bool.not_eq_false] at h1
    obtain ⟨a, ha, rfl, -⟩ := tldB_t h1
    simp (disch := first | omega | decide) only [nI_lel, nI_ltl, nI_ler, nI_ltr, nI_addl, nI_addr, nI_eqN, nI_leN, nI_ltN, Nat.zero_add, Option.bind_some, Option.bind_none, Option.map_some, bd2_some, b2i_0, b2i_1, b2i_t, b2i_f, ↓reduceIte, if_true, if_false, Bool.true_eq_false, Bool.false_eq_true, not_true_eq_false, not_false_eq_true, true_and, and_true, false_and, and_false, true_or, or_true, false_or, or_false, decide_true, decide_false, Bool.true_and, Bool.false_and, Bool.and_true, Bool.and_false, and_self, Nat.le_refl, Nat.lt_irrefl, ite_self, i10, i01, Option.some.injEq, m_now, ald_78, mo_besideSet_eq ha, mo_rankOf_eq ha, nI_clamp (show a < 2 ^ 31 by omega), bsdF]
    repeat' split
    all_goals rfl
theorem xpl_back {v : Int32} (w : v = -2 ∨ ∃ k, k < 60 ∧ v = nI k) : (if xpl v = -1 then (-2 : Int32) else xpl v) = v := by
  rcases w with rfl | ⟨k, hk, rfl⟩
  · rfl
  · rw [xpl_nI (by omega), if_neg (nI_ne1 (by omega))]
theorem tp_personIs_q (r : YR 9 f V) (w : WF f) (eo : EO E) (p what : Int32) : tp_personIs (some 7) p what (mkH E V) = some (pisF f p what) := by
  unfold tp_personIs tp_personIs_0 pisF
  simp (disch := first | omega | decide) only [nI_lel, nI_ltl, nI_ler, nI_ltr, nI_addl, nI_addr, nI_eqN, nI_leN, nI_ltN, Nat.zero_add, Option.bind_some, Option.bind_none, Option.map_some, bd2_some, b2i_0, b2i_1, b2i_t, b2i_f, ↓reduceIte, if_true, if_false, Bool.true_eq_false, Bool.false_eq_true, not_true_eq_false, not_false_eq_true, true_and, and_true, false_and, and_false, true_or, or_true, false_or, or_false, decide_true, decide_false, Bool.true_and, Bool.false_and, Bool.and_true, Bool.and_false, and_self, Nat.le_refl, Nat.lt_irrefl, ite_self, i10, i01, Option.some.injEq, grd_t isC_7, tp_isTold_g r w]
  by_cases h1 : tldB f p = false
  · simp (disch := first | omega | decide) only [nI_lel, nI_ltl, nI_ler, nI_ltr, nI_addl, nI_addr, nI_eqN, nI_leN, nI_ltN, Nat.zero_add, Option.bind_some, Option.bind_none, Option.map_some, bd2_some, b2i_0, b2i_1, b2i_t, b2i_f, ↓reduceIte, if_true, if_false, Bool.true_eq_false, Bool.false_eq_true, not_true_eq_false, not_false_eq_true, true_and, and_true, false_and, and_false, true_or, or_true, false_or, or_false, decide_true, decide_false, Bool.true_and, Bool.false_and, Bool.and_true, Bool.and_false, and_self, Nat.le_refl, Nat.lt_irrefl, ite_self, i10, i01, Option.some.injEq, h1]
  · simp (disch := first | omega | decide) only [nI_lel, nI_ltl, nI_ler, nI_ltr, nI_addl, nI_addr, nI_eqN, nI_leN, nI_ltN, Nat.zero_add, Option.bind_some, Option.bind_none, Option.map_some, bd2_some, b2i_0, b2i_1, b2i_t, b2i_f, ↓reduceIte, if_true, if_false, Bool.true_eq_false, Bool.false_eq_true, not_true_eq_false, not_false_eq_true, true_and, and_true, false_and, and_false, true_or, or_true, false_or, or_false, decide_true, decide_false, Bool.true_and, Bool.false_and, Bool.and_true, Bool.and_false, and_self, Nat.le_refl, Nat.lt_irrefl, ite_self, i10, i01, Option.some.injEq, h1]
    rw [Bool.not_eq_false] at h1
    obtain ⟨a, ha, rfl, -⟩ := tldB_t h1
    simp (disch := first | omega | decide) only [nI_lel, nI_ltl, nI_ler, nI_ltr, nI_addl, nI_addr, nI_eqN, nI_leN, nI_ltN, Nat.zero_add, Option.bind_some, Option.bind_none, Option.map_some, bd2_some, b2i_0, b2i_1, b2i_t, b2i_f, ↓reduceIte, if_true, if_false, Bool.true_eq_false, Bool.false_eq_true, not_true_eq_false, not_false_eq_true, true_and, and_true, false_and, and_false, true_or, or_true, false_or, or_false, decide_true, decide_false, Bool.true_and, Bool.false_and, Bool.and_true, Bool.and_false, and_self, Nat.le_refl, Nat.lt_irrefl, ite_self, i10, i01, Option.some.injEq, x_yard, yd_people y9, people_at y9 ha, p_topics y9 ha, p_mood y9 ha, p_plot y9 ha, r.topics ha, r.mood ha, r.plot ha, yd_beside_eq y9 r w eo ha, tp_rank_eq r w ha, nI_clamp (show a < 2 ^ 31 by omega)]
    have e := xpl_back (w.1 a ha).2.2.2
    split
    · rfl
    · split
      · rfl
      · split
        · rw [← apply_ite some, e]
        · repeat' split
          all_goals rfl
theorem mo_talkAt_eq {p : Nat} (hp : p < 16) (plot : Int32) : mo_talkAt (some 77) (nI p) plot (mkH E V) = some (takF (V 78) p plot 16) := by
  unfold mo_talkAt mo_talkAt_0 mo_talkAt_L5
  rw [grd_t isC_77]
  refine iter_toR (fun i => (takF (V 78) p plot i, nI i)) 16 (fun i hi => ?_) rfl
  have hn : ¬ 16 ≤ i := by omega
  unfold mo_talkAt_b5
  simp (disch := first | omega | decide) only [nI_lel, nI_ltl, nI_ler, nI_ltr, nI_addl, nI_addr, nI_eqN, nI_leN, nI_ltN, Nat.zero_add, Option.bind_some, Option.bind_none, Option.map_some, bd2_some, b2i_0, b2i_1, b2i_t, b2i_f, ↓reduceIte, if_true, if_false, Bool.true_eq_false, Bool.false_eq_true, not_true_eq_false, not_false_eq_true, true_and, and_true, false_and, and_false, true_or, or_true, false_or, or_false, decide_true, decide_false, Bool.true_and, Bool.false_and, Bool.and_true, Bool.and_false, and_self, Nat.le_refl, Nat.lt_irrefl, ite_self, i10, i01, Option.some.injEq, hn, mo_isLaid_eq, m_now, ald_78, takF, rep, mo_areNext_eq, mo_talkOf_eq hp hi]
  by_cases h0 : i = p
  · simp (disch := first | omega | decide) only [nI_lel, nI_ltl, nI_ler, nI_ltr, nI_addl, nI_addr, nI_eqN, nI_leN, nI_ltN, Nat.zero_add, Option.bind_some, Option.bind_none, Option.map_some, bd2_some, b2i_0, b2i_1, b2i_t, b2i_f, ↓reduceIte, if_true, if_false, Bool.true_eq_false, Bool.false_eq_true, not_true_eq_false, not_false_eq_true, true_and, and_true, false_and, and_false, true_or, or_true, false_or, or_false, decide_true, decide_false, Bool.true_and, Bool.false_and, Bool.and_true, Bool.and_false, and_self, Nat.le_refl, Nat.lt_irrefl, ite_self, i10, i01, Option.some.injEq, h0, not_true_eq_false, false_and]
  · cases h1 : laidB (V 78) i
    · simp (disch := first | omega | decide) only [nI_lel, nI_ltl, nI_ler, nI_ltr, nI_addl, nI_addr, nI_eqN, nI_leN, nI_ltN, Nat.zero_add, Option.bind_some, Option.bind_none, Option.map_some, bd2_some, b2i_0, b2i_1, b2i_t, b2i_f, ↓reduceIte, if_true, if_false, Bool.true_eq_false, Bool.false_eq_true, not_true_eq_false, not_false_eq_true, true_and, and_true, false_and, and_false, true_or, or_true, false_or, or_false, decide_true, decide_false, Bool.true_and, Bool.false_and, Bool.and_true, Bool.and_false, and_self, Nat.le_refl, Nat.lt_irrefl, ite_self, i10, i01, Option.some.injEq, h0, not_false_eq_true, Bool.false_and, Bool.false_eq_true, and_false]
    · cases h2 : nxtB plot (V 78 (48 + i)) <;> simp (disch := first | omega | decide) only [nI_lel, nI_ltl, nI_ler, nI_ltr, nI_addl, nI_addr, nI_eqN, nI_leN, nI_ltN, Nat.zero_add, Option.bind_some, Option.bind_none, Option.map_some, bd2_some, b2i_0, b2i_1, b2i_t, b2i_f, ↓reduceIte, if_true, if_false, Bool.true_eq_false, Bool.false_eq_true, not_true_eq_false, not_false_eq_true, true_and, and_true, false_and, and_false, true_or, or_true, false_or, or_false, decide_true, decide_false, Bool.true_and, Bool.false_and, Bool.and_true, Bool.and_false, and_self, Nat.le_refl, Nat.lt_irrefl, ite_self, i10, i01, Option.some.injEq, h0, not_false_eq_true, Bool.true_and, Bool.false_eq_true, Bool.true_eq_false, and_false, and_true]
theorem tp_talkAt_eq (r : YR 9 f V) (w : WF f) (eo : EO E) {p k : Nat} (hp : p < 16) (hk : k < 60) : tp_talkAt (some 7) (nI p) (nI k) (mkH E V) = some (takF f p (nI k) 16) := by
  unfold tp_talkAt tp_talkAt_0
  simp (disch := first | omega | decide) only [nI_lel, nI_ltl, nI_ler, nI_ltr, nI_addl, nI_addr, nI_eqN, nI_leN, nI_ltN, Nat.zero_add, Option.bind_some, Option.bind_none, Option.map_some, bd2_some, b2i_0, b2i_1, b2i_t, b2i_f, ↓reduceIte, if_true, if_false, Bool.true_eq_false, Bool.false_eq_true, not_true_eq_false, not_false_eq_true, true_and, and_true, false_and, and_false, true_or, or_true, false_or, or_false, decide_true, decide_false, Bool.true_and, Bool.false_and, Bool.and_true, Bool.and_false, and_self, Nat.le_refl, Nat.lt_irrefl, ite_self, i10, i01, Option.some.injEq, grd_t isC_7, x_yard, yd_around_eq y9 r w eo hk, yd_talkWith_eq y9 r w hp, tw_tak]
end RD
