/-! heard, circles, from -/
set_option maxRecDepth 100000
/-- two loops that go alike and end -/
theorem iter_pair {ι σ τ ρ : Type} {B : σ → Option (σ ⊕ ρ)} {C : τ → Option (τ ⊕ ρ)} (a : ι → σ) (b : ι → τ) (μ : ι → Nat) (Q : ι → Prop) (R : ρ → Prop) (hs : ∀ i, Q i → (∃ r, B (a i) = some (.inr r) ∧ C (b i) = some (.inr r) ∧ R r) ∨ ∃ j, B (a i) = some (.inl (a j)) ∧ C (b i) = some (.inl (b j)) ∧ Q j ∧ μ j < μ i) : ∀ n i, μ i ≤ n → Q i → ∃ r, iter B (a i) = some r ∧ iter C (b i) = some r ∧ R r
  | 0, i, hn, hq => by
    rcases hs i hq with ⟨r, h1, h2, h3⟩ | ⟨j, h1, h2, h3, h4⟩
    · exact ⟨r, iter_r h1, iter_r h2, h3⟩
    · omega
  | n + 1, i, hn, hq => by
    rcases hs i hq with ⟨r, h1, h2, h3⟩ | ⟨j, h1, h2, h3, h4⟩
    · exact ⟨r, iter_r h1, iter_r h2, h3⟩
    · rw [iter_l h1, iter_l h2]
      exact iter_pair a b μ Q R hs n j (by omega) h3
def sprN (f : Nat → Int32) (s : Nat) : Nat → Nat := rep (fun p acc => if s.testBit p = true then acc ||| setN (besB f p) 16 else acc) s
theorem sprN_lt {f : Nat → Int32} {s : Nat} (hs : s < 65536) : ∀ n, sprN f s n < 65536
  | 0 => hs
  | n + 1 => by
    show (if s.testBit n = true then sprN f s n ||| setN (besB f n) 16 else sprN f s n) < _
    split
    · exact Nat.or_lt_two_pow (n := 16) (sprN_lt hs n) (setN16 _)
    · exact sprN_lt hs n
theorem sprN_tb {f : Nat → Int32} {s q : Nat} (hq : q < 16) : ∀ n, ((sprN f s n).testBit q = true ↔ s.testBit q = true ∨ ∃ p, p < n ∧ s.testBit p = true ∧ besB f p q = true)
  | 0 => ⟨Or.inl, fun h => h.elim id fun ⟨p, hp, _⟩ => absurd hp (by omega)⟩
  | n + 1 => by
    have ih := sprN_tb (f := f) (s := s) hq n
    rw [show sprN f s (n + 1) = if s.testBit n = true then sprN f s n ||| setN (besB f n) 16 else sprN f s n from rfl]
    by_cases h : s.testBit n = true
    · rw [if_pos h, Nat.testBit_or, Bool.or_eq_true, ih, setN_tb, decide_eq_true hq, Bool.true_and]
      constructor
      · rintro ((h1 | ⟨p, hp, h2⟩) | h1)
        · exact Or.inl h1
        · exact Or.inr ⟨p, by omega, h2⟩
        · exact Or.inr ⟨n, by omega, h, h1⟩
      · rintro (h1 | ⟨p, hp, h2, h3⟩)
        · exact Or.inl (Or.inl h1)
        · by_cases e : p = n
          · subst e; exact Or.inr h3
          · exact Or.inl (Or.inr ⟨p, by omega, h2, h3⟩)
    · rw [if_neg h, ih]
      constructor
      · rintro (h1 | ⟨p, hp, h2⟩)
        · exact Or.inl h1
        · exact Or.inr ⟨p, by omega, h2⟩
      · rintro (h1 | ⟨p, hp, h2, h3⟩)
        · exact Or.inl h1
        · by_cases e : p = n
          · subst e; exact absurd h2 h
          · exact Or.inr ⟨p, by omega, h2, h3⟩
theorem sprN_ge (f : Nat → Int32) (s : Nat) : ∀ n, s ≤ sprN f s n
  | 0 => Nat.le_refl s
  | n + 1 => by
    have ih := sprN_ge f s n
    show s ≤ (if s.testBit n = true then sprN f s n ||| setN (besB f n) 16 else sprN f s n)
    split
    · exact Nat.le_trans ih Nat.left_le_or
    · exact ih
section CI
variable {E : EE} {V : Nat → Nat → Int32} {f : Nat → Int32}
theorem mo_andBeside_eq {s : Nat} (hs : s < 65536) : mo_andBeside (some 77) (nI s) (mkH E V) = some (nI (sprN (V 78) s 16)) := by
  unfold mo_andBeside mo_andBeside_0 mo_andBeside_L4
  rw [grd_t isC_77]
  refine iter_toR (fun i => (nI (sprN (V 78) s i), nI i)) 16 (fun i hi => ?_) rfl
  unfold mo_andBeside_b4
  simp (disch := first | omega | decide) only [nI_lel, nI_ltl, nI_ler, nI_ltr, nI_addl, nI_addr, nI_eqN, nI_leN, nI_ltN, Nat.zero_add, Option.bind_some, Option.bind_none, Option.map_some, bd2_some, b2i_0, b2i_1, b2i_t, b2i_f, ↓reduceIte, if_true, if_false, Bool.true_eq_false, Bool.false_eq_true, not_true_eq_false, not_false_eq_true, true_and, and_true, false_and, and_false, true_or, or_true, false_or, or_false, decide_true, decide_false, Bool.true_and, Bool.false_and, Bool.and_true, Bool.and_false, and_self, Nat.le_refl, Nat.lt_irrefl, ite_self, i10, i01, Option.some.injEq, show ¬ 16 ≤ i by omega, mo_has_eq, nx_has (show s < 2 ^ 31 by omega) (show i < 32 by omega), mo_besideSet_eq hi, setF_N _ 16 (by decide), nx_or]
  rw [show sprN (V 78) s (i + 1) = if s.testBit i = true then sprN (V 78) s i ||| setN (besB (V 78) i) 16 else sprN (V 78) s i from rfl]
  cases s.testBit i <;> simp (disch := first | omega | decide) only [nI_lel, nI_ltl, nI_ler, nI_ltr, nI_addl, nI_addr, nI_eqN, nI_leN, nI_ltN, Nat.zero_add, Option.bind_some, Option.bind_none, Option.map_some, bd2_some, b2i_0, b2i_1, b2i_t, b2i_f, ↓reduceIte, if_true, if_false, Bool.true_eq_false, Bool.false_eq_true, not_true_eq_false, not_false_eq_true, true_and, and_true, false_and, and_false, true_or, or_true, false_or, or_false, decide_true, decide_false, Bool.true_and, Bool.false_and, Bool.and_true, Bool.and_false, and_self, Nat.le_refl, Nat.lt_irrefl, ite_self, i10, i01, Option.some.injEq]
theorem tp_spread_eq (r : YR 9 f V) (w : WF f) (eo : EO E) {s : Nat} (hs : s < 65536) : tp_spread (some 7) (nI s) (mkH E V) = some (nI (sprN f s 16)) := by
  unfold tp_spread tp_spread_0 tp_spread_L4
  rw [grd_t isC_7]
  refine iter_toR (fun i => (nI (sprN f s i), nI i)) 16 (fun i hi => ?_) rfl
  unfold tp_spread_b4
  simp (disch := first | omega | decide) only [nI_lel, nI_ltl, nI_ler, nI_ltr, nI_addl, nI_addr, nI_eqN, nI_leN, nI_ltN, Nat.zero_add, Option.bind_some, Option.bind_none, Option.map_some, bd2_some, b2i_0, b2i_1, b2i_t, b2i_f, ↓reduceIte, if_true, if_false, Bool.true_eq_false, Bool.false_eq_true, not_true_eq_false, not_false_eq_true, true_and, and_true, false_and, and_false, true_or, or_true, false_or, or_false, decide_true, decide_false, Bool.true_and, Bool.false_and, Bool.and_true, Bool.and_false, and_self, Nat.le_refl, Nat.lt_irrefl, ite_self, i10, i01, Option.some.injEq, show ¬ 16 ≤ i by omega, tp_has_eq, nx_has (show s < 2 ^ 31 by omega) (show i < 32 by omega), x_yard, yd_beside_eq y9 r w eo hi, bsdF, setF_N _ 16 (by decide), nx_or, or_z]
  rw [show sprN f s (i + 1) = if s.testBit i = true then sprN f s i ||| setN (besB f i) 16 else sprN f s i from rfl]
  cases s.testBit i <;> simp (disch := first | omega | decide) only [nI_lel, nI_ltl, nI_ler, nI_ltr, nI_addl, nI_addr, nI_eqN, nI_leN, nI_ltN, Nat.zero_add, Option.bind_some, Option.bind_none, Option.map_some, bd2_some, b2i_0, b2i_1, b2i_t, b2i_f, ↓reduceIte, if_true, if_false, Bool.true_eq_false, Bool.false_eq_true, not_true_eq_false, not_false_eq_true, true_and, and_true, false_and, and_false, true_or, or_true, false_or, or_false, decide_true, decide_false, Bool.true_and, Bool.false_and, Bool.and_true, Bool.and_false, and_self, Nat.le_refl, Nat.lt_irrefl, ite_self, i10, i01, Option.some.injEq]
theorem heard_q (rw0 : Rw V) (eo : EO E) (topic what : Int32) : ∃ v, tp_heard (some 7) topic what (mkH E V) = some v ∧ mo_heard (some 77) topic what (mkH E V) = some v := by
  obtain ⟨w, r⟩ := rw0
  unfold tp_heard tp_heard_0 mo_heard mo_heard_0
  simp (disch := first | omega | decide) only [nI_lel, nI_ltl, nI_ler, nI_ltr, nI_addl, nI_addr, nI_eqN, nI_leN, nI_ltN, Nat.zero_add, Option.bind_some, Option.bind_none, Option.map_some, bd2_some, b2i_0, b2i_1, b2i_t, b2i_f, ↓reduceIte, if_true, if_false, Bool.true_eq_false, Bool.false_eq_true, not_true_eq_false, not_false_eq_true, true_and, and_true, false_and, and_false, true_or, or_true, false_or, or_false, decide_true, decide_false, Bool.true_and, Bool.false_and, Bool.and_true, Bool.and_false, and_self, Nat.le_refl, Nat.lt_irrefl, ite_self, i10, i01, Option.some.injEq, grd_t isC_7, grd_t isC_77, tp_in16, tp_in2, mo_in_eq]
  by_cases h1 : inB topic 0 15 = true
  · by_cases h2 : inB what 0 1 = true
    · simp (disch := first | omega | decide) only [nI_lel, nI_ltl, nI_ler, nI_ltr, nI_addl, nI_addr, nI_eqN, nI_leN, nI_ltN, Nat.zero_add, Option.bind_some, Option.bind_none, Option.map_some, bd2_some, b2i_0, b2i_1, b2i_t, b2i_f, ↓reduceIte, if_true, if_false, Bool.true_eq_false, Bool.false_eq_true, not_true_eq_false, not_false_eq_true, true_and, and_true, false_and, and_false, true_or, or_true, false_or, or_false, decide_true, decide_false, Bool.true_and, Bool.false_and, Bool.and_true, Bool.and_false, and_self, Nat.le_refl, Nat.lt_irrefl, ite_self, i10, i01, Option.some.injEq, h1, h2]
      obtain ⟨k, hk, rfl⟩ := in_n (n := 15) (by decide) h1
      generalize hP : (fun p => decide (V 78 p = 1) && hasB (V 78 (16 + p)) (nI k)) = P
      have hP' : ∀ p, P p = (decide (V 78 p = 1) && hasB (V 78 (16 + p)) (nI k)) := fun p => by rw [← hP]
      have e1 : tp_heard_L24 (some 7) (nI k) what 0 0 (mkH E V) = tp_heard_L80 (some 7) what (setF P 16) 0 (mkH E V) := by
        unfold tp_heard_L24
        refine (iter_to (B := fun s : Int32 × Int32 => tp_heard_b24 (some 7) (nI k) what s.1 s.2 (mkH E V)) (fun i => (setF P i, nI i)) 16 (fun i hi => ?_)).trans ?_
        · unfold tp_heard_b24
          rw [show setF P (i + 1) = if P i = true then setF P i ||| bitF i else setF P i from rfl, hP']
          simp (disch := first | omega | decide) only [nI_lel, nI_ltl, nI_ler, nI_ltr, nI_addl, nI_addr, nI_eqN, nI_leN, nI_ltN, Nat.zero_add, Option.bind_some, Option.bind_none, Option.map_some, bd2_some, b2i_0, b2i_1, b2i_t, b2i_f, ↓reduceIte, if_true, if_false, Bool.true_eq_false, Bool.false_eq_true, not_true_eq_false, not_false_eq_true, true_and, and_true, false_and, and_false, true_or, or_true, false_or, or_false, decide_true, decide_false, Bool.true_and, Bool.false_and, Bool.and_true, Bool.and_false, and_self, Nat.le_refl, Nat.lt_irrefl, ite_self, i10, i01, Option.some.injEq, show ¬ 16 ≤ i by omega, tp_isTold_eq r w hi, x_yard, yd_people y9, people_at y9 hi, p_topics y9 hi, r.topics hi, tp_has_eq, or_z]
          by_cases c : V 78 i = 1
          · cases hasB (V 78 (16 + i)) (nI k) <;> simp (disch := first | omega | decide) only [nI_lel, nI_ltl, nI_ler, nI_ltr, nI_addl, nI_addr, nI_eqN, nI_leN, nI_ltN, Nat.zero_add, Option.bind_some, Option.bind_none, Option.map_some, bd2_some, b2i_0, b2i_1, b2i_t, b2i_f, ↓reduceIte, if_true, if_false, Bool.true_eq_false, Bool.false_eq_true, not_true_eq_false, not_false_eq_true, true_and, and_true, false_and, and_false, true_or, or_true, false_or, or_false, decide_true, decide_false, Bool.true_and, Bool.false_and, Bool.and_true, Bool.and_false, and_self, Nat.le_refl, Nat.lt_irrefl, ite_self, i10, i01, Option.some.injEq, c] <;> rfl
          · simp (disch := first | omega | decide) only [nI_lel, nI_ltl, nI_ler, nI_ltr, nI_addl, nI_addr, nI_eqN, nI_leN, nI_ltN, Nat.zero_add, Option.bind_some, Option.bind_none, Option.map_some, bd2_some, b2i_0, b2i_1, b2i_t, b2i_f, ↓reduceIte, if_true, if_false, Bool.true_eq_false, Bool.false_eq_true, not_true_eq_false, not_false_eq_true, true_and, and_true, false_and, and_false, true_or, or_true, false_or, or_false, decide_true, decide_false, Bool.true_and, Bool.false_and, Bool.and_true, Bool.and_false, and_self, Nat.le_refl, Nat.lt_irrefl, ite_self, i10, i01, Option.some.injEq, c]
        · rw [iter_eq]
          unfold tp_heard_b24
          simp (disch := first | omega | decide) only [nI_lel, nI_ltl, nI_ler, nI_ltr, nI_addl, nI_addr, nI_eqN, nI_leN, nI_ltN, Nat.zero_add, Option.bind_some, Option.bind_none, Option.map_some, bd2_some, b2i_0, b2i_1, b2i_t, b2i_f, ↓reduceIte, if_true, if_false, Bool.true_eq_false, Bool.false_eq_true, not_true_eq_false, not_false_eq_true, true_and, and_true, false_and, and_false, true_or, or_true, false_or, or_false, decide_true, decide_false, Bool.true_and, Bool.false_and, Bool.and_true, Bool.and_false, and_self, Nat.le_refl, Nat.lt_irrefl, ite_self, i10, i01, Option.some.injEq]
          cases tp_heard_L80 (some 7) what (setF P 16) 0 (mkH E V) <;> rfl
      have e2 : mo_heard_L26 (some 77) (nI k) what 0 0 (mkH E V) = mo_heard_L75 (some 77) what (setF P 16) 0 (mkH E V) := by
        unfold mo_heard_L26
        refine (iter_to (B := fun s : Int32 × Int32 => mo_heard_b26 (some 77) (nI k) what s.1 s.2 (mkH E V)) (fun i => (setF P i, nI i)) 16 (fun i hi => ?_)).trans ?_
        · unfold mo_heard_b26
          rw [show setF P (i + 1) = if P i = true then setF P i ||| bitF i else setF P i from rfl, hP']
          simp (disch := first | omega | decide) only [nI_lel, nI_ltl, nI_ler, nI_ltr, nI_addl, nI_addr, nI_eqN, nI_leN, nI_ltN, Nat.zero_add, Option.bind_some, Option.bind_none, Option.map_some, bd2_some, b2i_0, b2i_1, b2i_t, b2i_f, ↓reduceIte, if_true, if_false, Bool.true_eq_false, Bool.false_eq_true, not_true_eq_false, not_false_eq_true, true_and, and_true, false_and, and_false, true_or, or_true, false_or, or_false, decide_true, decide_false, Bool.true_and, Bool.false_and, Bool.and_true, Bool.and_false, and_self, Nat.le_refl, Nat.lt_irrefl, ite_self, i10, i01, Option.some.injEq, show ¬ 16 ≤ i by omega, mo_isTold_eq hi, m_now, ald_78, mo_has_eq]
          by_cases c : V 78 i = 1
          · cases hasB (V 78 (16 + i)) (nI k) <;> simp (disch := first | omega | decide) only [nI_lel, nI_ltl, nI_ler, nI_ltr, nI_addl, nI_addr, nI_eqN, nI_leN, nI_ltN, Nat.zero_add, Option.bind_some, Option.bind_none, Option.map_some, bd2_some, b2i_0, b2i_1, b2i_t, b2i_f, ↓reduceIte, if_true, if_false, Bool.true_eq_false, Bool.false_eq_true, not_true_eq_false, not_false_eq_true, true_and, and_true, false_and, and_false, true_or, or_true, false_or, or_false, decide_true, decide_false, Bool.true_and, Bool.false_and, Bool.and_true, Bool.and_false, and_self, Nat.le_refl, Nat.lt_irrefl, ite_self, i10, i01, Option.some.injEq, c] <;> rfl
          · simp (disch := first | omega | decide) only [nI_lel, nI_ltl, nI_ler, nI_ltr, nI_addl, nI_addr, nI_eqN, nI_leN, nI_ltN, Nat.zero_add, Option.bind_some, Option.bind_none, Option.map_some, bd2_some, b2i_0, b2i_1, b2i_t, b2i_f, ↓reduceIte, if_true, if_false, Bool.true_eq_false, Bool.false_eq_true, not_true_eq_false, not_false_eq_true, true_and, and_true, false_and, and_false, true_or, or_true, false_or, or_false, decide_true, decide_false, Bool.true_and, Bool.false_and, Bool.and_true, Bool.and_false, and_self, Nat.le_refl, Nat.lt_irrefl, ite_self, i10, i01, Option.some.injEq, c]
        · rw [iter_eq]
          unfold mo_heard_b26
          simp (disch := first | omega | decide) only [nI_lel, nI_ltl, nI_ler, nI_ltr, nI_addl, nI_addr, nI_eqN, nI_leN, nI_ltN, Nat.zero_add, Option.bind_some, Option.bind_none, Option.map_some, bd2_some, b2i_0, b2i_1, b2i_t, b2i_f, ↓reduceIte, if_true, if_false, Bool.true_eq_false, Bool.false_eq_true, not_true_eq_false, not_false_eq_true, true_and, and_true, false_and, and_false, true_or, or_true, false_or, or_false, decide_true, decide_false, Bool.true_and, Bool.false_and, Bool.and_true, Bool.and_false, and_self, Nat.le_refl, Nat.lt_irrefl, ite_self, i10, i01, Option.some.injEq]
          cases mo_heard_L75 (some 77) what (setF P 16) 0 (mkH E V) <;> rfl
      rw [e1, e2]
      unfold tp_heard_L80 mo_heard_L75
      rw [setF_N P 16 (by decide)]
      obtain ⟨v, g1, g2, -⟩ := iter_pair (B := fun s : Int32 × Int32 => tp_heard_b80 (some 7) what s.1 s.2 (mkH E V)) (C := fun s : Int32 × Int32 => mo_heard_b75 (some 77) what s.1 s.2 (mkH E V)) (fun i : Nat × Int32 => (nI i.1, i.2)) (fun i => (nI i.1, i.2)) (fun i => 65536 - i.1) (fun i => i.1 < 65536) (fun _ => True) (fun i hi => by
        unfold tp_heard_b80 mo_heard_b75
        have hl := sprN_lt (f := V 78) hi 16
        have hge := sprN_ge (V 78) i.1 16
        simp (disch := first | omega | decide) only [nI_lel, nI_ltl, nI_ler, nI_ltr, nI_addl, nI_addr, nI_eqN, nI_leN, nI_ltN, Nat.zero_add, Option.bind_some, Option.bind_none, Option.map_some, bd2_some, b2i_0, b2i_1, b2i_t, b2i_f, ↓reduceIte, if_true, if_false, Bool.true_eq_false, Bool.false_eq_true, not_true_eq_false, not_false_eq_true, true_and, and_true, false_and, and_false, true_or, or_true, false_or, or_false, decide_true, decide_false, Bool.true_and, Bool.false_and, Bool.and_true, Bool.and_false, and_self, Nat.le_refl, Nat.lt_irrefl, ite_self, i10, i01, Option.some.injEq, tp_spread_eq r w eo hi, mo_andBeside_eq hi]
        by_cases c : sprN (V 78) i.1 16 = i.1
        · refine Or.inl ?_
          simp (disch := first | omega | decide) only [nI_lel, nI_ltl, nI_ler, nI_ltr, nI_addl, nI_addr, nI_eqN, nI_leN, nI_ltN, Nat.zero_add, Option.bind_some, Option.bind_none, Option.map_some, bd2_some, b2i_0, b2i_1, b2i_t, b2i_f, ↓reduceIte, if_true, if_false, Bool.true_eq_false, Bool.false_eq_true, not_true_eq_false, not_false_eq_true, true_and, and_true, false_and, and_false, true_or, or_true, false_or, or_false, decide_true, decide_false, Bool.true_and, Bool.false_and, Bool.and_true, Bool.and_false, and_self, Nat.le_refl, Nat.lt_irrefl, ite_self, i10, i01, Option.some.injEq, c]
          split
          · exact ⟨_, rfl⟩
          · exact ⟨_, rfl⟩
        · refine Or.inr ⟨(sprN (V 78) i.1 16, i.2 + 1), ?_, ?_, hl, ?_⟩
          · simp (disch := first | omega | decide) only [nI_lel, nI_ltl, nI_ler, nI_ltr, nI_addl, nI_addr, nI_eqN, nI_leN, nI_ltN, Nat.zero_add, Option.bind_some, Option.bind_none, Option.map_some, bd2_some, b2i_0, b2i_1, b2i_t, b2i_f, ↓reduceIte, if_true, if_false, Bool.true_eq_false, Bool.false_eq_true, not_true_eq_false, not_false_eq_true, true_and, and_true, false_and, and_false, true_or, or_true, false_or, or_false, decide_true, decide_false, Bool.true_and, Bool.false_and, Bool.and_true, Bool.and_false, and_self, Nat.le_refl, Nat.lt_irrefl, ite_self, i10, i01, Option.some.injEq, c]
          · simp (disch := first | omega | decide) only [nI_lel, nI_ltl, nI_ler, nI_ltr, nI_addl, nI_addr, nI_eqN, nI_leN, nI_ltN, Nat.zero_add, Option.bind_some, Option.bind_none, Option.map_some, bd2_some, b2i_0, b2i_1, b2i_t, b2i_f, ↓reduceIte, if_true, if_false, Bool.true_eq_false, Bool.false_eq_true, not_true_eq_false, not_false_eq_true, true_and, and_true, false_and, and_false, true_or, or_true, false_or, or_false, decide_true, decide_false, Bool.true_and, Bool.false_and, Bool.and_true, Bool.and_false, and_self, Nat.le_refl, Nat.lt_irrefl, ite_self, i10, i01, Option.some.injEq, c]
          · show 65536 - sprN (V 78) i.1 16 < 65536 - i.1
            omega) 65536 (setN P 16, 0) (by show 65536 - setN P 16 ≤ 65536; omega) (setN16 P)
      exact ⟨v, g1, g2⟩
    · rw [Bool.not_eq_true] at h2
      simp (disch := first | omega | decide) only [nI_lel, nI_ltl, nI_ler, nI_ltr, nI_addl, nI_addr, nI_eqN, nI_leN, nI_ltN, Nat.zero_add, Option.bind_some, Option.bind_none, Option.map_some, bd2_some, b2i_0, b2i_1, b2i_t, b2i_f, ↓reduceIte, if_true, if_false, Bool.true_eq_false, Bool.false_eq_true, not_true_eq_false, not_false_eq_true, true_and, and_true, false_and, and_false, true_or, or_true, false_or, or_false, decide_true, decide_false, Bool.true_and, Bool.false_and, Bool.and_true, Bool.and_false, and_self, Nat.le_refl, Nat.lt_irrefl, ite_self, i10, i01, Option.some.injEq, h1, h2]
      exact ⟨_, rfl⟩
  · rw [Bool.not_eq_true] at h1
    simp (disch := first | omega | decide) only [nI_lel, nI_ltl, nI_ler, nI_ltr, nI_addl, nI_addr, nI_eqN, nI_leN, nI_ltN, Nat.zero_add, Option.bind_some, Option.bind_none, Option.map_some, bd2_some, b2i_0, b2i_1, b2i_t, b2i_f, ↓reduceIte, if_true, if_false, Bool.true_eq_false, Bool.false_eq_true, not_true_eq_false, not_false_eq_true, true_and, and_true, false_and, and_false, true_or, or_true, false_or, or_false, decide_true, decide_false, Bool.true_and, Bool.false_and, Bool.and_true, Bool.and_false, and_self, Nat.le_refl, Nat.lt_irrefl, ite_self, i10, i01, Option.some.injEq, h1]
    exact ⟨_, rfl⟩
/-- a circle: the least set with p that is closed -/
def Circ (f : Nat → Int32) (p c : Nat) : Prop := c < 65536 ∧ c.testBit p = true ∧ (∀ a b, a < 16 → b < 16 → c.testBit a = true → besB f a b = true → c.testBit b = true) ∧ ∀ D : Nat → Prop, D p → (∀ a b, a < 16 → b < 16 → D a → besB f a b = true → D b) → ∀ q, q < 16 → c.testBit q = true → D q
theorem circleOf_q (r : YR 9 (V 78) V) (w : WF (V 78)) (eo : EO E) {p : Nat} (hp : p < 16) : ∃ c, tp_circleOf (some 7) (nI p) (mkH E V) = some (nI c) ∧ mo_circleOf (some 77) (nI p) (mkH E V) = some (nI c) ∧ Circ (V 78) p c := by
  unfold tp_circleOf tp_circleOf_0 tp_circleOf_L4 mo_circleOf mo_circleOf_0 mo_circleOf_L4
  rw [grd_t isC_7, grd_t isC_77, show (1 : Int32) <<< (nI p &&& 31) = bitF p from rfl, nx_bitF (by omega)]
  have h2p : 2 ^ p < 65536 := by
    have := Nat.pow_lt_pow_right (a := 2) (by decide) hp
    omega
  obtain ⟨v, g1, g2, c, g3, g4⟩ := iter_pair (B := fun s : Int32 => tp_circleOf_b4 (some 7) s (mkH E V)) (C := fun s : Int32 => mo_circleOf_b4 (some 77) s (mkH E V)) nI nI (fun i => 65536 - i) (fun s => s < 65536 ∧ s.testBit p = true ∧ ∀ D : Nat → Prop, D p → (∀ a b, a < 16 → b < 16 → D a → besB (V 78) a b = true → D b) → ∀ q, q < 16 → s.testBit q = true → D q) (fun v => ∃ c, v = nI c ∧ Circ (V 78) p c) (fun i ⟨hi, hb, hm⟩ => by
    unfold tp_circleOf_b4 mo_circleOf_b4
    have hl := sprN_lt (f := V 78) hi 16
    have hge := sprN_ge (V 78) i 16
    simp (disch := first | omega | decide) only [nI_lel, nI_ltl, nI_ler, nI_ltr, nI_addl, nI_addr, nI_eqN, nI_leN, nI_ltN, Nat.zero_add, Option.bind_some, Option.bind_none, Option.map_some, bd2_some, b2i_0, b2i_1, b2i_t, b2i_f, ↓reduceIte, if_true, if_false, Bool.true_eq_false, Bool.false_eq_true, not_true_eq_false, not_false_eq_true, true_and, and_true, false_and, and_false, true_or, or_true, false_or, or_false, decide_true, decide_false, Bool.true_and, Bool.false_and, Bool.and_true, Bool.and_false, and_self, Nat.le_refl, Nat.lt_irrefl, ite_self, i10, i01, Option.some.injEq, tp_spread_eq r w eo hi, mo_andBeside_eq hi]
    by_cases c : sprN (V 78) i 16 = i
    · refine Or.inl ⟨nI i, ?_, ?_, i, rfl, hi, hb, ?_, hm⟩
      · simp (disch := first | omega | decide) only [nI_lel, nI_ltl, nI_ler, nI_ltr, nI_addl, nI_addr, nI_eqN, nI_leN, nI_ltN, Nat.zero_add, Option.bind_some, Option.bind_none, Option.map_some, bd2_some, b2i_0, b2i_1, b2i_t, b2i_f, ↓reduceIte, if_true, if_false, Bool.true_eq_false, Bool.false_eq_true, not_true_eq_false, not_false_eq_true, true_and, and_true, false_and, and_false, true_or, or_true, false_or, or_false, decide_true, decide_false, Bool.true_and, Bool.false_and, Bool.and_true, Bool.and_false, and_self, Nat.le_refl, Nat.lt_irrefl, ite_self, i10, i01, Option.some.injEq, c]
      · simp (disch := first | omega | decide) only [nI_lel, nI_ltl, nI_ler, nI_ltr, nI_addl, nI_addr, nI_eqN, nI_leN, nI_ltN, Nat.zero_add, Option.bind_some, Option.bind_none, Option.map_some, bd2_some, b2i_0, b2i_1, b2i_t, b2i_f, ↓reduceIte, if_true, if_false, Bool.true_eq_false, Bool.false_eq_true, not_true_eq_false, not_false_eq_true, true_and, and_true, false_and, and_false, true_or, or_true, false_or, or_false, decide_true, decide_false, Bool.true_and, Bool.false_and, Bool.and_true, Bool.and_false, and_self, Nat.le_refl, Nat.lt_irrefl, ite_self, i10, i01, Option.some.injEq, c]
      · intro a b ha hb' h1 h2
        have := (sprN_tb (f := V 78) (s := i) hb' 16).mpr (Or.inr ⟨a, ha, h1, h2⟩)
        rw [c] at this
        exact this
    · refine Or.inr ⟨sprN (V 78) i 16, ?_, ?_, ⟨hl, ?_, ?_⟩, ?_⟩
      · simp (disch := first | omega | decide) only [nI_lel, nI_ltl, nI_ler, nI_ltr, nI_addl, nI_addr, nI_eqN, nI_leN, nI_ltN, Nat.zero_add, Option.bind_some, Option.bind_none, Option.map_some, bd2_some, b2i_0, b2i_1, b2i_t, b2i_f, ↓reduceIte, if_true, if_false, Bool.true_eq_false, Bool.false_eq_true, not_true_eq_false, not_false_eq_true, true_and, and_true, false_and, and_false, true_or, or_true, false_or, or_false, decide_true, decide_false, Bool.true_and, Bool.false_and, Bool.and_true, Bool.and_false, and_self, Nat.le_refl, Nat.lt_irrefl, ite_self, i10, i01, Option.some.injEq, c]
      · simp (disch := first | omega | decide) only [nI_lel, nI_ltl, nI_ler, nI_ltr, nI_addl, nI_addr, nI_eqN, nI_leN, nI_ltN, Nat.zero_add, Option.bind_some, Option.bind_none, Option.map_some, bd2_some, b2i_0, b2i_1, b2i_t, b2i_f, ↓reduceIte, if_true, if_false, Bool.true_eq_false, Bool.false_eq_true, not_true_eq_false, not_false_eq_true, true_and, and_true, false_and, and_false, true_or, or_true, false_or, or_false, decide_true, decide_false, Bool.true_and, Bool.false_and, Bool.and_true, Bool.and_false, and_self, Nat.le_refl, Nat.lt_irrefl, ite_self, i10, i01, Option.some.injEq, c]
      · exact (sprN_tb hp 16).mpr (Or.inl hb)
      · intro D d1 d2 q hq h1
        rcases (sprN_tb hq 16).mp h1 with h1 | ⟨a, ha, h3, h4⟩
        · exact hm D d1 d2 q hq h1
        · exact d2 a q ha hq (hm D d1 d2 a ha h3) h4
      · show 65536 - sprN (V 78) i 16 < 65536 - i
        omega) 65536 (2 ^ p) (Nat.sub_le _ _) ⟨h2p, by simp, fun D d1 d2 q hq h1 => by
      rw [Nat.testBit_two_pow] at h1
      have := of_decide_eq_true h1
      subst this
      exact d1⟩
  subst g3
  exact ⟨c, g1, g2, g4⟩
theorem from_q (rw0 : Rw V) (eo : EO E) (p to : Int32) : ∃ v, tp_from (some 7) p to (mkH E V) = some v ∧ mo_from (some 77) p to (mkH E V) = some v := by
  obtain ⟨w, r⟩ := rw0
  unfold tp_from tp_from_0 mo_from mo_from_0
  simp (disch := first | omega | decide) only [nI_lel, nI_ltl, nI_ler, nI_ltr, nI_addl, nI_addr, nI_eqN, nI_leN, nI_ltN, Nat.zero_add, Option.bind_some, Option.bind_none, Option.map_some, bd2_some, b2i_0, b2i_1, b2i_t, b2i_f, ↓reduceIte, if_true, if_false, Bool.true_eq_false, Bool.false_eq_true, not_true_eq_false, not_false_eq_true, true_and, and_true, false_and, and_false, true_or, or_true, false_or, or_false, decide_true, decide_false, Bool.true_and, Bool.false_and, Bool.and_true, Bool.and_false, and_self, Nat.le_refl, Nat.lt_irrefl, ite_self, i10, i01, Option.some.injEq, grd_t isC_7, grd_t isC_77, tp_isTold_g r w, mo_isTold_g]
  by_cases h1 : tldB (V 78) p = false
  · simp (disch := first | omega | decide) only [nI_lel, nI_ltl, nI_ler, nI_ltr, nI_addl, nI_addr, nI_eqN, nI_leN, nI_ltN, Nat.zero_add, Option.bind_some, Option.bind_none, Option.map_some, bd2_some, b2i_0, b2i_1, b2i_t, b2i_f, ↓reduceIte, if_true, if_false, Bool.true_eq_false, Bool.false_eq_true, not_true_eq_false, not_false_eq_true, true_and, and_true, false_and, and_false, true_or, or_true, false_or, or_false, decide_true, decide_false, Bool.true_and, Bool.false_and, Bool.and_true, Bool.and_false, and_self, Nat.le_refl, Nat.lt_irrefl, ite_self, i10, i01, Option.some.injEq, h1]
    exact ⟨_, rfl⟩
  · by_cases h2 : tldB (V 78) to = false
    · simp (disch := first | omega | decide) only [nI_lel, nI_ltl, nI_ler, nI_ltr, nI_addl, nI_addr, nI_eqN, nI_leN, nI_ltN, Nat.zero_add, Option.bind_some, Option.bind_none, Option.map_some, bd2_some, b2i_0, b2i_1, b2i_t, b2i_f, ↓reduceIte, if_true, if_false, Bool.true_eq_false, Bool.false_eq_true, not_true_eq_false, not_false_eq_true, true_and, and_true, false_and, and_false, true_or, or_true, false_or, or_false, decide_true, decide_false, Bool.true_and, Bool.false_and, Bool.and_true, Bool.and_false, and_self, Nat.le_refl, Nat.lt_irrefl, ite_self, i10, i01, Option.some.injEq, h1, h2]
      exact ⟨_, rfl⟩
    · simp (disch := first | omega | decide) only [nI_lel, nI_ltl, nI_ler, nI_ltr, nI_addl, nI_addr, nI_eqN, nI_leN, nI_ltN, Nat.zero_add, Option.bind_some, Option.bind_none, Option.map_some, bd2_some, b2i_0, b2i_1, b2i_t, b2i_f, ↓reduceIte, if_true, if_false, Bool.true_eq_false, Bool.false_eq_true, not_true_eq_false, not_false_eq_true, true_and, and_true, false_and, and_false, true_or, or_true, false_or, or_false, decide_true, decide_false, Bool.true_and, Bool.false_and, Bool.and_true, Bool.and_false, and_self, Nat.le_refl, Nat.lt_irrefl, ite_self, i10, i01, Option.some.injEq, h1, h2]
      rw [Bool.not_eq_false] at h1 h2
      obtain ⟨a, ha, rfl, -⟩ := tldB_t h1
      obtain ⟨b, hb, rfl, -⟩ := tldB_t h2
      obtain ⟨c, c1, c2, hc1, hc2, hc3, hc4⟩ := circleOf_q r w eo ha
      simp (disch := first | omega | decide) only [nI_lel, nI_ltl, nI_ler, nI_ltr, nI_addl, nI_addr, nI_eqN, nI_leN, nI_ltN, Nat.zero_add, Option.bind_some, Option.bind_none, Option.map_some, bd2_some, b2i_0, b2i_1, b2i_t, b2i_f, ↓reduceIte, if_true, if_false, Bool.true_eq_false, Bool.false_eq_true, not_true_eq_false, not_false_eq_true, true_and, and_true, false_and, and_false, true_or, or_true, false_or, or_false, decide_true, decide_false, Bool.true_and, Bool.false_and, Bool.and_true, Bool.and_false, and_self, Nat.le_refl, Nat.lt_irrefl, ite_self, i10, i01, Option.some.injEq, x_yard, yd_people y9, people_at y9 ha, people_at y9 hb, pe_isLaid_eq y9 ha r w, pe_isLaid_eq y9 hb r w, mo_isLaid_eq ha, mo_isLaid_eq hb, c1, c2, tp_has_eq, mo_has_eq, nx_has (show c < 2 ^ 31 by omega) (show b < 32 by omega)]
      cases laidB (V 78) a
      · simp (disch := first | omega | decide) only [nI_lel, nI_ltl, nI_ler, nI_ltr, nI_addl, nI_addr, nI_eqN, nI_leN, nI_ltN, Nat.zero_add, Option.bind_some, Option.bind_none, Option.map_some, bd2_some, b2i_0, b2i_1, b2i_t, b2i_f, ↓reduceIte, if_true, if_false, Bool.true_eq_false, Bool.false_eq_true, not_true_eq_false, not_false_eq_true, true_and, and_true, false_and, and_false, true_or, or_true, false_or, or_false, decide_true, decide_false, Bool.true_and, Bool.false_and, Bool.and_true, Bool.and_false, and_self, Nat.le_refl, Nat.lt_irrefl, ite_self, i10, i01, Option.some.injEq]
        exact ⟨_, rfl⟩
      · cases laidB (V 78) b
        · simp (disch := first | omega | decide) only [nI_lel, nI_ltl, nI_ler, nI_ltr, nI_addl, nI_addr, nI_eqN, nI_leN, nI_ltN, Nat.zero_add, Option.bind_some, Option.bind_none, Option.map_some, bd2_some, b2i_0, b2i_1, b2i_t, b2i_f, ↓reduceIte, if_true, if_false, Bool.true_eq_false, Bool.false_eq_true, not_true_eq_false, not_false_eq_true, true_and, and_true, false_and, and_false, true_or, or_true, false_or, or_false, decide_true, decide_false, Bool.true_and, Bool.false_and, Bool.and_true, Bool.and_false, and_self, Nat.le_refl, Nat.lt_irrefl, ite_self, i10, i01, Option.some.injEq]
          exact ⟨_, rfl⟩
        · cases hcb : c.testBit b
          · simp (disch := first | omega | decide) only [nI_lel, nI_ltl, nI_ler, nI_ltr, nI_addl, nI_addr, nI_eqN, nI_leN, nI_ltN, Nat.zero_add, Option.bind_some, Option.bind_none, Option.map_some, bd2_some, b2i_0, b2i_1, b2i_t, b2i_f, ↓reduceIte, if_true, if_false, Bool.true_eq_false, Bool.false_eq_true, not_true_eq_false, not_false_eq_true, true_and, and_true, false_and, and_false, true_or, or_true, false_or, or_false, decide_true, decide_false, Bool.true_and, Bool.false_and, Bool.and_true, Bool.and_false, and_self, Nat.le_refl, Nat.lt_irrefl, ite_self, i10, i01, Option.some.injEq]
            exact ⟨_, rfl⟩
          · simp (disch := first | omega | decide) only [nI_lel, nI_ltl, nI_ler, nI_ltr, nI_addl, nI_addr, nI_eqN, nI_leN, nI_ltN, Nat.zero_add, Option.bind_some, Option.bind_none, Option.map_some, bd2_some, b2i_0, b2i_1, b2i_t, b2i_f, ↓reduceIte, if_true, if_false, Bool.true_eq_false, Bool.false_eq_true, not_true_eq_false, not_false_eq_true, true_and, and_true, false_and, and_false, true_or, or_true, false_or, or_false, decide_true, decide_false, Bool.true_and, Bool.false_and, Bool.and_true, Bool.and_false, and_self, Nat.le_refl, Nat.lt_irrefl, ite_self, i10, i01, Option.some.injEq]
            unfold tp_from_L70 mo_from_L56
            rw [show (1 : Int32) <<< (nI a &&& 31) = bitF a from rfl, nx_bitF (by omega)]
            have h2p : 2 ^ a < 65536 := by
              have := Nat.pow_lt_pow_right (a := 2) (by decide) ha
              omega
            obtain ⟨v, g1, g2, -⟩ := iter_pair (B := fun s : Int32 × Int32 => tp_from_b70 (some 7) (nI b) s.1 s.2 (mkH E V)) (C := fun s : Int32 × Int32 => mo_from_b56 (some 77) (nI b) s.1 s.2 (mkH E V)) (fun i : Nat × Int32 => (i.2, nI i.1)) (fun i => (nI i.1, i.2)) (fun i => 65536 - i.1) (fun i => i.1 < 65536 ∧ i.1.testBit a = true) (fun _ => True) (fun i ⟨hi, hia⟩ => by
              unfold tp_from_b70 mo_from_b56
              have hl := sprN_lt (f := V 78) hi 16
              have hge := sprN_ge (V 78) i.1 16
              simp (disch := first | omega | decide) only [nI_lel, nI_ltl, nI_ler, nI_ltr, nI_addl, nI_addr, nI_eqN, nI_leN, nI_ltN, Nat.zero_add, Option.bind_some, Option.bind_none, Option.map_some, bd2_some, b2i_0, b2i_1, b2i_t, b2i_f, ↓reduceIte, if_true, if_false, Bool.true_eq_false, Bool.false_eq_true, not_true_eq_false, not_false_eq_true, true_and, and_true, false_and, and_false, true_or, or_true, false_or, or_false, decide_true, decide_false, Bool.true_and, Bool.false_and, Bool.and_true, Bool.and_false, and_self, Nat.le_refl, Nat.lt_irrefl, ite_self, i10, i01, Option.some.injEq, tp_spread_eq r w eo hi, mo_andBeside_eq hi, tp_has_eq, mo_has_eq, nx_has (show i.1 < 2 ^ 31 by omega) (show b < 32 by omega)]
              cases hib : i.1.testBit b
              · refine Or.inr ⟨(sprN (V 78) i.1 16, i.2 + 1), ?_, ?_, ⟨hl, ?_⟩, ?_⟩
                · simp (disch := first | omega | decide) only [nI_lel, nI_ltl, nI_ler, nI_ltr, nI_addl, nI_addr, nI_eqN, nI_leN, nI_ltN, Nat.zero_add, Option.bind_some, Option.bind_none, Option.map_some, bd2_some, b2i_0, b2i_1, b2i_t, b2i_f, ↓reduceIte, if_true, if_false, Bool.true_eq_false, Bool.false_eq_true, not_true_eq_false, not_false_eq_true, true_and, and_true, false_and, and_false, true_or, or_true, false_or, or_false, decide_true, decide_false, Bool.true_and, Bool.false_and, Bool.and_true, Bool.and_false, and_self, Nat.le_refl, Nat.lt_irrefl, ite_self, i10, i01, Option.some.injEq]
                · simp (disch := first | omega | decide) only [nI_lel, nI_ltl, nI_ler, nI_ltr, nI_addl, nI_addr, nI_eqN, nI_leN, nI_ltN, Nat.zero_add, Option.bind_some, Option.bind_none, Option.map_some, bd2_some, b2i_0, b2i_1, b2i_t, b2i_f, ↓reduceIte, if_true, if_false, Bool.true_eq_false, Bool.false_eq_true, not_true_eq_false, not_false_eq_true, true_and, and_true, false_and, and_false, true_or, or_true, false_or, or_false, decide_true, decide_false, Bool.true_and, Bool.false_and, Bool.and_true, Bool.and_false, and_self, Nat.le_refl, Nat.lt_irrefl, ite_self, i10, i01, Option.some.injEq]
                · exact (sprN_tb ha 16).mpr (Or.inl hia)
                · show 65536 - sprN (V 78) i.1 16 < 65536 - i.1
                  have hne : sprN (V 78) i.1 16 ≠ i.1 := fun e => by
                    have := hc4 (fun q => i.1.testBit q = true) hia (fun x y hx hy h1 h2 => by
                      have := (sprN_tb (f := V 78) (s := i.1) hy 16).mpr (Or.inr ⟨x, hx, h1, h2⟩)
                      rw [e] at this
                      exact this) b hb hcb
                    rw [hib] at this
                    exact Bool.noConfusion this
                  omega
              · refine Or.inl ⟨i.2, ?_⟩
                simp (disch := first | omega | decide) only [nI_lel, nI_ltl, nI_ler, nI_ltr, nI_addl, nI_addr, nI_eqN, nI_leN, nI_ltN, Nat.zero_add, Option.bind_some, Option.bind_none, Option.map_some, bd2_some, b2i_0, b2i_1, b2i_t, b2i_f, ↓reduceIte, if_true, if_false, Bool.true_eq_false, Bool.false_eq_true, not_true_eq_false, not_false_eq_true, true_and, and_true, false_and, and_false, true_or, or_true, false_or, or_false, decide_true, decide_false, Bool.true_and, Bool.false_and, Bool.and_true, Bool.and_false, and_self, Nat.le_refl, Nat.lt_irrefl, ite_self, i10, i01, Option.some.injEq]) 65536 (2 ^ a, 0) (Nat.sub_le _ _) ⟨h2p, by simp⟩
            exact ⟨v, g1, g2⟩
end CI
