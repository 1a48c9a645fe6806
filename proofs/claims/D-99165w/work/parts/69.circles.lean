/-! circles -/
set_option maxRecDepth 100000
theorem circ_same {f : Nat → Int32} (w : WF f) {p q c d : Nat} (hp : p < 16) (hq : q < 16) (hc : Circ f p c) (hd : Circ f q d) (h : c.testBit q = true) : ∀ k, k < 16 → (c.testBit k = true ↔ d.testBit k = true) := by
  obtain ⟨-, c2, c3, c4⟩ := hc
  obtain ⟨-, d2, d3, d4⟩ := hd
  have h1 : ∀ k, k < 16 → d.testBit k = true → c.testBit k = true := d4 (fun k => c.testBit k = true) h c3
  have h2 : d.testBit p = true := by
    by_cases hx : d.testBit p = true
    · exact hx
    · have := c4 (fun k => c.testBit k = true ∧ ¬ d.testBit k = true) ⟨c2, hx⟩ (fun a b ha hb ⟨x1, x2⟩ hab => ⟨c3 a b ha hb x1 hab, fun x3 => x2 (d3 b a hb ha x3 (by rw [bes_sy w hb ha]; exact hab))⟩) q hq h
      exact absurd d2 this.2
  have h3 : ∀ k, k < 16 → c.testBit k = true → d.testBit k = true := c4 (fun k => d.testBit k = true) h2 d3
  exact fun k hk => ⟨h3 k hk, h1 k hk⟩
theorem circ_laid {f : Nat → Int32} {p c : Nat} (hl : laidB f p = true) (hc : Circ f p c) {q : Nat} (hq : q < 16) (h : c.testBit q = true) : laidB f q = true := by
  refine hc.2.2.2 (fun k => laidB f k = true) hl (fun a b ha hb _ h2 => ?_) q hq h
  unfold besB at h2
  simp only [Bool.and_eq_true] at h2
  exact h2.1.2
theorem nx_andn {a b : Nat} (ha : a < 65536) : nI a &&& (nI b ^^^ (-1)) = nI (a &&& (65535 ^^^ b)) := by
  apply Int32.toBitVec_inj.1
  apply BitVec.eq_of_getLsbD_eq
  intro i hi
  show ((BitVec.ofNat 32 a) &&& ((BitVec.ofNat 32 b) ^^^ (-1#32))).getLsbD i = (BitVec.ofNat 32 (a &&& (65535 ^^^ b))).getLsbD i
  rw [BitVec.getLsbD_and, BitVec.getLsbD_xor, BitVec.getLsbD_ofNat, BitVec.getLsbD_ofNat, BitVec.getLsbD_ofNat, Nat.testBit_and, Nat.testBit_xor, decide_eq_true hi]
  have e1 : (-1#32).getLsbD i = true := by
    rw [BitVec.neg_one_eq_allOnes, BitVec.getLsbD_allOnes, decide_eq_true hi]
  rw [e1]
  by_cases h16 : i < 16
  · have e2 : Nat.testBit 65535 i = true := by
      rw [show 65535 = 2 ^ 16 - 1 from rfl, Nat.testBit_two_pow_sub_one, decide_eq_true h16]
    rw [e2]
    cases a.testBit i <;> cases b.testBit i <;> rfl
  · have e3 : a.testBit i = false := Nat.testBit_lt_two_pow (Nat.lt_of_lt_of_le ha (by
      have : 2 ^ 16 ≤ 2 ^ i := Nat.pow_le_pow_right (by decide) (by omega)
      omega))
    rw [e3]; simp
theorem andn_tb {a b q : Nat} (hq : q < 16) : (a &&& (65535 ^^^ b)).testBit q = (a.testBit q && !b.testBit q) := by
  rw [Nat.testBit_and, Nat.testBit_xor, show 65535 = 2 ^ 16 - 1 from rfl, Nat.testBit_two_pow_sub_one, decide_eq_true hq]
  cases b.testBit q <;> rfl
/-- the lowest bit is p -/
theorem tz_is {c p : Nat} (h0 : 0 < c) (hc : c < 65536) : tzN c = p ↔ c.testBit p = true ∧ ∀ j, j < p → c.testBit j = false := by
  obtain ⟨-, h1, h2, h3⟩ := tz_ok h0 hc
  have hb : c.testBit (tzN c) = true := by
    rw [Nat.testBit_eq_decide_div_mod_eq, h1]; rfl
  have hl : ∀ j, j < tzN c → c.testBit j = false := fun j hj => by
    have := Nat.testBit_mod_two_pow c (tzN c) j
    rw [h2, decide_eq_true hj, Bool.true_and] at this
    rw [← this]; simp
  constructor
  · intro e; subst e; exact ⟨hb, hl⟩
  · rintro ⟨a, b⟩
    rcases Nat.lt_trichotomy (tzN c) p with h | h | h
    · rw [b _ h] at hb; exact Bool.noConfusion hb
    · exact h
    · rw [hl _ h] at a; exact Bool.noConfusion a
section CC
variable {E : EE} {V : Nat → Nat → Int32}
theorem circles_q (rw0 : Rw V) (eo : EO E) (what : Int32) : ∃ v, tp_circles (some 7) what (mkH E V) = some v ∧ mo_circles (some 77) what (mkH E V) = some v := by
  obtain ⟨w, r⟩ := rw0
  unfold tp_circles tp_circles_0 mo_circles mo_circles_0 mo_circles_16
  rw [grd_t isC_7, grd_t isC_77]
  by_cases h1 : what = 100
  · rw [if_pos h1, if_pos h1, if_pos h1]
    -- the circle of each
    have hC : ∃ C : Nat → Nat, ∀ p, p < 16 → tp_circleOf (some 7) (nI p) (mkH E V) = some (nI (C p)) ∧ mo_circleOf (some 77) (nI p) (mkH E V) = some (nI (C p)) ∧ Circ (V 78) p (C p) :=
      ⟨fun p => if hp : p < 16 then Classical.choose (circleOf_q r w eo hp) else 0, fun p hp => by
        simp only [dif_pos hp]
        exact Classical.choose_spec (circleOf_q r w eo hp)⟩
    obtain ⟨C, hC⟩ := hC
    generalize hN : (fun p => laidB (V 78) p && decide (tzN (C p) = p)) = P
    have hP : ∀ p, P p = (laidB (V 78) p && decide (tzN (C p) = p)) := fun p => by rw [← hN]
    refine ⟨nI (cnN P 16 0), ?_, ?_⟩
    · unfold tp_circles_L47
      refine iter_toR (B := fun s : Int32 × Int32 => tp_circles_b47 (some 7) s.1 s.2 (mkH E V)) (fun i => (nI (cnN P i 0), nI i)) 16 (fun i hi => ?_) (by unfold tp_circles_b47; simp (disch := first | omega | decide) only [nI_lel, nI_ltl, nI_ler, nI_ltr, nI_addl, nI_addr, nI_eqN, nI_leN, nI_ltN, Nat.zero_add, Option.bind_some, Option.bind_none, Option.map_some, bd2_some, b2i_0, b2i_1, b2i_t, b2i_f, ↓reduceIte, if_true, if_false, Bool.true_eq_false, Bool.false_eq_true, not_true_eq_false, not_false_eq_true, true_and, and_true, false_and, and_false, true_or, or_true, false_or, or_false, decide_true, decide_false, Bool.true_and, Bool.false_and, Bool.and_true, Bool.and_false, and_self, Nat.le_refl, Nat.lt_irrefl, ite_self, i10, i01, Option.some.injEq])
      obtain ⟨c1, -, c3⟩ := hC i hi
      have hpos : 0 < C i := by
        rcases Nat.eq_zero_or_pos (C i) with e | e
        · have := c3.2.1
          rw [e] at this
          simp at this
        · exact e
      have htz := (tz_ok hpos c3.1).2.2.2
      unfold tp_circles_b47
      rw [cnN_snoc, Nat.zero_add, hP]
      simp (disch := first | omega | decide) only [nI_lel, nI_ltl, nI_ler, nI_ltr, nI_addl, nI_addr, nI_eqN, nI_leN, nI_ltN, Nat.zero_add, Option.bind_some, Option.bind_none, Option.map_some, bd2_some, b2i_0, b2i_1, b2i_t, b2i_f, ↓reduceIte, if_true, if_false, Bool.true_eq_false, Bool.false_eq_true, not_true_eq_false, not_false_eq_true, true_and, and_true, false_and, and_false, true_or, or_true, false_or, or_false, decide_true, decide_false, Bool.true_and, Bool.false_and, Bool.and_true, Bool.and_false, and_self, Nat.le_refl, Nat.lt_irrefl, ite_self, i10, i01, Option.some.injEq, show ¬ 16 ≤ i by omega, x_yard, yd_people y9, people_at y9 hi, pe_isLaid_eq y9 hi r w, c1, tp_lowest_eq hpos c3.1, add_z]
      cases laidB (V 78) i
      · simp (disch := first | omega | decide) only [nI_lel, nI_ltl, nI_ler, nI_ltr, nI_addl, nI_addr, nI_eqN, nI_leN, nI_ltN, Nat.zero_add, Option.bind_some, Option.bind_none, Option.map_some, bd2_some, b2i_0, b2i_1, b2i_t, b2i_f, ↓reduceIte, if_true, if_false, Bool.true_eq_false, Bool.false_eq_true, not_true_eq_false, not_false_eq_true, true_and, and_true, false_and, and_false, true_or, or_true, false_or, or_false, decide_true, decide_false, Bool.true_and, Bool.false_and, Bool.and_true, Bool.and_false, and_self, Nat.le_refl, Nat.lt_irrefl, ite_self, i10, i01, Option.some.injEq, Nat.add_zero]
      · by_cases c : tzN (C i) = i
        · simp (disch := first | omega | decide) only [nI_lel, nI_ltl, nI_ler, nI_ltr, nI_addl, nI_addr, nI_eqN, nI_leN, nI_ltN, Nat.zero_add, Option.bind_some, Option.bind_none, Option.map_some, bd2_some, b2i_0, b2i_1, b2i_t, b2i_f, ↓reduceIte, if_true, if_false, Bool.true_eq_false, Bool.false_eq_true, not_true_eq_false, not_false_eq_true, true_and, and_true, false_and, and_false, true_or, or_true, false_or, or_false, decide_true, decide_false, Bool.true_and, Bool.false_and, Bool.and_true, Bool.and_false, and_self, Nat.le_refl, Nat.lt_irrefl, ite_self, i10, i01, Option.some.injEq, c]
        · simp (disch := first | omega | decide) only [nI_lel, nI_ltl, nI_ler, nI_ltr, nI_addl, nI_addr, nI_eqN, nI_leN, nI_ltN, Nat.zero_add, Option.bind_some, Option.bind_none, Option.map_some, bd2_some, b2i_0, b2i_1, b2i_t, b2i_f, ↓reduceIte, if_true, if_false, Bool.true_eq_false, Bool.false_eq_true, not_true_eq_false, not_false_eq_true, true_and, and_true, false_and, and_false, true_or, or_true, false_or, or_false, decide_true, decide_false, Bool.true_and, Bool.false_and, Bool.and_true, Bool.and_false, and_self, Nat.le_refl, Nat.lt_irrefl, ite_self, i10, i01, Option.some.injEq, c, Nat.add_zero]
    · simp (disch := first | omega | decide) only [nI_lel, nI_ltl, nI_ler, nI_ltr, nI_addl, nI_addr, nI_eqN, nI_leN, nI_ltN, Nat.zero_add, Option.bind_some, Option.bind_none, Option.map_some, bd2_some, b2i_0, b2i_1, b2i_t, b2i_f, ↓reduceIte, if_true, if_false, Bool.true_eq_false, Bool.false_eq_true, not_true_eq_false, not_false_eq_true, true_and, and_true, false_and, and_false, true_or, or_true, false_or, or_false, decide_true, decide_false, Bool.true_and, Bool.false_and, Bool.and_true, Bool.and_false, and_self, Nat.le_refl, Nat.lt_irrefl, ite_self, i10, i01, Option.some.injEq, mo_laidSet_eq, setF_N _ 16 (by decide)]
      unfold mo_circles_L50
      have key : ∀ d k, k + d = 16 → ∀ l, l < 65536 → (∀ q, q < 16 → (l.testBit q = true ↔ laidB (V 78) q = true ∧ ∀ p, p < k → laidB (V 78) p = true → (C p).testBit q = false)) → iter (fun s : Int32 × Int32 × Int32 => mo_circles_b50 (some 77) s.1 s.2.1 s.2.2 (mkH E V)) (nI l, nI (cnN P k 0), nI k) = some (nI (cnN P 16 0)) := by
        intro d
        induction d with
        | zero =>
          intro k hk l hl hq
          have : k = 16 := by omega
          subst this
          refine iter_r ?_
          unfold mo_circles_b50
          simp (disch := first | omega | decide) only [nI_lel, nI_ltl, nI_ler, nI_ltr, nI_addl, nI_addr, nI_eqN, nI_leN, nI_ltN, Nat.zero_add, Option.bind_some, Option.bind_none, Option.map_some, bd2_some, b2i_0, b2i_1, b2i_t, b2i_f, ↓reduceIte, if_true, if_false, Bool.true_eq_false, Bool.false_eq_true, not_true_eq_false, not_false_eq_true, true_and, and_true, false_and, and_false, true_or, or_true, false_or, or_false, decide_true, decide_false, Bool.true_and, Bool.false_and, Bool.and_true, Bool.and_false, and_self, Nat.le_refl, Nat.lt_irrefl, ite_self, i10, i01, Option.some.injEq]
        | succ d ih =>
          intro k hk l hl hq
          have hk16 : k < 16 := by omega
          obtain ⟨-, c2, c3⟩ := hC k hk16
          have hpos : 0 < C k := by
            rcases Nat.eq_zero_or_pos (C k) with e | e
            · have := c3.2.1
              rw [e] at this
              simp at this
            · exact e
          -- k is left iff it is the lowest of its circle
          have hlow : l.testBit k = true ↔ P k = true := by
            rw [hq k hk16, hP, Bool.and_eq_true, decide_eq_true_eq, tz_is hpos c3.1]
            constructor
            · rintro ⟨a, b⟩
              refine ⟨a, c3.2.1, fun j hj => ?_⟩
              cases hx : (C k).testBit j
              · rfl
              · have hlj := circ_laid a c3 (show j < 16 by omega) hx
                have := (circ_same w hk16 (show j < 16 by omega) c3 (hC j (by omega)).2.2 hx k hk16).mp c3.2.1
                rw [b j hj hlj] at this
                exact this.symm
            · rintro ⟨a, -, b⟩
              refine ⟨a, fun p hp hlp => ?_⟩
              cases hx : (C p).testBit k
              · rfl
              · have := (circ_same w (show p < 16 by omega) hk16 (hC p (by omega)).2.2 c3 hx p (by omega)).mp (hC p (by omega)).2.2.2.1
                rw [b p hp] at this
                exact this.symm
          have hcn : cnN P (k + 1) 0 = cnN P k 0 + if P k = true then 1 else 0 := by rw [cnN_snoc, Nat.zero_add]
          by_cases hb : l.testBit k = true
          · have := ih (k + 1) (by omega) (l &&& (65535 ^^^ C k)) (Nat.lt_of_le_of_lt Nat.and_le_left hl) (fun q hq' => by
              rw [andn_tb hq', Bool.and_eq_true, hq q hq', Bool.not_eq_true']
              constructor
              · rintro ⟨⟨a, b⟩, c⟩
                refine ⟨a, fun p hp hlp => ?_⟩
                by_cases e : p = k
                · subst e; exact c
                · exact b p (by omega) hlp
              · rintro ⟨a, b⟩
                exact ⟨⟨a, fun p hp hlp => b p (by omega) hlp⟩, b k (by omega) ((hq k hk16).mp hb).1⟩)
            rw [← this, hcn, if_pos (hlow.mp hb)]
            refine iter_l ?_
            unfold mo_circles_b50
            simp (disch := first | omega | decide) only [nI_lel, nI_ltl, nI_ler, nI_ltr, nI_addl, nI_addr, nI_eqN, nI_leN, nI_ltN, Nat.zero_add, Option.bind_some, Option.bind_none, Option.map_some, bd2_some, b2i_0, b2i_1, b2i_t, b2i_f, ↓reduceIte, if_true, if_false, Bool.true_eq_false, Bool.false_eq_true, not_true_eq_false, not_false_eq_true, true_and, and_true, false_and, and_false, true_or, or_true, false_or, or_false, decide_true, decide_false, Bool.true_and, Bool.false_and, Bool.and_true, Bool.and_false, and_self, Nat.le_refl, Nat.lt_irrefl, ite_self, i10, i01, Option.some.injEq, show ¬ 16 ≤ k by omega, mo_has_eq, nx_has (show l < 2 ^ 31 by omega) (show k < 32 by omega), hb, c2, nx_andn hl]
          · have := ih (k + 1) (by omega) l hl (fun q hq' => by
              rw [hq q hq']
              constructor
              · rintro ⟨a, b⟩
                refine ⟨a, fun p hp hlp => ?_⟩
                by_cases e : p = k
                · subst e
                  have hnl := fun x => hb ((hq p hk16).mpr x)
                  cases hx : (C p).testBit q
                  · rfl
                  · exfalso
                    apply hnl
                    refine ⟨hlp, fun p' hp' hlp' => ?_⟩
                    cases hy : (C p').testBit p
                    · rfl
                    · have := (circ_same w (show p' < 16 by omega) hk16 (hC p' (by omega)).2.2 c3 hy q hq').mpr hx
                      rw [b p' hp' hlp'] at this
                      exact this.symm
                · exact b p (by omega) hlp
              · rintro ⟨a, b⟩
                exact ⟨a, fun p hp hlp => b p (by omega) hlp⟩)
            rw [← this, hcn, if_neg (fun e => hb (hlow.mpr e)), Nat.add_zero]
            refine iter_l ?_
            rw [Bool.not_eq_true] at hb
            unfold mo_circles_b50
            simp (disch := first | omega | decide) only [nI_lel, nI_ltl, nI_ler, nI_ltr, nI_addl, nI_addr, nI_eqN, nI_leN, nI_ltN, Nat.zero_add, Option.bind_some, Option.bind_none, Option.map_some, bd2_some, b2i_0, b2i_1, b2i_t, b2i_f, ↓reduceIte, if_true, if_false, Bool.true_eq_false, Bool.false_eq_true, not_true_eq_false, not_false_eq_true, true_and, and_true, false_and, and_false, true_or, or_true, false_or, or_false, decide_true, decide_false, Bool.true_and, Bool.false_and, Bool.and_true, Bool.and_false, and_self, Nat.le_refl, Nat.lt_irrefl, ite_self, i10, i01, Option.some.injEq, show ¬ 16 ≤ k by omega, mo_has_eq, nx_has (show l < 2 ^ 31 by omega) (show k < 32 by omega), hb]
      exact key 16 0 rfl (setN (laidB (V 78)) 16) (setN16 _) (fun q hq => by
        rw [setN_tb, decide_eq_true hq, Bool.true_and]
        exact ⟨fun a => ⟨a, fun p hp => absurd hp (by omega)⟩, fun a => a.1⟩)
  · rw [if_neg h1, if_neg h1, if_neg h1]
    simp (disch := first | omega | decide) only [nI_lel, nI_ltl, nI_ler, nI_ltr, nI_addl, nI_addr, nI_eqN, nI_leN, nI_ltN, Nat.zero_add, Option.bind_some, Option.bind_none, Option.map_some, bd2_some, b2i_0, b2i_1, b2i_t, b2i_f, ↓reduceIte, if_true, if_false, Bool.true_eq_false, Bool.false_eq_true, not_true_eq_false, not_false_eq_true, true_and, and_true, false_and, and_false, true_or, or_true, false_or, or_false, decide_true, decide_false, Bool.true_and, Bool.false_and, Bool.and_true, Bool.and_false, and_self, Nat.le_refl, Nat.lt_irrefl, ite_self, i10, i01, Option.some.injEq, tp_isTold_g r w, mo_isTold_g]
    by_cases h2 : tldB (V 78) what = false
    · simp (disch := first | omega | decide) only [nI_lel, nI_ltl, nI_ler, nI_ltr, nI_addl, nI_addr, nI_eqN, nI_leN, nI_ltN, Nat.zero_add, Option.bind_some, Option.bind_none, Option.map_some, bd2_some, b2i_0, b2i_1, b2i_t, b2i_f, ↓reduceIte, if_true, if_false, Bool.true_eq_false, Bool.false_eq_true, not_true_eq_false, not_false_eq_true, true_and, and_true, false_and, and_false, true_or, or_true, false_or, or_false, decide_true, decide_false, Bool.true_and, Bool.false_and, Bool.and_true, Bool.and_false, and_self, Nat.le_refl, Nat.lt_irrefl, ite_self, i10, i01, Option.some.injEq, h2]
      exact ⟨_, rfl⟩
    · simp (disch := first | omega | decide) only [nI_lel, nI_ltl, nI_ler, nI_ltr, nI_addl, nI_addr, nI_eqN, nI_leN, nI_ltN, Nat.zero_add, Option.bind_some, Option.bind_none, Option.map_some, bd2_some, b2i_0, b2i_1, b2i_t, b2i_f, ↓reduceIte, if_true, if_false, Bool.true_eq_false, Bool.false_eq_true, not_true_eq_false, not_false_eq_true, true_and, and_true, false_and, and_false, true_or, or_true, false_or, or_false, decide_true, decide_false, Bool.true_and, Bool.false_and, Bool.and_true, Bool.and_false, and_self, Nat.le_refl, Nat.lt_irrefl, ite_self, i10, i01, Option.some.injEq, h2]
      rw [Bool.not_eq_false] at h2
      obtain ⟨a, ha, rfl, -⟩ := tldB_t h2
      obtain ⟨c, c1, c2, -⟩ := circleOf_q r w eo ha
      simp (disch := first | omega | decide) only [nI_lel, nI_ltl, nI_ler, nI_ltr, nI_addl, nI_addr, nI_eqN, nI_leN, nI_ltN, Nat.zero_add, Option.bind_some, Option.bind_none, Option.map_some, bd2_some, b2i_0, b2i_1, b2i_t, b2i_f, ↓reduceIte, if_true, if_false, Bool.true_eq_false, Bool.false_eq_true, not_true_eq_false, not_false_eq_true, true_and, and_true, false_and, and_false, true_or, or_true, false_or, or_false, decide_true, decide_false, Bool.true_and, Bool.false_and, Bool.and_true, Bool.and_false, and_self, Nat.le_refl, Nat.lt_irrefl, ite_self, i10, i01, Option.some.injEq, x_yard, yd_people y9, people_at y9 ha, pe_isLaid_eq y9 ha r w, mo_isLaid_eq ha, c1, c2]
      cases laidB (V 78) a
      · simp (disch := first | omega | decide) only [nI_lel, nI_ltl, nI_ler, nI_ltr, nI_addl, nI_addr, nI_eqN, nI_leN, nI_ltN, Nat.zero_add, Option.bind_some, Option.bind_none, Option.map_some, bd2_some, b2i_0, b2i_1, b2i_t, b2i_f, ↓reduceIte, if_true, if_false, Bool.true_eq_false, Bool.false_eq_true, not_true_eq_false, not_false_eq_true, true_and, and_true, false_and, and_false, true_or, or_true, false_or, or_false, decide_true, decide_false, Bool.true_and, Bool.false_and, Bool.and_true, Bool.and_false, and_self, Nat.le_refl, Nat.lt_irrefl, ite_self, i10, i01, Option.some.injEq]
        exact ⟨_, rfl⟩
      · simp (disch := first | omega | decide) only [nI_lel, nI_ltl, nI_ler, nI_ltr, nI_addl, nI_addr, nI_eqN, nI_leN, nI_ltN, Nat.zero_add, Option.bind_some, Option.bind_none, Option.map_some, bd2_some, b2i_0, b2i_1, b2i_t, b2i_f, ↓reduceIte, if_true, if_false, Bool.true_eq_false, Bool.false_eq_true, not_true_eq_false, not_false_eq_true, true_and, and_true, false_and, and_false, true_or, or_true, false_or, or_false, decide_true, decide_false, Bool.true_and, Bool.false_and, Bool.and_true, Bool.and_false, and_self, Nat.le_refl, Nat.lt_irrefl, ite_self, i10, i01, Option.some.injEq]
        exact ⟨_, rfl⟩
end CC
