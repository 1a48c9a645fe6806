/-! thread, joined -/
set_option maxRecDepth 100000
def scrA (b : Nat) : Prop := b = 8 ∨ (27 ≤ b ∧ b ≤ 44) ∨ (71 ≤ b ∧ b ≤ 76) ∨ b = 79 ∨ (82 ≤ b ∧ b ≤ 87) ∨ b = 93 ∨ b = 94 ∨ (98 ≤ b ∧ b ≤ 108)
theorem Sc.of {V V' : Nat → Nat → Int32} (h : ∀ b, ¬ scrA b → V' b = V b) : Sc V V' := ⟨fun a ha => h a (by revert ha; unfold relA scrA; omega), fun k _ => by rw [h 7 (by unfold scrA; omega)], fun k _ => by rw [h 77 (by unfold scrA; omega)]⟩
theorem Sc.lf {V V' : Nat → Nat → Int32} (h : Sc V V') : LF V V' := ⟨fun a h1 h2 => h.1 a (by unfold relA; omega), h.2.2 13 (by unfold rel77; omega)⟩
theorem LF.trans {V V1 V2 : Nat → Nat → Int32} (h : LF V V1) (h' : LF V1 V2) : LF V V2 := ⟨fun a h1 h2 => (h'.1 a h1 h2).trans (h.1 a h1 h2), h'.2.trans h.2⟩
/-- what a call leaves: the same on both sides again, the law's codes kept -/
def Ok4 (V V2 : Nat → Nat → Int32) : Prop := Rw V2 ∧ Kp V2 ∧ Tp V2 ∧ WI V2 ∧ LF V V2
theorem Ok4.sc {V V1 V2 : Nat → Nat → Int32} (h : Ok4 V V1) (s : Sc V1 V2) : Ok4 V V2 := ⟨h.1.sc s, h.2.1.sc s, h.2.2.1.sc s, h.2.2.2.1.sc s, h.2.2.2.2.trans s.lf⟩
theorem Ok4.of {V : Nat → Nat → Int32} (a : Rw V) (b : Kp V) (c : Tp V) (d : WI V) : Ok4 V V := ⟨a, b, c, d, fun _ _ _ => rfl, rfl⟩
section TT
variable {E : EE} {V : Nat → Nat → Int32}
theorem in1_n {v : Int32} {n : Nat} (hn : n < 2 ^ 31) (h : inB v 1 (nI n) = true) : ∃ k, 1 ≤ k ∧ k ≤ n ∧ v = nI k := by
  have h2 : inB v 0 (nI n) = true := by
    unfold inB at *
    simp only [Bool.and_eq_true, decide_eq_true_eq, Int32.le_iff_toInt_le, show (0 : Int32).toInt = 0 by decide, show (1 : Int32).toInt = 1 by decide] at *
    omega
  obtain ⟨k, hk, rfl⟩ := in_n hn h2
  unfold inB at h
  simp only [Bool.and_eq_true, decide_eq_true_eq] at h
  have := h.1
  rw [show (1 : Int32) = nI 1 from rfl, nI_leN (by omega) (by omega)] at this
  exact ⟨k, this, hk, rfl⟩
theorem thread_q (rw0 : Rw V) (kp : Kp V) (tp : Tp V) (wi : WI V) (n v : Int32) : ∃ w V1 V2, tp_thread (some 7) n v (mkH E V) = some (w, mkH E V1) ∧ mo_thread (some 77) n v (mkH E V1) = some (w, mkH E V2) ∧ Ok4 V V2 := by
  have tp' := tp
  obtain ⟨t, ht, t1, t2, t3⟩ := tp
  by_cases h1 : inB n 1 20 = true
  · by_cases h2 : v = 100 ∨ inB v 0 19 = true
    · obtain ⟨k, hk1, hk, rfl⟩ := in1_n (n := 20) (by decide) h1
      have hv : v = 100 ∨ ∃ q, q < 20 ∧ v = nI q := by
        rcases h2 with h2 | h2
        · exact Or.inl h2
        · obtain ⟨q, hq, e⟩ := in_n (n := 19) (by decide) h2
          exact Or.inr ⟨q, by omega, e⟩
      have ex : tp_thread (some 7) (nI k) v (mkH E V) = tp_thread_25 (some 7) (nI k) v (mkH E V) := by
        unfold tp_thread tp_thread_0
        simp (disch := first | omega | decide) only [nI_lel, nI_ltl, nI_ler, nI_ltr, nI_addl, nI_addr, nI_eqN, nI_leN, nI_ltN, Nat.zero_add, Option.bind_some, Option.bind_none, Option.map_some, bd2_some, b2i_0, b2i_1, b2i_t, b2i_f, ↓reduceIte, if_true, if_false, Bool.true_eq_false, Bool.false_eq_true, not_true_eq_false, not_false_eq_true, true_and, and_true, false_and, and_false, true_or, or_true, false_or, or_false, decide_true, decide_false, Bool.true_and, Bool.false_and, Bool.and_true, Bool.and_false, and_self, Nat.le_refl, Nat.lt_irrefl, ite_self, i10, i01, Option.some.injEq, grd_t isC_7, tp_within_eq, h1, tp_in20]
        rcases h2 with h2 | h2
        · simp (disch := first | omega | decide) only [nI_lel, nI_ltl, nI_ler, nI_ltr, nI_addl, nI_addr, nI_eqN, nI_leN, nI_ltN, Nat.zero_add, Option.bind_some, Option.bind_none, Option.map_some, bd2_some, b2i_0, b2i_1, b2i_t, b2i_f, ↓reduceIte, if_true, if_false, Bool.true_eq_false, Bool.false_eq_true, not_true_eq_false, not_false_eq_true, true_and, and_true, false_and, and_false, true_or, or_true, false_or, or_false, decide_true, decide_false, Bool.true_and, Bool.false_and, Bool.and_true, Bool.and_false, and_self, Nat.le_refl, Nat.lt_irrefl, ite_self, i10, i01, Option.some.injEq, h2]
        · simp (disch := first | omega | decide) only [nI_lel, nI_ltl, nI_ler, nI_ltr, nI_addl, nI_addr, nI_eqN, nI_leN, nI_ltN, Nat.zero_add, Option.bind_some, Option.bind_none, Option.map_some, bd2_some, b2i_0, b2i_1, b2i_t, b2i_f, ↓reduceIte, if_true, if_false, Bool.true_eq_false, Bool.false_eq_true, not_true_eq_false, not_false_eq_true, true_and, and_true, false_and, and_false, true_or, or_true, false_or, or_false, decide_true, decide_false, Bool.true_and, Bool.false_and, Bool.and_true, Bool.and_false, and_self, Nat.le_refl, Nat.lt_irrefl, ite_self, i10, i01, Option.some.injEq, h2]
      have em : ∀ W, mo_thread (some 77) (nI k) v (mkH E W) = mo_thread_26 (some 77) (nI k) v (mkH E W) := fun W => by
        unfold mo_thread mo_thread_0
        simp (disch := first | omega | decide) only [nI_lel, nI_ltl, nI_ler, nI_ltr, nI_addl, nI_addr, nI_eqN, nI_leN, nI_ltN, Nat.zero_add, Option.bind_some, Option.bind_none, Option.map_some, bd2_some, b2i_0, b2i_1, b2i_t, b2i_f, ↓reduceIte, if_true, if_false, Bool.true_eq_false, Bool.false_eq_true, not_true_eq_false, not_false_eq_true, true_and, and_true, false_and, and_false, true_or, or_true, false_or, or_false, decide_true, decide_false, Bool.true_and, Bool.false_and, Bool.and_true, Bool.and_false, and_self, Nat.le_refl, Nat.lt_irrefl, ite_self, i10, i01, Option.some.injEq, grd_t isC_77, mo_in_eq, h1]
        rcases h2 with h2 | h2
        · simp (disch := first | omega | decide) only [nI_lel, nI_ltl, nI_ler, nI_ltr, nI_addl, nI_addr, nI_eqN, nI_leN, nI_ltN, Nat.zero_add, Option.bind_some, Option.bind_none, Option.map_some, bd2_some, b2i_0, b2i_1, b2i_t, b2i_f, ↓reduceIte, if_true, if_false, Bool.true_eq_false, Bool.false_eq_true, not_true_eq_false, not_false_eq_true, true_and, and_true, false_and, and_false, true_or, or_true, false_or, or_false, decide_true, decide_false, Bool.true_and, Bool.false_and, Bool.and_true, Bool.and_false, and_self, Nat.le_refl, Nat.lt_irrefl, ite_self, i10, i01, Option.some.injEq, h2]
        · simp (disch := first | omega | decide) only [nI_lel, nI_ltl, nI_ler, nI_ltr, nI_addl, nI_addr, nI_eqN, nI_leN, nI_ltN, Nat.zero_add, Option.bind_some, Option.bind_none, Option.map_some, bd2_some, b2i_0, b2i_1, b2i_t, b2i_f, ↓reduceIte, if_true, if_false, Bool.true_eq_false, Bool.false_eq_true, not_true_eq_false, not_false_eq_true, true_and, and_true, false_and, and_false, true_or, or_true, false_or, or_false, decide_true, decide_false, Bool.true_and, Bool.false_and, Bool.and_true, Bool.and_false, and_self, Nat.le_refl, Nat.lt_irrefl, ite_self, i10, i01, Option.some.injEq, h2]
      unfold tp_thread_25 at ex
      unfold mo_thread_26 at em
      by_cases h3 : 2 * k ≤ t
      · generalize hA : sayA (sayN (V 81)) = A
        have hA1 : ∀ i j, i < 20 → j < 20 → sayA (sayN ((up1 V 7 (upd (V 7) 6 0)) 63)) i j = A i j := fun i j hi hj => by
          rw [← hA, up1_n (by decide)]
          unfold sayA sayN
          rw [t3 _ (by omega), t3 _ (by omega), t3 _ (by omega), t3 _ (by omega)]
        have e1 := tp_thread_main (E := E) (W := up1 V 7 (upd (V 7) 6 0)) hA1 hk (by omega) v hv
        have t2' : (up1 (up1 V 7 (upd (V 7) 6 0)) 75 (thA A k (V 75) k)) 77 4 = nI t := by simp (disch := first | omega | decide) only [nI_lel, nI_ltl, nI_ler, nI_ltr, nI_addl, nI_addr, nI_eqN, nI_leN, nI_ltN, Nat.zero_add, Option.bind_some, Option.bind_none, Option.map_some, bd2_some, b2i_0, b2i_1, b2i_t, b2i_f, ↓reduceIte, if_true, if_false, Bool.true_eq_false, Bool.false_eq_true, not_true_eq_false, not_false_eq_true, true_and, and_true, false_and, and_false, true_or, or_true, false_or, or_false, decide_true, decide_false, Bool.true_and, Bool.false_and, Bool.and_true, Bool.and_false, and_self, Nat.le_refl, Nat.lt_irrefl, ite_self, i10, i01, Option.some.injEq, up1_s, up1_up, ups, up1_x, upsn, t2]
        have hA2 : ∀ i j, i < 20 → j < 20 → sayA (sayN ((up1 (up1 (up1 V 7 (upd (V 7) 6 0)) 75 (thA A k (V 75) k)) 77 (upd (V 77) 4 0)) 81)) i j = A i j := fun i j hi hj => by
          rw [← hA, up1_n (by decide), up1_n (by decide), up1_n (by decide)]
        have e2 := mo_thread_main (E := E) (W := up1 (up1 (up1 V 7 (upd (V 7) 6 0)) 75 (thA A k (V 75) k)) 77 (upd (V 77) 4 0)) hA2 hk (by omega) v hv
        refine ⟨thF A k v, up1 (up1 V 7 (upd (V 7) 6 0)) 75 (thA A k (V 75) k), up1 (up1 (up1 (up1 V 7 (upd (V 7) 6 0)) 75 (thA A k (V 75) k)) 77 (upd (V 77) 4 0)) 106 (thA A k (V 106) k), ?_, ?_, (Ok4.sc (V1 := up1 (up1 V 7 (upd (V 7) 6 0)) 77 (upd (V 77) 4 0)) (t0_q rw0 kp tp' wi) (Sc.of fun b hb => ?_))⟩
        · rw [ex]
          simp (disch := first | omega | decide) only [nI_lel, nI_ltl, nI_ler, nI_ltr, nI_addl, nI_addr, nI_eqN, nI_leN, nI_ltN, Nat.zero_add, Option.bind_some, Option.bind_none, Option.map_some, bd2_some, b2i_0, b2i_1, b2i_t, b2i_f, ↓reduceIte, if_true, if_false, Bool.true_eq_false, Bool.false_eq_true, not_true_eq_false, not_false_eq_true, true_and, and_true, false_and, and_false, true_or, or_true, false_or, or_false, decide_true, decide_false, Bool.true_and, Bool.false_and, Bool.and_true, Bool.and_false, and_self, Nat.le_refl, Nat.lt_irrefl, ite_self, i10, i01, Option.some.injEq, up1_s, up1_up, ups, up1_x, upsn, x_taped, t1, two_k k (by omega), h3, sx_taped]
          rw [show nI k - 1 = dI k from rfl, e1]
          simp (disch := first | omega | decide) only [nI_lel, nI_ltl, nI_ler, nI_ltr, nI_addl, nI_addr, nI_eqN, nI_leN, nI_ltN, Nat.zero_add, Option.bind_some, Option.bind_none, Option.map_some, bd2_some, b2i_0, b2i_1, b2i_t, b2i_f, ↓reduceIte, if_true, if_false, Bool.true_eq_false, Bool.false_eq_true, not_true_eq_false, not_false_eq_true, true_and, and_true, false_and, and_false, true_or, or_true, false_or, or_false, decide_true, decide_false, Bool.true_and, Bool.false_and, Bool.and_true, Bool.and_false, and_self, Nat.le_refl, Nat.lt_irrefl, ite_self, i10, i01, Option.some.injEq, up1_s, up1_up, ups, up1_x, upsn]
        · rw [em]
          simp (disch := first | omega | decide) only [nI_lel, nI_ltl, nI_ler, nI_ltr, nI_addl, nI_addr, nI_eqN, nI_leN, nI_ltN, Nat.zero_add, Option.bind_some, Option.bind_none, Option.map_some, bd2_some, b2i_0, b2i_1, b2i_t, b2i_f, ↓reduceIte, if_true, if_false, Bool.true_eq_false, Bool.false_eq_true, not_true_eq_false, not_false_eq_true, true_and, and_true, false_and, and_false, true_or, or_true, false_or, or_false, decide_true, decide_false, Bool.true_and, Bool.false_and, Bool.and_true, Bool.and_false, and_self, Nat.le_refl, Nat.lt_irrefl, ite_self, i10, i01, Option.some.injEq, up1_s, up1_up, ups, up1_x, upsn, m_taped, t2', t2, two_k k (by omega), h3, s_taped]
          rw [show nI k - 1 = dI k from rfl]
          simp (disch := first | omega | decide) only [nI_lel, nI_ltl, nI_ler, nI_ltr, nI_addl, nI_addr, nI_eqN, nI_leN, nI_ltN, Nat.zero_add, Option.bind_some, Option.bind_none, Option.map_some, bd2_some, b2i_0, b2i_1, b2i_t, b2i_f, ↓reduceIte, if_true, if_false, Bool.true_eq_false, Bool.false_eq_true, not_true_eq_false, not_false_eq_true, true_and, and_true, false_and, and_false, true_or, or_true, false_or, or_false, decide_true, decide_false, Bool.true_and, Bool.false_and, Bool.and_true, Bool.and_false, and_self, Nat.le_refl, Nat.lt_irrefl, ite_self, i10, i01, Option.some.injEq, up1_s, up1_up, ups, up1_x, upsn] at e2
          exact e2
        · revert hb
          unfold scrA
          intro hb
          have n1 : b ≠ 106 := by omega
          have n2 : b ≠ 75 := by omega
          rw [up1_n n1]
          by_cases c : b = 77
          · subst c; rw [up1_s, up1_s]
          · rw [up1_n c, up1_n n2, up1_n c]
      · refine ⟨-1, V, V, ?_, ?_, Ok4.of rw0 kp tp' wi⟩
        · rw [ex]
          simp (disch := first | omega | decide) only [nI_lel, nI_ltl, nI_ler, nI_ltr, nI_addl, nI_addr, nI_eqN, nI_leN, nI_ltN, Nat.zero_add, Option.bind_some, Option.bind_none, Option.map_some, bd2_some, b2i_0, b2i_1, b2i_t, b2i_f, ↓reduceIte, if_true, if_false, Bool.true_eq_false, Bool.false_eq_true, not_true_eq_false, not_false_eq_true, true_and, and_true, false_and, and_false, true_or, or_true, false_or, or_false, decide_true, decide_false, Bool.true_and, Bool.false_and, Bool.and_true, Bool.and_false, and_self, Nat.le_refl, Nat.lt_irrefl, ite_self, i10, i01, Option.some.injEq, x_taped, t1, two_k k (by omega), h3]
        · rw [em]
          simp (disch := first | omega | decide) only [nI_lel, nI_ltl, nI_ler, nI_ltr, nI_addl, nI_addr, nI_eqN, nI_leN, nI_ltN, Nat.zero_add, Option.bind_some, Option.bind_none, Option.map_some, bd2_some, b2i_0, b2i_1, b2i_t, b2i_f, ↓reduceIte, if_true, if_false, Bool.true_eq_false, Bool.false_eq_true, not_true_eq_false, not_false_eq_true, true_and, and_true, false_and, and_false, true_or, or_true, false_or, or_false, decide_true, decide_false, Bool.true_and, Bool.false_and, Bool.and_true, Bool.and_false, and_self, Nat.le_refl, Nat.lt_irrefl, ite_self, i10, i01, Option.some.injEq, m_taped, t2, two_k k (by omega), h3]
    · rw [not_or] at h2
      have h2' : inB v 0 19 = false := by rw [← Bool.not_eq_true]; exact h2.2
      refine ⟨-1, V, V, ?_, ?_, Ok4.of rw0 kp tp' wi⟩
      · unfold tp_thread tp_thread_0
        simp (disch := first | omega | decide) only [nI_lel, nI_ltl, nI_ler, nI_ltr, nI_addl, nI_addr, nI_eqN, nI_leN, nI_ltN, Nat.zero_add, Option.bind_some, Option.bind_none, Option.map_some, bd2_some, b2i_0, b2i_1, b2i_t, b2i_f, ↓reduceIte, if_true, if_false, Bool.true_eq_false, Bool.false_eq_true, not_true_eq_false, not_false_eq_true, true_and, and_true, false_and, and_false, true_or, or_true, false_or, or_false, decide_true, decide_false, Bool.true_and, Bool.false_and, Bool.and_true, Bool.and_false, and_self, Nat.le_refl, Nat.lt_irrefl, ite_self, i10, i01, Option.some.injEq, grd_t isC_7, tp_within_eq, h1, tp_in20, h2.1, h2']
      · unfold mo_thread mo_thread_0
        simp (disch := first | omega | decide) only [nI_lel, nI_ltl, nI_ler, nI_ltr, nI_addl, nI_addr, nI_eqN, nI_leN, nI_ltN, Nat.zero_add, Option.bind_some, Option.bind_none, Option.map_some, bd2_some, b2i_0, b2i_1, b2i_t, b2i_f, ↓reduceIte, if_true, if_false, Bool.true_eq_false, Bool.false_eq_true, not_true_eq_false, not_false_eq_true, true_and, and_true, false_and, and_false, true_or, or_true, false_or, or_false, decide_true, decide_false, Bool.true_and, Bool.false_and, Bool.and_true, Bool.and_false, and_self, Nat.le_refl, Nat.lt_irrefl, ite_self, i10, i01, Option.some.injEq, grd_t isC_77, mo_in_eq, h1, h2.1, h2']
  · rw [Bool.not_eq_true] at h1
    refine ⟨-1, V, V, ?_, ?_, Ok4.of rw0 kp tp' wi⟩
    · unfold tp_thread tp_thread_0
      simp (disch := first | omega | decide) only [nI_lel, nI_ltl, nI_ler, nI_ltr, nI_addl, nI_addr, nI_eqN, nI_leN, nI_ltN, Nat.zero_add, Option.bind_some, Option.bind_none, Option.map_some, bd2_some, b2i_0, b2i_1, b2i_t, b2i_f, ↓reduceIte, if_true, if_false, Bool.true_eq_false, Bool.false_eq_true, not_true_eq_false, not_false_eq_true, true_and, and_true, false_and, and_false, true_or, or_true, false_or, or_false, decide_true, decide_false, Bool.true_and, Bool.false_and, Bool.and_true, Bool.and_false, and_self, Nat.le_refl, Nat.lt_irrefl, ite_self, i10, i01, Option.some.injEq, grd_t isC_7, tp_within_eq, h1]
    · unfold mo_thread mo_thread_0
      simp (disch := first | omega | decide) only [nI_lel, nI_ltl, nI_ler, nI_ltr, nI_addl, nI_addr, nI_eqN, nI_leN, nI_ltN, Nat.zero_add, Option.bind_some, Option.bind_none, Option.map_some, bd2_some, b2i_0, b2i_1, b2i_t, b2i_f, ↓reduceIte, if_true, if_false, Bool.true_eq_false, Bool.false_eq_true, not_true_eq_false, not_false_eq_true, true_and, and_true, false_and, and_false, true_or, or_true, false_or, or_false, decide_true, decide_false, Bool.true_and, Bool.false_and, Bool.and_true, Bool.and_false, and_self, Nat.le_refl, Nat.lt_irrefl, ite_self, i10, i01, Option.some.injEq, grd_t isC_77, mo_in_eq, h1]
end TT
