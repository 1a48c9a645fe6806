/-! move, count, hold, good, yardTalk -/
set_option maxRecDepth 100000
def mvI (f : Nat → Int32) (p : Nat) (s0 : Int32 × Int32 × Int32) : Nat → Int32 × Int32 × Int32 := rep (fun k s => if whoF f (nI k) = -2 ∧ s.2.2 < takF f p (nI k) 16 - takF f p (f (48 + p)) 16 then (nI p, nI k, takF f p (nI k) 16 - takF f p (f (48 + p)) 16) else s) s0
def mvF (f : Nat → Int32) : Nat → Int32 × Int32 × Int32 := rep (fun p s => if laidB f p = true then mvI f p s 60 else s) (-2, -2, 0)
def mvP (s : Int32 × Int32 × Int32) : Prop := s = (-2, -2, 0) ∨ ∃ p k, p < 16 ∧ k < 60 ∧ s.1 = nI p ∧ s.2.1 = nI k ∧ 0 < s.2.2
theorem lt_tr {a b c : Int32} (h1 : a < b) (h2 : b < c) : a < c := by
  rw [Int32.lt_iff_toInt_lt] at *; omega
theorem mvI_ok {f : Nat → Int32} {p : Nat} (hp : p < 16) {s0 : Int32 × Int32 × Int32} (h0 : mvP s0) : ∀ n, n ≤ 60 → mvP (mvI f p s0 n)
  | 0, _ => h0
  | n + 1, hn => by
    have h := mvI_ok (f := f) hp h0 n (by omega)
    rw [show mvI f p s0 (n + 1) = if whoF f (nI n) = -2 ∧ (mvI f p s0 n).2.2 < takF f p (nI n) 16 - takF f p (f (48 + p)) 16 then (nI p, nI n, takF f p (nI n) 16 - takF f p (f (48 + p)) 16) else mvI f p s0 n from rfl]
    split
    · rename_i hc
      refine Or.inr ⟨p, n, hp, by omega, rfl, rfl, ?_⟩
      rcases h with e | ⟨_, _, _, _, _, _, hpos⟩
      · rw [e] at hc; exact hc.2
      · exact lt_tr hpos hc.2
    · exact h
theorem mvF_ok (f : Nat → Int32) : ∀ n, n ≤ 16 → mvP (mvF f n)
  | 0, _ => Or.inl rfl
  | n + 1, hn => by
    have h := mvF_ok f n (by omega)
    rw [show mvF f (n + 1) = if laidB f n = true then mvI f n (mvF f n) 60 else mvF f n from rfl]
    split
    · exact mvI_ok (by omega) h 60 (by omega)
    · exact h
def movF (f : Nat → Int32) (what : Int32) : Int32 := if inB what 0 2 = false then -1 else if (mvF f 16).1 = -2 then -2 else if what = 0 then (mvF f 16).1 else if what = 1 then (mvF f 16).2.1 else (mvF f 16).2.2
section RM
variable {E : EE} {V : Nat → Nat → Int32} {f : Nat → Int32} {h : PH}
theorem mo_move_q (what : Int32) : mo_move (some 77) what (mkH E V) = some (movF (V 78) what) := by
  unfold mo_move mo_move_0 movF
  simp (disch := first | omega | decide) only [nI_lel, nI_ltl, nI_ler, nI_ltr, nI_addl, nI_addr, nI_eqN, nI_leN, nI_ltN, Nat.zero_add, Option.bind_some, Option.bind_none, Option.map_some, bd2_some, b2i_0, b2i_1, b2i_t, b2i_f, ↓reduceIte, if_true, if_false, Bool.true_eq_false, Bool.false_eq_true, not_true_eq_false, not_false_eq_true, true_and, and_true, false_and, and_false, true_or, or_true, false_or, or_false, decide_true, decide_false, Bool.true_and, Bool.false_and, Bool.and_true, Bool.and_false, and_self, Nat.le_refl, Nat.lt_irrefl, ite_self, i10, i01, Option.some.injEq, grd_t isC_77, mo_in_eq]
  by_cases h2 : inB what 0 2 = false
  · simp (disch := first | omega | decide) only [nI_lel, nI_ltl, nI_ler, nI_ltr, nI_addl, nI_addr, nI_eqN, nI_leN, nI_ltN, Nat.zero_add, Option.bind_some, Option.bind_none, Option.map_some, bd2_some, b2i_0, b2i_1, b2i_t, b2i_f, ↓reduceIte, if_true, if_false, Bool.true_eq_false, Bool.false_eq_true, not_true_eq_false, not_false_eq_true, true_and, and_true, false_and, and_false, true_or, or_true, false_or, or_false, decide_true, decide_false, Bool.true_and, Bool.false_and, Bool.and_true, Bool.and_false, and_self, Nat.le_refl, Nat.lt_irrefl, ite_self, i10, i01, Option.some.injEq, h2]
  · simp (disch := first | omega | decide) only [nI_lel, nI_ltl, nI_ler, nI_ltr, nI_addl, nI_addr, nI_eqN, nI_leN, nI_ltN, Nat.zero_add, Option.bind_some, Option.bind_none, Option.map_some, bd2_some, b2i_0, b2i_1, b2i_t, b2i_f, ↓reduceIte, if_true, if_false, Bool.true_eq_false, Bool.false_eq_true, not_true_eq_false, not_false_eq_true, true_and, and_true, false_and, and_false, true_or, or_true, false_or, or_false, decide_true, decide_false, Bool.true_and, Bool.false_and, Bool.and_true, Bool.and_false, and_self, Nat.le_refl, Nat.lt_irrefl, ite_self, i10, i01, Option.some.injEq, h2]
    unfold mo_move_L23
    refine iter_toR (fun i => ((mvF (V 78) i).1, (mvF (V 78) i).2.1, (mvF (V 78) i).2.2, nI i)) 16 (fun i hi => ?_) (by
      unfold mo_move_b23
      simp (disch := first | omega | decide) only [nI_lel, nI_ltl, nI_ler, nI_ltr, nI_addl, nI_addr, nI_eqN, nI_leN, nI_ltN, Nat.zero_add, Option.bind_some, Option.bind_none, Option.map_some, bd2_some, b2i_0, b2i_1, b2i_t, b2i_f, ↓reduceIte, if_true, if_false, Bool.true_eq_false, Bool.false_eq_true, not_true_eq_false, not_false_eq_true, true_and, and_true, false_and, and_false, true_or, or_true, false_or, or_false, decide_true, decide_false, Bool.true_and, Bool.false_and, Bool.and_true, Bool.and_false, and_self, Nat.le_refl, Nat.lt_irrefl, ite_self, i10, i01, Option.some.injEq]
      repeat' split
      all_goals rfl)
    have hn : ¬ 16 ≤ i := by omega
    unfold mo_move_b23
    rw [show mvF (V 78) (i + 1) = if laidB (V 78) i = true then mvI (V 78) i (mvF (V 78) i) 60 else mvF (V 78) i from rfl]
    generalize mvF (V 78) i = s
    simp (disch := first | omega | decide) only [nI_lel, nI_ltl, nI_ler, nI_ltr, nI_addl, nI_addr, nI_eqN, nI_leN, nI_ltN, Nat.zero_add, Option.bind_some, Option.bind_none, Option.map_some, bd2_some, b2i_0, b2i_1, b2i_t, b2i_f, ↓reduceIte, if_true, if_false, Bool.true_eq_false, Bool.false_eq_true, not_true_eq_false, not_false_eq_true, true_and, and_true, false_and, and_false, true_or, or_true, false_or, or_false, decide_true, decide_false, Bool.true_and, Bool.false_and, Bool.and_true, Bool.and_false, and_self, Nat.le_refl, Nat.lt_irrefl, ite_self, i10, i01, Option.some.injEq, hn]
    unfold mo_move_L33
    by_cases h1 : laidB (V 78) i = true
    · simp (disch := first | omega | decide) only [nI_lel, nI_ltl, nI_ler, nI_ltr, nI_addl, nI_addr, nI_eqN, nI_leN, nI_ltN, Nat.zero_add, Option.bind_some, Option.bind_none, Option.map_some, bd2_some, b2i_0, b2i_1, b2i_t, b2i_f, ↓reduceIte, if_true, if_false, Bool.true_eq_false, Bool.false_eq_true, not_true_eq_false, not_false_eq_true, true_and, and_true, false_and, and_false, true_or, or_true, false_or, or_false, decide_true, decide_false, Bool.true_and, Bool.false_and, Bool.and_true, Bool.and_false, and_self, Nat.le_refl, Nat.lt_irrefl, ite_self, i10, i01, Option.some.injEq, h1]
      refine iter_toR (fun k => ((mvI (V 78) i s k).1, (mvI (V 78) i s k).2.1, (mvI (V 78) i s k).2.2, nI k)) 60 (fun k hk => ?_) (by
        unfold mo_move_b33
        simp (disch := first | omega | decide) only [nI_lel, nI_ltl, nI_ler, nI_ltr, nI_addl, nI_addr, nI_eqN, nI_leN, nI_ltN, Nat.zero_add, Option.bind_some, Option.bind_none, Option.map_some, bd2_some, b2i_0, b2i_1, b2i_t, b2i_f, ↓reduceIte, if_true, if_false, Bool.true_eq_false, Bool.false_eq_true, not_true_eq_false, not_false_eq_true, true_and, and_true, false_and, and_false, true_or, or_true, false_or, or_false, decide_true, decide_false, Bool.true_and, Bool.false_and, Bool.and_true, Bool.and_false, and_self, Nat.le_refl, Nat.lt_irrefl, ite_self, i10, i01, Option.some.injEq])
      have hn : ¬ 60 ≤ k := by omega
      unfold mo_move_b33
      rw [show mvI (V 78) i s (k + 1) = if whoF (V 78) (nI k) = -2 ∧ (mvI (V 78) i s k).2.2 < takF (V 78) i (nI k) 16 - takF (V 78) i (V 78 (48 + i)) 16 then (nI i, nI k, takF (V 78) i (nI k) 16 - takF (V 78) i (V 78 (48 + i)) 16) else mvI (V 78) i s k from rfl]
      generalize mvI (V 78) i s k = t
      simp (disch := first | omega | decide) only [nI_lel, nI_ltl, nI_ler, nI_ltr, nI_addl, nI_addr, nI_eqN, nI_leN, nI_ltN, Nat.zero_add, Option.bind_some, Option.bind_none, Option.map_some, bd2_some, b2i_0, b2i_1, b2i_t, b2i_f, ↓reduceIte, if_true, if_false, Bool.true_eq_false, Bool.false_eq_true, not_true_eq_false, not_false_eq_true, true_and, and_true, false_and, and_false, true_or, or_true, false_or, or_false, decide_true, decide_false, Bool.true_and, Bool.false_and, Bool.and_true, Bool.and_false, and_self, Nat.le_refl, Nat.lt_irrefl, ite_self, i10, i01, Option.some.injEq, hn, mo_isLaid_eq hi, h1, mo_whoLies_eq, mo_talkAt_eq hi, m_now, ald_78]
      by_cases c1 : whoF (V 78) (nI k) = -2
      · by_cases c2 : t.2.2 < takF (V 78) i (nI k) 16 - takF (V 78) i (V 78 (48 + i)) 16 <;> simp (disch := first | omega | decide) only [nI_lel, nI_ltl, nI_ler, nI_ltr, nI_addl, nI_addr, nI_eqN, nI_leN, nI_ltN, Nat.zero_add, Option.bind_some, Option.bind_none, Option.map_some, bd2_some, b2i_0, b2i_1, b2i_t, b2i_f, ↓reduceIte, if_true, if_false, Bool.true_eq_false, Bool.false_eq_true, not_true_eq_false, not_false_eq_true, true_and, and_true, false_and, and_false, true_or, or_true, false_or, or_false, decide_true, decide_false, Bool.true_and, Bool.false_and, Bool.and_true, Bool.and_false, and_self, Nat.le_refl, Nat.lt_irrefl, ite_self, i10, i01, Option.some.injEq, c1, c2]
      · simp (disch := first | omega | decide) only [nI_lel, nI_ltl, nI_ler, nI_ltr, nI_addl, nI_addr, nI_eqN, nI_leN, nI_ltN, Nat.zero_add, Option.bind_some, Option.bind_none, Option.map_some, bd2_some, b2i_0, b2i_1, b2i_t, b2i_f, ↓reduceIte, if_true, if_false, Bool.true_eq_false, Bool.false_eq_true, not_true_eq_false, not_false_eq_true, true_and, and_true, false_and, and_false, true_or, or_true, false_or, or_false, decide_true, decide_false, Bool.true_and, Bool.false_and, Bool.and_true, Bool.and_false, and_self, Nat.le_refl, Nat.lt_irrefl, ite_self, i10, i01, Option.some.injEq, c1]
    · rw [Bool.not_eq_true] at h1
      refine iter_r ?_
      unfold mo_move_b33
      simp (disch := first | omega | decide) only [nI_lel, nI_ltl, nI_ler, nI_ltr, nI_addl, nI_addr, nI_eqN, nI_leN, nI_ltN, Nat.zero_add, Option.bind_some, Option.bind_none, Option.map_some, bd2_some, b2i_0, b2i_1, b2i_t, b2i_f, ↓reduceIte, if_true, if_false, Bool.true_eq_false, Bool.false_eq_true, not_true_eq_false, not_false_eq_true, true_and, and_true, false_and, and_false, true_or, or_true, false_or, or_false, decide_true, decide_false, Bool.true_and, Bool.false_and, Bool.and_true, Bool.and_false, and_self, Nat.le_refl, Nat.lt_irrefl, ite_self, i10, i01, Option.some.injEq, mo_isLaid_eq hi, h1, show ¬ 60 ≤ 0 by omega]
theorem tp_move_q (r : YR 9 f V) (w : WF f) (eo : EO E) (what : Int32) : tp_move (some 7) what (mkH E V) = some (movF f what) := by
  unfold tp_move tp_move_0 movF
  simp (disch := first | omega | decide) only [nI_lel, nI_ltl, nI_ler, nI_ltr, nI_addl, nI_addr, nI_eqN, nI_leN, nI_ltN, Nat.zero_add, Option.bind_some, Option.bind_none, Option.map_some, bd2_some, b2i_0, b2i_1, b2i_t, b2i_f, ↓reduceIte, if_true, if_false, Bool.true_eq_false, Bool.false_eq_true, not_true_eq_false, not_false_eq_true, true_and, and_true, false_and, and_false, true_or, or_true, false_or, or_false, decide_true, decide_false, Bool.true_and, Bool.false_and, Bool.and_true, Bool.and_false, and_self, Nat.le_refl, Nat.lt_irrefl, ite_self, i10, i01, Option.some.injEq, grd_t isC_7, tp_in3]
  by_cases h2 : inB what 0 2 = false
  · simp (disch := first | omega | decide) only [nI_lel, nI_ltl, nI_ler, nI_ltr, nI_addl, nI_addr, nI_eqN, nI_leN, nI_ltN, Nat.zero_add, Option.bind_some, Option.bind_none, Option.map_some, bd2_some, b2i_0, b2i_1, b2i_t, b2i_f, ↓reduceIte, if_true, if_false, Bool.true_eq_false, Bool.false_eq_true, not_true_eq_false, not_false_eq_true, true_and, and_true, false_and, and_false, true_or, or_true, false_or, or_false, decide_true, decide_false, Bool.true_and, Bool.false_and, Bool.and_true, Bool.and_false, and_self, Nat.le_refl, Nat.lt_irrefl, ite_self, i10, i01, Option.some.injEq, h2]
  · simp (disch := first | omega | decide) only [nI_lel, nI_ltl, nI_ler, nI_ltr, nI_addl, nI_addr, nI_eqN, nI_leN, nI_ltN, Nat.zero_add, Option.bind_some, Option.bind_none, Option.map_some, bd2_some, b2i_0, b2i_1, b2i_t, b2i_f, ↓reduceIte, if_true, if_false, Bool.true_eq_false, Bool.false_eq_true, not_true_eq_false, not_false_eq_true, true_and, and_true, false_and, and_false, true_or, or_true, false_or, or_false, decide_true, decide_false, Bool.true_and, Bool.false_and, Bool.and_true, Bool.and_false, and_self, Nat.le_refl, Nat.lt_irrefl, ite_self, i10, i01, Option.some.injEq, h2]
    unfold tp_move_L20
    refine iter_toR (fun i => (xpl (mvF f i).1, xpl (mvF f i).2.1, (mvF f i).2.2, nI i)) 16 (fun i hi => ?_) (by
      unfold tp_move_b20 tp_told tp_told_0
      rcases mvF_ok f 16 (by omega) with e | ⟨p, k, hp, hk, e1, e2, e3⟩
      · simp (disch := first | omega | decide) only [nI_lel, nI_ltl, nI_ler, nI_ltr, nI_addl, nI_addr, nI_eqN, nI_leN, nI_ltN, Nat.zero_add, Option.bind_some, Option.bind_none, Option.map_some, bd2_some, b2i_0, b2i_1, b2i_t, b2i_f, ↓reduceIte, if_true, if_false, Bool.true_eq_false, Bool.false_eq_true, not_true_eq_false, not_false_eq_true, true_and, and_true, false_and, and_false, true_or, or_true, false_or, or_false, decide_true, decide_false, Bool.true_and, Bool.false_and, Bool.and_true, Bool.and_false, and_self, Nat.le_refl, Nat.lt_irrefl, ite_self, i10, i01, Option.some.injEq, e]
      · have e4 : ¬ (mvF f 16).2.2 = 0 := fun e => by rw [e, i32_ir] at e3; exact e3
        simp (disch := first | omega | decide) only [nI_lel, nI_ltl, nI_ler, nI_ltr, nI_addl, nI_addr, nI_eqN, nI_leN, nI_ltN, Nat.zero_add, Option.bind_some, Option.bind_none, Option.map_some, bd2_some, b2i_0, b2i_1, b2i_t, b2i_f, ↓reduceIte, if_true, if_false, Bool.true_eq_false, Bool.false_eq_true, not_true_eq_false, not_false_eq_true, true_and, and_true, false_and, and_false, true_or, or_true, false_or, or_false, decide_true, decide_false, Bool.true_and, Bool.false_and, Bool.and_true, Bool.and_false, and_self, Nat.le_refl, Nat.lt_irrefl, ite_self, i10, i01, Option.some.injEq, e1, e2, e4, xpl_nI (show p < 2 ^ 31 by omega), xpl_nI (show k < 2 ^ 31 by omega), nI_ne2 (show p < 2 ^ 31 by omega)]
        repeat' split
        all_goals rfl)
    have hn : ¬ 16 ≤ i := by omega
    unfold tp_move_b20
    rw [show mvF f (i + 1) = if laidB f i = true then mvI f i (mvF f i) 60 else mvF f i from rfl]
    generalize mvF f i = s
    simp (disch := first | omega | decide) only [nI_lel, nI_ltl, nI_ler, nI_ltr, nI_addl, nI_addr, nI_eqN, nI_leN, nI_ltN, Nat.zero_add, Option.bind_some, Option.bind_none, Option.map_some, bd2_some, b2i_0, b2i_1, b2i_t, b2i_f, ↓reduceIte, if_true, if_false, Bool.true_eq_false, Bool.false_eq_true, not_true_eq_false, not_false_eq_true, true_and, and_true, false_and, and_false, true_or, or_true, false_or, or_false, decide_true, decide_false, Bool.true_and, Bool.false_and, Bool.and_true, Bool.and_false, and_self, Nat.le_refl, Nat.lt_irrefl, ite_self, i10, i01, Option.some.injEq, hn, x_yard, yd_people y9, people_at y9 hi, pe_isLaid_eq y9 hi r w, p_plot y9 hi, r.plot hi]
    by_cases h1 : laidB f i = true
    · obtain ⟨-, j, hj, ej⟩ := laid_plot w hi h1
      simp (disch := first | omega | decide) only [nI_lel, nI_ltl, nI_ler, nI_ltr, nI_addl, nI_addr, nI_eqN, nI_leN, nI_ltN, Nat.zero_add, Option.bind_some, Option.bind_none, Option.map_some, bd2_some, b2i_0, b2i_1, b2i_t, b2i_f, ↓reduceIte, if_true, if_false, Bool.true_eq_false, Bool.false_eq_true, not_true_eq_false, not_false_eq_true, true_and, and_true, false_and, and_false, true_or, or_true, false_or, or_false, decide_true, decide_false, Bool.true_and, Bool.false_and, Bool.and_true, Bool.and_false, and_self, Nat.le_refl, Nat.lt_irrefl, ite_self, i10, i01, Option.some.injEq, h1, ej, xpl_nI (show j < 2 ^ 31 by omega), tp_talkAt_eq r w eo hi hj]
      unfold tp_move_L70
      refine iter_toR (fun k => (xpl (mvI f i s k).1, xpl (mvI f i s k).2.1, (mvI f i s k).2.2, nI k)) 60 (fun k hk => ?_) (by
        unfold tp_move_b70
        simp (disch := first | omega | decide) only [nI_lel, nI_ltl, nI_ler, nI_ltr, nI_addl, nI_addr, nI_eqN, nI_leN, nI_ltN, Nat.zero_add, Option.bind_some, Option.bind_none, Option.map_some, bd2_some, b2i_0, b2i_1, b2i_t, b2i_f, ↓reduceIte, if_true, if_false, Bool.true_eq_false, Bool.false_eq_true, not_true_eq_false, not_false_eq_true, true_and, and_true, false_and, and_false, true_or, or_true, false_or, or_false, decide_true, decide_false, Bool.true_and, Bool.false_and, Bool.and_true, Bool.and_false, and_self, Nat.le_refl, Nat.lt_irrefl, ite_self, i10, i01, Option.some.injEq])
      have hn : ¬ 60 ≤ k := by omega
      unfold tp_move_b70
      rw [show mvI f i s (k + 1) = if whoF f (nI k) = -2 ∧ (mvI f i s k).2.2 < takF f i (nI k) 16 - takF f i (f (48 + i)) 16 then (nI i, nI k, takF f i (nI k) 16 - takF f i (f (48 + i)) 16) else mvI f i s k from rfl]
      generalize mvI f i s k = t
      simp (disch := first | omega | decide) only [nI_lel, nI_ltl, nI_ler, nI_ltr, nI_addl, nI_addr, nI_eqN, nI_leN, nI_ltN, Nat.zero_add, Option.bind_some, Option.bind_none, Option.map_some, bd2_some, b2i_0, b2i_1, b2i_t, b2i_f, ↓reduceIte, if_true, if_false, Bool.true_eq_false, Bool.false_eq_true, not_true_eq_false, not_false_eq_true, true_and, and_true, false_and, and_false, true_or, or_true, false_or, or_false, decide_true, decide_false, Bool.true_and, Bool.false_and, Bool.and_true, Bool.and_false, and_self, Nat.le_refl, Nat.lt_irrefl, ite_self, i10, i01, Option.some.injEq, hn, x_yard, yd_whoLiesAt_eq y9 r w, who2, tp_talkAt_eq r w eo hi hk, ej]
      by_cases c1 : whoF f (nI k) = -2
      · by_cases c2 : t.2.2 < takF f i (nI k) 16 - takF f i (nI j) 16 <;> simp (disch := first | omega | decide) only [nI_lel, nI_ltl, nI_ler, nI_ltr, nI_addl, nI_addr, nI_eqN, nI_leN, nI_ltN, Nat.zero_add, Option.bind_some, Option.bind_none, Option.map_some, bd2_some, b2i_0, b2i_1, b2i_t, b2i_f, ↓reduceIte, if_true, if_false, Bool.true_eq_false, Bool.false_eq_true, not_true_eq_false, not_false_eq_true, true_and, and_true, false_and, and_false, true_or, or_true, false_or, or_false, decide_true, decide_false, Bool.true_and, Bool.false_and, Bool.and_true, Bool.and_false, and_self, Nat.le_refl, Nat.lt_irrefl, ite_self, i10, i01, Option.some.injEq, c1, c2, xpl_nI (show i < 2 ^ 31 by omega), xpl_nI (show k < 2 ^ 31 by omega)]
      · simp (disch := first | omega | decide) only [nI_lel, nI_ltl, nI_ler, nI_ltr, nI_addl, nI_addr, nI_eqN, nI_leN, nI_ltN, Nat.zero_add, Option.bind_some, Option.bind_none, Option.map_some, bd2_some, b2i_0, b2i_1, b2i_t, b2i_f, ↓reduceIte, if_true, if_false, Bool.true_eq_false, Bool.false_eq_true, not_true_eq_false, not_false_eq_true, true_and, and_true, false_and, and_false, true_or, or_true, false_or, or_false, decide_true, decide_false, Bool.true_and, Bool.false_and, Bool.and_true, Bool.and_false, and_self, Nat.le_refl, Nat.lt_irrefl, ite_self, i10, i01, Option.some.injEq, c1]
    · rw [Bool.not_eq_true] at h1
      simp (disch := first | omega | decide) only [nI_lel, nI_ltl, nI_ler, nI_ltr, nI_addl, nI_addr, nI_eqN, nI_leN, nI_ltN, Nat.zero_add, Option.bind_some, Option.bind_none, Option.map_some, bd2_some, b2i_0, b2i_1, b2i_t, b2i_f, ↓reduceIte, if_true, if_false, Bool.true_eq_false, Bool.false_eq_true, not_true_eq_false, not_false_eq_true, true_and, and_true, false_and, and_false, true_or, or_true, false_or, or_false, decide_true, decide_false, Bool.true_and, Bool.false_and, Bool.and_true, Bool.and_false, and_self, Nat.le_refl, Nat.lt_irrefl, ite_self, i10, i01, Option.some.injEq, h1]
theorem in2079 (v : Int32) : inB (v - 20) 0 59 = inB v 20 79 := by
  have h1 := Int32.minValue_le_toInt v
  have h2 := Int32.toInt_lt v
  unfold inB
  rw [← Bool.decide_and, ← Bool.decide_and]
  apply decide_eq_decide.mpr
  simp only [Int32.le_iff_toInt_le, Int32.toInt_sub, show (20 : Int32).toInt = 20 by decide, show (0 : Int32).toInt = 0 by decide, show (59 : Int32).toInt = 59 by decide, show (79 : Int32).toInt = 79 by decide]
  have h3 : Int32.minValue.toInt = -2147483648 := by decide
  rw [Int.bmod_def]
  omega
def modF (f : Nat → Int32) : Nat → Int32 := rep (fun p s => if f p = 1 then s + f (32 + p) else s) 0
def cntF (f : Nat → Int32) (wm cl tp : Int32) (v : Int32) : Int32 := if inB v 20 79 = true then whoF f (v - 20) else if v = 0 then f 64 else if v = 1 then setF (fun p => decide (f p = 1)) 16 else if v = 2 then setF (laidB f) 16 else if v = 3 then wm else if v = 4 then cl else if v = 5 then tp else if v = 6 then f 65 else if v = 7 then modF f 16 else -1
theorem mo_count_q (v : Int32) : mo_count (some 77) v (mkH E V) = some (cntF (V 78) (V 77 34) (V 77 13) (V 77 4) v) := by
  unfold mo_count mo_count_0 cntF
  have e64 : ald 0 (some 78) 64 (mkH E V) = some (V 78 64) := ald_78 (j := 64) (by decide)
  have e65 : ald 0 (some 78) 65 (mkH E V) = some (V 78 65) := ald_78 (j := 65) (by decide)
  have e7 : mo_count_L91 (some 77) 0 0 (mkH E V) = some (modF (V 78) 16) := by
    unfold mo_count_L91
    refine iter_toR (fun i => (modF (V 78) i, nI i)) 16 (fun i hi => ?_) rfl
    have hn : ¬ 16 ≤ i := by omega
    unfold mo_count_b91
    simp (disch := first | omega | decide) only [nI_lel, nI_ltl, nI_ler, nI_ltr, nI_addl, nI_addr, nI_eqN, nI_leN, nI_ltN, Nat.zero_add, Option.bind_some, Option.bind_none, Option.map_some, bd2_some, b2i_0, b2i_1, b2i_t, b2i_f, ↓reduceIte, if_true, if_false, Bool.true_eq_false, Bool.false_eq_true, not_true_eq_false, not_false_eq_true, true_and, and_true, false_and, and_false, true_or, or_true, false_or, or_false, decide_true, decide_false, Bool.true_and, Bool.false_and, Bool.and_true, Bool.and_false, and_self, Nat.le_refl, Nat.lt_irrefl, ite_self, i10, i01, Option.some.injEq, hn, mo_isTold_eq, m_now, ald_78, modF, rep, add_z]
    by_cases c1 : V 78 i = 1 <;> simp (disch := first | omega | decide) only [nI_lel, nI_ltl, nI_ler, nI_ltr, nI_addl, nI_addr, nI_eqN, nI_leN, nI_ltN, Nat.zero_add, Option.bind_some, Option.bind_none, Option.map_some, bd2_some, b2i_0, b2i_1, b2i_t, b2i_f, ↓reduceIte, if_true, if_false, Bool.true_eq_false, Bool.false_eq_true, not_true_eq_false, not_false_eq_true, true_and, and_true, false_and, and_false, true_or, or_true, false_or, or_false, decide_true, decide_false, Bool.true_and, Bool.false_and, Bool.and_true, Bool.and_false, and_self, Nat.le_refl, Nat.lt_irrefl, ite_self, i10, i01, Option.some.injEq, c1]
  simp (disch := first | omega | decide) only [nI_lel, nI_ltl, nI_ler, nI_ltr, nI_addl, nI_addr, nI_eqN, nI_leN, nI_ltN, Nat.zero_add, Option.bind_some, Option.bind_none, Option.map_some, bd2_some, b2i_0, b2i_1, b2i_t, b2i_f, ↓reduceIte, if_true, if_false, Bool.true_eq_false, Bool.false_eq_true, not_true_eq_false, not_false_eq_true, true_and, and_true, false_and, and_false, true_or, or_true, false_or, or_false, decide_true, decide_false, Bool.true_and, Bool.false_and, Bool.and_true, Bool.and_false, and_self, Nat.le_refl, Nat.lt_irrefl, ite_self, i10, i01, Option.some.injEq, grd_t isC_77, m_now, e64, e65, mo_toldSet_eq, mo_laidSet_eq, m_wishMany, m_clauses, m_taped, e7, mo_in_eq, mo_whoLies_eq]
  by_cases hi : inB v 20 79 = true
  · simp (disch := first | omega | decide) only [nI_lel, nI_ltl, nI_ler, nI_ltr, nI_addl, nI_addr, nI_eqN, nI_leN, nI_ltN, Nat.zero_add, Option.bind_some, Option.bind_none, Option.map_some, bd2_some, b2i_0, b2i_1, b2i_t, b2i_f, ↓reduceIte, if_true, if_false, Bool.true_eq_false, Bool.false_eq_true, not_true_eq_false, not_false_eq_true, true_and, and_true, false_and, and_false, true_or, or_true, false_or, or_false, decide_true, decide_false, Bool.true_and, Bool.false_and, Bool.and_true, Bool.and_false, and_self, Nat.le_refl, Nat.lt_irrefl, ite_self, i10, i01, Option.some.injEq, hi]
    unfold inB at hi
    simp only [Bool.and_eq_true, decide_eq_true_eq] at hi
    have hne : ∀ k : Nat, k < 20 → ¬ v = nI k := fun k hk e => by
      rw [e] at hi
      have := hi.1
      rw [show (20 : Int32) = nI 20 from rfl, nI_leN (by omega) (by omega)] at this
      omega
    rw [if_neg (show ¬ v = 0 from hne 0 (by omega)), if_neg (show ¬ v = 1 from hne 1 (by omega)), if_neg (show ¬ v = 2 from hne 2 (by omega)), if_neg (show ¬ v = 3 from hne 3 (by omega)), if_neg (show ¬ v = 4 from hne 4 (by omega)), if_neg (show ¬ v = 5 from hne 5 (by omega)), if_neg (show ¬ v = 6 from hne 6 (by omega)), if_neg (show ¬ v = 7 from hne 7 (by omega))]
  · rw [Bool.not_eq_true] at hi
    simp (disch := first | omega | decide) only [nI_lel, nI_ltl, nI_ler, nI_ltr, nI_addl, nI_addr, nI_eqN, nI_leN, nI_ltN, Nat.zero_add, Option.bind_some, Option.bind_none, Option.map_some, bd2_some, b2i_0, b2i_1, b2i_t, b2i_f, ↓reduceIte, if_true, if_false, Bool.true_eq_false, Bool.false_eq_true, not_true_eq_false, not_false_eq_true, true_and, and_true, false_and, and_false, true_or, or_true, false_or, or_false, decide_true, decide_false, Bool.true_and, Bool.false_and, Bool.and_true, Bool.and_false, and_self, Nat.le_refl, Nat.lt_irrefl, ite_self, i10, i01, Option.some.injEq, hi]
    repeat' split
    all_goals rfl
theorem tp_count_q (r : YR 9 f V) (w : WF f) {cl : Int32} (hc : gfi [4] 3 E.2.2.1 (mkH E V) = some cl) (v : Int32) : tp_count (some 7) v (mkH E V) = some (cntF f (V 7 11) cl (V 7 6) v) := by
  unfold tp_count tp_count_0 cntF
  have e7 : tp_moodOfAll (some 7) (mkH E V) = some (modF f 16) := by
    unfold tp_moodOfAll tp_moodOfAll_0 tp_moodOfAll_L16
    simp (disch := first | omega | decide) only [nI_lel, nI_ltl, nI_ler, nI_ltr, nI_addl, nI_addr, nI_eqN, nI_leN, nI_ltN, Nat.zero_add, Option.bind_some, Option.bind_none, Option.map_some, bd2_some, b2i_0, b2i_1, b2i_t, b2i_f, ↓reduceIte, if_true, if_false, Bool.true_eq_false, Bool.false_eq_true, not_true_eq_false, not_false_eq_true, true_and, and_true, false_and, and_false, true_or, or_true, false_or, or_false, decide_true, decide_false, Bool.true_and, Bool.false_and, Bool.and_true, Bool.and_false, and_self, Nat.le_refl, Nat.lt_irrefl, ite_self, i10, i01, Option.some.injEq, grd_t isC_7, x_yard, yd_people y9, alen_people y9]
    refine iter_toR (fun i => (modF f i, nI i)) 16 (fun i hi => ?_) rfl
    have hn : ¬ 16 ≤ i := by omega
    unfold tp_moodOfAll_b16
    simp (disch := first | omega | decide) only [nI_lel, nI_ltl, nI_ler, nI_ltr, nI_addl, nI_addr, nI_eqN, nI_leN, nI_ltN, Nat.zero_add, Option.bind_some, Option.bind_none, Option.map_some, bd2_some, b2i_0, b2i_1, b2i_t, b2i_f, ↓reduceIte, if_true, if_false, Bool.true_eq_false, Bool.false_eq_true, not_true_eq_false, not_false_eq_true, true_and, and_true, false_and, and_false, true_or, or_true, false_or, or_false, decide_true, decide_false, Bool.true_and, Bool.false_and, Bool.and_true, Bool.and_false, and_self, Nat.le_refl, Nat.lt_irrefl, ite_self, i10, i01, Option.some.injEq, hn, people_at y9 hi, p_told y9 hi, p_mood y9 hi, r.told hi, r.mood hi, modF, rep, add_z]
    rcases (w.1 i hi).1 with c1 | c1 <;> simp (disch := first | omega | decide) only [nI_lel, nI_ltl, nI_ler, nI_ltr, nI_addl, nI_addr, nI_eqN, nI_leN, nI_ltN, Nat.zero_add, Option.bind_some, Option.bind_none, Option.map_some, bd2_some, b2i_0, b2i_1, b2i_t, b2i_f, ↓reduceIte, if_true, if_false, Bool.true_eq_false, Bool.false_eq_true, not_true_eq_false, not_false_eq_true, true_and, and_true, false_and, and_false, true_or, or_true, false_or, or_false, decide_true, decide_false, Bool.true_and, Bool.false_and, Bool.and_true, Bool.and_false, and_self, Nat.le_refl, Nat.lt_irrefl, ite_self, i10, i01, Option.some.injEq, c1, i01]
  simp (disch := first | omega | decide) only [nI_lel, nI_ltl, nI_ler, nI_ltr, nI_addl, nI_addr, nI_eqN, nI_leN, nI_ltN, Nat.zero_add, Option.bind_some, Option.bind_none, Option.map_some, bd2_some, b2i_0, b2i_1, b2i_t, b2i_f, ↓reduceIte, if_true, if_false, Bool.true_eq_false, Bool.false_eq_true, not_true_eq_false, not_false_eq_true, true_and, and_true, false_and, and_false, true_or, or_true, false_or, or_false, decide_true, decide_false, Bool.true_and, Bool.false_and, Bool.and_true, Bool.and_false, and_self, Nat.le_refl, Nat.lt_irrefl, ite_self, i10, i01, Option.some.injEq, grd_t isC_7, tp_in60, in2079, x_yard, y_night y9, y_x y9, yd_told_eq y9 r w, yd_laid_eq y9 r w, x_wishes, x_law, x_taped, hc, e7, yd_whoLiesAt_eq y9 r w, who2]
  by_cases hi : inB v 20 79 = true
  · simp (disch := first | omega | decide) only [nI_lel, nI_ltl, nI_ler, nI_ltr, nI_addl, nI_addr, nI_eqN, nI_leN, nI_ltN, Nat.zero_add, Option.bind_some, Option.bind_none, Option.map_some, bd2_some, b2i_0, b2i_1, b2i_t, b2i_f, ↓reduceIte, if_true, if_false, Bool.true_eq_false, Bool.false_eq_true, not_true_eq_false, not_false_eq_true, true_and, and_true, false_and, and_false, true_or, or_true, false_or, or_false, decide_true, decide_false, Bool.true_and, Bool.false_and, Bool.and_true, Bool.and_false, and_self, Nat.le_refl, Nat.lt_irrefl, ite_self, i10, i01, Option.some.injEq, hi]
    rcases who_cases f (v - 20) with ⟨a, b⟩ | ⟨p, hp, -, -, a, b⟩
    · simp (disch := first | omega | decide) only [nI_lel, nI_ltl, nI_ler, nI_ltr, nI_addl, nI_addr, nI_eqN, nI_leN, nI_ltN, Nat.zero_add, Option.bind_some, Option.bind_none, Option.map_some, bd2_some, b2i_0, b2i_1, b2i_t, b2i_f, ↓reduceIte, if_true, if_false, Bool.true_eq_false, Bool.false_eq_true, not_true_eq_false, not_false_eq_true, true_and, and_true, false_and, and_false, true_or, or_true, false_or, or_false, decide_true, decide_false, Bool.true_and, Bool.false_and, Bool.and_true, Bool.and_false, and_self, Nat.le_refl, Nat.lt_irrefl, ite_self, i10, i01, Option.some.injEq, a, b]
    · simp (disch := first | omega | decide) only [nI_lel, nI_ltl, nI_ler, nI_ltr, nI_addl, nI_addr, nI_eqN, nI_leN, nI_ltN, Nat.zero_add, Option.bind_some, Option.bind_none, Option.map_some, bd2_some, b2i_0, b2i_1, b2i_t, b2i_f, ↓reduceIte, if_true, if_false, Bool.true_eq_false, Bool.false_eq_true, not_true_eq_false, not_false_eq_true, true_and, and_true, false_and, and_false, true_or, or_true, false_or, or_false, decide_true, decide_false, Bool.true_and, Bool.false_and, Bool.and_true, Bool.and_false, and_self, Nat.le_refl, Nat.lt_irrefl, ite_self, i10, i01, Option.some.injEq, a, b, nI_ne2 (show p < 2 ^ 31 by omega)]
  · rw [Bool.not_eq_true] at hi
    simp (disch := first | omega | decide) only [nI_lel, nI_ltl, nI_ler, nI_ltr, nI_addl, nI_addr, nI_eqN, nI_leN, nI_ltN, Nat.zero_add, Option.bind_some, Option.bind_none, Option.map_some, bd2_some, b2i_0, b2i_1, b2i_t, b2i_f, ↓reduceIte, if_true, if_false, Bool.true_eq_false, Bool.false_eq_true, not_true_eq_false, not_false_eq_true, true_and, and_true, false_and, and_false, true_or, or_true, false_or, or_false, decide_true, decide_false, Bool.true_and, Bool.false_and, Bool.and_true, Bool.and_false, and_self, Nat.le_refl, Nat.lt_irrefl, ite_self, i10, i01, Option.some.injEq, hi, r.2.1, r.2.2]
    repeat' split
    all_goals rfl
end RM
