/-! keep, undo, check, feed -/
set_option maxRecDepth 100000
def LF (V V2 : Nat → Nat → Int32) : Prop := (∀ a, 88 ≤ a → a ≤ 92 → V2 a = V a) ∧ V2 77 13 = V 77 13
def cpP (f g : Nat → Int32) : Nat → Int32 := upd (upd (upd (upd f 0 (g 0)) 1 (g 1)) 2 (g 2)) 3 (g 3)
def tkV (V : Nat → Nat → Int32) (y z i : Nat) : Nat → Nat → Int32 := fun a => if y + 2 ≤ a ∧ a < y + 2 + i then cpP (V a) (V (z + (a - y))) else V a
theorem tkV_s {V : Nat → Nat → Int32} {y z i : Nat} (hyz : y + 18 ≤ z ∨ z + 18 ≤ y) (hi : i < 16) : up1 (tkV V y z i) (y + 2 + i) (cpP (tkV V y z i (y + 2 + i)) (tkV V y z i (z + 2 + i))) = tkV V y z (i + 1) := by
  funext a
  have e1 : tkV V y z i (y + 2 + i) = V (y + 2 + i) := if_neg (by omega)
  have e2 : tkV V y z i (z + 2 + i) = V (z + 2 + i) := if_neg (by omega)
  by_cases h : a = y + 2 + i
  · subst h
    rw [up1_s, e1, e2]
    show _ = if _ then _ else _
    rw [if_pos (by omega), show z + (y + 2 + i - y) = z + 2 + i by omega]
  · rw [up1_n h]
    show (if _ then _ else _) = if _ then _ else _
    by_cases h2 : y + 2 ≤ a ∧ a < y + 2 + i
    · rw [if_pos h2, if_pos (by omega)]
    · rw [if_neg h2, if_neg (by omega)]
section KU
variable {E : EE} {V : Nat → Nat → Int32} {f : Nat → Int32} {h : PH} {y z : Nat}
theorem isY_far (hy : isY y) (hz : isY z) (hne : y ≠ z) : y + 18 ≤ z ∨ z + 18 ≤ y := by
  rcases hy with rfl | rfl | rfl <;> rcases hz with rfl | rfl | rfl <;> omega
theorem pfz_p {p : Nat} {v : Int32} (hy : isY y) (hp : p < 16) (hv : v = 0 ∨ v = 1) : pfz [3] 3 (some (y + 2 + p)) v (mkH E V) = some (mkH E (up1 V (y + 2 + p) (upd (V (y + 2 + p)) 3 v))) := by
  unfold pfz
  rw [if_pos hv, sp_told hy hp]
theorem yd_takes_q (hy : isY y) (hz : isY z) (hne : y ≠ z) (r : YR z f V) (w : WF f) : ∃ V', yd_takes (some y) (some z) (mkH E V) = some (some y, mkH E V') ∧ YR y f V' ∧ (∀ a, (a < y ∨ y + 17 < a) → V' a = V a) ∧ V' y 3 = V y 3 ∧ V' y 4 = V y 4 := by
  have far := isY_far hy hz hne
  have h12 : isY y := hy
  refine ⟨up1 (tkV V y z 16) y (upd (upd (V y) 1 (V z 1)) 2 (V z 2)), ?_, ?_, ?_, ?_, ?_⟩
  · unfold yd_takes yd_takes_0 yd_takes_L2
    rw [grd_t (isC_y hy)]
    have hy16 : tkV V y z 16 y = V y := if_neg (by omega)
    have hz16 : tkV V y z 16 z = V z := if_neg (by omega)
    have e0 : tkV V y z 0 = V := by funext a; exact if_neg (by omega)
    have := iter_toR (B := fun s : Int32 × PH => yd_takes_b2 (some y) (some z) s.1 s.2) (fun i => (nI i, mkH E (tkV V y z i))) 16 (r := (some y, mkH E (up1 (tkV V y z 16) y (upd (upd (V y) 1 (V z 1)) 2 (V z 2))))) (fun i hi => ?_) (by
      unfold yd_takes_b2
      simp (disch := first | omega | decide) only [nI_lel, nI_ltl, nI_ler, nI_ltr, nI_addl, nI_addr, nI_eqN, nI_leN, nI_ltN, Nat.zero_add, Option.bind_some, Option.bind_none, Option.map_some, bd2_some, b2i_0, b2i_1, b2i_t, b2i_f, ↓reduceIte, if_true, if_false, Bool.true_eq_false, Bool.false_eq_true, not_true_eq_false, not_false_eq_true, true_and, and_true, false_and, and_false, true_or, or_true, false_or, or_false, decide_true, decide_false, Bool.true_and, Bool.false_and, Bool.and_true, Bool.and_false, and_self, Nat.le_refl, Nat.lt_irrefl, ite_self, i10, i01, Option.some.injEq, up1_s, up1_up, ups, up1_x, upsn, y_night hz, y_x hz, sy_night hy, sy_x hy, hy16, hz16, show z ≠ y by omega])
    · rw [e0] at this
      exact this
    have hn : ¬ 16 ≤ i := by omega
    unfold yd_takes_b2 pe_takes pe_takes_0
    have e2 : tkV V y z i (z + 2 + i) = V (z + 2 + i) := if_neg (by omega)
    have hne2 : z + 2 + i ≠ y + 2 + i := by omega
    have ht : V (z + 2 + i) 3 = 0 ∨ V (z + 2 + i) 3 = 1 := by rw [r.told hi]; exact (w.1 i hi).1
    simp (disch := first | omega | decide) only [nI_lel, nI_ltl, nI_ler, nI_ltr, nI_addl, nI_addr, nI_eqN, nI_leN, nI_ltN, Nat.zero_add, Option.bind_some, Option.bind_none, Option.map_some, bd2_some, b2i_0, b2i_1, b2i_t, b2i_f, ↓reduceIte, if_true, if_false, Bool.true_eq_false, Bool.false_eq_true, not_true_eq_false, not_false_eq_true, true_and, and_true, false_and, and_false, true_or, or_true, false_or, or_false, decide_true, decide_false, Bool.true_and, Bool.false_and, Bool.and_true, Bool.and_false, and_self, Nat.le_refl, Nat.lt_irrefl, ite_self, i10, i01, Option.some.injEq, up1_s, up1_up, ups, up1_x, upsn, hn, yd_people hy, yd_people hz, people_at hy hi, people_at hz hi, grd_t (isC_p hy hi), p_topics hz hi, p_mood hz hi, p_plot hz hi, p_told hz hi, sp_topics hy hi, sp_mood hy hi, sp_plot hy hi, hne2, e2, pfz_p hy hi ht]
    rw [← tkV_s far hi, e2]
    rfl
  · refine ⟨fun p hp => ?_, ?_, ?_⟩
    · have e : tkV V y z 16 (y + 2 + p) = cpP (V (y + 2 + p)) (V (z + 2 + p)) := by
        show (if _ then _ else _) = _
        rw [if_pos (by omega), show z + (y + 2 + p - y) = z + 2 + p by omega]
      rw [up1_n (by omega), e]
      unfold cpP
      simp (disch := first | omega | decide) only [nI_lel, nI_ltl, nI_ler, nI_ltr, nI_addl, nI_addr, nI_eqN, nI_leN, nI_ltN, Nat.zero_add, Option.bind_some, Option.bind_none, Option.map_some, bd2_some, b2i_0, b2i_1, b2i_t, b2i_f, ↓reduceIte, if_true, if_false, Bool.true_eq_false, Bool.false_eq_true, not_true_eq_false, not_false_eq_true, true_and, and_true, false_and, and_false, true_or, or_true, false_or, or_false, decide_true, decide_false, Bool.true_and, Bool.false_and, Bool.and_true, Bool.and_false, and_self, Nat.le_refl, Nat.lt_irrefl, ite_self, i10, i01, Option.some.injEq, up1_s, up1_up, ups, up1_x, upsn]
      exact r.1 p hp
    · simp (disch := first | omega | decide) only [nI_lel, nI_ltl, nI_ler, nI_ltr, nI_addl, nI_addr, nI_eqN, nI_leN, nI_ltN, Nat.zero_add, Option.bind_some, Option.bind_none, Option.map_some, bd2_some, b2i_0, b2i_1, b2i_t, b2i_f, ↓reduceIte, if_true, if_false, Bool.true_eq_false, Bool.false_eq_true, not_true_eq_false, not_false_eq_true, true_and, and_true, false_and, and_false, true_or, or_true, false_or, or_false, decide_true, decide_false, Bool.true_and, Bool.false_and, Bool.and_true, Bool.and_false, and_self, Nat.le_refl, Nat.lt_irrefl, ite_self, i10, i01, Option.some.injEq, up1_s, up1_up, ups, up1_x, upsn]
      exact r.2.1
    · simp (disch := first | omega | decide) only [nI_lel, nI_ltl, nI_ler, nI_ltr, nI_addl, nI_addr, nI_eqN, nI_leN, nI_ltN, Nat.zero_add, Option.bind_some, Option.bind_none, Option.map_some, bd2_some, b2i_0, b2i_1, b2i_t, b2i_f, ↓reduceIte, if_true, if_false, Bool.true_eq_false, Bool.false_eq_true, not_true_eq_false, not_false_eq_true, true_and, and_true, false_and, and_false, true_or, or_true, false_or, or_false, decide_true, decide_false, Bool.true_and, Bool.false_and, Bool.and_true, Bool.and_false, and_self, Nat.le_refl, Nat.lt_irrefl, ite_self, i10, i01, Option.some.injEq, up1_s, up1_up, ups, up1_x, upsn]
      exact r.2.2
  · intro a ha
    rw [up1_n (by omega)]
    exact if_neg (by omega)
  · simp (disch := first | omega | decide) only [nI_lel, nI_ltl, nI_ler, nI_ltr, nI_addl, nI_addr, nI_eqN, nI_leN, nI_ltN, Nat.zero_add, Option.bind_some, Option.bind_none, Option.map_some, bd2_some, b2i_0, b2i_1, b2i_t, b2i_f, ↓reduceIte, if_true, if_false, Bool.true_eq_false, Bool.false_eq_true, not_true_eq_false, not_false_eq_true, true_and, and_true, false_and, and_false, true_or, or_true, false_or, or_false, decide_true, decide_false, Bool.true_and, Bool.false_and, Bool.and_true, Bool.and_false, and_self, Nat.le_refl, Nat.lt_irrefl, ite_self, i10, i01, Option.some.injEq, up1_s, up1_up, ups, up1_x, upsn]
  · simp (disch := first | omega | decide) only [nI_lel, nI_ltl, nI_ler, nI_ltr, nI_addl, nI_addr, nI_eqN, nI_leN, nI_ltN, Nat.zero_add, Option.bind_some, Option.bind_none, Option.map_some, bd2_some, b2i_0, b2i_1, b2i_t, b2i_f, ↓reduceIte, if_true, if_false, Bool.true_eq_false, Bool.false_eq_true, not_true_eq_false, not_false_eq_true, true_and, and_true, false_and, and_false, true_or, or_true, false_or, or_false, decide_true, decide_false, Bool.true_and, Bool.false_and, Bool.and_true, Bool.and_false, and_self, Nat.le_refl, Nat.lt_irrefl, ite_self, i10, i01, Option.some.injEq, up1_s, up1_up, ups, up1_x, upsn]
theorem mo_copies_q {a b : Nat} (hne : a ≠ b) (ha : ∀ (V : Nat → Nat → Int32) j, j < 66 → ald 0 (some a) (nI j) (mkH E V) = some (V a j)) (hb : ∀ (V : Nat → Nat → Int32) j v, j < 66 → ast 0 (some b) (nI j) v (mkH E V) = some (mkH E (up1 V b (upd (V b) j v)))) : mo_copies (some a) (some b) (mkH E V) = some (mkH E (up1 V b fun i => if i < 66 then V a i else V b i)) := by
  unfold mo_copies mo_copies_0 mo_copies_L2
  have e0 : up1 V b (fun i => if i < 0 then V a i else V b i) = V := by
    funext c
    by_cases h : c = b
    · subst h; rw [up1_s]; funext i; exact if_neg (by omega)
    · rw [up1_n h]
  have := iter_toR (B := fun s : Int32 × PH => mo_copies_b2 (some a) (some b) s.1 s.2) (fun k => (nI k, mkH E (up1 V b fun i => if i < k then V a i else V b i))) 66 (r := mkH E (up1 V b fun i => if i < 66 then V a i else V b i)) (fun k hk => ?_) (by
    unfold mo_copies_b2
    simp (disch := first | omega | decide) only [nI_lel, nI_ltl, nI_ler, nI_ltr, nI_addl, nI_addr, nI_eqN, nI_leN, nI_ltN, Nat.zero_add, Option.bind_some, Option.bind_none, Option.map_some, bd2_some, b2i_0, b2i_1, b2i_t, b2i_f, ↓reduceIte, if_true, if_false, Bool.true_eq_false, Bool.false_eq_true, not_true_eq_false, not_false_eq_true, true_and, and_true, false_and, and_false, true_or, or_true, false_or, or_false, decide_true, decide_false, Bool.true_and, Bool.false_and, Bool.and_true, Bool.and_false, and_self, Nat.le_refl, Nat.lt_irrefl, ite_self, i10, i01, Option.some.injEq])
  · rw [e0] at this
    exact this
  · unfold mo_copies_b2
    simp (disch := first | omega | decide) only [nI_lel, nI_ltl, nI_ler, nI_ltr, nI_addl, nI_addr, nI_eqN, nI_leN, nI_ltN, Nat.zero_add, Option.bind_some, Option.bind_none, Option.map_some, bd2_some, b2i_0, b2i_1, b2i_t, b2i_f, ↓reduceIte, if_true, if_false, Bool.true_eq_false, Bool.false_eq_true, not_true_eq_false, not_false_eq_true, true_and, and_true, false_and, and_false, true_or, or_true, false_or, or_false, decide_true, decide_false, Bool.true_and, Bool.false_and, Bool.and_true, Bool.and_false, and_self, Nat.le_refl, Nat.lt_irrefl, ite_self, i10, i01, Option.some.injEq, show ¬ 66 ≤ k by omega, ha _ k hk, hb _ k _ hk, up1_x hne, up1_up, up1_s]
    congr 4
    funext i
    by_cases h : i = k
    · subst h
      rw [ups, if_pos (by omega)]
    · rw [upsn h]
      by_cases h2 : i < k
      · rw [if_pos h2, if_pos (by omega)]
      · rw [if_neg h2, if_neg (by omega)]
theorem keep_q (rw0 : Rw V) (kp : Kp V) (tp : Tp V) (wi : WI V) : ∃ v V1 V2, tp_keep (some 7) (mkH E V) = some (v, mkH E V1) ∧ mo_keep (some 77) (mkH E V1) = some (v, mkH E V2) ∧ Rw V2 ∧ Kp V2 ∧ Tp V2 ∧ WI V2 ∧ LF V V2 := by
  have r0 : YR 9 (V 78) (up1 V 7 (upd (V 7) 7 1)) := rw0.2.congr (fun _ _ => rfl) fun a h1 h2 => by rw [up1_n (by omega)]
  obtain ⟨V1, e1, r1, fr, -, -⟩ := yd_takes_q (E := E) y45 y9 (by decide) r0 rw0.1
  have hfr : ∀ a, (a < 45 ∨ 62 < a) → a ≠ 7 → V1 a = V a := fun a h1 h2 => by rw [fr a (by omega), up1_n h2]
  have h7 : V1 7 = upd (V 7) 7 1 := by rw [fr 7 (by omega), up1_s]
  have eN : ald 0 (some 78) 64 (mkH E (up1 (up1 V1 77 (upd (V1 77) 49 1)) 80 fun i => if i < 66 then up1 V1 77 (upd (V1 77) 49 1) 78 i else up1 V1 77 (upd (V1 77) 49 1) 80 i)) = some (V 78 64) := by
    rw [show (64 : Int32) = nI 64 from rfl, ald_78 (by decide), up1_n (by decide), up1_n (by decide), hfr 78 (by omega) (by decide)]
  refine ⟨V 78 64, V1, up1 (up1 V1 77 (upd (V1 77) 49 1)) 80 (fun i => if i < 66 then up1 V1 77 (upd (V1 77) 49 1) 78 i else up1 V1 77 (upd (V1 77) 49 1) 80 i), ?_, ?_, ⟨?_, ?_⟩, ?_, ?_, ?_, ?_⟩
  · unfold tp_keep tp_keep_0
    simp (disch := first | omega | decide) only [nI_lel, nI_ltl, nI_ler, nI_ltr, nI_addl, nI_addr, nI_eqN, nI_leN, nI_ltN, Nat.zero_add, Option.bind_some, Option.bind_none, Option.map_some, bd2_some, b2i_0, b2i_1, b2i_t, b2i_f, ↓reduceIte, if_true, if_false, Bool.true_eq_false, Bool.false_eq_true, not_true_eq_false, not_false_eq_true, true_and, and_true, false_and, and_false, true_or, or_true, false_or, or_false, decide_true, decide_false, Bool.true_and, Bool.false_and, Bool.and_true, Bool.and_false, and_self, Nat.le_refl, Nat.lt_irrefl, ite_self, i10, i01, Option.some.injEq, grd_t isC_7, sx_isKept, x_kept, x_yard, e1, y_night y9, hfr 9 (by omega) (by decide), rw0.2.2.1]
  · unfold mo_keep mo_keep_0
    simp (disch := first | omega | decide) only [nI_lel, nI_ltl, nI_ler, nI_ltr, nI_addl, nI_addr, nI_eqN, nI_leN, nI_ltN, Nat.zero_add, Option.bind_some, Option.bind_none, Option.map_some, bd2_some, b2i_0, b2i_1, b2i_t, b2i_f, ↓reduceIte, if_true, if_false, Bool.true_eq_false, Bool.false_eq_true, not_true_eq_false, not_false_eq_true, true_and, and_true, false_and, and_false, true_or, or_true, false_or, or_false, decide_true, decide_false, Bool.true_and, Bool.false_and, Bool.and_true, Bool.and_false, and_self, Nat.le_refl, Nat.lt_irrefl, ite_self, i10, i01, Option.some.injEq, grd_t isC_77, s_isKept, m_now, m_kept, mo_copies_q (show 78 ≠ 80 by decide) (fun V j hj => ald_78 hj) (fun V j v hj => ast_80 hj), eN]
  · rw [up1_n (by decide), up1_n (by decide), hfr 78 (by omega) (by decide)]
    exact rw0.1
  · rw [up1_n (by decide), up1_n (by decide), hfr 78 (by omega) (by decide)]
    exact rw0.2.congr (fun _ _ => rfl) fun a h1 h2 => by rw [up1_n (by omega), up1_n (by omega), hfr a (by omega) (by omega)]
  · refine Or.inr ⟨?_, ?_, ?_, ?_⟩
    · simp (disch := first | omega | decide) only [nI_lel, nI_ltl, nI_ler, nI_ltr, nI_addl, nI_addr, nI_eqN, nI_leN, nI_ltN, Nat.zero_add, Option.bind_some, Option.bind_none, Option.map_some, bd2_some, b2i_0, b2i_1, b2i_t, b2i_f, ↓reduceIte, if_true, if_false, Bool.true_eq_false, Bool.false_eq_true, not_true_eq_false, not_false_eq_true, true_and, and_true, false_and, and_false, true_or, or_true, false_or, or_false, decide_true, decide_false, Bool.true_and, Bool.false_and, Bool.and_true, Bool.and_false, and_self, Nat.le_refl, Nat.lt_irrefl, ite_self, i10, i01, Option.some.injEq, up1_s, up1_up, ups, up1_x, upsn, h7]
    · simp (disch := first | omega | decide) only [nI_lel, nI_ltl, nI_ler, nI_ltr, nI_addl, nI_addr, nI_eqN, nI_leN, nI_ltN, Nat.zero_add, Option.bind_some, Option.bind_none, Option.map_some, bd2_some, b2i_0, b2i_1, b2i_t, b2i_f, ↓reduceIte, if_true, if_false, Bool.true_eq_false, Bool.false_eq_true, not_true_eq_false, not_false_eq_true, true_and, and_true, false_and, and_false, true_or, or_true, false_or, or_false, decide_true, decide_false, Bool.true_and, Bool.false_and, Bool.and_true, Bool.and_false, and_self, Nat.le_refl, Nat.lt_irrefl, ite_self, i10, i01, Option.some.injEq, up1_s, up1_up, ups, up1_x, upsn]
    · refine r1.congr (fun i hi => ?_) fun a h1 h2 => by rw [up1_n (by omega), up1_n (by omega)]
      rw [up1_s, if_pos hi, up1_n (by decide), hfr 78 (by omega) (by decide)]
    · refine rw0.1.congr (fun i hi => ?_)
      rw [up1_s, if_pos hi, up1_n (by decide), hfr 78 (by omega) (by decide)]
  · unfold Tp at *
    simp (disch := first | omega | decide) only [nI_lel, nI_ltl, nI_ler, nI_ltr, nI_addl, nI_addr, nI_eqN, nI_leN, nI_ltN, Nat.zero_add, Option.bind_some, Option.bind_none, Option.map_some, bd2_some, b2i_0, b2i_1, b2i_t, b2i_f, ↓reduceIte, if_true, if_false, Bool.true_eq_false, Bool.false_eq_true, not_true_eq_false, not_false_eq_true, true_and, and_true, false_and, and_false, true_or, or_true, false_or, or_false, decide_true, decide_false, Bool.true_and, Bool.false_and, Bool.and_true, Bool.and_false, and_self, Nat.le_refl, Nat.lt_irrefl, ite_self, i10, i01, Option.some.injEq, up1_s, up1_up, ups, up1_x, upsn, h7, hfr 77 (by omega) (by decide), hfr 63 (by omega) (by decide), hfr 81 (by omega) (by decide)]
    exact tp
  · unfold WI at *
    simp (disch := first | omega | decide) only [nI_lel, nI_ltl, nI_ler, nI_ltr, nI_addl, nI_addr, nI_eqN, nI_leN, nI_ltN, Nat.zero_add, Option.bind_some, Option.bind_none, Option.map_some, bd2_some, b2i_0, b2i_1, b2i_t, b2i_f, ↓reduceIte, if_true, if_false, Bool.true_eq_false, Bool.false_eq_true, not_true_eq_false, not_false_eq_true, true_and, and_true, false_and, and_false, true_or, or_true, false_or, or_false, decide_true, decide_false, Bool.true_and, Bool.false_and, Bool.and_true, Bool.and_false, and_self, Nat.le_refl, Nat.lt_irrefl, ite_self, i10, i01, Option.some.injEq, up1_s, up1_up, ups, up1_x, upsn, h7, hfr 77 (by omega) (by decide), hfr 68 (by omega) (by decide), hfr 69 (by omega) (by decide), hfr 70 (by omega) (by decide), hfr 95 (by omega) (by decide), hfr 96 (by omega) (by decide), hfr 97 (by omega) (by decide)]
    exact wi
  · refine ⟨fun a h1 h2 => by rw [up1_n (by omega), up1_n (by omega), hfr a (by omega) (by omega)], ?_⟩
    simp (disch := first | omega | decide) only [nI_lel, nI_ltl, nI_ler, nI_ltr, nI_addl, nI_addr, nI_eqN, nI_leN, nI_ltN, Nat.zero_add, Option.bind_some, Option.bind_none, Option.map_some, bd2_some, b2i_0, b2i_1, b2i_t, b2i_f, ↓reduceIte, if_true, if_false, Bool.true_eq_false, Bool.false_eq_true, not_true_eq_false, not_false_eq_true, true_and, and_true, false_and, and_false, true_or, or_true, false_or, or_false, decide_true, decide_false, Bool.true_and, Bool.false_and, Bool.and_true, Bool.and_false, and_self, Nat.le_refl, Nat.lt_irrefl, ite_self, i10, i01, Option.some.injEq, up1_s, up1_up, ups, up1_x, upsn, hfr 77 (by omega) (by decide)]
theorem undo_q (rw0 : Rw V) (kp : Kp V) (tp : Tp V) (wi : WI V) : ∃ v V1 V2, tp_undo (some 7) (mkH E V) = some (v, mkH E V1) ∧ mo_undo (some 77) (mkH E V1) = some (v, mkH E V2) ∧ Rw V2 ∧ Kp V2 ∧ Tp V2 ∧ WI V2 ∧ LF V V2 := by
  rcases kp with ⟨k1, k2⟩ | ⟨k1, k2, k3, k4⟩
  · refine ⟨0, V, V, ?_, ?_, rw0, Or.inl ⟨k1, k2⟩, tp, wi, fun _ _ _ => rfl, rfl⟩
    · unfold tp_undo tp_undo_0
      simp (disch := first | omega | decide) only [nI_lel, nI_ltl, nI_ler, nI_ltr, nI_addl, nI_addr, nI_eqN, nI_leN, nI_ltN, Nat.zero_add, Option.bind_some, Option.bind_none, Option.map_some, bd2_some, b2i_0, b2i_1, b2i_t, b2i_f, ↓reduceIte, if_true, if_false, Bool.true_eq_false, Bool.false_eq_true, not_true_eq_false, not_false_eq_true, true_and, and_true, false_and, and_false, true_or, or_true, false_or, or_false, decide_true, decide_false, Bool.true_and, Bool.false_and, Bool.and_true, Bool.and_false, and_self, Nat.le_refl, Nat.lt_irrefl, ite_self, i10, i01, Option.some.injEq, grd_t isC_7, x_isKept, k1]
    · unfold mo_undo mo_undo_0
      simp (disch := first | omega | decide) only [nI_lel, nI_ltl, nI_ler, nI_ltr, nI_addl, nI_addr, nI_eqN, nI_leN, nI_ltN, Nat.zero_add, Option.bind_some, Option.bind_none, Option.map_some, bd2_some, b2i_0, b2i_1, b2i_t, b2i_f, ↓reduceIte, if_true, if_false, Bool.true_eq_false, Bool.false_eq_true, not_true_eq_false, not_false_eq_true, true_and, and_true, false_and, and_false, true_or, or_true, false_or, or_false, decide_true, decide_false, Bool.true_and, Bool.false_and, Bool.and_true, Bool.and_false, and_self, Nat.le_refl, Nat.lt_irrefl, ite_self, i10, i01, Option.some.injEq, grd_t isC_77, m_isKept, k2]
  · obtain ⟨V1, e1, r1, fr, -, -⟩ := yd_takes_q (E := E) y9 y45 (by decide) k3 k4
    have hfr : ∀ a, (a < 9 ∨ 26 < a) → V1 a = V a := fun a h1 => fr a (by omega)
    refine ⟨1, V1, up1 V1 78 (fun i => if i < 66 then V1 80 i else V1 78 i), ?_, ?_, ⟨?_, ?_⟩, ?_, ?_, ?_, ?_⟩
    · unfold tp_undo tp_undo_0
      simp (disch := first | omega | decide) only [nI_lel, nI_ltl, nI_ler, nI_ltr, nI_addl, nI_addr, nI_eqN, nI_leN, nI_ltN, Nat.zero_add, Option.bind_some, Option.bind_none, Option.map_some, bd2_some, b2i_0, b2i_1, b2i_t, b2i_f, ↓reduceIte, if_true, if_false, Bool.true_eq_false, Bool.false_eq_true, not_true_eq_false, not_false_eq_true, true_and, and_true, false_and, and_false, true_or, or_true, false_or, or_false, decide_true, decide_false, Bool.true_and, Bool.false_and, Bool.and_true, Bool.and_false, and_self, Nat.le_refl, Nat.lt_irrefl, ite_self, i10, i01, Option.some.injEq, grd_t isC_7, x_isKept, k1, x_kept, x_yard, e1]
    · unfold mo_undo mo_undo_0
      simp (disch := first | omega | decide) only [nI_lel, nI_ltl, nI_ler, nI_ltr, nI_addl, nI_addr, nI_eqN, nI_leN, nI_ltN, Nat.zero_add, Option.bind_some, Option.bind_none, Option.map_some, bd2_some, b2i_0, b2i_1, b2i_t, b2i_f, ↓reduceIte, if_true, if_false, Bool.true_eq_false, Bool.false_eq_true, not_true_eq_false, not_false_eq_true, true_and, and_true, false_and, and_false, true_or, or_true, false_or, or_false, decide_true, decide_false, Bool.true_and, Bool.false_and, Bool.and_true, Bool.and_false, and_self, Nat.le_refl, Nat.lt_irrefl, ite_self, i10, i01, Option.some.injEq, grd_t isC_77, m_isKept, hfr 77 (by omega), k2, m_now, m_kept, mo_copies_q (show 80 ≠ 78 by decide) (fun V j hj => ald_80 hj) (fun V j v hj => ast_78 hj)]
    · refine k4.congr (fun i hi => ?_)
      rw [up1_s, if_pos hi, hfr 80 (by omega)]
    · refine r1.congr (fun i hi => ?_) fun a h1 h2 => by rw [up1_n (by omega)]
      rw [up1_s, if_pos hi, hfr 80 (by omega)]
    · refine Or.inr ⟨?_, ?_, ?_, ?_⟩
      · simp (disch := first | omega | decide) only [nI_lel, nI_ltl, nI_ler, nI_ltr, nI_addl, nI_addr, nI_eqN, nI_leN, nI_ltN, Nat.zero_add, Option.bind_some, Option.bind_none, Option.map_some, bd2_some, b2i_0, b2i_1, b2i_t, b2i_f, ↓reduceIte, if_true, if_false, Bool.true_eq_false, Bool.false_eq_true, not_true_eq_false, not_false_eq_true, true_and, and_true, false_and, and_false, true_or, or_true, false_or, or_false, decide_true, decide_false, Bool.true_and, Bool.false_and, Bool.and_true, Bool.and_false, and_self, Nat.le_refl, Nat.lt_irrefl, ite_self, i10, i01, Option.some.injEq, up1_s, up1_up, ups, up1_x, upsn, hfr 7 (by omega), k1]
      · simp (disch := first | omega | decide) only [nI_lel, nI_ltl, nI_ler, nI_ltr, nI_addl, nI_addr, nI_eqN, nI_leN, nI_ltN, Nat.zero_add, Option.bind_some, Option.bind_none, Option.map_some, bd2_some, b2i_0, b2i_1, b2i_t, b2i_f, ↓reduceIte, if_true, if_false, Bool.true_eq_false, Bool.false_eq_true, not_true_eq_false, not_false_eq_true, true_and, and_true, false_and, and_false, true_or, or_true, false_or, or_false, decide_true, decide_false, Bool.true_and, Bool.false_and, Bool.and_true, Bool.and_false, and_self, Nat.le_refl, Nat.lt_irrefl, ite_self, i10, i01, Option.some.injEq, up1_s, up1_up, ups, up1_x, upsn, hfr 77 (by omega), k2]
      · rw [up1_n (by decide), hfr 80 (by omega)]
        exact k3.congr (fun _ _ => rfl) fun a h1 h2 => by rw [up1_n (by omega), hfr a (by omega)]
      · rw [up1_n (by decide), hfr 80 (by omega)]
        exact k4
    · unfold Tp at *
      simp (disch := first | omega | decide) only [nI_lel, nI_ltl, nI_ler, nI_ltr, nI_addl, nI_addr, nI_eqN, nI_leN, nI_ltN, Nat.zero_add, Option.bind_some, Option.bind_none, Option.map_some, bd2_some, b2i_0, b2i_1, b2i_t, b2i_f, ↓reduceIte, if_true, if_false, Bool.true_eq_false, Bool.false_eq_true, not_true_eq_false, not_false_eq_true, true_and, and_true, false_and, and_false, true_or, or_true, false_or, or_false, decide_true, decide_false, Bool.true_and, Bool.false_and, Bool.and_true, Bool.and_false, and_self, Nat.le_refl, Nat.lt_irrefl, ite_self, i10, i01, Option.some.injEq, up1_s, up1_up, ups, up1_x, upsn, hfr 7 (by omega), hfr 77 (by omega), hfr 63 (by omega), hfr 81 (by omega)]
      exact tp
    · unfold WI at *
      simp (disch := first | omega | decide) only [nI_lel, nI_ltl, nI_ler, nI_ltr, nI_addl, nI_addr, nI_eqN, nI_leN, nI_ltN, Nat.zero_add, Option.bind_some, Option.bind_none, Option.map_some, bd2_some, b2i_0, b2i_1, b2i_t, b2i_f, ↓reduceIte, if_true, if_false, Bool.true_eq_false, Bool.false_eq_true, not_true_eq_false, not_false_eq_true, true_and, and_true, false_and, and_false, true_or, or_true, false_or, or_false, decide_true, decide_false, Bool.true_and, Bool.false_and, Bool.and_true, Bool.and_false, and_self, Nat.le_refl, Nat.lt_irrefl, ite_self, i10, i01, Option.some.injEq, up1_s, up1_up, ups, up1_x, upsn, hfr 7 (by omega), hfr 77 (by omega), hfr 68 (by omega), hfr 69 (by omega), hfr 70 (by omega), hfr 95 (by omega), hfr 96 (by omega), hfr 97 (by omega)]
      exact wi
    · refine ⟨fun a h1 h2 => by rw [up1_n (by omega), hfr a (by omega)], ?_⟩
      simp (disch := first | omega | decide) only [nI_lel, nI_ltl, nI_ler, nI_ltr, nI_addl, nI_addr, nI_eqN, nI_leN, nI_ltN, Nat.zero_add, Option.bind_some, Option.bind_none, Option.map_some, bd2_some, b2i_0, b2i_1, b2i_t, b2i_f, ↓reduceIte, if_true, if_false, Bool.true_eq_false, Bool.false_eq_true, not_true_eq_false, not_false_eq_true, true_and, and_true, false_and, and_false, true_or, or_true, false_or, or_false, decide_true, decide_false, Bool.true_and, Bool.false_and, Bool.and_true, Bool.and_false, and_self, Nat.le_refl, Nat.lt_irrefl, ite_self, i10, i01, Option.some.injEq, up1_s, up1_up, ups, up1_x, upsn, hfr 77 (by omega)]
end KU
