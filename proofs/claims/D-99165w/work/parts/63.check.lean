/-! check, feed -/
set_option maxRecDepth 100000
def wr (f : Nat → Int32) : Nat → List Int32 → Nat → Int32
  | _, [] => f
  | t, b :: bs => wr (upd f t b) (t + 1) bs
theorem wr_app (f : Nat → Int32) : ∀ (t : Nat) (bs cs : List Int32), wr f t (bs ++ cs) = wr (wr f t bs) (t + bs.length) cs := by
  intro t bs
  induction bs generalizing f t with
  | nil => intro cs; rfl
  | cons b bs ih =>
    intro cs
    show wr (upd f t b) (t + 1) (bs ++ cs) = wr (wr (upd f t b) (t + 1) bs) (t + (bs.length + 1)) cs
    rw [ih, show t + 1 + bs.length = t + (bs.length + 1) by omega]
theorem wr_congr {f g : Nat → Int32} {N : Nat} : ∀ (bs : List Int32) (t : Nat), (∀ i, i < N → f i = g i) → ∀ i, i < N → wr f t bs i = wr g t bs i := by
  intro bs
  induction bs generalizing f g with
  | nil => intro t h; exact h
  | cons b bs ih =>
    intro t h
    refine ih (t + 1) fun i hi => ?_
    by_cases e : i = t
    · subst e; rw [ups, ups]
    · rw [upsn e, upsn e, h i hi]
/-- bytes bs laid at t into array a, the count in field k of o -/
def PSh (a o k : Nat) (V V' : Nat → Nat → Int32) (t u : Nat) (bs : List Int32) : Prop := V' a = wr (V a) t bs ∧ V' o k = nI u ∧ (∀ j, j ≠ k → V' o j = V o j) ∧ (∀ c, c ≠ a → c ≠ o → V' c = V c) ∧ u = t + bs.length
theorem PSh.trans {a o k : Nat} {V V1 V2 : Nat → Nat → Int32} {t u u' : Nat} {bs cs : List Int32} (h1 : PSh a o k V V1 t u bs) (h2 : PSh a o k V1 V2 u u' cs) : PSh a o k V V2 t u' (bs ++ cs) := by
  obtain ⟨p1, p2, p3, p4, p5⟩ := h1
  obtain ⟨q1, q2, q3, q4, q5⟩ := h2
  refine ⟨?_, q2, fun j hj => (q3 j hj).trans (p3 j hj), fun c h1 h2 => (q4 c h1 h2).trans (p4 c h1 h2), ?_⟩
  · rw [q1, p1, wr_app, p5]
  · rw [q5, p5, List.length_append, Nat.add_assoc]
theorem PSh.one {a o k : Nat} {V : Nat → Nat → Int32} {t : Nat} {b : Int32} (hao : a ≠ o) : PSh a o k V (up1 (up1 V a (upd (V a) t b)) o (upd (V o) k (nI (t + 1)))) t (t + 1) [b] := by
  refine ⟨?_, ?_, fun j hj => ?_, fun c h1 h2 => ?_, rfl⟩
  · rw [up1_n hao, up1_s]; rfl
  · rw [up1_s, ups]
  · rw [up1_s, upsn hj]
  · rw [up1_n h2, up1_n h1]
def bt (v s : Int32) : Int32 := ((v >>> (s &&& 31)).toInt8.toInt32).toInt8.toInt32
def by4 (v : Int32) : List Int32 := [bt v 24] ++ [bt v 16] ++ [bt v 8] ++ [bt v 0]
section CF
variable {E : EE} {V : Nat → Nat → Int32} {f : Nat → Int32} {h : PH}
theorem tp_push1 {t : Nat} {v s s' : Int32} (ht : t < 260) (h6 : V 7 6 = nI t) (hs : ¬ s < 0) (hs' : s + (-8) = s') : ∃ V', tp_push_b3 (some 7) v s (mkH E V) = some (.inl (s', mkH E V')) ∧ PSh 63 7 6 V V' t (t + 1) [bt v s] := by
  refine ⟨_, ?_, PSh.one (by decide)⟩
  unfold tp_push_b3
  rw [if_neg hs]
  simp (disch := first | omega | decide) only [nI_lel, nI_ltl, nI_ler, nI_ltr, nI_addl, nI_addr, nI_eqN, nI_leN, nI_ltN, Nat.zero_add, Option.bind_some, Option.bind_none, Option.map_some, bd2_some, b2i_0, b2i_1, b2i_t, b2i_f, ↓reduceIte, if_true, if_false, Bool.true_eq_false, Bool.false_eq_true, not_true_eq_false, not_false_eq_true, true_and, and_true, false_and, and_false, true_or, or_true, false_or, or_false, decide_true, decide_false, Bool.true_and, Bool.false_and, Bool.and_true, Bool.and_false, and_self, Nat.le_refl, Nat.lt_irrefl, ite_self, i10, i01, Option.some.injEq, up1_s, up1_up, ups, up1_x, upsn, x_tape, x_taped, h6, ast_63, sx_taped, hs']
  rfl
theorem tp_push_q {t : Nat} (ht : t + 4 ≤ 260) (h6 : V 7 6 = nI t) (v : Int32) : ∃ V', tp_push (some 7) v (mkH E V) = some (mkH E V') ∧ PSh 63 7 6 V V' t (t + 1 + 1 + 1 + 1) (by4 v) := by
  unfold tp_push tp_push_0 tp_push_L3
  rw [grd_t isC_7]
  obtain ⟨V1, e1, p1⟩ := tp_push1 (E := E) (V := V) (v := v) (s := 24) (s' := 16) (show t < 260 by omega) h6 (by decide) (by decide)
  obtain ⟨V2, e2, p2⟩ := tp_push1 (E := E) (V := V1) (v := v) (s := 16) (s' := 8) (show t + 1 < 260 by omega) p1.2.1 (by decide) (by decide)
  obtain ⟨V3, e3, p3⟩ := tp_push1 (E := E) (V := V2) (v := v) (s := 8) (s' := 0) (show t + 1 + 1 < 260 by omega) p2.2.1 (by decide) (by decide)
  obtain ⟨V4, e4, p4⟩ := tp_push1 (E := E) (V := V3) (v := v) (s := 0) (s' := -8) (show t + 1 + 1 + 1 < 260 by omega) p3.2.1 (by decide) (by decide)
  refine ⟨V4, ?_, ((p1.trans p2).trans p3).trans p4⟩
  refine (iter_l (B := fun s : Int32 × PH => tp_push_b3 (some 7) v s.1 s.2) (s := (24, mkH E V)) (s' := (16, mkH E V1)) e1).trans ?_
  refine (iter_l (B := fun s : Int32 × PH => tp_push_b3 (some 7) v s.1 s.2) (s := (16, mkH E V1)) (s' := (8, mkH E V2)) e2).trans ?_
  refine (iter_l (B := fun s : Int32 × PH => tp_push_b3 (some 7) v s.1 s.2) (s := (8, mkH E V2)) (s' := (0, mkH E V3)) e3).trans ?_
  refine (iter_l (B := fun s : Int32 × PH => tp_push_b3 (some 7) v s.1 s.2) (s := (0, mkH E V3)) (s' := (-8, mkH E V4)) e4).trans ?_
  refine iter_r ?_
  unfold tp_push_b3
  exact if_pos (show (-8 : Int32) < 0 by decide)
theorem mo_push1 {t : Nat} {v s s' s8 : Int32} (ht : t < 260) (h6 : V 77 4 = nI t) (hs : ¬ s < 0) (hs' : s + (-1) = s') (h8 : 8 * s = s8) : ∃ V', mo_types_b2 (some 77) v s (mkH E V) = some (.inl (s', mkH E V')) ∧ PSh 81 77 4 V V' t (t + 1) [bt v s8] := by
  refine ⟨_, ?_, PSh.one (by decide)⟩
  unfold mo_types_b2
  rw [if_neg hs]
  simp (disch := first | omega | decide) only [nI_lel, nI_ltl, nI_ler, nI_ltr, nI_addl, nI_addr, nI_eqN, nI_leN, nI_ltN, Nat.zero_add, Option.bind_some, Option.bind_none, Option.map_some, bd2_some, b2i_0, b2i_1, b2i_t, b2i_f, ↓reduceIte, if_true, if_false, Bool.true_eq_false, Bool.false_eq_true, not_true_eq_false, not_false_eq_true, true_and, and_true, false_and, and_false, true_or, or_true, false_or, or_false, decide_true, decide_false, Bool.true_and, Bool.false_and, Bool.and_true, Bool.and_false, and_self, Nat.le_refl, Nat.lt_irrefl, ite_self, i10, i01, Option.some.injEq, up1_s, up1_up, ups, up1_x, upsn, m_tape, m_taped, h6, ast_81, s_taped, hs', h8]
  rfl
theorem mo_types_q {t : Nat} (ht : t + 4 ≤ 260) (h6 : V 77 4 = nI t) (v : Int32) : ∃ V', mo_types (some 77) v (mkH E V) = some (mkH E V') ∧ PSh 81 77 4 V V' t (t + 1 + 1 + 1 + 1) (by4 v) := by
  unfold mo_types mo_types_0 mo_types_L2
  rw [grd_t isC_77]
  obtain ⟨V1, e1, p1⟩ := mo_push1 (E := E) (V := V) (v := v) (s := 3) (s8 := 24) (s' := 2) (show t < 260 by omega) h6 (by decide) (by decide) (by decide)
  obtain ⟨V2, e2, p2⟩ := mo_push1 (E := E) (V := V1) (v := v) (s := 2) (s8 := 16) (s' := 1) (show t + 1 < 260 by omega) p1.2.1 (by decide) (by decide) (by decide)
  obtain ⟨V3, e3, p3⟩ := mo_push1 (E := E) (V := V2) (v := v) (s := 1) (s8 := 8) (s' := 0) (show t + 1 + 1 < 260 by omega) p2.2.1 (by decide) (by decide) (by decide)
  obtain ⟨V4, e4, p4⟩ := mo_push1 (E := E) (V := V3) (v := v) (s := 0) (s8 := 0) (s' := -1) (show t + 1 + 1 + 1 < 260 by omega) p3.2.1 (by decide) (by decide) (by decide)
  refine ⟨V4, ?_, ((p1.trans p2).trans p3).trans p4⟩
  refine (iter_l (B := fun s : Int32 × PH => mo_types_b2 (some 77) v s.1 s.2) (s := (3, mkH E V)) (s' := (2, mkH E V1)) e1).trans ?_
  refine (iter_l (B := fun s : Int32 × PH => mo_types_b2 (some 77) v s.1 s.2) (s := (2, mkH E V1)) (s' := (1, mkH E V2)) e2).trans ?_
  refine (iter_l (B := fun s : Int32 × PH => mo_types_b2 (some 77) v s.1 s.2) (s := (1, mkH E V2)) (s' := (0, mkH E V3)) e3).trans ?_
  refine (iter_l (B := fun s : Int32 × PH => mo_types_b2 (some 77) v s.1 s.2) (s := (0, mkH E V3)) (s' := (-1, mkH E V4)) e4).trans ?_
  refine iter_r ?_
  unfold mo_types_b2
  exact if_pos (show (-1 : Int32) < 0 by decide)
theorem by4_len (v : Int32) : (by4 v).length = 4 := rfl
theorem feed_q (rw0 : Rw V) (kp : Kp V) (tp : Tp V) (wi : WI V) (a b c d e : Int32) : ∃ v V1 V2, tp_feed (some 7) a b c d e (mkH E V) = some (v, mkH E V1) ∧ mo_feed (some 77) a b c d e (mkH E V1) = some (v, mkH E V2) ∧ Rw V2 ∧ Kp V2 ∧ Tp V2 ∧ WI V2 ∧ LF V V2 := by
  obtain ⟨t, ht, t1, t2, t3⟩ := tp
  unfold tp_feed tp_feed_0 mo_feed mo_feed_0
  by_cases hl : t + 20 ≤ 260
  · obtain ⟨A1, a1, p1⟩ := tp_push_q (E := E) (V := V) (show t + 4 ≤ 260 by omega) t1 a
    obtain ⟨A2, a2, p2⟩ := tp_push_q (E := E) (V := A1) (show t + 1 + 1 + 1 + 1 + 4 ≤ 260 by omega) p1.2.1 b
    obtain ⟨A3, a3, p3⟩ := tp_push_q (E := E) (V := A2) (show t + 1 + 1 + 1 + 1 + 1 + 1 + 1 + 1 + 4 ≤ 260 by omega) p2.2.1 c
    obtain ⟨A4, a4, p4⟩ := tp_push_q (E := E) (V := A3) (show t + 1 + 1 + 1 + 1 + 1 + 1 + 1 + 1 + 1 + 1 + 1 + 1 + 4 ≤ 260 by omega) p3.2.1 d
    obtain ⟨A5, a5, p5⟩ := tp_push_q (E := E) (V := A4) (show t + 1 + 1 + 1 + 1 + 1 + 1 + 1 + 1 + 1 + 1 + 1 + 1 + 1 + 1 + 1 + 1 + 4 ≤ 260 by omega) p4.2.1 e
    have px : PSh 63 7 6 V A5 t _ _ := (((p1.trans p2).trans p3).trans p4).trans p5
    have t2' : A5 77 4 = nI t := by rw [px.2.2.2.1 77 (by decide) (by decide)]; exact t2
    obtain ⟨B1, b1, q1⟩ := mo_types_q (E := E) (V := A5) (show t + 4 ≤ 260 by omega) t2' a
    obtain ⟨B2, b2, q2⟩ := mo_types_q (E := E) (V := B1) (show t + 1 + 1 + 1 + 1 + 4 ≤ 260 by omega) q1.2.1 b
    obtain ⟨B3, b3, q3⟩ := mo_types_q (E := E) (V := B2) (show t + 1 + 1 + 1 + 1 + 1 + 1 + 1 + 1 + 4 ≤ 260 by omega) q2.2.1 c
    obtain ⟨B4, b4, q4⟩ := mo_types_q (E := E) (V := B3) (show t + 1 + 1 + 1 + 1 + 1 + 1 + 1 + 1 + 1 + 1 + 1 + 1 + 4 ≤ 260 by omega) q3.2.1 d
    obtain ⟨B5, b5, q5⟩ := mo_types_q (E := E) (V := B4) (show t + 1 + 1 + 1 + 1 + 1 + 1 + 1 + 1 + 1 + 1 + 1 + 1 + 1 + 1 + 1 + 1 + 4 ≤ 260 by omega) q4.2.1 e
    have qx : PSh 81 77 4 A5 B5 t _ _ := (((q1.trans q2).trans q3).trans q4).trans q5
    have f1 : A5 7 6 = nI (t + 20) := px.2.1.trans (congrArg nI (by omega))
    have f2 : B5 77 4 = nI (t + 20) := qx.2.1.trans (congrArg nI (by omega))
    have fr : ∀ c, c ≠ 63 → c ≠ 7 → c ≠ 81 → c ≠ 77 → B5 c = V c := fun c h1 h2 h3 h4 => (qx.2.2.2.1 c h3 h4).trans (px.2.2.2.1 c h1 h2)
    have fr7 : ∀ j, j ≠ 6 → B5 7 j = V 7 j := fun j hj => by rw [qx.2.2.2.1 7 (by decide) (by decide)]; exact px.2.2.1 j hj
    have fr77 : ∀ j, j ≠ 4 → B5 77 j = V 77 j := fun j hj => (qx.2.2.1 j hj).trans (by rw [px.2.2.2.1 77 (by decide) (by decide)])
    refine ⟨nI (t + 20), A5, B5, ?_, ?_, ⟨?_, ?_⟩, ?_, ?_, ?_, ?_⟩
    · simp (disch := first | omega | decide) only [nI_lel, nI_ltl, nI_ler, nI_ltr, nI_addl, nI_addr, nI_eqN, nI_leN, nI_ltN, Nat.zero_add, Option.bind_some, Option.bind_none, Option.map_some, bd2_some, b2i_0, b2i_1, b2i_t, b2i_f, ↓reduceIte, if_true, if_false, Bool.true_eq_false, Bool.false_eq_true, not_true_eq_false, not_false_eq_true, true_and, and_true, false_and, and_false, true_or, or_true, false_or, or_false, decide_true, decide_false, Bool.true_and, Bool.false_and, Bool.and_true, Bool.and_false, and_self, Nat.le_refl, Nat.lt_irrefl, ite_self, i10, i01, Option.some.injEq, grd_t isC_7, x_taped, t1, hl, a1, a2, a3, a4, a5, f1]
    · simp (disch := first | omega | decide) only [nI_lel, nI_ltl, nI_ler, nI_ltr, nI_addl, nI_addr, nI_eqN, nI_leN, nI_ltN, Nat.zero_add, Option.bind_some, Option.bind_none, Option.map_some, bd2_some, b2i_0, b2i_1, b2i_t, b2i_f, ↓reduceIte, if_true, if_false, Bool.true_eq_false, Bool.false_eq_true, not_true_eq_false, not_false_eq_true, true_and, and_true, false_and, and_false, true_or, or_true, false_or, or_false, decide_true, decide_false, Bool.true_and, Bool.false_and, Bool.and_true, Bool.and_false, and_self, Nat.le_refl, Nat.lt_irrefl, ite_self, i10, i01, Option.some.injEq, grd_t isC_77, m_taped, t2', hl, b1, b2, b3, b4, b5, f2]
    · rw [fr 78 (by decide) (by decide) (by decide) (by decide)]; exact rw0.1
    · rw [fr 78 (by decide) (by decide) (by decide) (by decide)]
      exact rw0.2.congr (fun _ _ => rfl) fun c h1 h2 => fr c (by omega) (by omega) (by omega) (by omega)
    · unfold Kp at *
      rw [fr7 7 (by decide), fr77 49 (by decide), fr 80 (by decide) (by decide) (by decide) (by decide)]
      rcases kp with k | ⟨k1, k2, k3, k4⟩
      · exact Or.inl k
      · exact Or.inr ⟨k1, k2, k3.congr (fun _ _ => rfl) fun c h1 h2 => fr c (by omega) (by omega) (by omega) (by omega), k4⟩
    · refine ⟨t + 20, hl, ?_, f2, ?_⟩
      · rw [qx.2.2.2.1 7 (by decide) (by decide)]; exact f1
      · rw [qx.2.2.2.1 63 (by decide) (by decide), px.1, qx.1, px.2.2.2.1 81 (by decide) (by decide)]
        exact wr_congr _ t t3
    · unfold WI at *
      rw [fr7 11 (by decide), fr77 34 (by decide), fr 68 (by decide) (by decide) (by decide) (by decide), fr 69 (by decide) (by decide) (by decide) (by decide), fr 70 (by decide) (by decide) (by decide) (by decide), fr 95 (by decide) (by decide) (by decide) (by decide), fr 96 (by decide) (by decide) (by decide) (by decide), fr 97 (by decide) (by decide) (by decide) (by decide)]
      exact wi
    · exact ⟨fun c h1 h2 => fr c (by omega) (by omega) (by omega) (by omega), fr77 13 (by decide)⟩
  · refine ⟨-1, V, V, ?_, ?_, rw0, kp, ⟨t, ht, t1, t2, t3⟩, wi, fun _ _ _ => rfl, rfl⟩
    · simp (disch := first | omega | decide) only [nI_lel, nI_ltl, nI_ler, nI_ltr, nI_addl, nI_addr, nI_eqN, nI_leN, nI_ltN, Nat.zero_add, Option.bind_some, Option.bind_none, Option.map_some, bd2_some, b2i_0, b2i_1, b2i_t, b2i_f, ↓reduceIte, if_true, if_false, Bool.true_eq_false, Bool.false_eq_true, not_true_eq_false, not_false_eq_true, true_and, and_true, false_and, and_false, true_or, or_true, false_or, or_false, decide_true, decide_false, Bool.true_and, Bool.false_and, Bool.and_true, Bool.and_false, and_self, Nat.le_refl, Nat.lt_irrefl, ite_self, i10, i01, Option.some.injEq, grd_t isC_7, x_taped, t1, hl]
    · simp (disch := first | omega | decide) only [nI_lel, nI_ltl, nI_ler, nI_ltr, nI_addl, nI_addr, nI_eqN, nI_leN, nI_ltN, Nat.zero_add, Option.bind_some, Option.bind_none, Option.map_some, bd2_some, b2i_0, b2i_1, b2i_t, b2i_f, ↓reduceIte, if_true, if_false, Bool.true_eq_false, Bool.false_eq_true, not_true_eq_false, not_false_eq_true, true_and, and_true, false_and, and_false, true_or, or_true, false_or, or_false, decide_true, decide_false, Bool.true_and, Bool.false_and, Bool.and_true, Bool.and_false, and_self, Nat.le_refl, Nat.lt_irrefl, ite_self, i10, i01, Option.some.injEq, grd_t isC_77, m_taped, t2, hl]
/-- the tape is empty again on both sides, all else kept -/
def T0 (V V2 : Nat → Nat → Int32) : Prop := ∃ V1, V2 = up1 V1 77 (upd (V 77) 4 0) ∧ V1 = up1 V 7 (upd (V 7) 6 0)
theorem t0_q (rw0 : Rw V) (kp : Kp V) (tp : Tp V) (wi : WI V) : Rw (up1 (up1 V 7 (upd (V 7) 6 0)) 77 (upd (V 77) 4 0)) ∧ Kp (up1 (up1 V 7 (upd (V 7) 6 0)) 77 (upd (V 77) 4 0)) ∧ Tp (up1 (up1 V 7 (upd (V 7) 6 0)) 77 (upd (V 77) 4 0)) ∧ WI (up1 (up1 V 7 (upd (V 7) 6 0)) 77 (upd (V 77) 4 0)) ∧ LF V (up1 (up1 V 7 (upd (V 7) 6 0)) 77 (upd (V 77) 4 0)) := by
  refine ⟨⟨?_, ?_⟩, ?_, ?_, ?_, ?_, ?_⟩
  · simp (disch := first | omega | decide) only [nI_lel, nI_ltl, nI_ler, nI_ltr, nI_addl, nI_addr, nI_eqN, nI_leN, nI_ltN, Nat.zero_add, Option.bind_some, Option.bind_none, Option.map_some, bd2_some, b2i_0, b2i_1, b2i_t, b2i_f, ↓reduceIte, if_true, if_false, Bool.true_eq_false, Bool.false_eq_true, not_true_eq_false, not_false_eq_true, true_and, and_true, false_and, and_false, true_or, or_true, false_or, or_false, decide_true, decide_false, Bool.true_and, Bool.false_and, Bool.and_true, Bool.and_false, and_self, Nat.le_refl, Nat.lt_irrefl, ite_self, i10, i01, Option.some.injEq, up1_s, up1_up, ups, up1_x, upsn]
    exact rw0.1
  · simp (disch := first | omega | decide) only [nI_lel, nI_ltl, nI_ler, nI_ltr, nI_addl, nI_addr, nI_eqN, nI_leN, nI_ltN, Nat.zero_add, Option.bind_some, Option.bind_none, Option.map_some, bd2_some, b2i_0, b2i_1, b2i_t, b2i_f, ↓reduceIte, if_true, if_false, Bool.true_eq_false, Bool.false_eq_true, not_true_eq_false, not_false_eq_true, true_and, and_true, false_and, and_false, true_or, or_true, false_or, or_false, decide_true, decide_false, Bool.true_and, Bool.false_and, Bool.and_true, Bool.and_false, and_self, Nat.le_refl, Nat.lt_irrefl, ite_self, i10, i01, Option.some.injEq, up1_s, up1_up, ups, up1_x, upsn]
    exact rw0.2.congr (fun _ _ => rfl) fun c h1 h2 => by rw [up1_n (by omega), up1_n (by omega)]
  · unfold Kp at *
    simp (disch := first | omega | decide) only [nI_lel, nI_ltl, nI_ler, nI_ltr, nI_addl, nI_addr, nI_eqN, nI_leN, nI_ltN, Nat.zero_add, Option.bind_some, Option.bind_none, Option.map_some, bd2_some, b2i_0, b2i_1, b2i_t, b2i_f, ↓reduceIte, if_true, if_false, Bool.true_eq_false, Bool.false_eq_true, not_true_eq_false, not_false_eq_true, true_and, and_true, false_and, and_false, true_or, or_true, false_or, or_false, decide_true, decide_false, Bool.true_and, Bool.false_and, Bool.and_true, Bool.and_false, and_self, Nat.le_refl, Nat.lt_irrefl, ite_self, i10, i01, Option.some.injEq, up1_s, up1_up, ups, up1_x, upsn]
    rcases kp with k | ⟨k1, k2, k3, k4⟩
    · exact Or.inl k
    · exact Or.inr ⟨k1, k2, k3.congr (fun _ _ => rfl) fun c h1 h2 => by rw [up1_n (by omega), up1_n (by omega)], k4⟩
  · obtain ⟨t, ht, t1, t2, t3⟩ := tp
    refine ⟨0, by omega, ?_, ?_, ?_⟩
    · simp (disch := first | omega | decide) only [nI_lel, nI_ltl, nI_ler, nI_ltr, nI_addl, nI_addr, nI_eqN, nI_leN, nI_ltN, Nat.zero_add, Option.bind_some, Option.bind_none, Option.map_some, bd2_some, b2i_0, b2i_1, b2i_t, b2i_f, ↓reduceIte, if_true, if_false, Bool.true_eq_false, Bool.false_eq_true, not_true_eq_false, not_false_eq_true, true_and, and_true, false_and, and_false, true_or, or_true, false_or, or_false, decide_true, decide_false, Bool.true_and, Bool.false_and, Bool.and_true, Bool.and_false, and_self, Nat.le_refl, Nat.lt_irrefl, ite_self, i10, i01, Option.some.injEq, up1_s, up1_up, ups, up1_x, upsn]
      rfl
    · simp (disch := first | omega | decide) only [nI_lel, nI_ltl, nI_ler, nI_ltr, nI_addl, nI_addr, nI_eqN, nI_leN, nI_ltN, Nat.zero_add, Option.bind_some, Option.bind_none, Option.map_some, bd2_some, b2i_0, b2i_1, b2i_t, b2i_f, ↓reduceIte, if_true, if_false, Bool.true_eq_false, Bool.false_eq_true, not_true_eq_false, not_false_eq_true, true_and, and_true, false_and, and_false, true_or, or_true, false_or, or_false, decide_true, decide_false, Bool.true_and, Bool.false_and, Bool.and_true, Bool.and_false, and_self, Nat.le_refl, Nat.lt_irrefl, ite_self, i10, i01, Option.some.injEq, up1_s, up1_up, ups, up1_x, upsn]
      rfl
    · simp (disch := first | omega | decide) only [nI_lel, nI_ltl, nI_ler, nI_ltr, nI_addl, nI_addr, nI_eqN, nI_leN, nI_ltN, Nat.zero_add, Option.bind_some, Option.bind_none, Option.map_some, bd2_some, b2i_0, b2i_1, b2i_t, b2i_f, ↓reduceIte, if_true, if_false, Bool.true_eq_false, Bool.false_eq_true, not_true_eq_false, not_false_eq_true, true_and, and_true, false_and, and_false, true_or, or_true, false_or, or_false, decide_true, decide_false, Bool.true_and, Bool.false_and, Bool.and_true, Bool.and_false, and_self, Nat.le_refl, Nat.lt_irrefl, ite_self, i10, i01, Option.some.injEq, up1_s, up1_up, ups, up1_x, upsn]
      exact t3
  · unfold WI at *
    simp (disch := first | omega | decide) only [nI_lel, nI_ltl, nI_ler, nI_ltr, nI_addl, nI_addr, nI_eqN, nI_leN, nI_ltN, Nat.zero_add, Option.bind_some, Option.bind_none, Option.map_some, bd2_some, b2i_0, b2i_1, b2i_t, b2i_f, ↓reduceIte, if_true, if_false, Bool.true_eq_false, Bool.false_eq_true, not_true_eq_false, not_false_eq_true, true_and, and_true, false_and, and_false, true_or, or_true, false_or, or_false, decide_true, decide_false, Bool.true_and, Bool.false_and, Bool.and_true, Bool.and_false, and_self, Nat.le_refl, Nat.lt_irrefl, ite_self, i10, i01, Option.some.injEq, up1_s, up1_up, ups, up1_x, upsn]
    exact wi
  · intro a h1 h2
    rw [up1_n (by omega), up1_n (by omega)]
  · simp (disch := first | omega | decide) only [nI_lel, nI_ltl, nI_ler, nI_ltr, nI_addl, nI_addr, nI_eqN, nI_leN, nI_ltN, Nat.zero_add, Option.bind_some, Option.bind_none, Option.map_some, bd2_some, b2i_0, b2i_1, b2i_t, b2i_f, ↓reduceIte, if_true, if_false, Bool.true_eq_false, Bool.false_eq_true, not_true_eq_false, not_false_eq_true, true_and, and_true, false_and, and_false, true_or, or_true, false_or, or_false, decide_true, decide_false, Bool.true_and, Bool.false_and, Bool.and_true, Bool.and_false, and_self, Nat.le_refl, Nat.lt_irrefl, ite_self, i10, i01, Option.some.injEq, up1_s, up1_up, ups, up1_x, upsn]
def chkP (f T : Nat → Int32) (p : Nat) : Bool := !decide ((T p &&& 255) = (if f p = 1 then f (32 + p) else 0))
theorem check_q (rw0 : Rw V) (kp : Kp V) (tp : Tp V) (wi : WI V) (n : Int32) : ∃ v V1 V2, tp_check (some 7) n (mkH E V) = some (v, mkH E V1) ∧ mo_check (some 77) n (mkH E V1) = some (v, mkH E V2) ∧ Rw V2 ∧ Kp V2 ∧ Tp V2 ∧ WI V2 ∧ LF V V2 := by
  have tp' := tp
  obtain ⟨t, ht, t1, t2, t3⟩ := tp
  unfold tp_check tp_check_0 mo_check mo_check_0
  by_cases h1 : inB n 0 16 = true
  · obtain ⟨k, hk, rfl⟩ := in_n (n := 16) (by decide) h1
    by_cases h2 : k ≤ t
    · have c1 : tp_check_L28 (some 7) (nI k) 0 (mkH E (up1 V 7 (upd (V 7) 6 0))) = some (fnd (chkP (V 78) (V 81)) (fun i => (nI i, mkH E (up1 V 7 (upd (V 7) 6 0)))) (-1, mkH E (up1 V 7 (upd (V 7) 6 0))) k 0) := by
        unfold tp_check_L28
        refine iter_fnd (B := fun s : Int32 => tp_check_b28 (some 7) (nI k) s (mkH E (up1 V 7 (upd (V 7) 6 0)))) nI k 0 (fun i _ hi => ?_) (by unfold tp_check_b28; simp (disch := first | omega | decide) only [nI_lel, nI_ltl, nI_ler, nI_ltr, nI_addl, nI_addr, nI_eqN, nI_leN, nI_ltN, Nat.zero_add, Option.bind_some, Option.bind_none, Option.map_some, bd2_some, b2i_0, b2i_1, b2i_t, b2i_f, ↓reduceIte, if_true, if_false, Bool.true_eq_false, Bool.false_eq_true, not_true_eq_false, not_false_eq_true, true_and, and_true, false_and, and_false, true_or, or_true, false_or, or_false, decide_true, decide_false, Bool.true_and, Bool.false_and, Bool.and_true, Bool.and_false, and_self, Nat.le_refl, Nat.lt_irrefl, ite_self, i10, i01, Option.some.injEq])
        have hi' : i < 16 := by omega
        have r' : YR 9 (V 78) (up1 V 7 (upd (V 7) 6 0)) := rw0.2.congr (fun _ _ => rfl) fun c h1 h2 => by rw [up1_n (by omega)]
        unfold tp_check_b28 tp_check_67 chkP
        simp (disch := first | omega | decide) only [nI_lel, nI_ltl, nI_ler, nI_ltr, nI_addl, nI_addr, nI_eqN, nI_leN, nI_ltN, Nat.zero_add, Option.bind_some, Option.bind_none, Option.map_some, bd2_some, b2i_0, b2i_1, b2i_t, b2i_f, ↓reduceIte, if_true, if_false, Bool.true_eq_false, Bool.false_eq_true, not_true_eq_false, not_false_eq_true, true_and, and_true, false_and, and_false, true_or, or_true, false_or, or_false, decide_true, decide_false, Bool.true_and, Bool.false_and, Bool.and_true, Bool.and_false, and_self, Nat.le_refl, Nat.lt_irrefl, ite_self, i10, i01, Option.some.injEq, up1_s, up1_up, ups, up1_x, upsn, show ¬ k ≤ i by omega, x_tape, ald_63 (show i < 260 by omega), tp_isTold_eq r' rw0.1 hi', x_yard, yd_people y9, people_at y9 hi', p_mood y9 hi', r'.mood hi', t3 i (by omega)]
        by_cases c : V 78 i = 1
        · simp (disch := first | omega | decide) only [nI_lel, nI_ltl, nI_ler, nI_ltr, nI_addl, nI_addr, nI_eqN, nI_leN, nI_ltN, Nat.zero_add, Option.bind_some, Option.bind_none, Option.map_some, bd2_some, b2i_0, b2i_1, b2i_t, b2i_f, ↓reduceIte, if_true, if_false, Bool.true_eq_false, Bool.false_eq_true, not_true_eq_false, not_false_eq_true, true_and, and_true, false_and, and_false, true_or, or_true, false_or, or_false, decide_true, decide_false, Bool.true_and, Bool.false_and, Bool.and_true, Bool.and_false, and_self, Nat.le_refl, Nat.lt_irrefl, ite_self, i10, i01, Option.some.injEq, c]
          by_cases c2 : V 81 i &&& 255 = V 78 (32 + i) <;> simp (disch := first | omega | decide) only [nI_lel, nI_ltl, nI_ler, nI_ltr, nI_addl, nI_addr, nI_eqN, nI_leN, nI_ltN, Nat.zero_add, Option.bind_some, Option.bind_none, Option.map_some, bd2_some, b2i_0, b2i_1, b2i_t, b2i_f, ↓reduceIte, if_true, if_false, Bool.true_eq_false, Bool.false_eq_true, not_true_eq_false, not_false_eq_true, true_and, and_true, false_and, and_false, true_or, or_true, false_or, or_false, decide_true, decide_false, Bool.true_and, Bool.false_and, Bool.and_true, Bool.and_false, and_self, Nat.le_refl, Nat.lt_irrefl, ite_self, i10, i01, Option.some.injEq, c2, Bool.not_true, Bool.not_false]
        · simp (disch := first | omega | decide) only [nI_lel, nI_ltl, nI_ler, nI_ltr, nI_addl, nI_addr, nI_eqN, nI_leN, nI_ltN, Nat.zero_add, Option.bind_some, Option.bind_none, Option.map_some, bd2_some, b2i_0, b2i_1, b2i_t, b2i_f, ↓reduceIte, if_true, if_false, Bool.true_eq_false, Bool.false_eq_true, not_true_eq_false, not_false_eq_true, true_and, and_true, false_and, and_false, true_or, or_true, false_or, or_false, decide_true, decide_false, Bool.true_and, Bool.false_and, Bool.and_true, Bool.and_false, and_self, Nat.le_refl, Nat.lt_irrefl, ite_self, i10, i01, Option.some.injEq, c]
          by_cases c2 : V 81 i &&& 255 = 0 <;> simp (disch := first | omega | decide) only [nI_lel, nI_ltl, nI_ler, nI_ltr, nI_addl, nI_addr, nI_eqN, nI_leN, nI_ltN, Nat.zero_add, Option.bind_some, Option.bind_none, Option.map_some, bd2_some, b2i_0, b2i_1, b2i_t, b2i_f, ↓reduceIte, if_true, if_false, Bool.true_eq_false, Bool.false_eq_true, not_true_eq_false, not_false_eq_true, true_and, and_true, false_and, and_false, true_or, or_true, false_or, or_false, decide_true, decide_false, Bool.true_and, Bool.false_and, Bool.and_true, Bool.and_false, and_self, Nat.le_refl, Nat.lt_irrefl, ite_self, i10, i01, Option.some.injEq, c2, Bool.not_true, Bool.not_false]
      have c2 : ∀ W : Nat → Nat → Int32, W 78 = V 78 → W 81 = V 81 → mo_check_L28 (some 77) (nI k) 0 (mkH E W) = some (fnd (chkP (V 78) (V 81)) (fun i => (nI i, mkH E W)) (-1, mkH E W) k 0) := fun W w1 w2 => by
        unfold mo_check_L28
        refine iter_fnd (B := fun s : Int32 => mo_check_b28 (some 77) (nI k) s (mkH E W)) nI k 0 (fun i _ hi => ?_) (by unfold mo_check_b28; simp (disch := first | omega | decide) only [nI_lel, nI_ltl, nI_ler, nI_ltr, nI_addl, nI_addr, nI_eqN, nI_leN, nI_ltN, Nat.zero_add, Option.bind_some, Option.bind_none, Option.map_some, bd2_some, b2i_0, b2i_1, b2i_t, b2i_f, ↓reduceIte, if_true, if_false, Bool.true_eq_false, Bool.false_eq_true, not_true_eq_false, not_false_eq_true, true_and, and_true, false_and, and_false, true_or, or_true, false_or, or_false, decide_true, decide_false, Bool.true_and, Bool.false_and, Bool.and_true, Bool.and_false, and_self, Nat.le_refl, Nat.lt_irrefl, ite_self, i10, i01, Option.some.injEq])
        have hi' : i < 16 := by omega
        unfold mo_check_b28 mo_check_59 chkP mo_octet mo_octet_0
        simp (disch := first | omega | decide) only [nI_lel, nI_ltl, nI_ler, nI_ltr, nI_addl, nI_addr, nI_eqN, nI_leN, nI_ltN, Nat.zero_add, Option.bind_some, Option.bind_none, Option.map_some, bd2_some, b2i_0, b2i_1, b2i_t, b2i_f, ↓reduceIte, if_true, if_false, Bool.true_eq_false, Bool.false_eq_true, not_true_eq_false, not_false_eq_true, true_and, and_true, false_and, and_false, true_or, or_true, false_or, or_false, decide_true, decide_false, Bool.true_and, Bool.false_and, Bool.and_true, Bool.and_false, and_self, Nat.le_refl, Nat.lt_irrefl, ite_self, i10, i01, Option.some.injEq, up1_s, up1_up, ups, up1_x, upsn, show ¬ k ≤ i by omega, grd_t isC_77, m_tape, ald_81 (show i < 260 by omega), mo_isTold_eq hi', m_now, ald_78, w1, w2]
        by_cases c : V 78 i = 1
        · simp (disch := first | omega | decide) only [nI_lel, nI_ltl, nI_ler, nI_ltr, nI_addl, nI_addr, nI_eqN, nI_leN, nI_ltN, Nat.zero_add, Option.bind_some, Option.bind_none, Option.map_some, bd2_some, b2i_0, b2i_1, b2i_t, b2i_f, ↓reduceIte, if_true, if_false, Bool.true_eq_false, Bool.false_eq_true, not_true_eq_false, not_false_eq_true, true_and, and_true, false_and, and_false, true_or, or_true, false_or, or_false, decide_true, decide_false, Bool.true_and, Bool.false_and, Bool.and_true, Bool.and_false, and_self, Nat.le_refl, Nat.lt_irrefl, ite_self, i10, i01, Option.some.injEq, c]
          by_cases c2 : V 81 i &&& 255 = V 78 (32 + i) <;> simp (disch := first | omega | decide) only [nI_lel, nI_ltl, nI_ler, nI_ltr, nI_addl, nI_addr, nI_eqN, nI_leN, nI_ltN, Nat.zero_add, Option.bind_some, Option.bind_none, Option.map_some, bd2_some, b2i_0, b2i_1, b2i_t, b2i_f, ↓reduceIte, if_true, if_false, Bool.true_eq_false, Bool.false_eq_true, not_true_eq_false, not_false_eq_true, true_and, and_true, false_and, and_false, true_or, or_true, false_or, or_false, decide_true, decide_false, Bool.true_and, Bool.false_and, Bool.and_true, Bool.and_false, and_self, Nat.le_refl, Nat.lt_irrefl, ite_self, i10, i01, Option.some.injEq, c2, Bool.not_true, Bool.not_false]
        · simp (disch := first | omega | decide) only [nI_lel, nI_ltl, nI_ler, nI_ltr, nI_addl, nI_addr, nI_eqN, nI_leN, nI_ltN, Nat.zero_add, Option.bind_some, Option.bind_none, Option.map_some, bd2_some, b2i_0, b2i_1, b2i_t, b2i_f, ↓reduceIte, if_true, if_false, Bool.true_eq_false, Bool.false_eq_true, not_true_eq_false, not_false_eq_true, true_and, and_true, false_and, and_false, true_or, or_true, false_or, or_false, decide_true, decide_false, Bool.true_and, Bool.false_and, Bool.and_true, Bool.and_false, and_self, Nat.le_refl, Nat.lt_irrefl, ite_self, i10, i01, Option.some.injEq, c]
          by_cases c2 : V 81 i &&& 255 = 0 <;> simp (disch := first | omega | decide) only [nI_lel, nI_ltl, nI_ler, nI_ltr, nI_addl, nI_addr, nI_eqN, nI_leN, nI_ltN, Nat.zero_add, Option.bind_some, Option.bind_none, Option.map_some, bd2_some, b2i_0, b2i_1, b2i_t, b2i_f, ↓reduceIte, if_true, if_false, Bool.true_eq_false, Bool.false_eq_true, not_true_eq_false, not_false_eq_true, true_and, and_true, false_and, and_false, true_or, or_true, false_or, or_false, decide_true, decide_false, Bool.true_and, Bool.false_and, Bool.and_true, Bool.and_false, and_self, Nat.le_refl, Nat.lt_irrefl, ite_self, i10, i01, Option.some.injEq, c2, Bool.not_true, Bool.not_false]
      have hf : ∀ (P : Nat → Bool) (W : PH) (m k : Nat), fnd P (fun i => (nI i, W)) (-1, W) m k = (fnd P nI (-1) m k, W) := fun P W m => by
        induction m with
        | zero => intro k; rfl
        | succ m ih =>
          intro k
          show (if _ then _ else _) = (if _ then _ else _, W)
          rw [ih]
          split <;> rfl
      refine ⟨fnd (chkP (V 78) (V 81)) nI (-1) k 0, up1 V 7 (upd (V 7) 6 0), up1 (up1 V 7 (upd (V 7) 6 0)) 77 (upd (V 77) 4 0), ?_, ?_, t0_q rw0 kp tp' wi⟩
      · simp (disch := first | omega | decide) only [nI_lel, nI_ltl, nI_ler, nI_ltr, nI_addl, nI_addr, nI_eqN, nI_leN, nI_ltN, Nat.zero_add, Option.bind_some, Option.bind_none, Option.map_some, bd2_some, b2i_0, b2i_1, b2i_t, b2i_f, ↓reduceIte, if_true, if_false, Bool.true_eq_false, Bool.false_eq_true, not_true_eq_false, not_false_eq_true, true_and, and_true, false_and, and_false, true_or, or_true, false_or, or_false, decide_true, decide_false, Bool.true_and, Bool.false_and, Bool.and_true, Bool.and_false, and_self, Nat.le_refl, Nat.lt_irrefl, ite_self, i10, i01, Option.some.injEq, grd_t isC_7, tp_within_eq, h1, x_taped, t1, h2, sx_taped, c1, hf]
      · simp (disch := first | omega | decide) only [nI_lel, nI_ltl, nI_ler, nI_ltr, nI_addl, nI_addr, nI_eqN, nI_leN, nI_ltN, Nat.zero_add, Option.bind_some, Option.bind_none, Option.map_some, bd2_some, b2i_0, b2i_1, b2i_t, b2i_f, ↓reduceIte, if_true, if_false, Bool.true_eq_false, Bool.false_eq_true, not_true_eq_false, not_false_eq_true, true_and, and_true, false_and, and_false, true_or, or_true, false_or, or_false, decide_true, decide_false, Bool.true_and, Bool.false_and, Bool.and_true, Bool.and_false, and_self, Nat.le_refl, Nat.lt_irrefl, ite_self, i10, i01, Option.some.injEq, up1_s, up1_up, ups, up1_x, upsn, grd_t isC_77, mo_in_eq, h1, m_taped, t2, h2, s_taped]
        rw [c2 _ (by simp (disch := first | omega | decide) only [nI_lel, nI_ltl, nI_ler, nI_ltr, nI_addl, nI_addr, nI_eqN, nI_leN, nI_ltN, Nat.zero_add, Option.bind_some, Option.bind_none, Option.map_some, bd2_some, b2i_0, b2i_1, b2i_t, b2i_f, ↓reduceIte, if_true, if_false, Bool.true_eq_false, Bool.false_eq_true, not_true_eq_false, not_false_eq_true, true_and, and_true, false_and, and_false, true_or, or_true, false_or, or_false, decide_true, decide_false, Bool.true_and, Bool.false_and, Bool.and_true, Bool.and_false, and_self, Nat.le_refl, Nat.lt_irrefl, ite_self, i10, i01, Option.some.injEq, up1_s, up1_up, ups, up1_x, upsn]) (by simp (disch := first | omega | decide) only [nI_lel, nI_ltl, nI_ler, nI_ltr, nI_addl, nI_addr, nI_eqN, nI_leN, nI_ltN, Nat.zero_add, Option.bind_some, Option.bind_none, Option.map_some, bd2_some, b2i_0, b2i_1, b2i_t, b2i_f, ↓reduceIte, if_true, if_false, Bool.true_eq_false, Bool.false_eq_true, not_true_eq_false, not_false_eq_true, true_and, and_true, false_and, and_false, true_or, or_true, false_or, or_false, decide_true, decide_false, Bool.true_and, Bool.false_and, Bool.and_true, Bool.and_false, and_self, Nat.le_refl, Nat.lt_irrefl, ite_self, i10, i01, Option.some.injEq, up1_s, up1_up, ups, up1_x, upsn]), hf]
    · refine ⟨-2, V, V, ?_, ?_, rw0, kp, tp', wi, fun _ _ _ => rfl, rfl⟩
      · simp (disch := first | omega | decide) only [nI_lel, nI_ltl, nI_ler, nI_ltr, nI_addl, nI_addr, nI_eqN, nI_leN, nI_ltN, Nat.zero_add, Option.bind_some, Option.bind_none, Option.map_some, bd2_some, b2i_0, b2i_1, b2i_t, b2i_f, ↓reduceIte, if_true, if_false, Bool.true_eq_false, Bool.false_eq_true, not_true_eq_false, not_false_eq_true, true_and, and_true, false_and, and_false, true_or, or_true, false_or, or_false, decide_true, decide_false, Bool.true_and, Bool.false_and, Bool.and_true, Bool.and_false, and_self, Nat.le_refl, Nat.lt_irrefl, ite_self, i10, i01, Option.some.injEq, grd_t isC_7, tp_within_eq, h1, x_taped, t1, h2]
      · simp (disch := first | omega | decide) only [nI_lel, nI_ltl, nI_ler, nI_ltr, nI_addl, nI_addr, nI_eqN, nI_leN, nI_ltN, Nat.zero_add, Option.bind_some, Option.bind_none, Option.map_some, bd2_some, b2i_0, b2i_1, b2i_t, b2i_f, ↓reduceIte, if_true, if_false, Bool.true_eq_false, Bool.false_eq_true, not_true_eq_false, not_false_eq_true, true_and, and_true, false_and, and_false, true_or, or_true, false_or, or_false, decide_true, decide_false, Bool.true_and, Bool.false_and, Bool.and_true, Bool.and_false, and_self, Nat.le_refl, Nat.lt_irrefl, ite_self, i10, i01, Option.some.injEq, grd_t isC_77, mo_in_eq, h1, m_taped, t2, h2]
  · rw [Bool.not_eq_true] at h1
    refine ⟨-2, V, V, ?_, ?_, rw0, kp, tp', wi, fun _ _ _ => rfl, rfl⟩
    · simp (disch := first | omega | decide) only [nI_lel, nI_ltl, nI_ler, nI_ltr, nI_addl, nI_addr, nI_eqN, nI_leN, nI_ltN, Nat.zero_add, Option.bind_some, Option.bind_none, Option.map_some, bd2_some, b2i_0, b2i_1, b2i_t, b2i_f, ↓reduceIte, if_true, if_false, Bool.true_eq_false, Bool.false_eq_true, not_true_eq_false, not_false_eq_true, true_and, and_true, false_and, and_false, true_or, or_true, false_or, or_false, decide_true, decide_false, Bool.true_and, Bool.false_and, Bool.and_true, Bool.and_false, and_self, Nat.le_refl, Nat.lt_irrefl, ite_self, i10, i01, Option.some.injEq, grd_t isC_7, tp_within_eq, h1]
    · simp (disch := first | omega | decide) only [nI_lel, nI_ltl, nI_ler, nI_ltr, nI_addl, nI_addr, nI_eqN, nI_leN, nI_ltN, Nat.zero_add, Option.bind_some, Option.bind_none, Option.map_some, bd2_some, b2i_0, b2i_1, b2i_t, b2i_f, ↓reduceIte, if_true, if_false, Bool.true_eq_false, Bool.false_eq_true, not_true_eq_false, not_false_eq_true, true_and, and_true, false_and, and_false, true_or, or_true, false_or, or_false, decide_true, decide_false, Bool.true_and, Bool.false_and, Bool.and_true, Bool.and_false, and_self, Nat.le_refl, Nat.lt_irrefl, ite_self, i10, i01, Option.some.injEq, grd_t isC_77, mo_in_eq, h1]
end CF
