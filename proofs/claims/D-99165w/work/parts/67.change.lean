/-! change -/
set_option maxRecDepth 100000
def yt32 (f : Nat → Int32) : Int32 := Int32.ofInt (ytZ f)
def swF (f : Nat → Int32) (p q : Nat) : Nat → Int32 := upd (upd f (48 + p) (f (48 + q))) (48 + q) (f (48 + p))
theorem WF_sw {f : Nat → Int32} (w : WF f) {p q : Nat} (hp : p < 16) (hq : q < 16) (hne : p ≠ q) : WF (swF f p q) := by
  refine ⟨fun k hk => ?_, ?_, ?_⟩
  · unfold swF
    obtain ⟨h1, h2, h3, h4⟩ := w.1 k hk
    by_cases e1 : k = q
    · subst e1
      simp (disch := first | omega | decide) only [nI_lel, nI_ltl, nI_ler, nI_ltr, nI_addl, nI_addr, nI_eqN, nI_leN, nI_ltN, Nat.zero_add, Option.bind_some, Option.bind_none, Option.map_some, bd2_some, b2i_0, b2i_1, b2i_t, b2i_f, ↓reduceIte, if_true, if_false, Bool.true_eq_false, Bool.false_eq_true, not_true_eq_false, not_false_eq_true, true_and, and_true, false_and, and_false, true_or, or_true, false_or, or_false, decide_true, decide_false, Bool.true_and, Bool.false_and, Bool.and_true, Bool.and_false, and_self, Nat.le_refl, Nat.lt_irrefl, ite_self, i10, i01, Option.some.injEq, up1_s, up1_up, ups, up1_x, upsn]
      exact ⟨h1, h2, h3, (w.1 p hp).2.2.2⟩
    · by_cases e2 : k = p
      · subst e2
        simp (disch := first | omega | decide) only [nI_lel, nI_ltl, nI_ler, nI_ltr, nI_addl, nI_addr, nI_eqN, nI_leN, nI_ltN, Nat.zero_add, Option.bind_some, Option.bind_none, Option.map_some, bd2_some, b2i_0, b2i_1, b2i_t, b2i_f, ↓reduceIte, if_true, if_false, Bool.true_eq_false, Bool.false_eq_true, not_true_eq_false, not_false_eq_true, true_and, and_true, false_and, and_false, true_or, or_true, false_or, or_false, decide_true, decide_false, Bool.true_and, Bool.false_and, Bool.and_true, Bool.and_false, and_self, Nat.le_refl, Nat.lt_irrefl, ite_self, i10, i01, Option.some.injEq, up1_s, up1_up, ups, up1_x, upsn]
        exact ⟨h1, h2, h3, (w.1 q hq).2.2.2⟩
      · simp (disch := first | omega | decide) only [nI_lel, nI_ltl, nI_ler, nI_ltr, nI_addl, nI_addr, nI_eqN, nI_leN, nI_ltN, Nat.zero_add, Option.bind_some, Option.bind_none, Option.map_some, bd2_some, b2i_0, b2i_1, b2i_t, b2i_f, ↓reduceIte, if_true, if_false, Bool.true_eq_false, Bool.false_eq_true, not_true_eq_false, not_false_eq_true, true_and, and_true, false_and, and_false, true_or, or_true, false_or, or_false, decide_true, decide_false, Bool.true_and, Bool.false_and, Bool.and_true, Bool.and_false, and_self, Nat.le_refl, Nat.lt_irrefl, ite_self, i10, i01, Option.some.injEq, up1_s, up1_up, ups, up1_x, upsn]
        exact ⟨h1, h2, h3, h4⟩
  · unfold swF
    simp (disch := first | omega | decide) only [nI_lel, nI_ltl, nI_ler, nI_ltr, nI_addl, nI_addr, nI_eqN, nI_leN, nI_ltN, Nat.zero_add, Option.bind_some, Option.bind_none, Option.map_some, bd2_some, b2i_0, b2i_1, b2i_t, b2i_f, ↓reduceIte, if_true, if_false, Bool.true_eq_false, Bool.false_eq_true, not_true_eq_false, not_false_eq_true, true_and, and_true, false_and, and_false, true_or, or_true, false_or, or_false, decide_true, decide_false, Bool.true_and, Bool.false_and, Bool.and_true, Bool.and_false, and_self, Nat.le_refl, Nat.lt_irrefl, ite_self, i10, i01, Option.some.injEq, up1_s, up1_up, ups, up1_x, upsn]
    exact w.2.1
  · unfold swF
    simp (disch := first | omega | decide) only [nI_lel, nI_ltl, nI_ler, nI_ltr, nI_addl, nI_addr, nI_eqN, nI_leN, nI_ltN, Nat.zero_add, Option.bind_some, Option.bind_none, Option.map_some, bd2_some, b2i_0, b2i_1, b2i_t, b2i_f, ↓reduceIte, if_true, if_false, Bool.true_eq_false, Bool.false_eq_true, not_true_eq_false, not_false_eq_true, true_and, and_true, false_and, and_false, true_or, or_true, false_or, or_false, decide_true, decide_false, Bool.true_and, Bool.false_and, Bool.and_true, Bool.and_false, and_self, Nat.le_refl, Nat.lt_irrefl, ite_self, i10, i01, Option.some.injEq, up1_s, up1_up, ups, up1_x, upsn]
    exact w.2.2
/-- two change plots in the yard -/
def swV (V : Nat → Nat → Int32) (a b : Nat) : Nat → Nat → Int32 := up1 (up1 V a (upd (V a) 2 (V b 2))) b (upd (V b) 2 (V a 2))
theorem upd_same (f : Nat → Int32) (j : Nat) : upd f j (f j) = f := by
  funext i
  by_cases h : i = j
  · subst h; rw [ups]
  · rw [upsn h]
theorem up1_same (V : Nat → Nat → Int32) (a : Nat) : up1 V a (V a) = V := by
  funext b
  by_cases h : b = a
  · subst h; rw [up1_s]
  · rw [up1_n h]
theorem swV_swV (V : Nat → Nat → Int32) {a b : Nat} (h : a ≠ b) : swV (swV V a b) a b = V := by
  have hb : b ≠ a := fun e => h e.symm
  have e1 : swV V a b a = upd (V a) 2 (V b 2) := by unfold swV; rw [up1_n h, up1_s]
  have e2 : swV V a b b = upd (V b) 2 (V a 2) := by unfold swV; rw [up1_s]
  funext c
  unfold swV
  by_cases c1 : c = b
  · subst c1
    rw [up1_s, up1_s, up1_n h, up1_s, ups, upd_upd, upd_same]
  · rw [up1_n c1]
    by_cases c2 : c = a
    · subst c2
      rw [up1_s, up1_s, ups, up1_n h, up1_s, upd_upd, upd_same]
    · rw [up1_n c2, up1_n c1, up1_n c2]
theorem YR_sw {f : Nat → Int32} {V : Nat → Nat → Int32} (r : YR 9 f V) {p q : Nat} (hp : p < 16) (hq : q < 16) (hne : p ≠ q) : YR 9 (swF f p q) (swV V (9 + 2 + p) (9 + 2 + q)) := by
  refine ⟨fun k hk => ?_, ?_, ?_⟩
  · obtain ⟨h1, h2, h3, h4⟩ := r.1 k hk
    unfold swF swV
    by_cases e1 : k = q
    · subst e1
      simp (disch := first | omega | decide) only [nI_lel, nI_ltl, nI_ler, nI_ltr, nI_addl, nI_addr, nI_eqN, nI_leN, nI_ltN, Nat.zero_add, Option.bind_some, Option.bind_none, Option.map_some, bd2_some, b2i_0, b2i_1, b2i_t, b2i_f, ↓reduceIte, if_true, if_false, Bool.true_eq_false, Bool.false_eq_true, not_true_eq_false, not_false_eq_true, true_and, and_true, false_and, and_false, true_or, or_true, false_or, or_false, decide_true, decide_false, Bool.true_and, Bool.false_and, Bool.and_true, Bool.and_false, and_self, Nat.le_refl, Nat.lt_irrefl, ite_self, i10, i01, Option.some.injEq, up1_s, up1_up, ups, up1_x, upsn]
      exact ⟨h1, h2, h3, r.plot hp⟩
    · by_cases e2 : k = p
      · subst e2
        simp (disch := first | omega | decide) only [nI_lel, nI_ltl, nI_ler, nI_ltr, nI_addl, nI_addr, nI_eqN, nI_leN, nI_ltN, Nat.zero_add, Option.bind_some, Option.bind_none, Option.map_some, bd2_some, b2i_0, b2i_1, b2i_t, b2i_f, ↓reduceIte, if_true, if_false, Bool.true_eq_false, Bool.false_eq_true, not_true_eq_false, not_false_eq_true, true_and, and_true, false_and, and_false, true_or, or_true, false_or, or_false, decide_true, decide_false, Bool.true_and, Bool.false_and, Bool.and_true, Bool.and_false, and_self, Nat.le_refl, Nat.lt_irrefl, ite_self, i10, i01, Option.some.injEq, up1_s, up1_up, ups, up1_x, upsn]
        exact ⟨h1, h2, h3, r.plot hq⟩
      · simp (disch := first | omega | decide) only [nI_lel, nI_ltl, nI_ler, nI_ltr, nI_addl, nI_addr, nI_eqN, nI_leN, nI_ltN, Nat.zero_add, Option.bind_some, Option.bind_none, Option.map_some, bd2_some, b2i_0, b2i_1, b2i_t, b2i_f, ↓reduceIte, if_true, if_false, Bool.true_eq_false, Bool.false_eq_true, not_true_eq_false, not_false_eq_true, true_and, and_true, false_and, and_false, true_or, or_true, false_or, or_false, decide_true, decide_false, Bool.true_and, Bool.false_and, Bool.and_true, Bool.and_false, and_self, Nat.le_refl, Nat.lt_irrefl, ite_self, i10, i01, Option.some.injEq, up1_s, up1_up, ups, up1_x, upsn]
        exact ⟨h1, h2, h3, h4⟩
  · unfold swF swV
    simp (disch := first | omega | decide) only [nI_lel, nI_ltl, nI_ler, nI_ltr, nI_addl, nI_addr, nI_eqN, nI_leN, nI_ltN, Nat.zero_add, Option.bind_some, Option.bind_none, Option.map_some, bd2_some, b2i_0, b2i_1, b2i_t, b2i_f, ↓reduceIte, if_true, if_false, Bool.true_eq_false, Bool.false_eq_true, not_true_eq_false, not_false_eq_true, true_and, and_true, false_and, and_false, true_or, or_true, false_or, or_false, decide_true, decide_false, Bool.true_and, Bool.false_and, Bool.and_true, Bool.and_false, and_self, Nat.le_refl, Nat.lt_irrefl, ite_self, i10, i01, Option.some.injEq, up1_s, up1_up, ups, up1_x, upsn]
    exact r.2.1
  · unfold swF swV
    simp (disch := first | omega | decide) only [nI_lel, nI_ltl, nI_ler, nI_ltr, nI_addl, nI_addr, nI_eqN, nI_leN, nI_ltN, Nat.zero_add, Option.bind_some, Option.bind_none, Option.map_some, bd2_some, b2i_0, b2i_1, b2i_t, b2i_f, ↓reduceIte, if_true, if_false, Bool.true_eq_false, Bool.false_eq_true, not_true_eq_false, not_false_eq_true, true_and, and_true, false_and, and_false, true_or, or_true, false_or, or_false, decide_true, decide_false, Bool.true_and, Bool.false_and, Bool.and_true, Bool.and_false, and_self, Nat.le_refl, Nat.lt_irrefl, ite_self, i10, i01, Option.some.injEq, up1_s, up1_up, ups, up1_x, upsn]
    exact r.2.2
section CH
variable {E : EE} {V : Nat → Nat → Int32} {f : Nat → Int32}
theorem yd_talk_32 {y : Nat} (hy : isY y) (r : YR y f V) (w : WF f) (eo : EO E) : yd_talk (some y) (mkH E V) = some (yt32 f) := by
  obtain ⟨v, e, h⟩ := yd_talk_z hy r w eo
  rw [e]
  unfold yt32
  rw [← h, Int32.ofInt_toInt]
theorem mo_yardTalk_32 (w : WF (V 78)) : mo_yardTalk (some 77) (mkH E V) = some (yt32 (V 78)) := by
  obtain ⟨v, e, h, -⟩ := mo_yardTalk_z (E := E) w
  rw [e]
  unfold yt32
  rw [← h, Int32.ofInt_toInt]
theorem tp_swaps_eq {p q : Nat} (hp : p < 16) (hq : q < 16) (hne : p ≠ q) : tp_swaps (some 7) (some (9 + 2 + p)) (some (9 + 2 + q)) (mkH E V) = some (mkH E (swV V (9 + 2 + p) (9 + 2 + q))) := by
  unfold tp_swaps tp_swaps_0 swV
  simp (disch := first | omega | decide) only [nI_lel, nI_ltl, nI_ler, nI_ltr, nI_addl, nI_addr, nI_eqN, nI_leN, nI_ltN, Nat.zero_add, Option.bind_some, Option.bind_none, Option.map_some, bd2_some, b2i_0, b2i_1, b2i_t, b2i_f, ↓reduceIte, if_true, if_false, Bool.true_eq_false, Bool.false_eq_true, not_true_eq_false, not_false_eq_true, true_and, and_true, false_and, and_false, true_or, or_true, false_or, or_false, decide_true, decide_false, Bool.true_and, Bool.false_and, Bool.and_true, Bool.and_false, and_self, Nat.le_refl, Nat.lt_irrefl, ite_self, i10, i01, Option.some.injEq, up1_s, up1_up, ups, up1_x, upsn, grd_t isC_7, p_plot y9 hp, p_plot y9 hq, sp_plot y9 hp, sp_plot y9 hq, show 9 + 2 + q ≠ 9 + 2 + p by omega]
theorem mo_changesPlots_eq {p q : Nat} (hp : p < 16) (hq : q < 16) (hne : p ≠ q) : mo_changesPlots (some 77) (nI p) (nI q) (mkH E V) = some (mkH E (up1 V 78 (swF (V 78) p q))) := by
  unfold mo_changesPlots mo_changesPlots_0 swF
  simp (disch := first | omega | decide) only [nI_lel, nI_ltl, nI_ler, nI_ltr, nI_addl, nI_addr, nI_eqN, nI_leN, nI_ltN, Nat.zero_add, Option.bind_some, Option.bind_none, Option.map_some, bd2_some, b2i_0, b2i_1, b2i_t, b2i_f, ↓reduceIte, if_true, if_false, Bool.true_eq_false, Bool.false_eq_true, not_true_eq_false, not_false_eq_true, true_and, and_true, false_and, and_false, true_or, or_true, false_or, or_false, decide_true, decide_false, Bool.true_and, Bool.false_and, Bool.and_true, Bool.and_false, and_self, Nat.le_refl, Nat.lt_irrefl, ite_self, i10, i01, Option.some.injEq, up1_s, up1_up, ups, up1_x, upsn, grd_t isC_77, m_now, ald_78, ast_78]
theorem swF_swF {p q : Nat} (hne : p ≠ q) : swF (swF f p q) p q = f := by
  have h1 : swF f p q (48 + q) = f (48 + p) := by unfold swF; rw [ups]
  have h2 : swF f p q (48 + p) = f (48 + q) := by unfold swF; rw [upsn (by omega), ups]
  funext i
  unfold swF
  by_cases e1 : i = 48 + q
  · subst e1
    rw [ups, upsn (by omega), ups]
  · rw [upsn e1]
    by_cases e2 : i = 48 + p
    · subst e2
      rw [ups, ups]
    · rw [upsn e2, upsn e1, upsn e2]
def chI (f : Nat → Int32) (p : Nat) (s0 : Int32 × Int32 × Int32) : Nat → Int32 × Int32 × Int32 := rep (fun j s => if (laidB f p && laidB f (p + 1 + j)) = true ∧ s.2.2 < yt32 (swF f p (p + 1 + j)) - yt32 f then (nI p, nI (p + 1 + j), yt32 (swF f p (p + 1 + j)) - yt32 f) else s) s0
def chO (f : Nat → Int32) : Nat → Int32 × Int32 × Int32 := rep (fun p s => chI f p s (15 - p)) (-2, -2, 0)
theorem chI_s (f : Nat → Int32) (p : Nat) (s0 : Int32 × Int32 × Int32) (j : Nat) : chI f p s0 (j + 1) = if (laidB f p && laidB f (p + 1 + j)) = true ∧ (chI f p s0 j).2.2 < yt32 (swF f p (p + 1 + j)) - yt32 f then (nI p, nI (p + 1 + j), yt32 (swF f p (p + 1 + j)) - yt32 f) else chI f p s0 j := rfl
theorem chI_ok {f : Nat → Int32} {p : Nat} (hp : p < 16) {s0 : Int32 × Int32 × Int32} (h0 : mvP s0) : ∀ n, n ≤ 15 - p → mvP (chI f p s0 n)
  | 0, _ => h0
  | n + 1, hn => by
    have h := chI_ok (f := f) hp h0 n (by omega)
    rw [chI_s]
    split
    · rename_i hc
      refine Or.inr ⟨p, p + 1 + n, hp, by omega, rfl, rfl, ?_⟩
      rcases h with e | ⟨_, _, _, _, _, _, hpos⟩
      · rw [e] at hc; exact hc.2
      · exact lt_tr hpos hc.2
    · exact h
theorem chO_ok (f : Nat → Int32) : ∀ n, n ≤ 16 → mvP (chO f n)
  | 0, _ => Or.inl rfl
  | n + 1, hn => chI_ok (by omega) (chO_ok f n (by omega)) (15 - n) (Nat.le_refl _)
def chgF (f : Nat → Int32) (what : Int32) : Int32 := if inB what 0 2 = false then -1 else if (chO f 16).1 = -2 then -2 else if what = 0 then (chO f 16).1 else if what = 1 then (chO f 16).2.1 else (chO f 16).2.2
theorem mo_change_q (w : WF (V 78)) (what : Int32) : mo_change (some 77) what (mkH E V) = some (chgF (V 78) what, mkH E V) := by
  unfold mo_change mo_change_0 chgF
  simp (disch := first | omega | decide) only [nI_lel, nI_ltl, nI_ler, nI_ltr, nI_addl, nI_addr, nI_eqN, nI_leN, nI_ltN, Nat.zero_add, Option.bind_some, Option.bind_none, Option.map_some, bd2_some, b2i_0, b2i_1, b2i_t, b2i_f, ↓reduceIte, if_true, if_false, Bool.true_eq_false, Bool.false_eq_true, not_true_eq_false, not_false_eq_true, true_and, and_true, false_and, and_false, true_or, or_true, false_or, or_false, decide_true, decide_false, Bool.true_and, Bool.false_and, Bool.and_true, Bool.and_false, and_self, Nat.le_refl, Nat.lt_irrefl, ite_self, i10, i01, Option.some.injEq, grd_t isC_77, mo_in_eq]
  by_cases h2 : inB what 0 2 = false
  · simp (disch := first | omega | decide) only [nI_lel, nI_ltl, nI_ler, nI_ltr, nI_addl, nI_addr, nI_eqN, nI_leN, nI_ltN, Nat.zero_add, Option.bind_some, Option.bind_none, Option.map_some, bd2_some, b2i_0, b2i_1, b2i_t, b2i_f, ↓reduceIte, if_true, if_false, Bool.true_eq_false, Bool.false_eq_true, not_true_eq_false, not_false_eq_true, true_and, and_true, false_and, and_false, true_or, or_true, false_or, or_false, decide_true, decide_false, Bool.true_and, Bool.false_and, Bool.and_true, Bool.and_false, and_self, Nat.le_refl, Nat.lt_irrefl, ite_self, i10, i01, Option.some.injEq, h2]
  · simp (disch := first | omega | decide) only [nI_lel, nI_ltl, nI_ler, nI_ltr, nI_addl, nI_addr, nI_eqN, nI_leN, nI_ltN, Nat.zero_add, Option.bind_some, Option.bind_none, Option.map_some, bd2_some, b2i_0, b2i_1, b2i_t, b2i_f, ↓reduceIte, if_true, if_false, Bool.true_eq_false, Bool.false_eq_true, not_true_eq_false, not_false_eq_true, true_and, and_true, false_and, and_false, true_or, or_true, false_or, or_false, decide_true, decide_false, Bool.true_and, Bool.false_and, Bool.and_true, Bool.and_false, and_self, Nat.le_refl, Nat.lt_irrefl, ite_self, i10, i01, Option.some.injEq, h2, mo_yardTalk_32 w]
    unfold mo_change_L29
    refine iter_toR (B := fun s : Int32 × Int32 × Int32 × Int32 × PH => mo_change_b29 (some 77) what s.1 s.2.1 (yt32 (V 78)) s.2.2.1 s.2.2.2.1 s.2.2.2.2) (fun i => ((chO (V 78) i).1, (chO (V 78) i).2.1, (chO (V 78) i).2.2, nI i, mkH E V)) 16 (fun i hi => ?_) (by
      unfold mo_change_b29
      simp (disch := first | omega | decide) only [nI_lel, nI_ltl, nI_ler, nI_ltr, nI_addl, nI_addr, nI_eqN, nI_leN, nI_ltN, Nat.zero_add, Option.bind_some, Option.bind_none, Option.map_some, bd2_some, b2i_0, b2i_1, b2i_t, b2i_f, ↓reduceIte, if_true, if_false, Bool.true_eq_false, Bool.false_eq_true, not_true_eq_false, not_false_eq_true, true_and, and_true, false_and, and_false, true_or, or_true, false_or, or_false, decide_true, decide_false, Bool.true_and, Bool.false_and, Bool.and_true, Bool.and_false, and_self, Nat.le_refl, Nat.lt_irrefl, ite_self, i10, i01, Option.some.injEq]
      repeat' split
      all_goals rfl)
    have hn : ¬ 16 ≤ i := by omega
    unfold mo_change_b29
    rw [show chO (V 78) (i + 1) = chI (V 78) i (chO (V 78) i) (15 - i) from rfl]
    generalize chO (V 78) i = s
    simp (disch := first | omega | decide) only [nI_lel, nI_ltl, nI_ler, nI_ltr, nI_addl, nI_addr, nI_eqN, nI_leN, nI_ltN, Nat.zero_add, Option.bind_some, Option.bind_none, Option.map_some, bd2_some, b2i_0, b2i_1, b2i_t, b2i_f, ↓reduceIte, if_true, if_false, Bool.true_eq_false, Bool.false_eq_true, not_true_eq_false, not_false_eq_true, true_and, and_true, false_and, and_false, true_or, or_true, false_or, or_false, decide_true, decide_false, Bool.true_and, Bool.false_and, Bool.and_true, Bool.and_false, and_self, Nat.le_refl, Nat.lt_irrefl, ite_self, i10, i01, Option.some.injEq, hn]
    unfold mo_change_L42
    refine iter_toR (B := fun s : Int32 × Int32 × Int32 × Int32 × PH => mo_change_b42 (some 77) what s.1 s.2.1 (yt32 (V 78)) s.2.2.1 (nI i) s.2.2.2.1 s.2.2.2.2) (fun j => ((chI (V 78) i s j).1, (chI (V 78) i s j).2.1, (chI (V 78) i s j).2.2, nI (i + 1 + j), mkH E V)) (15 - i) (fun j hj => ?_) (by
      unfold mo_change_b42
      simp (disch := first | omega | decide) only [nI_lel, nI_ltl, nI_ler, nI_ltr, nI_addl, nI_addr, nI_eqN, nI_leN, nI_ltN, Nat.zero_add, Option.bind_some, Option.bind_none, Option.map_some, bd2_some, b2i_0, b2i_1, b2i_t, b2i_f, ↓reduceIte, if_true, if_false, Bool.true_eq_false, Bool.false_eq_true, not_true_eq_false, not_false_eq_true, true_and, and_true, false_and, and_false, true_or, or_true, false_or, or_false, decide_true, decide_false, Bool.true_and, Bool.false_and, Bool.and_true, Bool.and_false, and_self, Nat.le_refl, Nat.lt_irrefl, ite_self, i10, i01, Option.some.injEq, show 16 ≤ i + 1 + (15 - i) by omega])
    unfold mo_change_b42
    rw [chI_s]
    generalize chI (V 78) i s j = t
    have hq : i + 1 + j < 16 := by omega
    have hw := WF_sw w hi hq (by omega)
    have e1 : mo_yardTalk (some 77) (mkH E (up1 V 78 (swF (V 78) i (i + 1 + j)))) = some (yt32 (swF (V 78) i (i + 1 + j))) := by
      have := mo_yardTalk_32 (E := E) (V := up1 V 78 (swF (V 78) i (i + 1 + j))) (by rw [up1_s]; exact hw)
      rw [up1_s] at this
      exact this
    simp (disch := first | omega | decide) only [nI_lel, nI_ltl, nI_ler, nI_ltr, nI_addl, nI_addr, nI_eqN, nI_leN, nI_ltN, Nat.zero_add, Option.bind_some, Option.bind_none, Option.map_some, bd2_some, b2i_0, b2i_1, b2i_t, b2i_f, ↓reduceIte, if_true, if_false, Bool.true_eq_false, Bool.false_eq_true, not_true_eq_false, not_false_eq_true, true_and, and_true, false_and, and_false, true_or, or_true, false_or, or_false, decide_true, decide_false, Bool.true_and, Bool.false_and, Bool.and_true, Bool.and_false, and_self, Nat.le_refl, Nat.lt_irrefl, ite_self, i10, i01, Option.some.injEq, up1_s, up1_up, ups, up1_x, upsn, show ¬ 16 ≤ i + 1 + j by omega, mo_isLaid_eq hi, mo_isLaid_eq hq, mo_changesPlots_eq hi hq (by omega), e1, swF_swF (show i ≠ i + 1 + j by omega), up1_same]
    cases laidB (V 78) i
    · simp (disch := first | omega | decide) only [nI_lel, nI_ltl, nI_ler, nI_ltr, nI_addl, nI_addr, nI_eqN, nI_leN, nI_ltN, Nat.zero_add, Option.bind_some, Option.bind_none, Option.map_some, bd2_some, b2i_0, b2i_1, b2i_t, b2i_f, ↓reduceIte, if_true, if_false, Bool.true_eq_false, Bool.false_eq_true, not_true_eq_false, not_false_eq_true, true_and, and_true, false_and, and_false, true_or, or_true, false_or, or_false, decide_true, decide_false, Bool.true_and, Bool.false_and, Bool.and_true, Bool.and_false, and_self, Nat.le_refl, Nat.lt_irrefl, ite_self, i10, i01, Option.some.injEq, Nat.add_assoc]
    · cases laidB (V 78) (i + 1 + j)
      · simp (disch := first | omega | decide) only [nI_lel, nI_ltl, nI_ler, nI_ltr, nI_addl, nI_addr, nI_eqN, nI_leN, nI_ltN, Nat.zero_add, Option.bind_some, Option.bind_none, Option.map_some, bd2_some, b2i_0, b2i_1, b2i_t, b2i_f, ↓reduceIte, if_true, if_false, Bool.true_eq_false, Bool.false_eq_true, not_true_eq_false, not_false_eq_true, true_and, and_true, false_and, and_false, true_or, or_true, false_or, or_false, decide_true, decide_false, Bool.true_and, Bool.false_and, Bool.and_true, Bool.and_false, and_self, Nat.le_refl, Nat.lt_irrefl, ite_self, i10, i01, Option.some.injEq, Nat.add_assoc]
      · by_cases c : t.2.2 < yt32 (swF (V 78) i (i + 1 + j)) - yt32 (V 78)
        · simp (disch := first | omega | decide) only [nI_lel, nI_ltl, nI_ler, nI_ltr, nI_addl, nI_addr, nI_eqN, nI_leN, nI_ltN, Nat.zero_add, Option.bind_some, Option.bind_none, Option.map_some, bd2_some, b2i_0, b2i_1, b2i_t, b2i_f, ↓reduceIte, if_true, if_false, Bool.true_eq_false, Bool.false_eq_true, not_true_eq_false, not_false_eq_true, true_and, and_true, false_and, and_false, true_or, or_true, false_or, or_false, decide_true, decide_false, Bool.true_and, Bool.false_and, Bool.and_true, Bool.and_false, and_self, Nat.le_refl, Nat.lt_irrefl, ite_self, i10, i01, Option.some.injEq, c]
          simp (disch := first | omega | decide) only [nI_lel, nI_ltl, nI_ler, nI_ltr, nI_addl, nI_addr, nI_eqN, nI_leN, nI_ltN, Nat.zero_add, Option.bind_some, Option.bind_none, Option.map_some, bd2_some, b2i_0, b2i_1, b2i_t, b2i_f, ↓reduceIte, if_true, if_false, Bool.true_eq_false, Bool.false_eq_true, not_true_eq_false, not_false_eq_true, true_and, and_true, false_and, and_false, true_or, or_true, false_or, or_false, decide_true, decide_false, Bool.true_and, Bool.false_and, Bool.and_true, Bool.and_false, and_self, Nat.le_refl, Nat.lt_irrefl, ite_self, i10, i01, Option.some.injEq, Nat.add_assoc]
        · simp (disch := first | omega | decide) only [nI_lel, nI_ltl, nI_ler, nI_ltr, nI_addl, nI_addr, nI_eqN, nI_leN, nI_ltN, Nat.zero_add, Option.bind_some, Option.bind_none, Option.map_some, bd2_some, b2i_0, b2i_1, b2i_t, b2i_f, ↓reduceIte, if_true, if_false, Bool.true_eq_false, Bool.false_eq_true, not_true_eq_false, not_false_eq_true, true_and, and_true, false_and, and_false, true_or, or_true, false_or, or_false, decide_true, decide_false, Bool.true_and, Bool.false_and, Bool.and_true, Bool.and_false, and_self, Nat.le_refl, Nat.lt_irrefl, ite_self, i10, i01, Option.some.injEq, c]
          simp (disch := first | omega | decide) only [nI_lel, nI_ltl, nI_ler, nI_ltr, nI_addl, nI_addr, nI_eqN, nI_leN, nI_ltN, Nat.zero_add, Option.bind_some, Option.bind_none, Option.map_some, bd2_some, b2i_0, b2i_1, b2i_t, b2i_f, ↓reduceIte, if_true, if_false, Bool.true_eq_false, Bool.false_eq_true, not_true_eq_false, not_false_eq_true, true_and, and_true, false_and, and_false, true_or, or_true, false_or, or_false, decide_true, decide_false, Bool.true_and, Bool.false_and, Bool.and_true, Bool.and_false, and_self, Nat.le_refl, Nat.lt_irrefl, ite_self, i10, i01, Option.some.injEq, Nat.add_assoc]
theorem tp_change_q (r : YR 9 f V) (w : WF f) (eo : EO E) (what : Int32) : tp_change (some 7) what (mkH E V) = some (chgF f what, mkH E V) := by
  unfold tp_change tp_change_0 chgF
  simp (disch := first | omega | decide) only [nI_lel, nI_ltl, nI_ler, nI_ltr, nI_addl, nI_addr, nI_eqN, nI_leN, nI_ltN, Nat.zero_add, Option.bind_some, Option.bind_none, Option.map_some, bd2_some, b2i_0, b2i_1, b2i_t, b2i_f, ↓reduceIte, if_true, if_false, Bool.true_eq_false, Bool.false_eq_true, not_true_eq_false, not_false_eq_true, true_and, and_true, false_and, and_false, true_or, or_true, false_or, or_false, decide_true, decide_false, Bool.true_and, Bool.false_and, Bool.and_true, Bool.and_false, and_self, Nat.le_refl, Nat.lt_irrefl, ite_self, i10, i01, Option.some.injEq, grd_t isC_7, tp_in3]
  by_cases h2 : inB what 0 2 = false
  · simp (disch := first | omega | decide) only [nI_lel, nI_ltl, nI_ler, nI_ltr, nI_addl, nI_addr, nI_eqN, nI_leN, nI_ltN, Nat.zero_add, Option.bind_some, Option.bind_none, Option.map_some, bd2_some, b2i_0, b2i_1, b2i_t, b2i_f, ↓reduceIte, if_true, if_false, Bool.true_eq_false, Bool.false_eq_true, not_true_eq_false, not_false_eq_true, true_and, and_true, false_and, and_false, true_or, or_true, false_or, or_false, decide_true, decide_false, Bool.true_and, Bool.false_and, Bool.and_true, Bool.and_false, and_self, Nat.le_refl, Nat.lt_irrefl, ite_self, i10, i01, Option.some.injEq, h2]
  · simp (disch := first | omega | decide) only [nI_lel, nI_ltl, nI_ler, nI_ltr, nI_addl, nI_addr, nI_eqN, nI_leN, nI_ltN, Nat.zero_add, Option.bind_some, Option.bind_none, Option.map_some, bd2_some, b2i_0, b2i_1, b2i_t, b2i_f, ↓reduceIte, if_true, if_false, Bool.true_eq_false, Bool.false_eq_true, not_true_eq_false, not_false_eq_true, true_and, and_true, false_and, and_false, true_or, or_true, false_or, or_false, decide_true, decide_false, Bool.true_and, Bool.false_and, Bool.and_true, Bool.and_false, and_self, Nat.le_refl, Nat.lt_irrefl, ite_self, i10, i01, Option.some.injEq, h2, x_yard, yd_talk_32 y9 r w eo]
    unfold tp_change_L29
    refine iter_toR (B := fun s : Int32 × Int32 × Int32 × Int32 × PH => tp_change_b29 (some 7) what s.1 s.2.1 s.2.2.1 (yt32 f) s.2.2.2.1 s.2.2.2.2) (fun i => (xpl (chO f i).1, xpl (chO f i).2.1, (chO f i).2.2, nI i, mkH E V)) 16 (fun i hi => ?_) (by
      unfold tp_change_b29 tp_told tp_told_0
      rcases chO_ok f 16 (by omega) with e | ⟨p, k, hp, hk, e1, e2, e3⟩
      · simp (disch := first | omega | decide) only [nI_lel, nI_ltl, nI_ler, nI_ltr, nI_addl, nI_addr, nI_eqN, nI_leN, nI_ltN, Nat.zero_add, Option.bind_some, Option.bind_none, Option.map_some, bd2_some, b2i_0, b2i_1, b2i_t, b2i_f, ↓reduceIte, if_true, if_false, Bool.true_eq_false, Bool.false_eq_true, not_true_eq_false, not_false_eq_true, true_and, and_true, false_and, and_false, true_or, or_true, false_or, or_false, decide_true, decide_false, Bool.true_and, Bool.false_and, Bool.and_true, Bool.and_false, and_self, Nat.le_refl, Nat.lt_irrefl, ite_self, i10, i01, Option.some.injEq, e]
      · have e4 : ¬ (chO f 16).2.2 = 0 := fun e => by rw [e, i32_ir] at e3; exact e3
        simp (disch := first | omega | decide) only [nI_lel, nI_ltl, nI_ler, nI_ltr, nI_addl, nI_addr, nI_eqN, nI_leN, nI_ltN, Nat.zero_add, Option.bind_some, Option.bind_none, Option.map_some, bd2_some, b2i_0, b2i_1, b2i_t, b2i_f, ↓reduceIte, if_true, if_false, Bool.true_eq_false, Bool.false_eq_true, not_true_eq_false, not_false_eq_true, true_and, and_true, false_and, and_false, true_or, or_true, false_or, or_false, decide_true, decide_false, Bool.true_and, Bool.false_and, Bool.and_true, Bool.and_false, and_self, Nat.le_refl, Nat.lt_irrefl, ite_self, i10, i01, Option.some.injEq, e1, e2, e4, xpl_nI (show p < 2 ^ 31 by omega), xpl_nI (show k < 2 ^ 31 by omega), nI_ne2 (show p < 2 ^ 31 by omega)]
        repeat' split
        all_goals rfl)
    have hn : ¬ 16 ≤ i := by omega
    unfold tp_change_b29
    rw [show chO f (i + 1) = chI f i (chO f i) (15 - i) from rfl]
    generalize chO f i = s
    simp (disch := first | omega | decide) only [nI_lel, nI_ltl, nI_ler, nI_ltr, nI_addl, nI_addr, nI_eqN, nI_leN, nI_ltN, Nat.zero_add, Option.bind_some, Option.bind_none, Option.map_some, bd2_some, b2i_0, b2i_1, b2i_t, b2i_f, ↓reduceIte, if_true, if_false, Bool.true_eq_false, Bool.false_eq_true, not_true_eq_false, not_false_eq_true, true_and, and_true, false_and, and_false, true_or, or_true, false_or, or_false, decide_true, decide_false, Bool.true_and, Bool.false_and, Bool.and_true, Bool.and_false, and_self, Nat.le_refl, Nat.lt_irrefl, ite_self, i10, i01, Option.some.injEq, hn]
    unfold tp_change_L42
    refine iter_toR (B := fun s : Int32 × Int32 × Int32 × Int32 × PH => tp_change_b42 (some 7) what s.1 s.2.1 s.2.2.1 (yt32 f) (nI i) s.2.2.2.1 s.2.2.2.2) (fun j => (xpl (chI f i s j).1, xpl (chI f i s j).2.1, (chI f i s j).2.2, nI (i + 1 + j), mkH E V)) (15 - i) (fun j hj => ?_) (by
      unfold tp_change_b42
      simp (disch := first | omega | decide) only [nI_lel, nI_ltl, nI_ler, nI_ltr, nI_addl, nI_addr, nI_eqN, nI_leN, nI_ltN, Nat.zero_add, Option.bind_some, Option.bind_none, Option.map_some, bd2_some, b2i_0, b2i_1, b2i_t, b2i_f, ↓reduceIte, if_true, if_false, Bool.true_eq_false, Bool.false_eq_true, not_true_eq_false, not_false_eq_true, true_and, and_true, false_and, and_false, true_or, or_true, false_or, or_false, decide_true, decide_false, Bool.true_and, Bool.false_and, Bool.and_true, Bool.and_false, and_self, Nat.le_refl, Nat.lt_irrefl, ite_self, i10, i01, Option.some.injEq, show 16 ≤ i + 1 + (15 - i) by omega])
    unfold tp_change_b42
    rw [chI_s]
    generalize chI f i s j = t
    have hq : i + 1 + j < 16 := by omega
    have hne : i ≠ i + 1 + j := by omega
    have e1 := yd_talk_32 (E := E) y9 (YR_sw r hi hq hne) (WF_sw w hi hq hne) eo
    simp (disch := first | omega | decide) only [nI_lel, nI_ltl, nI_ler, nI_ltr, nI_addl, nI_addr, nI_eqN, nI_leN, nI_ltN, Nat.zero_add, Option.bind_some, Option.bind_none, Option.map_some, bd2_some, b2i_0, b2i_1, b2i_t, b2i_f, ↓reduceIte, if_true, if_false, Bool.true_eq_false, Bool.false_eq_true, not_true_eq_false, not_false_eq_true, true_and, and_true, false_and, and_false, true_or, or_true, false_or, or_false, decide_true, decide_false, Bool.true_and, Bool.false_and, Bool.and_true, Bool.and_false, and_self, Nat.le_refl, Nat.lt_irrefl, ite_self, i10, i01, Option.some.injEq, show ¬ 16 ≤ i + 1 + j by omega, x_yard, yd_people y9, people_at y9 hi, people_at y9 hq, pe_isLaid_eq y9 hi r w, pe_isLaid_eq y9 hq r w, tp_swaps_eq hi hq hne, e1, swV_swV V (show 9 + 2 + i ≠ 9 + 2 + (i + 1 + j) by omega)]
    cases laidB f i
    · simp (disch := first | omega | decide) only [nI_lel, nI_ltl, nI_ler, nI_ltr, nI_addl, nI_addr, nI_eqN, nI_leN, nI_ltN, Nat.zero_add, Option.bind_some, Option.bind_none, Option.map_some, bd2_some, b2i_0, b2i_1, b2i_t, b2i_f, ↓reduceIte, if_true, if_false, Bool.true_eq_false, Bool.false_eq_true, not_true_eq_false, not_false_eq_true, true_and, and_true, false_and, and_false, true_or, or_true, false_or, or_false, decide_true, decide_false, Bool.true_and, Bool.false_and, Bool.and_true, Bool.and_false, and_self, Nat.le_refl, Nat.lt_irrefl, ite_self, i10, i01, Option.some.injEq, Nat.add_assoc]
    · cases laidB f (i + 1 + j)
      · simp (disch := first | omega | decide) only [nI_lel, nI_ltl, nI_ler, nI_ltr, nI_addl, nI_addr, nI_eqN, nI_leN, nI_ltN, Nat.zero_add, Option.bind_some, Option.bind_none, Option.map_some, bd2_some, b2i_0, b2i_1, b2i_t, b2i_f, ↓reduceIte, if_true, if_false, Bool.true_eq_false, Bool.false_eq_true, not_true_eq_false, not_false_eq_true, true_and, and_true, false_and, and_false, true_or, or_true, false_or, or_false, decide_true, decide_false, Bool.true_and, Bool.false_and, Bool.and_true, Bool.and_false, and_self, Nat.le_refl, Nat.lt_irrefl, ite_self, i10, i01, Option.some.injEq, Nat.add_assoc]
      · by_cases c : t.2.2 < yt32 (swF f i (i + 1 + j)) - yt32 f
        · simp (disch := first | omega | decide) only [nI_lel, nI_ltl, nI_ler, nI_ltr, nI_addl, nI_addr, nI_eqN, nI_leN, nI_ltN, Nat.zero_add, Option.bind_some, Option.bind_none, Option.map_some, bd2_some, b2i_0, b2i_1, b2i_t, b2i_f, ↓reduceIte, if_true, if_false, Bool.true_eq_false, Bool.false_eq_true, not_true_eq_false, not_false_eq_true, true_and, and_true, false_and, and_false, true_or, or_true, false_or, or_false, decide_true, decide_false, Bool.true_and, Bool.false_and, Bool.and_true, Bool.and_false, and_self, Nat.le_refl, Nat.lt_irrefl, ite_self, i10, i01, Option.some.injEq, c, xpl_nI (show i < 2 ^ 31 by omega), xpl_nI (show i + 1 + j < 2 ^ 31 by omega)]
          simp (disch := first | omega | decide) only [nI_lel, nI_ltl, nI_ler, nI_ltr, nI_addl, nI_addr, nI_eqN, nI_leN, nI_ltN, Nat.zero_add, Option.bind_some, Option.bind_none, Option.map_some, bd2_some, b2i_0, b2i_1, b2i_t, b2i_f, ↓reduceIte, if_true, if_false, Bool.true_eq_false, Bool.false_eq_true, not_true_eq_false, not_false_eq_true, true_and, and_true, false_and, and_false, true_or, or_true, false_or, or_false, decide_true, decide_false, Bool.true_and, Bool.false_and, Bool.and_true, Bool.and_false, and_self, Nat.le_refl, Nat.lt_irrefl, ite_self, i10, i01, Option.some.injEq, Nat.add_assoc]
        · simp (disch := first | omega | decide) only [nI_lel, nI_ltl, nI_ler, nI_ltr, nI_addl, nI_addr, nI_eqN, nI_leN, nI_ltN, Nat.zero_add, Option.bind_some, Option.bind_none, Option.map_some, bd2_some, b2i_0, b2i_1, b2i_t, b2i_f, ↓reduceIte, if_true, if_false, Bool.true_eq_false, Bool.false_eq_true, not_true_eq_false, not_false_eq_true, true_and, and_true, false_and, and_false, true_or, or_true, false_or, or_false, decide_true, decide_false, Bool.true_and, Bool.false_and, Bool.and_true, Bool.and_false, and_self, Nat.le_refl, Nat.lt_irrefl, ite_self, i10, i01, Option.some.injEq, c]
          simp (disch := first | omega | decide) only [nI_lel, nI_ltl, nI_ler, nI_ltr, nI_addl, nI_addr, nI_eqN, nI_leN, nI_ltN, Nat.zero_add, Option.bind_some, Option.bind_none, Option.map_some, bd2_some, b2i_0, b2i_1, b2i_t, b2i_f, ↓reduceIte, if_true, if_false, Bool.true_eq_false, Bool.false_eq_true, not_true_eq_false, not_false_eq_true, true_and, and_true, false_and, and_false, true_or, or_true, false_or, or_false, decide_true, decide_false, Bool.true_and, Bool.false_and, Bool.and_true, Bool.and_false, and_self, Nat.le_refl, Nat.lt_irrefl, ite_self, i10, i01, Option.some.injEq, Nat.add_assoc]
end CH
