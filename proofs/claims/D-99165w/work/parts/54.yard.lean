/-! A YARD's READ-ONLY METHODS over the row f that it shows -/
set_option maxRecDepth 100000
def whoX (f : Nat → Int32) (plot : Int32) : Int32 := fnd (fun p => laidB f p && decide (f (48 + p) = plot)) nI (-1) 16 0
def arnF (f : Nat → Int32) (plot : Int32) : Int32 := setF (fun p => laidB f p && nxtB plot (f (48 + p))) 16
def bsdF (f : Nat → Int32) (p : Nat) : Int32 := setF (besB f p) 16
def twF (f : Nat → Int32) (p : Nat) (set : Int32) : Nat → Int32 := rep (fun q s => if ¬ q = p ∧ hasB set (nI q) = true then s + talkF f p q else s) 0
theorem or_z (x : Int32) : x ||| 0 = x := by
  apply Int32.toBitVec_inj.1
  simp
theorem add_z (x : Int32) : x + 0 = x := by
  apply Int32.toBitVec_inj.1
  simp
theorem setF_congr {P Q : Nat → Bool} {n : Nat} (h : ∀ i, i < n → P i = Q i) : setF P n = setF Q n := rep_congr fun i hi x => by rw [h i hi]
theorem setF_none {P : Nat → Bool} {n : Nat} (h : ∀ i, i < n → P i = false) : setF P n = 0 := by
  induction n with
  | zero => rfl
  | succ n ih =>
    show (if P n = true then _ else setF P n) = 0
    rw [h n (by omega), ih fun i hi => h i (by omega)]; rfl
section YD
variable {E : EE} {V : Nat → Nat → Int32} {y : Nat} {f : Nat → Int32}
theorem pe_shared_eq {p q : Nat} (hy : isY y) (hp : p < 16) (hq : q < 16) (r : YR y f V) (w : WF f) : pe_shared (some (y + 2 + p)) (some (y + 2 + q)) (mkH E V) = some (bitsF (f (16 + p) &&& f (16 + q))) := by
  obtain ⟨a, ha, ea⟩ := (w.1 p hp).2.1
  obtain ⟨b, hb, eb⟩ := (w.1 q hq).2.1
  have hl : a &&& b < 65536 := Nat.lt_of_le_of_lt Nat.and_le_left ha
  unfold pe_shared pe_shared_0
  simp (disch := first | omega | decide) only [nI_lel, nI_ltl, nI_ler, nI_ltr, nI_addl, nI_addr, nI_eqN, nI_leN, nI_ltN, Nat.zero_add, Option.bind_some, Option.bind_none, Option.map_some, bd2_some, b2i_0, b2i_1, b2i_t, b2i_f, ↓reduceIte, if_true, if_false, grd_t (isC_p hy hp), p_topics hy hp, p_topics hy hq, r.topics hp, r.topics hq, ea, eb, nx_and, jI_bitCount_eq hl]
theorem pe_unlike_eq {p q : Nat} (hy : isY y) (hp : p < 16) (hq : q < 16) (r : YR y f V) (w : WF f) : pe_unlike (some (y + 2 + p)) (some (y + 2 + q)) (mkH E V) = some (bitsF (f (16 + p) ^^^ f (16 + q))) := by
  obtain ⟨a, ha, ea⟩ := (w.1 p hp).2.1
  obtain ⟨b, hb, eb⟩ := (w.1 q hq).2.1
  have hl : a ^^^ b < 65536 := Nat.xor_lt_two_pow (n := 16) ha hb
  unfold pe_unlike pe_unlike_0
  simp (disch := first | omega | decide) only [nI_lel, nI_ltl, nI_ler, nI_ltr, nI_addl, nI_addr, nI_eqN, nI_leN, nI_ltN, Nat.zero_add, Option.bind_some, Option.bind_none, Option.map_some, bd2_some, b2i_0, b2i_1, b2i_t, b2i_f, ↓reduceIte, if_true, if_false, grd_t (isC_p hy hp), p_topics hy hp, p_topics hy hq, r.topics hp, r.topics hq, ea, eb, nx_xor, jI_bitCount_eq hl]
theorem pe_talk_eq {p q : Nat} (hy : isY y) (hp : p < 16) (hq : q < 16) (r : YR y f V) (w : WF f) : pe_talk (some (y + 2 + p)) (some (y + 2 + q)) (mkH E V) = some (talkF f p q) := by
  unfold pe_talk pe_talk_0 talkF
  simp (disch := first | omega | decide) only [nI_lel, nI_ltl, nI_ler, nI_ltr, nI_addl, nI_addr, nI_eqN, nI_leN, nI_ltN, Nat.zero_add, Option.bind_some, Option.bind_none, Option.map_some, bd2_some, b2i_0, b2i_1, b2i_t, b2i_f, ↓reduceIte, if_true, if_false, grd_t (isC_p hy hp), pe_shared_eq hy hp hq r w, pe_unlike_eq hy hp hq r w]
theorem yd_whoLiesAt_eq (hy : isY y) (r : YR y f V) (w : WF f) (plot : Int32) : yd_whoLiesAt (some y) plot (mkH E V) = some (whoX f plot) := by
  unfold yd_whoLiesAt yd_whoLiesAt_0 yd_whoLiesAt_L2
  rw [grd_t (isC_y hy)]
  refine iter_fnd (B := fun s : Int32 => yd_whoLiesAt_b2 (some y) plot s (mkH E V)) nI 16 0 (fun i _ hi => ?_) rfl
  have hi' : i < 16 := by omega
  have hn : ¬ 16 ≤ i := by omega
  unfold yd_whoLiesAt_b2
  simp (disch := first | omega | decide) only [nI_lel, nI_ltl, nI_ler, nI_ltr, nI_addl, nI_addr, nI_eqN, nI_leN, nI_ltN, Nat.zero_add, Option.bind_some, Option.bind_none, Option.map_some, bd2_some, b2i_0, b2i_1, b2i_t, b2i_f, ↓reduceIte, if_true, if_false, hn, yd_people hy, people_at hy hi', pe_isLaid_eq hy hi' r w, p_plot hy hi', r.plot hi']
  by_cases h1 : laidB f i = true
  · obtain ⟨-, k, hk, ek⟩ := laid_plot w hi' h1
    simp (disch := first | omega | decide) only [nI_lel, nI_ltl, nI_ler, nI_ltr, nI_addl, nI_addr, nI_eqN, nI_leN, nI_ltN, Nat.zero_add, Option.bind_some, Option.bind_none, Option.map_some, bd2_some, b2i_0, b2i_1, b2i_t, b2i_f, ↓reduceIte, if_true, if_false, h1, Bool.true_eq_false, Bool.true_and, decide_eq_true_eq, ek, xpl_nI (show k < 2 ^ 31 by omega)]
  · simp (disch := first | omega | decide) only [nI_lel, nI_ltl, nI_ler, nI_ltr, nI_addl, nI_addr, nI_eqN, nI_leN, nI_ltN, Nat.zero_add, Option.bind_some, Option.bind_none, Option.map_some, bd2_some, b2i_0, b2i_1, b2i_t, b2i_f, ↓reduceIte, if_true, if_false, h1, Bool.not_eq_true, Bool.false_and, Bool.false_eq_true]
theorem yd_around_eq (hy : isY y) (r : YR y f V) (w : WF f) (eo : EO E) {k : Nat} (hk : k < 60) : yd_around (some y) (nI k) (mkH E V) = some (arnF f (nI k)) := by
  unfold yd_around yd_around_0 yd_around_L4
  rw [grd_t (isC_y hy)]
  refine iter_toR (fun i => (setF (fun p => laidB f p && nxtB (nI k) (f (48 + p))) i, nI i)) 16 (fun i hi => ?_) rfl
  have hn : ¬ 16 ≤ i := by omega
  unfold yd_around_b4
  simp (disch := first | omega | decide) only [nI_lel, nI_ltl, nI_ler, nI_ltr, nI_addl, nI_addr, nI_eqN, nI_leN, nI_ltN, Nat.zero_add, Option.bind_some, Option.bind_none, Option.map_some, bd2_some, b2i_0, b2i_1, b2i_t, b2i_f, ↓reduceIte, if_true, if_false, hn, yd_people hy, people_at hy hi, pe_isLaid_eq hy hi r w, p_plot hy hi, r.plot hi, or_z, setF, rep]
  by_cases h1 : laidB f i = true
  · obtain ⟨-, j, hj, ej⟩ := laid_plot w hi h1
    simp (disch := first | omega | decide) only [nI_lel, nI_ltl, nI_ler, nI_ltr, nI_addl, nI_addr, nI_eqN, nI_leN, nI_ltN, Nat.zero_add, Option.bind_some, Option.bind_none, Option.map_some, bd2_some, b2i_0, b2i_1, b2i_t, b2i_f, ↓reduceIte, if_true, if_false, h1, Bool.true_eq_false, Bool.true_and, ej, xpl_nI (show j < 2 ^ 31 by omega), tp_areNext_eq eo hk hj]
    cases nxtB (nI k) (nI j) <;> rfl
  · simp (disch := first | omega | decide) only [nI_lel, nI_ltl, nI_ler, nI_ltr, nI_addl, nI_addr, nI_eqN, nI_leN, nI_ltN, Nat.zero_add, Option.bind_some, Option.bind_none, Option.map_some, bd2_some, b2i_0, b2i_1, b2i_t, b2i_f, ↓reduceIte, if_true, if_false, h1, Bool.not_eq_true, Bool.false_and, Bool.false_eq_true]
theorem yd_beside_eq (hy : isY y) (r : YR y f V) (w : WF f) (eo : EO E) {p : Nat} (hp : p < 16) : yd_beside (some y) (nI p) (mkH E V) = some (bsdF f p) := by
  unfold yd_beside yd_beside_0 bsdF
  simp (disch := first | omega | decide) only [nI_lel, nI_ltl, nI_ler, nI_ltr, nI_addl, nI_addr, nI_eqN, nI_leN, nI_ltN, Nat.zero_add, Option.bind_some, Option.bind_none, Option.map_some, bd2_some, b2i_0, b2i_1, b2i_t, b2i_f, ↓reduceIte, if_true, if_false, grd_t (isC_y hy), yd_people hy, people_at hy hp, pe_isLaid_eq hy hp r w, p_plot hy hp, r.plot hp]
  by_cases h1 : laidB f p = true
  · obtain ⟨-, k, hk, ek⟩ := laid_plot w hp h1
    simp (disch := first | omega | decide) only [nI_lel, nI_ltl, nI_ler, nI_ltr, nI_addl, nI_addr, nI_eqN, nI_leN, nI_ltN, Nat.zero_add, Option.bind_some, Option.bind_none, Option.map_some, bd2_some, b2i_0, b2i_1, b2i_t, b2i_f, ↓reduceIte, if_true, if_false, h1, Bool.true_eq_false, ek, xpl_nI (show k < 2 ^ 31 by omega), yd_around_eq hy r w eo hk]
    refine congrArg some (setF_congr fun i hi => ?_)
    unfold besB
    rw [h1, ek, Bool.true_and]
  · rw [Bool.not_eq_true] at h1
    simp (disch := first | omega | decide) only [nI_lel, nI_ltl, nI_ler, nI_ltr, nI_addl, nI_addr, nI_eqN, nI_leN, nI_ltN, Nat.zero_add, Option.bind_some, Option.bind_none, Option.map_some, bd2_some, b2i_0, b2i_1, b2i_t, b2i_f, ↓reduceIte, if_true, if_false, h1]
    refine congrArg some (setF_none fun i hi => ?_).symm
    unfold besB
    rw [h1]; rfl
theorem yd_told_eq (hy : isY y) (r : YR y f V) (w : WF f) : yd_told (some y) (mkH E V) = some (setF (fun p => decide (f p = 1)) 16) := by
  unfold yd_told yd_told_0 yd_told_L4
  rw [grd_t (isC_y hy)]
  refine iter_toR (fun i => (setF (fun p => decide (f p = 1)) i, nI i)) 16 (fun i hi => ?_) rfl
  have hn : ¬ 16 ≤ i := by omega
  unfold yd_told_b4
  simp (disch := first | omega | decide) only [nI_lel, nI_ltl, nI_ler, nI_ltr, nI_addl, nI_addr, nI_eqN, nI_leN, nI_ltN, Nat.zero_add, Option.bind_some, Option.bind_none, Option.map_some, bd2_some, b2i_0, b2i_1, b2i_t, b2i_f, ↓reduceIte, if_true, if_false, hn, yd_people hy, people_at hy hi, p_told hy hi, r.told hi, or_z, setF, rep]
  rcases (w.1 i hi).1 with e | e <;> rw [e] <;> rfl
theorem yd_laid_eq (hy : isY y) (r : YR y f V) (w : WF f) : yd_laid (some y) (mkH E V) = some (setF (laidB f) 16) := by
  unfold yd_laid yd_laid_0 yd_laid_L4
  rw [grd_t (isC_y hy)]
  refine iter_toR (fun i => (setF (laidB f) i, nI i)) 16 (fun i hi => ?_) rfl
  have hn : ¬ 16 ≤ i := by omega
  unfold yd_laid_b4
  simp (disch := first | omega | decide) only [nI_lel, nI_ltl, nI_ler, nI_ltr, nI_addl, nI_addr, nI_eqN, nI_leN, nI_ltN, Nat.zero_add, Option.bind_some, Option.bind_none, Option.map_some, bd2_some, b2i_0, b2i_1, b2i_t, b2i_f, ↓reduceIte, if_true, if_false, hn, yd_people hy, people_at hy hi, pe_isLaid_eq hy hi r w, or_z, setF, rep]
  cases laidB f i <;> rfl
theorem yd_talkWith_eq (hy : isY y) (r : YR y f V) (w : WF f) {p : Nat} (hp : p < 16) (set : Int32) : yd_talkWith (some y) (nI p) set (mkH E V) = some (twF f p set 16) := by
  unfold yd_talkWith yd_talkWith_0 yd_talkWith_L5
  rw [grd_t (isC_y hy)]
  refine iter_toR (fun i => (twF f p set i, nI i)) 16 (fun i hi => ?_) rfl
  have hn : ¬ 16 ≤ i := by omega
  unfold yd_talkWith_b5
  simp (disch := first | omega | decide) only [nI_lel, nI_ltl, nI_ler, nI_ltr, nI_addl, nI_addr, nI_eqN, nI_leN, nI_ltN, Nat.zero_add, Option.bind_some, Option.bind_none, Option.map_some, bd2_some, b2i_0, b2i_1, b2i_t, b2i_f, ↓reduceIte, if_true, if_false, hn, yd_people hy, people_at hy hi, people_at hy hp, pe_talk_eq hy hp hi r w, tp_has_eq, add_z, twF, rep]
  by_cases h1 : i = p
  · simp (disch := first | omega | decide) only [nI_lel, nI_ltl, nI_ler, nI_ltr, nI_addl, nI_addr, nI_eqN, nI_leN, nI_ltN, Nat.zero_add, Option.bind_some, Option.bind_none, Option.map_some, bd2_some, b2i_0, b2i_1, b2i_t, b2i_f, ↓reduceIte, if_true, if_false, h1, not_true_eq_false, false_and]
  · cases h2 : hasB set (nI i) <;> simp (disch := first | omega | decide) only [nI_lel, nI_ltl, nI_ler, nI_ltr, nI_addl, nI_addr, nI_eqN, nI_leN, nI_ltN, Nat.zero_add, Option.bind_some, Option.bind_none, Option.map_some, bd2_some, b2i_0, b2i_1, b2i_t, b2i_f, ↓reduceIte, if_true, if_false, h1, h2, not_false_eq_true, true_and, Bool.false_eq_true, Bool.true_eq_false]
theorem yd_talk_eq (hy : isY y) (r : YR y f V) (w : WF f) (eo : EO E) : yd_talk (some y) (mkH E V) = some (rep (fun p s => s + twF f p (bsdF f p) 16) 0 16 / 2) := by
  unfold yd_talk yd_talk_0 yd_talk_L4
  rw [grd_t (isC_y hy)]
  refine iter_toR (fun i => (rep (fun p s => s + twF f p (bsdF f p) 16) 0 i, nI i)) 16 (fun i hi => ?_) rfl
  have hn : ¬ 16 ≤ i := by omega
  unfold yd_talk_b4
  simp (disch := first | omega | decide) only [nI_lel, nI_ltl, nI_ler, nI_ltr, nI_addl, nI_addr, nI_eqN, nI_leN, nI_ltN, Nat.zero_add, Option.bind_some, Option.bind_none, Option.map_some, bd2_some, b2i_0, b2i_1, b2i_t, b2i_f, ↓reduceIte, if_true, if_false, hn, yd_beside_eq hy r w eo hi, yd_talkWith_eq hy r w hi, rep]
end YD
section XT
variable {E : EE} {V : Nat → Nat → Int32} {f : Nat → Int32}
theorem y9 : isY 9 := Or.inl rfl
theorem y27 : isY 27 := Or.inr (Or.inl rfl)
theorem y45 : isY 45 := Or.inr (Or.inr rfl)
/-- a person's number, or none -/
def tldB (f : Nat → Int32) (p : Int32) : Bool := inB p 0 15 && decide (f p.toNatClampNeg = 1)
theorem in15 {p : Int32} (h : inB p 0 15 = true) : ∃ k, k < 16 ∧ p = nI k := by
  unfold inB at h
  simp only [Bool.and_eq_true, decide_eq_true_eq] at h
  obtain ⟨k, hk, e⟩ := nI_of2 (M := 15) (n := 15) (by decide) (nlt.mpr h.1) h.2
  exact ⟨k, by omega, e⟩
theorem inB15 {k : Nat} (hk : k < 16) : inB (nI k) 0 15 = true := by
  unfold inB
  simp (disch := first | omega | decide) only [nI_lel, nI_ltl, nI_ler, nI_ltr, nI_addl, nI_addr, nI_eqN, nI_leN, nI_ltN, Nat.zero_add, Option.bind_some, Option.bind_none, Option.map_some, bd2_some, b2i_0, b2i_1, b2i_t, b2i_f, ↓reduceIte, if_true, if_false]
  simp; omega
theorem inB_lt (v : Int32) : (decide (0 ≤ v) && decide (v < 16)) = inB v 0 15 := by
  unfold inB
  congr 1
  apply decide_eq_decide.mpr
  rw [Int32.lt_iff_toInt_lt, Int32.le_iff_toInt_le, show (16 : Int32).toInt = 16 by decide, show (15 : Int32).toInt = 15 by decide]
  omega
theorem mo_isTold_g (p : Int32) : mo_isTold (some 77) p (mkH E V) = some (b2i (tldB (V 78) p)) := by
  unfold tldB
  by_cases h1 : inB p 0 15 = true
  · obtain ⟨k, hk, rfl⟩ := in15 h1
    rw [mo_isTold_eq hk, h1, Bool.true_and, nI_clamp (by omega)]
  · rw [Bool.not_eq_true] at h1
    unfold mo_isTold mo_isTold_0
    simp (disch := first | omega | decide) only [nI_lel, nI_ltl, nI_ler, nI_ltr, nI_addl, nI_addr, nI_eqN, nI_leN, nI_ltN, Nat.zero_add, Option.bind_some, Option.bind_none, Option.map_some, bd2_some, b2i_0, b2i_1, b2i_t, b2i_f, ↓reduceIte, if_true, if_false, grd_t isC_77, mo_in_eq, h1, Bool.false_and]
theorem tp_isTold_g (r : YR 9 f V) (w : WF f) (p : Int32) : tp_isTold (some 7) p (mkH E V) = some (b2i (tldB f p)) := by
  unfold tp_isTold tp_isTold_0 tldB
  simp (disch := first | omega | decide) only [nI_lel, nI_ltl, nI_ler, nI_ltr, nI_addl, nI_addr, nI_eqN, nI_leN, nI_ltN, Nat.zero_add, Option.bind_some, Option.bind_none, Option.map_some, bd2_some, b2i_0, b2i_1, b2i_t, b2i_f, ↓reduceIte, if_true, if_false, grd_t isC_7, tp_in_eq, inB_lt]
  by_cases h1 : inB p 0 15 = true
  · obtain ⟨k, hk, rfl⟩ := in15 h1
    simp (disch := first | omega | decide) only [nI_lel, nI_ltl, nI_ler, nI_ltr, nI_addl, nI_addr, nI_eqN, nI_leN, nI_ltN, Nat.zero_add, Option.bind_some, Option.bind_none, Option.map_some, bd2_some, b2i_0, b2i_1, b2i_t, b2i_f, ↓reduceIte, if_true, if_false, h1, Bool.true_eq_false, Bool.true_and, nI_clamp (show k < 2 ^ 31 by omega), x_yard, yd_people y9, people_at y9 hk, p_told y9 hk, r.told hk]
    rcases (w.1 k hk).1 with e | e <;> rw [e] <;> rfl
  · rw [Bool.not_eq_true] at h1
    simp (disch := first | omega | decide) only [nI_lel, nI_ltl, nI_ler, nI_ltr, nI_addl, nI_addr, nI_eqN, nI_leN, nI_ltN, Nat.zero_add, Option.bind_some, Option.bind_none, Option.map_some, bd2_some, b2i_0, b2i_1, b2i_t, b2i_f, ↓reduceIte, if_true, if_false, h1, Bool.false_and]
end XT
