/-! good -/
set_option maxRecDepth 100000
theorem rep_first {α : Type} {f : Nat → α → α} {a a' : α} (h : f 0 a = f 0 a') : ∀ n, rep f a (n + 1) = rep f a' (n + 1)
  | 0 => h
  | n + 1 => by
    show f (n + 1) (rep f a (n + 1)) = f (n + 1) (rep f a' (n + 1))
    rw [rep_first h n]
def tonF (f : Nat → Int32) (plot : Int32) : Int32 := if whoF f plot = -2 then 0 else takF f (whoF f plot).toNatClampNeg plot 16
abbrev G4 : Type := Int32 × Int32 × Int32 × Int32
def gdI (f : Nat → Int32) (y a : Nat) (s0 : G4) : Nat → G4 := rep (fun j s => if s.2.2.1 < s.2.2.2 + tonF f (nI (10 * y + (a + j))) then (nI a, nI (a + j), s.2.2.2 + tonF f (nI (10 * y + (a + j))), s.2.2.2 + tonF f (nI (10 * y + (a + j)))) else (s.1, s.2.1, s.2.2.1, s.2.2.2 + tonF f (nI (10 * y + (a + j))))) s0
def gdF (f : Nat → Int32) (y : Nat) (c : Int32) : Nat → Int32 × Int32 × Int32 := rep (fun a s => ((gdI f y a (s.1, s.2.1, s.2.2, 0) (10 - a)).1, (gdI f y a (s.1, s.2.1, s.2.2, 0) (10 - a)).2.1, (gdI f y a (s.1, s.2.1, s.2.2, 0) (10 - a)).2.2.1)) (0, 0, c)
theorem z_add (x : Int32) : 0 + x = x := by
  apply Int32.toBitVec_inj.1
  simp
theorem tak_b {f : Nat → Int32} (w : WF f) {p : Nat} (hp : p < 16) (plot : Int32) : -(768 : Nat) ≤ (takF f p plot 16).toInt ∧ (takF f p plot 16).toInt ≤ (768 : Nat) :=
  (rep_toInt (c := fun q => ¬ q = p ∧ (laidB f q && nxtB plot (f (48 + q))) = true) (t := fun q => talkF f p q) (s0 := 0) (K := 0) (M := 48) (by decide) 16 (fun i hi => talk_b w hp hi) (by decide)).2
theorem ton_b {f : Nat → Int32} (w : WF f) (plot : Int32) : -(768 : Nat) ≤ (tonF f plot).toInt ∧ (tonF f plot).toInt ≤ (768 : Nat) := by
  unfold tonF
  rcases who_cases f plot with ⟨-, e⟩ | ⟨p, hp, -, -, -, e⟩
  · rw [if_pos e]; decide
  · rw [e, if_neg (nI_ne2 (by omega)), nI_clamp (by omega)]
    exact tak_b w hp plot
theorem gd_same {f : Nat → Int32} (w : WF f) (y : Nat) : gdF f y (-268435456) 10 = gdF f y (-1000000) 10 := by
  refine rep_first ?_ 9
  have e : ∀ c, c.toInt < -768 → gdI f y 0 (0, 0, c, 0) (10 - 0) = gdI f y 0 (0, 0, -1000000, 0) (10 - 0) := fun c hc => by
    refine rep_first ?_ 9
    have hb := ton_b w (nI (10 * y + (0 + 0)))
    have l1 : c < 0 + tonF f (nI (10 * y + (0 + 0))) := by
      rw [z_add, Int32.lt_iff_toInt_lt]; omega
    have l2 : -1000000 < 0 + tonF f (nI (10 * y + (0 + 0))) := by
      rw [z_add, Int32.lt_iff_toInt_lt, show (-1000000 : Int32).toInt = -1000000 by decide]; omega
    show (if c < 0 + tonF f (nI (10 * y + (0 + 0))) then _ else _) = (if -1000000 < 0 + tonF f (nI (10 * y + (0 + 0))) then _ else _)
    rw [if_pos l1, if_pos l2]
  show ((gdI f y 0 (0, 0, -268435456, 0) (10 - 0)).1, (gdI f y 0 (0, 0, -268435456, 0) (10 - 0)).2.1, (gdI f y 0 (0, 0, -268435456, 0) (10 - 0)).2.2.1) = ((gdI f y 0 (0, 0, -1000000, 0) (10 - 0)).1, (gdI f y 0 (0, 0, -1000000, 0) (10 - 0)).2.1, (gdI f y 0 (0, 0, -1000000, 0) (10 - 0)).2.2.1)
  rw [e (-268435456) (by decide)]
def godF (f : Nat → Int32) (c : Int32) (y what : Int32) : Int32 := if inB y 0 5 = false then -1000 else if inB what 0 2 = false then -1000 else if what = 0 then (gdF f y.toNatClampNeg c 10).1 else if what = 1 then (gdF f y.toNatClampNeg c 10).2.1 else (gdF f y.toNatClampNeg c 10).2.2
theorem in_n {v : Int32} {n : Nat} (hn : n < 2 ^ 31) (h : inB v 0 (nI n) = true) : ∃ k, k ≤ n ∧ v = nI k := by
  unfold inB at h
  simp only [Bool.and_eq_true, decide_eq_true_eq] at h
  refine ⟨v.toInt.toNat, ?_, ?_⟩
  · have h2 := h.2
    rw [Int32.le_iff_toInt_le, nI_toInt hn] at h2
    omega
  · apply Int32.toInt_inj.1
    have h1 := h.1
    have h2 := h.2
    rw [Int32.le_iff_toInt_le, show (0 : Int32).toInt = 0 by decide] at h1
    rw [Int32.le_iff_toInt_le, nI_toInt hn] at h2
    rw [nI_toInt (by omega)]
    omega
section GO
variable {E : EE} {V : Nat → Nat → Int32} {f : Nat → Int32} {h : PH}
theorem ten_y (y : Nat) (hy : y < 6) (b : Nat) : 10 * nI y + nI b = nI (10 * y + b) := by
  rw [← nI_add]
  congr 1
  revert y; decide
theorem tp_talkOn_eq (r : YR 9 f V) (w : WF f) (eo : EO E) {k : Nat} (hk : k < 60) : tp_talkOn (some 7) (nI k) (mkH E V) = some (tonF f (nI k)) := by
  unfold tp_talkOn tp_talkOn_0 tonF
  rcases who_cases f (nI k) with ⟨a, b⟩ | ⟨p, hp, hl, ep, a, b⟩
  · simp (disch := first | omega | decide) only [nI_lel, nI_ltl, nI_ler, nI_ltr, nI_addl, nI_addr, nI_eqN, nI_leN, nI_ltN, Nat.zero_add, Option.bind_some, Option.bind_none, Option.map_some, bd2_some, b2i_0, b2i_1, b2i_t, b2i_f, ↓reduceIte, if_true, if_false, Bool.true_eq_false, Bool.false_eq_true, not_true_eq_false, not_false_eq_true, true_and, and_true, false_and, and_false, true_or, or_true, false_or, or_false, decide_true, decide_false, Bool.true_and, Bool.false_and, Bool.and_true, Bool.and_false, and_self, Nat.le_refl, Nat.lt_irrefl, ite_self, i10, i01, Option.some.injEq, grd_t isC_7, x_yard, yd_whoLiesAt_eq y9 r w, a, b]
  · simp (disch := first | omega | decide) only [nI_lel, nI_ltl, nI_ler, nI_ltr, nI_addl, nI_addr, nI_eqN, nI_leN, nI_ltN, Nat.zero_add, Option.bind_some, Option.bind_none, Option.map_some, bd2_some, b2i_0, b2i_1, b2i_t, b2i_f, ↓reduceIte, if_true, if_false, Bool.true_eq_false, Bool.false_eq_true, not_true_eq_false, not_false_eq_true, true_and, and_true, false_and, and_false, true_or, or_true, false_or, or_false, decide_true, decide_false, Bool.true_and, Bool.false_and, Bool.and_true, Bool.and_false, and_self, Nat.le_refl, Nat.lt_irrefl, ite_self, i10, i01, Option.some.injEq, grd_t isC_7, x_yard, yd_whoLiesAt_eq y9 r w, a, b, nI_ne1 (show p < 2 ^ 31 by omega), nI_ne2 (show p < 2 ^ 31 by omega), yd_beside_eq y9 r w eo hp, yd_talkWith_eq y9 r w hp, nI_clamp (show p < 2 ^ 31 by omega)]
    unfold twF takF
    refine rep_congr fun i hi x => ?_
    unfold bsdF
    rw [has_setF hi]
    unfold besB
    rw [hl, ep, Bool.true_and]
theorem mo_good_q (y what : Int32) : mo_good (some 77) y what (mkH E V) = some (godF (V 78) (-1000000) y what) := by
  unfold mo_good mo_good_0 godF
  simp (disch := first | omega | decide) only [nI_lel, nI_ltl, nI_ler, nI_ltr, nI_addl, nI_addr, nI_eqN, nI_leN, nI_ltN, Nat.zero_add, Option.bind_some, Option.bind_none, Option.map_some, bd2_some, b2i_0, b2i_1, b2i_t, b2i_f, ↓reduceIte, if_true, if_false, Bool.true_eq_false, Bool.false_eq_true, not_true_eq_false, not_false_eq_true, true_and, and_true, false_and, and_false, true_or, or_true, false_or, or_false, decide_true, decide_false, Bool.true_and, Bool.false_and, Bool.and_true, Bool.and_false, and_self, Nat.le_refl, Nat.lt_irrefl, ite_self, i10, i01, Option.some.injEq, grd_t isC_77, mo_in_eq]
  by_cases h1 : inB y 0 5 = false
  · simp (disch := first | omega | decide) only [nI_lel, nI_ltl, nI_ler, nI_ltr, nI_addl, nI_addr, nI_eqN, nI_leN, nI_ltN, Nat.zero_add, Option.bind_some, Option.bind_none, Option.map_some, bd2_some, b2i_0, b2i_1, b2i_t, b2i_f, ↓reduceIte, if_true, if_false, Bool.true_eq_false, Bool.false_eq_true, not_true_eq_false, not_false_eq_true, true_and, and_true, false_and, and_false, true_or, or_true, false_or, or_false, decide_true, decide_false, Bool.true_and, Bool.false_and, Bool.and_true, Bool.and_false, and_self, Nat.le_refl, Nat.lt_irrefl, ite_self, i10, i01, Option.some.injEq, h1]
  · by_cases h2 : inB what 0 2 = false
    · simp (disch := first | omega | decide) only [nI_lel, nI_ltl, nI_ler, nI_ltr, nI_addl, nI_addr, nI_eqN, nI_leN, nI_ltN, Nat.zero_add, Option.bind_some, Option.bind_none, Option.map_some, bd2_some, b2i_0, b2i_1, b2i_t, b2i_f, ↓reduceIte, if_true, if_false, Bool.true_eq_false, Bool.false_eq_true, not_true_eq_false, not_false_eq_true, true_and, and_true, false_and, and_false, true_or, or_true, false_or, or_false, decide_true, decide_false, Bool.true_and, Bool.false_and, Bool.and_true, Bool.and_false, and_self, Nat.le_refl, Nat.lt_irrefl, ite_self, i10, i01, Option.some.injEq, h1, h2]
    · simp (disch := first | omega | decide) only [nI_lel, nI_ltl, nI_ler, nI_ltr, nI_addl, nI_addr, nI_eqN, nI_leN, nI_ltN, Nat.zero_add, Option.bind_some, Option.bind_none, Option.map_some, bd2_some, b2i_0, b2i_1, b2i_t, b2i_f, ↓reduceIte, if_true, if_false, Bool.true_eq_false, Bool.false_eq_true, not_true_eq_false, not_false_eq_true, true_and, and_true, false_and, and_false, true_or, or_true, false_or, or_false, decide_true, decide_false, Bool.true_and, Bool.false_and, Bool.and_true, Bool.and_false, and_self, Nat.le_refl, Nat.lt_irrefl, ite_self, i10, i01, Option.some.injEq, h1, h2]
      rw [Bool.not_eq_false] at h1
      obtain ⟨k, hk, rfl⟩ := in_n (n := 5) (by decide) h1
      simp (disch := first | omega | decide) only [nI_lel, nI_ltl, nI_ler, nI_ltr, nI_addl, nI_addr, nI_eqN, nI_leN, nI_ltN, Nat.zero_add, Option.bind_some, Option.bind_none, Option.map_some, bd2_some, b2i_0, b2i_1, b2i_t, b2i_f, ↓reduceIte, if_true, if_false, Bool.true_eq_false, Bool.false_eq_true, not_true_eq_false, not_false_eq_true, true_and, and_true, false_and, and_false, true_or, or_true, false_or, or_false, decide_true, decide_false, Bool.true_and, Bool.false_and, Bool.and_true, Bool.and_false, and_self, Nat.le_refl, Nat.lt_irrefl, ite_self, i10, i01, Option.some.injEq, nI_clamp (show k < 2 ^ 31 by omega)]
      unfold mo_good_L35
      refine iter_toR (fun i => ((gdF (V 78) k (-1000000) i).1, (gdF (V 78) k (-1000000) i).2.1, (gdF (V 78) k (-1000000) i).2.2, nI i)) 10 (fun i hi => ?_) (by
        unfold mo_good_b35
        simp (disch := first | omega | decide) only [nI_lel, nI_ltl, nI_ler, nI_ltr, nI_addl, nI_addr, nI_eqN, nI_leN, nI_ltN, Nat.zero_add, Option.bind_some, Option.bind_none, Option.map_some, bd2_some, b2i_0, b2i_1, b2i_t, b2i_f, ↓reduceIte, if_true, if_false, Bool.true_eq_false, Bool.false_eq_true, not_true_eq_false, not_false_eq_true, true_and, and_true, false_and, and_false, true_or, or_true, false_or, or_false, decide_true, decide_false, Bool.true_and, Bool.false_and, Bool.and_true, Bool.and_false, and_self, Nat.le_refl, Nat.lt_irrefl, ite_self, i10, i01, Option.some.injEq]
        repeat' split
        all_goals rfl)
      unfold mo_good_b35 mo_good_L49
      rw [show gdF (V 78) k (-1000000) (i + 1) = ((gdI (V 78) k i ((gdF (V 78) k (-1000000) i).1, (gdF (V 78) k (-1000000) i).2.1, (gdF (V 78) k (-1000000) i).2.2, 0) (10 - i)).1, (gdI (V 78) k i ((gdF (V 78) k (-1000000) i).1, (gdF (V 78) k (-1000000) i).2.1, (gdF (V 78) k (-1000000) i).2.2, 0) (10 - i)).2.1, (gdI (V 78) k i ((gdF (V 78) k (-1000000) i).1, (gdF (V 78) k (-1000000) i).2.1, (gdF (V 78) k (-1000000) i).2.2, 0) (10 - i)).2.2.1) from rfl]
      generalize gdF (V 78) k (-1000000) i = s
      simp (disch := first | omega | decide) only [nI_lel, nI_ltl, nI_ler, nI_ltr, nI_addl, nI_addr, nI_eqN, nI_leN, nI_ltN, Nat.zero_add, Option.bind_some, Option.bind_none, Option.map_some, bd2_some, b2i_0, b2i_1, b2i_t, b2i_f, ↓reduceIte, if_true, if_false, Bool.true_eq_false, Bool.false_eq_true, not_true_eq_false, not_false_eq_true, true_and, and_true, false_and, and_false, true_or, or_true, false_or, or_false, decide_true, decide_false, Bool.true_and, Bool.false_and, Bool.and_true, Bool.and_false, and_self, Nat.le_refl, Nat.lt_irrefl, ite_self, i10, i01, Option.some.injEq, show ¬ 10 ≤ i by omega]
      refine iter_toR (fun j => ((gdI (V 78) k i (s.1, s.2.1, s.2.2, 0) j).1, (gdI (V 78) k i (s.1, s.2.1, s.2.2, 0) j).2.1, (gdI (V 78) k i (s.1, s.2.1, s.2.2, 0) j).2.2.1, (gdI (V 78) k i (s.1, s.2.1, s.2.2, 0) j).2.2.2, nI (i + j))) (10 - i) (fun j hj => ?_) (by
        unfold mo_good_b49
        simp (disch := first | omega | decide) only [nI_lel, nI_ltl, nI_ler, nI_ltr, nI_addl, nI_addr, nI_eqN, nI_leN, nI_ltN, Nat.zero_add, Option.bind_some, Option.bind_none, Option.map_some, bd2_some, b2i_0, b2i_1, b2i_t, b2i_f, ↓reduceIte, if_true, if_false, Bool.true_eq_false, Bool.false_eq_true, not_true_eq_false, not_false_eq_true, true_and, and_true, false_and, and_false, true_or, or_true, false_or, or_false, decide_true, decide_false, Bool.true_and, Bool.false_and, Bool.and_true, Bool.and_false, and_self, Nat.le_refl, Nat.lt_irrefl, ite_self, i10, i01, Option.some.injEq, show 10 ≤ i + (10 - i) by omega])
      unfold mo_good_b49 mo_good_95
      rw [show gdI (V 78) k i (s.1, s.2.1, s.2.2, 0) (j + 1) = if (gdI (V 78) k i (s.1, s.2.1, s.2.2, 0) j).2.2.1 < (gdI (V 78) k i (s.1, s.2.1, s.2.2, 0) j).2.2.2 + tonF (V 78) (nI (10 * k + (i + j))) then (nI i, nI (i + j), (gdI (V 78) k i (s.1, s.2.1, s.2.2, 0) j).2.2.2 + tonF (V 78) (nI (10 * k + (i + j))), (gdI (V 78) k i (s.1, s.2.1, s.2.2, 0) j).2.2.2 + tonF (V 78) (nI (10 * k + (i + j)))) else ((gdI (V 78) k i (s.1, s.2.1, s.2.2, 0) j).1, (gdI (V 78) k i (s.1, s.2.1, s.2.2, 0) j).2.1, (gdI (V 78) k i (s.1, s.2.1, s.2.2, 0) j).2.2.1, (gdI (V 78) k i (s.1, s.2.1, s.2.2, 0) j).2.2.2 + tonF (V 78) (nI (10 * k + (i + j)))) from rfl]
      generalize gdI (V 78) k i (s.1, s.2.1, s.2.2, 0) j = t
      unfold tonF
      simp (disch := first | omega | decide) only [nI_lel, nI_ltl, nI_ler, nI_ltr, nI_addl, nI_addr, nI_eqN, nI_leN, nI_ltN, Nat.zero_add, Option.bind_some, Option.bind_none, Option.map_some, bd2_some, b2i_0, b2i_1, b2i_t, b2i_f, ↓reduceIte, if_true, if_false, Bool.true_eq_false, Bool.false_eq_true, not_true_eq_false, not_false_eq_true, true_and, and_true, false_and, and_false, true_or, or_true, false_or, or_false, decide_true, decide_false, Bool.true_and, Bool.false_and, Bool.and_true, Bool.and_false, and_self, Nat.le_refl, Nat.lt_irrefl, ite_self, i10, i01, Option.some.injEq, show ¬ 10 ≤ i + j by omega, ten_y k (by omega), mo_whoLies_eq]
      rcases who_cases (V 78) (nI (10 * k + (i + j))) with ⟨-, b⟩ | ⟨p, hp, -, -, -, b⟩
      · simp (disch := first | omega | decide) only [nI_lel, nI_ltl, nI_ler, nI_ltr, nI_addl, nI_addr, nI_eqN, nI_leN, nI_ltN, Nat.zero_add, Option.bind_some, Option.bind_none, Option.map_some, bd2_some, b2i_0, b2i_1, b2i_t, b2i_f, ↓reduceIte, if_true, if_false, Bool.true_eq_false, Bool.false_eq_true, not_true_eq_false, not_false_eq_true, true_and, and_true, false_and, and_false, true_or, or_true, false_or, or_false, decide_true, decide_false, Bool.true_and, Bool.false_and, Bool.and_true, Bool.and_false, and_self, Nat.le_refl, Nat.lt_irrefl, ite_self, i10, i01, Option.some.injEq, b, Nat.add_assoc]
        split <;> rfl
      · simp (disch := first | omega | decide) only [nI_lel, nI_ltl, nI_ler, nI_ltr, nI_addl, nI_addr, nI_eqN, nI_leN, nI_ltN, Nat.zero_add, Option.bind_some, Option.bind_none, Option.map_some, bd2_some, b2i_0, b2i_1, b2i_t, b2i_f, ↓reduceIte, if_true, if_false, Bool.true_eq_false, Bool.false_eq_true, not_true_eq_false, not_false_eq_true, true_and, and_true, false_and, and_false, true_or, or_true, false_or, or_false, decide_true, decide_false, Bool.true_and, Bool.false_and, Bool.and_true, Bool.and_false, and_self, Nat.le_refl, Nat.lt_irrefl, ite_self, i10, i01, Option.some.injEq, b, nI_ne2 (show p < 2 ^ 31 by omega), mo_talkAt_eq hp, nI_clamp (show p < 2 ^ 31 by omega), Nat.add_assoc]
        split <;> rfl
theorem tp_good_q (r : YR 9 f V) (w : WF f) (eo : EO E) (y what : Int32) : tp_good (some 7) y what (mkH E V) = some (godF f (-1000000) y what) := by
  unfold tp_good tp_good_0 godF
  simp (disch := first | omega | decide) only [nI_lel, nI_ltl, nI_ler, nI_ltr, nI_addl, nI_addr, nI_eqN, nI_leN, nI_ltN, Nat.zero_add, Option.bind_some, Option.bind_none, Option.map_some, bd2_some, b2i_0, b2i_1, b2i_t, b2i_f, ↓reduceIte, if_true, if_false, Bool.true_eq_false, Bool.false_eq_true, not_true_eq_false, not_false_eq_true, true_and, and_true, false_and, and_false, true_or, or_true, false_or, or_false, decide_true, decide_false, Bool.true_and, Bool.false_and, Bool.and_true, Bool.and_false, and_self, Nat.le_refl, Nat.lt_irrefl, ite_self, i10, i01, Option.some.injEq, grd_t isC_7, tp_in6, tp_in3]
  by_cases h1 : inB y 0 5 = false
  · simp (disch := first | omega | decide) only [nI_lel, nI_ltl, nI_ler, nI_ltr, nI_addl, nI_addr, nI_eqN, nI_leN, nI_ltN, Nat.zero_add, Option.bind_some, Option.bind_none, Option.map_some, bd2_some, b2i_0, b2i_1, b2i_t, b2i_f, ↓reduceIte, if_true, if_false, Bool.true_eq_false, Bool.false_eq_true, not_true_eq_false, not_false_eq_true, true_and, and_true, false_and, and_false, true_or, or_true, false_or, or_false, decide_true, decide_false, Bool.true_and, Bool.false_and, Bool.and_true, Bool.and_false, and_self, Nat.le_refl, Nat.lt_irrefl, ite_self, i10, i01, Option.some.injEq, h1]
  · by_cases h2 : inB what 0 2 = false
    · simp (disch := first | omega | decide) only [nI_lel, nI_ltl, nI_ler, nI_ltr, nI_addl, nI_addr, nI_eqN, nI_leN, nI_ltN, Nat.zero_add, Option.bind_some, Option.bind_none, Option.map_some, bd2_some, b2i_0, b2i_1, b2i_t, b2i_f, ↓reduceIte, if_true, if_false, Bool.true_eq_false, Bool.false_eq_true, not_true_eq_false, not_false_eq_true, true_and, and_true, false_and, and_false, true_or, or_true, false_or, or_false, decide_true, decide_false, Bool.true_and, Bool.false_and, Bool.and_true, Bool.and_false, and_self, Nat.le_refl, Nat.lt_irrefl, ite_self, i10, i01, Option.some.injEq, h1, h2]
    · simp (disch := first | omega | decide) only [nI_lel, nI_ltl, nI_ler, nI_ltr, nI_addl, nI_addr, nI_eqN, nI_leN, nI_ltN, Nat.zero_add, Option.bind_some, Option.bind_none, Option.map_some, bd2_some, b2i_0, b2i_1, b2i_t, b2i_f, ↓reduceIte, if_true, if_false, Bool.true_eq_false, Bool.false_eq_true, not_true_eq_false, not_false_eq_true, true_and, and_true, false_and, and_false, true_or, or_true, false_or, or_false, decide_true, decide_false, Bool.true_and, Bool.false_and, Bool.and_true, Bool.and_false, and_self, Nat.le_refl, Nat.lt_irrefl, ite_self, i10, i01, Option.some.injEq, h1, h2]
      rw [Bool.not_eq_false] at h1
      obtain ⟨k, hk, rfl⟩ := in_n (n := 5) (by decide) h1
      simp (disch := first | omega | decide) only [nI_lel, nI_ltl, nI_ler, nI_ltr, nI_addl, nI_addr, nI_eqN, nI_leN, nI_ltN, Nat.zero_add, Option.bind_some, Option.bind_none, Option.map_some, bd2_some, b2i_0, b2i_1, b2i_t, b2i_f, ↓reduceIte, if_true, if_false, Bool.true_eq_false, Bool.false_eq_true, not_true_eq_false, not_false_eq_true, true_and, and_true, false_and, and_false, true_or, or_true, false_or, or_false, decide_true, decide_false, Bool.true_and, Bool.false_and, Bool.and_true, Bool.and_false, and_self, Nat.le_refl, Nat.lt_irrefl, ite_self, i10, i01, Option.some.injEq, nI_clamp (show k < 2 ^ 31 by omega)]
      rw [← gd_same w]
      unfold tp_good_L34
      refine iter_toR (fun i => ((gdF f k (-268435456) i).1, (gdF f k (-268435456) i).2.1, (gdF f k (-268435456) i).2.2, nI i)) 10 (fun i hi => ?_) (by
        unfold tp_good_b34
        simp (disch := first | omega | decide) only [nI_lel, nI_ltl, nI_ler, nI_ltr, nI_addl, nI_addr, nI_eqN, nI_leN, nI_ltN, Nat.zero_add, Option.bind_some, Option.bind_none, Option.map_some, bd2_some, b2i_0, b2i_1, b2i_t, b2i_f, ↓reduceIte, if_true, if_false, Bool.true_eq_false, Bool.false_eq_true, not_true_eq_false, not_false_eq_true, true_and, and_true, false_and, and_false, true_or, or_true, false_or, or_false, decide_true, decide_false, Bool.true_and, Bool.false_and, Bool.and_true, Bool.and_false, and_self, Nat.le_refl, Nat.lt_irrefl, ite_self, i10, i01, Option.some.injEq]
        repeat' split
        all_goals rfl)
      unfold tp_good_b34 tp_good_L48
      rw [show gdF f k (-268435456) (i + 1) = ((gdI f k i ((gdF f k (-268435456) i).1, (gdF f k (-268435456) i).2.1, (gdF f k (-268435456) i).2.2, 0) (10 - i)).1, (gdI f k i ((gdF f k (-268435456) i).1, (gdF f k (-268435456) i).2.1, (gdF f k (-268435456) i).2.2, 0) (10 - i)).2.1, (gdI f k i ((gdF f k (-268435456) i).1, (gdF f k (-268435456) i).2.1, (gdF f k (-268435456) i).2.2, 0) (10 - i)).2.2.1) from rfl]
      generalize gdF f k (-268435456) i = s
      simp (disch := first | omega | decide) only [nI_lel, nI_ltl, nI_ler, nI_ltr, nI_addl, nI_addr, nI_eqN, nI_leN, nI_ltN, Nat.zero_add, Option.bind_some, Option.bind_none, Option.map_some, bd2_some, b2i_0, b2i_1, b2i_t, b2i_f, ↓reduceIte, if_true, if_false, Bool.true_eq_false, Bool.false_eq_true, not_true_eq_false, not_false_eq_true, true_and, and_true, false_and, and_false, true_or, or_true, false_or, or_false, decide_true, decide_false, Bool.true_and, Bool.false_and, Bool.and_true, Bool.and_false, and_self, Nat.le_refl, Nat.lt_irrefl, ite_self, i10, i01, Option.some.injEq, show ¬ 10 ≤ i by omega]
      refine iter_toR (fun j => ((gdI f k i (s.1, s.2.1, s.2.2, 0) j).1, (gdI f k i (s.1, s.2.1, s.2.2, 0) j).2.1, (gdI f k i (s.1, s.2.1, s.2.2, 0) j).2.2.1, (gdI f k i (s.1, s.2.1, s.2.2, 0) j).2.2.2, nI (i + j))) (10 - i) (fun j hj => ?_) (by
        unfold tp_good_b48
        simp (disch := first | omega | decide) only [nI_lel, nI_ltl, nI_ler, nI_ltr, nI_addl, nI_addr, nI_eqN, nI_leN, nI_ltN, Nat.zero_add, Option.bind_some, Option.bind_none, Option.map_some, bd2_some, b2i_0, b2i_1, b2i_t, b2i_f, ↓reduceIte, if_true, if_false, Bool.true_eq_false, Bool.false_eq_true, not_true_eq_false, not_false_eq_true, true_and, and_true, false_and, and_false, true_or, or_true, false_or, or_false, decide_true, decide_false, Bool.true_and, Bool.false_and, Bool.and_true, Bool.and_false, and_self, Nat.le_refl, Nat.lt_irrefl, ite_self, i10, i01, Option.some.injEq, show 10 ≤ i + (10 - i) by omega])
      unfold tp_good_b48
      rw [show gdI f k i (s.1, s.2.1, s.2.2, 0) (j + 1) = if (gdI f k i (s.1, s.2.1, s.2.2, 0) j).2.2.1 < (gdI f k i (s.1, s.2.1, s.2.2, 0) j).2.2.2 + tonF f (nI (10 * k + (i + j))) then (nI i, nI (i + j), (gdI f k i (s.1, s.2.1, s.2.2, 0) j).2.2.2 + tonF f (nI (10 * k + (i + j))), (gdI f k i (s.1, s.2.1, s.2.2, 0) j).2.2.2 + tonF f (nI (10 * k + (i + j)))) else ((gdI f k i (s.1, s.2.1, s.2.2, 0) j).1, (gdI f k i (s.1, s.2.1, s.2.2, 0) j).2.1, (gdI f k i (s.1, s.2.1, s.2.2, 0) j).2.2.1, (gdI f k i (s.1, s.2.1, s.2.2, 0) j).2.2.2 + tonF f (nI (10 * k + (i + j)))) from rfl]
      generalize gdI f k i (s.1, s.2.1, s.2.2, 0) j = t
      simp (disch := first | omega | decide) only [nI_lel, nI_ltl, nI_ler, nI_ltr, nI_addl, nI_addr, nI_eqN, nI_leN, nI_ltN, Nat.zero_add, Option.bind_some, Option.bind_none, Option.map_some, bd2_some, b2i_0, b2i_1, b2i_t, b2i_f, ↓reduceIte, if_true, if_false, Bool.true_eq_false, Bool.false_eq_true, not_true_eq_false, not_false_eq_true, true_and, and_true, false_and, and_false, true_or, or_true, false_or, or_false, decide_true, decide_false, Bool.true_and, Bool.false_and, Bool.and_true, Bool.and_false, and_self, Nat.le_refl, Nat.lt_irrefl, ite_self, i10, i01, Option.some.injEq, show ¬ 10 ≤ i + j by omega, ten_y k (by omega), tp_talkOn_eq r w eo (show 10 * k + (i + j) < 60 by omega), Nat.add_assoc]
      split <;> rfl
end GO
