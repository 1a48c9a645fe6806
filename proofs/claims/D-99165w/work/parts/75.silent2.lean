/-! silent -/
set_option maxRecDepth 100000
def mxN (N : Nat → Nat) : Nat → Nat → Nat
  | 0, _ => 0
  | n + 1, k => max (N k) (mxN N n (k + 1))
theorem mxN_snoc (N : Nat → Nat) : ∀ n k, mxN N (n + 1) k = max (mxN N n k) (N (k + n))
  | 0, k => by
    show max (N k) 0 = max 0 (N (k + 0))
    rw [Nat.max_comm, Nat.add_zero]
  | n + 1, k => by
    have ih := mxN_snoc N n (k + 1)
    rw [show mxN N (n + 1 + 1) k = max (N k) (mxN N (n + 1) (k + 1)) from rfl, ih, show mxN N (n + 1) k = max (N k) (mxN N n (k + 1)) from rfl, show k + 1 + n = k + (n + 1) by omega, Nat.max_assoc]
theorem mxN_le {N : Nat → Nat} {M : Nat} (h : ∀ i, N i ≤ M) : ∀ n k, mxN N n k ≤ M
  | 0, _ => Nat.zero_le _
  | n + 1, k => Nat.max_le.mpr ⟨h k, mxN_le h n (k + 1)⟩
theorem fnd_none {P : Nat → Bool} : ∀ n k, (∃ i, k ≤ i ∧ i < k + n ∧ P i = true) → k + n < 2 ^ 31 → ¬ fnd P nI (-2 : Int32) n k = -2
  | 0, k, ⟨i, h1, h2, _⟩, _ => absurd h1 (by omega)
  | n + 1, k, ⟨i, h1, h2, h3⟩, hl => by
    unfold fnd
    by_cases hp : P k = true
    · rw [if_pos hp]; exact nI_ne2 (by omega)
    · rw [if_neg hp]
      have : i ≠ k := fun e => hp (e ▸ h3)
      exact fnd_none n (k + 1) ⟨i, by omega, by omega, h3⟩ (by omega)
theorem who_is {f : Nat → Int32} {p : Nat} (hp : p < 16) {plot : Int32} (hl : laidB f p = true) (e : f (48 + p) = plot) : ¬ whoF f plot = -2 := fnd_none 16 0 ⟨p, by omega, by omega, by rw [hl, decide_eq_true e]; rfl⟩ (by decide)
theorem setF_0 {P : Nat → Bool} : (setF P 16 = 0) = ∀ i, i < 16 → P i = false := by
  apply propext
  constructor
  · intro e i hi
    have := has_setF (P := P) hi
    rw [e] at this
    rw [← this]
    have h2 := nx_has (v := 0) (k := i) (by decide) (by omega)
    rw [show (0 : Int32) = nI 0 from rfl, h2]; simp
  · intro h; exact setF_none h
def silB (f : Nat → Int32) (k : Nat) : Bool := decide (whoF f (nI k) = -2) && decide (arnF f (nI k) = 0)
theorem sil_iff {f : Nat → Int32} (w : WF f) {k : Nat} : (arnF f (nI k) = 0) = ∀ b, b < 60 → adjB k b = true → whoF f (nI b) = -2 := by
  unfold arnF
  rw [setF_0]
  apply propext
  constructor
  · intro h b hb hab
    rcases who_cases f (nI b) with ⟨-, e⟩ | ⟨p, hp, hl, ep, -, -⟩
    · exact e
    · have := h p hp
      rw [hl, ep, Bool.true_and] at this
      unfold adjB at hab
      rw [hab] at this
      exact absurd this (by decide)
  · intro h p hp
    cases hl : laidB f p
    · rfl
    · obtain ⟨-, b, hb, eb⟩ := laid_plot w hp hl
      rw [Bool.true_and, eb]
      cases hx : nxtB (nI k) (nI b)
      · rfl
      · exact absurd (h b hb hx) (who_is hp hl eb)
section SI
variable {E : EE} {V : Nat → Nat → Int32}
theorem mo_isSilent_q (w : WF (V 78)) {k : Nat} (hk : k < 60) : mo_isSilent (some 77) (nI k) (mkH E V) = some (b2i (silB (V 78) k)) := by
  unfold mo_isSilent mo_isSilent_0 silB
  by_cases c : whoF (V 78) (nI k) = -2
  · simp (disch := first | omega | decide) only [nI_lel, nI_ltl, nI_ler, nI_ltr, nI_addl, nI_addr, nI_eqN, nI_leN, nI_ltN, Nat.zero_add, Option.bind_some, Option.bind_none, Option.map_some, bd2_some, b2i_0, b2i_1, b2i_t, b2i_f, ↓reduceIte, if_true, if_false, Bool.true_eq_false, Bool.false_eq_true, not_true_eq_false, not_false_eq_true, true_and, and_true, false_and, and_false, true_or, or_true, false_or, or_false, decide_true, decide_false, Bool.true_and, Bool.false_and, Bool.and_true, Bool.and_false, and_self, Nat.le_refl, Nat.lt_irrefl, ite_self, i10, i01, Option.some.injEq, grd_t isC_77, mo_whoLies_eq, c]
    unfold mo_isSilent_L14
    have h1 := iter_fnd (B := fun s : Int32 => mo_isSilent_b14 (some 77) (nI k) s (mkH E V)) (P := fun b => adjB k b && !decide (whoF (V 78) (nI b) = -2)) (g := fun _ => (0 : Int32)) (r := 1) nI 60 0 (fun i _ hi => by
      have hi' : ¬ 60 ≤ i := by omega
      unfold mo_isSilent_b14 adjB
      simp (disch := first | omega | decide) only [nI_lel, nI_ltl, nI_ler, nI_ltr, nI_addl, nI_addr, nI_eqN, nI_leN, nI_ltN, Nat.zero_add, Option.bind_some, Option.bind_none, Option.map_some, bd2_some, b2i_0, b2i_1, b2i_t, b2i_f, ↓reduceIte, if_true, if_false, Bool.true_eq_false, Bool.false_eq_true, not_true_eq_false, not_false_eq_true, true_and, and_true, false_and, and_false, true_or, or_true, false_or, or_false, decide_true, decide_false, Bool.true_and, Bool.false_and, Bool.and_true, Bool.and_false, and_self, Nat.le_refl, Nat.lt_irrefl, ite_self, i10, i01, Option.some.injEq, hi', mo_areNext_eq, mo_whoLies_eq]
      cases nxtB (nI k) (nI i)
      · simp (disch := first | omega | decide) only [nI_lel, nI_ltl, nI_ler, nI_ltr, nI_addl, nI_addr, nI_eqN, nI_leN, nI_ltN, Nat.zero_add, Option.bind_some, Option.bind_none, Option.map_some, bd2_some, b2i_0, b2i_1, b2i_t, b2i_f, ↓reduceIte, if_true, if_false, Bool.true_eq_false, Bool.false_eq_true, not_true_eq_false, not_false_eq_true, true_and, and_true, false_and, and_false, true_or, or_true, false_or, or_false, decide_true, decide_false, Bool.true_and, Bool.false_and, Bool.and_true, Bool.and_false, and_self, Nat.le_refl, Nat.lt_irrefl, ite_self, i10, i01, Option.some.injEq]
      · by_cases c2 : whoF (V 78) (nI i) = -2 <;> simp (disch := first | omega | decide) only [nI_lel, nI_ltl, nI_ler, nI_ltr, nI_addl, nI_addr, nI_eqN, nI_leN, nI_ltN, Nat.zero_add, Option.bind_some, Option.bind_none, Option.map_some, bd2_some, b2i_0, b2i_1, b2i_t, b2i_f, ↓reduceIte, if_true, if_false, Bool.true_eq_false, Bool.false_eq_true, not_true_eq_false, not_false_eq_true, true_and, and_true, false_and, and_false, true_or, or_true, false_or, or_false, decide_true, decide_false, Bool.true_and, Bool.false_and, Bool.and_true, Bool.and_false, and_self, Nat.le_refl, Nat.lt_irrefl, ite_self, i10, i01, Option.some.injEq, c2, Bool.not_true, Bool.not_false]) (by unfold mo_isSilent_b14; simp (disch := first | omega | decide) only [nI_lel, nI_ltl, nI_ler, nI_ltr, nI_addl, nI_addr, nI_eqN, nI_leN, nI_ltN, Nat.zero_add, Option.bind_some, Option.bind_none, Option.map_some, bd2_some, b2i_0, b2i_1, b2i_t, b2i_f, ↓reduceIte, if_true, if_false, Bool.true_eq_false, Bool.false_eq_true, not_true_eq_false, not_false_eq_true, true_and, and_true, false_and, and_false, true_or, or_true, false_or, or_false, decide_true, decide_false, Bool.true_and, Bool.false_and, Bool.and_true, Bool.and_false, and_self, Nat.le_refl, Nat.lt_irrefl, ite_self, i10, i01, Option.some.injEq])
    refine h1.trans ?_
    congr 1
    have hex : ∀ n k', (∀ b, k' ≤ b → b < k' + n → (adjB k b && !decide (whoF (V 78) (nI b) = -2)) = false) → fnd (fun b => adjB k b && !decide (whoF (V 78) (nI b) = -2)) (fun _ => (0 : Int32)) 1 n k' = 1 := fun n => by
      induction n with
      | zero => intro k' _; rfl
      | succ n ih =>
        intro k' h
        unfold fnd
        rw [h k' (by omega) (by omega)]
        exact ih (k' + 1) fun b h1 h2 => h b (by omega) (by omega)
    have hex2 : ∀ n k', (∃ b, k' ≤ b ∧ b < k' + n ∧ (adjB k b && !decide (whoF (V 78) (nI b) = -2)) = true) → fnd (fun b => adjB k b && !decide (whoF (V 78) (nI b) = -2)) (fun _ => (0 : Int32)) 1 n k' = 0 := fun n => by
      induction n with
      | zero => rintro k' ⟨b, h1, h2, -⟩; omega
      | succ n ih =>
        rintro k' ⟨b, h1, h2, h3⟩
        unfold fnd
        by_cases hp : (adjB k k' && !decide (whoF (V 78) (nI k') = -2)) = true
        · rw [if_pos hp]
        · rw [if_neg hp]
          have : b ≠ k' := fun e => hp (e ▸ h3)
          exact ih (k' + 1) ⟨b, by omega, by omega, h3⟩
    by_cases ha : arnF (V 78) (nI k) = 0
    · rw [decide_eq_true ha, b2i_t]
      rw [sil_iff w] at ha
      exact hex 60 0 fun b _ hb => by
        cases hx : adjB k b
        · rfl
        · rw [decide_eq_true (ha b (by omega) hx)]; rfl
    · rw [decide_eq_false ha, b2i_f]
      apply hex2 60 0
      rw [sil_iff w] at ha
      by_cases hy : ∃ b, 0 ≤ b ∧ b < 0 + 60 ∧ (adjB k b && !decide (whoF (V 78) (nI b) = -2)) = true
      · exact hy
      · exfalso
        apply ha
        intro b hb hab
        by_cases hz : whoF (V 78) (nI b) = -2
        · exact hz
        · exact absurd ⟨b, by omega, by omega, by rw [hab, decide_eq_false hz]; rfl⟩ hy
  · simp (disch := first | omega | decide) only [nI_lel, nI_ltl, nI_ler, nI_ltr, nI_addl, nI_addr, nI_eqN, nI_leN, nI_ltN, Nat.zero_add, Option.bind_some, Option.bind_none, Option.map_some, bd2_some, b2i_0, b2i_1, b2i_t, b2i_f, ↓reduceIte, if_true, if_false, Bool.true_eq_false, Bool.false_eq_true, not_true_eq_false, not_false_eq_true, true_and, and_true, false_and, and_false, true_or, or_true, false_or, or_false, decide_true, decide_false, Bool.true_and, Bool.false_and, Bool.and_true, Bool.and_false, and_self, Nat.le_refl, Nat.lt_irrefl, ite_self, i10, i01, Option.some.injEq, grd_t isC_77, mo_whoLies_eq, c]
theorem tp_silent_01 (r : YR 9 (V 78) V) (w : WF (V 78)) (eo : EO E) (what : Int32) : tp_silent_L28 (some 7) what 0 (-2) 0 (mkH E V) = some (if what = 0 then nI (cnN (silB (V 78)) 60 0) else fnd (silB (V 78)) nI (-2) 60 0, mkH E V) := by
  unfold tp_silent_L28
  generalize hP : silB (V 78) = P
  refine iter_toR (B := fun s : Int32 × Int32 × Int32 => tp_silent_b28 (some 7) what s.1 s.2.1 s.2.2 (mkH E V)) (fun i => (nI (cnN P i 0), fnd P nI (-2) i 0, nI i)) 60 (fun i hi => ?_) (by
    unfold tp_silent_b28
    simp (disch := first | omega | decide) only [nI_lel, nI_ltl, nI_ler, nI_ltr, nI_addl, nI_addr, nI_eqN, nI_leN, nI_ltN, Nat.zero_add, Option.bind_some, Option.bind_none, Option.map_some, bd2_some, b2i_0, b2i_1, b2i_t, b2i_f, ↓reduceIte, if_true, if_false, Bool.true_eq_false, Bool.false_eq_true, not_true_eq_false, not_false_eq_true, true_and, and_true, false_and, and_false, true_or, or_true, false_or, or_false, decide_true, decide_false, Bool.true_and, Bool.false_and, Bool.and_true, Bool.and_false, and_self, Nat.le_refl, Nat.lt_irrefl, ite_self, i10, i01, Option.some.injEq]
    split <;> rfl)
  have hx : P i = silB (V 78) i := by rw [hP]
  unfold tp_silent_b28
  rw [cnN_snoc, fnd_snoc _ _ (by omega), Nat.zero_add, hx]
  unfold silB
  simp (disch := first | omega | decide) only [nI_lel, nI_ltl, nI_ler, nI_ltr, nI_addl, nI_addr, nI_eqN, nI_leN, nI_ltN, Nat.zero_add, Option.bind_some, Option.bind_none, Option.map_some, bd2_some, b2i_0, b2i_1, b2i_t, b2i_f, ↓reduceIte, if_true, if_false, Bool.true_eq_false, Bool.false_eq_true, not_true_eq_false, not_false_eq_true, true_and, and_true, false_and, and_false, true_or, or_true, false_or, or_false, decide_true, decide_false, Bool.true_and, Bool.false_and, Bool.and_true, Bool.and_false, and_self, Nat.le_refl, Nat.lt_irrefl, ite_self, i10, i01, Option.some.injEq, show ¬ 60 ≤ i by omega, x_yard, yd_whoLiesAt_eq y9 r w, who2, yd_around_eq y9 r w eo hi]
  by_cases c1 : whoF (V 78) (nI i) = -2
  · by_cases c2 : arnF (V 78) (nI i) = 0
    · by_cases c3 : fnd P nI (-2 : Int32) i 0 = -2 <;> simp (disch := first | omega | decide) only [nI_lel, nI_ltl, nI_ler, nI_ltr, nI_addl, nI_addr, nI_eqN, nI_leN, nI_ltN, Nat.zero_add, Option.bind_some, Option.bind_none, Option.map_some, bd2_some, b2i_0, b2i_1, b2i_t, b2i_f, ↓reduceIte, if_true, if_false, Bool.true_eq_false, Bool.false_eq_true, not_true_eq_false, not_false_eq_true, true_and, and_true, false_and, and_false, true_or, or_true, false_or, or_false, decide_true, decide_false, Bool.true_and, Bool.false_and, Bool.and_true, Bool.and_false, and_self, Nat.le_refl, Nat.lt_irrefl, ite_self, i10, i01, Option.some.injEq, c1, c2, c3]
    · by_cases c3 : fnd P nI (-2 : Int32) i 0 = -2 <;> simp (disch := first | omega | decide) only [nI_lel, nI_ltl, nI_ler, nI_ltr, nI_addl, nI_addr, nI_eqN, nI_leN, nI_ltN, Nat.zero_add, Option.bind_some, Option.bind_none, Option.map_some, bd2_some, b2i_0, b2i_1, b2i_t, b2i_f, ↓reduceIte, if_true, if_false, Bool.true_eq_false, Bool.false_eq_true, not_true_eq_false, not_false_eq_true, true_and, and_true, false_and, and_false, true_or, or_true, false_or, or_false, decide_true, decide_false, Bool.true_and, Bool.false_and, Bool.and_true, Bool.and_false, and_self, Nat.le_refl, Nat.lt_irrefl, ite_self, i10, i01, Option.some.injEq, c1, c2, c3, Nat.add_zero]
  · by_cases c3 : fnd P nI (-2 : Int32) i 0 = -2 <;> simp (disch := first | omega | decide) only [nI_lel, nI_ltl, nI_ler, nI_ltr, nI_addl, nI_addr, nI_eqN, nI_leN, nI_ltN, Nat.zero_add, Option.bind_some, Option.bind_none, Option.map_some, bd2_some, b2i_0, b2i_1, b2i_t, b2i_f, ↓reduceIte, if_true, if_false, Bool.true_eq_false, Bool.false_eq_true, not_true_eq_false, not_false_eq_true, true_and, and_true, false_and, and_false, true_or, or_true, false_or, or_false, decide_true, decide_false, Bool.true_and, Bool.false_and, Bool.and_true, Bool.and_false, and_self, Nat.le_refl, Nat.lt_irrefl, ite_self, i10, i01, Option.some.injEq, c1, c3, Nat.add_zero]
theorem tp_largest (r : YR 9 (V 78) V) (w : WF (V 78)) (eo : EO E) {N : Nat → Nat} (hN : ∀ p g, p < 60 → Dst0 (V 78) p g → cnN (isS g) 60 0 = N p) (hN2 : ∀ p, N p ≤ 60) : ∃ a, tp_largestBlock (some 7) (mkH E V) = some (nI (mxN N 60 0), mkH E (up1 V 76 a)) := by
  have key : ∀ d k, k + d = 60 → ∀ a, ∃ a', iter (fun s : Int32 × Int32 × PH => tp_largestBlock_b4 (some 7) s.1 s.2.1 s.2.2) (nI (mxN N k 0), nI k, mkH E (up1 V 76 a)) = some (nI (mxN N 60 0), mkH E (up1 V 76 a')) := by
    intro d
    induction d with
    | zero =>
      intro k hk a
      have : k = 60 := by omega
      subst this
      refine ⟨a, iter_r ?_⟩
      unfold tp_largestBlock_b4
      simp (disch := first | omega | decide) only [nI_lel, nI_ltl, nI_ler, nI_ltr, nI_addl, nI_addr, nI_eqN, nI_leN, nI_ltN, Nat.zero_add, Option.bind_some, Option.bind_none, Option.map_some, bd2_some, b2i_0, b2i_1, b2i_t, b2i_f, ↓reduceIte, if_true, if_false, Bool.true_eq_false, Bool.false_eq_true, not_true_eq_false, not_false_eq_true, true_and, and_true, false_and, and_false, true_or, or_true, false_or, or_false, decide_true, decide_false, Bool.true_and, Bool.false_and, Bool.and_true, Bool.and_false, and_self, Nat.le_refl, Nat.lt_irrefl, ite_self, i10, i01, Option.some.injEq]
    | succ d ih =>
      intro k hk a
      have hk60 : k < 60 := by omega
      have r1 : ∀ a, YR 9 (V 78) (up1 V 76 a) := fun a => r.congr (fun _ _ => rfl) fun c h1 h2 => by rw [up1_n (by omega)]
      obtain ⟨a1, g1, e1, c1, d1⟩ := tp_laysSteps_q (E := E) (r1 a) w eo hk60
      rw [up1_up] at e1
      obtain ⟨a', e'⟩ := ih (k + 1) (by omega) a1
      refine ⟨a', ?_⟩
      rw [← e']
      refine iter_l ?_
      unfold tp_largestBlock_b4
      simp (disch := first | omega | decide) only [nI_lel, nI_ltl, nI_ler, nI_ltr, nI_addl, nI_addr, nI_eqN, nI_leN, nI_ltN, Nat.zero_add, Option.bind_some, Option.bind_none, Option.map_some, bd2_some, b2i_0, b2i_1, b2i_t, b2i_f, ↓reduceIte, if_true, if_false, Bool.true_eq_false, Bool.false_eq_true, not_true_eq_false, not_false_eq_true, true_and, and_true, false_and, and_false, true_or, or_true, false_or, or_false, decide_true, decide_false, Bool.true_and, Bool.false_and, Bool.and_true, Bool.and_false, and_self, Nat.le_refl, Nat.lt_irrefl, ite_self, i10, i01, Option.some.injEq, show ¬ 60 ≤ k by omega, e1]
      unfold tp_largestBlock_L20
      have hcnt := hN k g1 hk60 d1
      rw [mxN_snoc, Nat.zero_add]
      refine iter_toR (B := fun s : Int32 × Int32 => tp_largestBlock_b20 (some 7) (nI (mxN N k 0)) (nI k) s.1 s.2 (mkH E (up1 V 76 a1))) (fun i => (nI (cnN (isS g1) i 0), nI i)) 60 (fun i hi => ?_) (by
        unfold tp_largestBlock_b20
        have b1 := mxN_le hN2 k 0
        have b2 := hN2 k
        simp (disch := first | omega | decide) only [nI_lel, nI_ltl, nI_ler, nI_ltr, nI_addl, nI_addr, nI_eqN, nI_leN, nI_ltN, Nat.zero_add, Option.bind_some, Option.bind_none, Option.map_some, bd2_some, b2i_0, b2i_1, b2i_t, b2i_f, ↓reduceIte, if_true, if_false, Bool.true_eq_false, Bool.false_eq_true, not_true_eq_false, not_false_eq_true, true_and, and_true, false_and, and_false, true_or, or_true, false_or, or_false, decide_true, decide_false, Bool.true_and, Bool.false_and, Bool.and_true, Bool.and_false, and_self, Nat.le_refl, Nat.lt_irrefl, ite_self, i10, i01, Option.some.injEq, jM_max_eq, hcnt, mxa])
      unfold tp_largestBlock_b20
      rw [cnN_snoc, Nat.zero_add]
      simp (disch := first | omega | decide) only [nI_lel, nI_ltl, nI_ler, nI_ltr, nI_addl, nI_addr, nI_eqN, nI_leN, nI_ltN, Nat.zero_add, Option.bind_some, Option.bind_none, Option.map_some, bd2_some, b2i_0, b2i_1, b2i_t, b2i_f, ↓reduceIte, if_true, if_false, Bool.true_eq_false, Bool.false_eq_true, not_true_eq_false, not_false_eq_true, true_and, and_true, false_and, and_false, true_or, or_true, false_or, or_false, decide_true, decide_false, Bool.true_and, Bool.false_and, Bool.and_true, Bool.and_false, and_self, Nat.le_refl, Nat.lt_irrefl, ite_self, i10, i01, Option.some.injEq, up1_s, up1_up, ups, up1_x, upsn, show ¬ 60 ≤ i by omega, x_steps, ald_76 hi, c1 i hi, encX_farle (fun j => d1.lt i j hi), add_z]
      unfold isS
      cases g1 i <;> simp (disch := first | omega | decide) only [nI_lel, nI_ltl, nI_ler, nI_ltr, nI_addl, nI_addr, nI_eqN, nI_leN, nI_ltN, Nat.zero_add, Option.bind_some, Option.bind_none, Option.map_some, bd2_some, b2i_0, b2i_1, b2i_t, b2i_f, ↓reduceIte, if_true, if_false, Bool.true_eq_false, Bool.false_eq_true, not_true_eq_false, not_false_eq_true, true_and, and_true, false_and, and_false, true_or, or_true, false_or, or_false, decide_true, decide_false, Bool.true_and, Bool.false_and, Bool.and_true, Bool.and_false, and_self, Nat.le_refl, Nat.lt_irrefl, ite_self, i10, i01, Option.some.injEq, Option.isSome, Nat.add_zero] <;> simp
  have e0 : up1 V 76 (V 76) = V := up1_same V 76
  obtain ⟨a', e'⟩ := key 60 0 rfl (V 76)
  refine ⟨a', ?_⟩
  unfold tp_largestBlock tp_largestBlock_0 tp_largestBlock_L4
  rw [grd_t isC_7]
  rw [e0] at e'
  exact e'
theorem silent_q (rw0 : Rw V) (eo : EO E) (what : Int32) : ∃ v V1 V2, tp_silent (some 7) what (mkH E V) = some (v, mkH E V1) ∧ mo_silent (some 77) what (mkH E V1) = some (v, mkH E V2) ∧ Sc V V2 := by
  obtain ⟨w, r⟩ := rw0
  by_cases h1 : inB what 0 2 = true
  · -- how many are come to from each
    have hN : ∃ N : Nat → Nat, (∀ p g, p < 60 → Dst0 (V 78) p g → cnN (isS g) 60 0 = N p) ∧ ∀ p, N p ≤ 60 := by
      have hex : ∀ p, p < 60 → ∃ g, Dst0 (V 78) p g := fun p hp => by
        obtain ⟨-, g, -, -, d⟩ := tp_laysSteps_q (E := E) r w eo hp
        exact ⟨g, d⟩
      refine ⟨fun p => if hp : p < 60 then cnN (isS (Classical.choose (hex p hp))) 60 0 else 0, fun p g hp hd => ?_, fun p => ?_⟩
      · simp only [dif_pos hp]
        refine cnN_same 60 0 fun i _ hi => ?_
        unfold isS
        rw [Dst0.uniq hd (Classical.choose_spec (hex p hp)) i (by omega)]
      · by_cases hp : p < 60
        · simp only [dif_pos hp]; exact cnN_le _ 60 0
        · simp only [dif_neg hp]; omega
    obtain ⟨N, hN, hN2⟩ := hN
    generalize hP : silB (V 78) = P
    have hm : ∀ k, k ≤ 60 → ∀ W : Nat → Nat → Int32, (∀ b, b ≠ 107 → b ≠ 108 → b ≠ 76 → W b = V b) → ∃ W', (∀ b, b ≠ 107 → b ≠ 108 → b ≠ 76 → W' b = V b) ∧ iter (fun s : Int32 × Int32 × Int32 × Int32 × PH => mo_silent_b23 (some 77) what s.1 s.2.1 s.2.2.1 s.2.2.2.1 s.2.2.2.2) (nI (cnN P (60 - k) k), fnd P nI (-2) (60 - k) k, nI (if what = 2 then mxN N (60 - k) k else 0), dI k, mkH E W) = some (if what = 0 then nI (cnN P 60 0) else if what = 1 then fnd P nI (-2) 60 0 else nI (if what = 2 then mxN N 60 0 else 0), mkH E W') := by
      intro k
      induction k with
      | zero =>
        intro _ W hW
        refine ⟨W, hW, iter_r ?_⟩
        unfold mo_silent_b23
        simp (disch := first | omega | decide) only [nI_lel, nI_ltl, nI_ler, nI_ltr, nI_addl, nI_addr, nI_eqN, nI_leN, nI_ltN, Nat.zero_add, Option.bind_some, Option.bind_none, Option.map_some, bd2_some, b2i_0, b2i_1, b2i_t, b2i_f, ↓reduceIte, if_true, if_false, Bool.true_eq_false, Bool.false_eq_true, not_true_eq_false, not_false_eq_true, true_and, and_true, false_and, and_false, true_or, or_true, false_or, or_false, decide_true, decide_false, Bool.true_and, Bool.false_and, Bool.and_true, Bool.and_false, and_self, Nat.le_refl, Nat.lt_irrefl, ite_self, i10, i01, Option.some.injEq, dI_z, Nat.sub_zero]
        repeat' split
        all_goals rfl
      | succ k ih =>
        intro hk W hW
        have hk60 : k < 60 := by omega
        have hx : silB (V 78) k = P k := by rw [hP]
        have b1 : mxN N (60 - (k + 1)) (k + 1) ≤ 60 := mxN_le hN2 _ _
        have b2 := hN2 k
        rw [show 60 - k = (60 - (k + 1)) + 1 by omega] at ih
        generalize 60 - (k + 1) = j at ih b1 ⊢
        rw [show cnN P (j + 1) k = (if P k = true then 1 else 0) + cnN P j (k + 1) from rfl, show fnd P nI (-2 : Int32) (j + 1) k = if P k = true then nI k else fnd P nI (-2) j (k + 1) from rfl, show mxN N (j + 1) k = max (N k) (mxN N j (k + 1)) from rfl] at ih
        by_cases c : what = 2
        · subst c
          obtain ⟨a2, c2, g2, e2, f2, d2⟩ := mo_walksFrom_q (E := E) (V := W) hk60
          rw [hW 78 (by decide) (by decide) (by decide)] at d2
          have hcnt := hN k g2 hk60 d2
          have hW' : ∀ b, b ≠ 107 → b ≠ 108 → b ≠ 76 → up1 (up1 W 107 a2) 108 c2 b = V b := fun b x y z => by rw [up1_n y, up1_n x, hW b x y z]
          obtain ⟨W2, hW2, e3⟩ := ih (by omega) _ hW'
          refine ⟨W2, hW2, ?_⟩
          rw [← e3]
          refine iter_l ?_
          have w' : WF (up1 (up1 W 107 a2) 108 c2 78) := by rw [hW' 78 (by decide) (by decide) (by decide)]; exact w
          have esil := mo_isSilent_q (E := E) w' hk60
          rw [hW' 78 (by decide) (by decide) (by decide), hx] at esil
          unfold mo_silent_b23 mo_silent_46
          simp (disch := first | omega | decide) only [nI_lel, nI_ltl, nI_ler, nI_ltr, nI_addl, nI_addr, nI_eqN, nI_leN, nI_ltN, Nat.zero_add, Option.bind_some, Option.bind_none, Option.map_some, bd2_some, b2i_0, b2i_1, b2i_t, b2i_f, ↓reduceIte, if_true, if_false, Bool.true_eq_false, Bool.false_eq_true, not_true_eq_false, not_false_eq_true, true_and, and_true, false_and, and_false, true_or, or_true, false_or, or_false, decide_true, decide_false, Bool.true_and, Bool.false_and, Bool.and_true, Bool.and_false, and_self, Nat.le_refl, Nat.lt_irrefl, ite_self, i10, i01, Option.some.injEq, dI_s, nI_n0 (show k < 2 ^ 31 by omega), dI_m, e2, hcnt, mo_max_eq, mxb, esil]
          cases P k <;> simp (disch := first | omega | decide) only [nI_lel, nI_ltl, nI_ler, nI_ltr, nI_addl, nI_addr, nI_eqN, nI_leN, nI_ltN, Nat.zero_add, Option.bind_some, Option.bind_none, Option.map_some, bd2_some, b2i_0, b2i_1, b2i_t, b2i_f, ↓reduceIte, if_true, if_false, Bool.true_eq_false, Bool.false_eq_true, not_true_eq_false, not_false_eq_true, true_and, and_true, false_and, and_false, true_or, or_true, false_or, or_false, decide_true, decide_false, Bool.true_and, Bool.false_and, Bool.and_true, Bool.and_false, and_self, Nat.le_refl, Nat.lt_irrefl, ite_self, i10, i01, Option.some.injEq, Nat.add_comm, Nat.max_comm]
        · obtain ⟨W2, hW2, e3⟩ := ih (by omega) W hW
          refine ⟨W2, hW2, ?_⟩
          rw [← e3]
          refine iter_l ?_
          have w' : WF (W 78) := by rw [hW 78 (by decide) (by decide) (by decide)]; exact w
          have esil := mo_isSilent_q (E := E) w' hk60
          rw [hW 78 (by decide) (by decide) (by decide), hx] at esil
          unfold mo_silent_b23 mo_silent_46
          simp (disch := first | omega | decide) only [nI_lel, nI_ltl, nI_ler, nI_ltr, nI_addl, nI_addr, nI_eqN, nI_leN, nI_ltN, Nat.zero_add, Option.bind_some, Option.bind_none, Option.map_some, bd2_some, b2i_0, b2i_1, b2i_t, b2i_f, ↓reduceIte, if_true, if_false, Bool.true_eq_false, Bool.false_eq_true, not_true_eq_false, not_false_eq_true, true_and, and_true, false_and, and_false, true_or, or_true, false_or, or_false, decide_true, decide_false, Bool.true_and, Bool.false_and, Bool.and_true, Bool.and_false, and_self, Nat.le_refl, Nat.lt_irrefl, ite_self, i10, i01, Option.some.injEq, dI_s, nI_n0 (show k < 2 ^ 31 by omega), dI_m, c, esil]
          cases P k <;> simp (disch := first | omega | decide) only [nI_lel, nI_ltl, nI_ler, nI_ltr, nI_addl, nI_addr, nI_eqN, nI_leN, nI_ltN, Nat.zero_add, Option.bind_some, Option.bind_none, Option.map_some, bd2_some, b2i_0, b2i_1, b2i_t, b2i_f, ↓reduceIte, if_true, if_false, Bool.true_eq_false, Bool.false_eq_true, not_true_eq_false, not_false_eq_true, true_and, and_true, false_and, and_false, true_or, or_true, false_or, or_false, decide_true, decide_false, Bool.true_and, Bool.false_and, Bool.and_true, Bool.and_false, and_self, Nat.le_refl, Nat.lt_irrefl, ite_self, i10, i01, Option.some.injEq, Nat.add_comm]
    have hmo : ∀ W : Nat → Nat → Int32, (∀ b, b ≠ 107 → b ≠ 108 → b ≠ 76 → W b = V b) → ∃ W', (∀ b, b ≠ 107 → b ≠ 108 → b ≠ 76 → W' b = V b) ∧ mo_silent (some 77) what (mkH E W) = some (if what = 0 then nI (cnN P 60 0) else if what = 1 then fnd P nI (-2) 60 0 else nI (if what = 2 then mxN N 60 0 else 0), mkH E W') := fun W hW => by
      obtain ⟨W', hW', e⟩ := hm 60 (Nat.le_refl _) W hW
      refine ⟨W', hW', ?_⟩
      unfold mo_silent mo_silent_0 mo_silent_L23
      simp (disch := first | omega | decide) only [nI_lel, nI_ltl, nI_ler, nI_ltr, nI_addl, nI_addr, nI_eqN, nI_leN, nI_ltN, Nat.zero_add, Option.bind_some, Option.bind_none, Option.map_some, bd2_some, b2i_0, b2i_1, b2i_t, b2i_f, ↓reduceIte, if_true, if_false, Bool.true_eq_false, Bool.false_eq_true, not_true_eq_false, not_false_eq_true, true_and, and_true, false_and, and_false, true_or, or_true, false_or, or_false, decide_true, decide_false, Bool.true_and, Bool.false_and, Bool.and_true, Bool.and_false, and_self, Nat.le_refl, Nat.lt_irrefl, ite_self, i10, i01, Option.some.injEq, grd_t isC_77, mo_in_eq, h1]
      rw [Nat.sub_self] at e
      have e0 : (if what = 2 then mxN N 0 60 else 0) = 0 := by split <;> rfl
      rw [e0] at e
      exact e
    have hsc : ∀ W' : Nat → Nat → Int32, (∀ b, b ≠ 107 → b ≠ 108 → b ≠ 76 → W' b = V b) → Sc V W' := fun W' h => Sc.of fun b hb => by
      revert hb; unfold scrA; intro hb
      exact h b (by omega) (by omega) (by omega)
    by_cases c : what = 2
    · obtain ⟨a, ea⟩ := tp_largest (E := E) r w eo hN hN2
      obtain ⟨W', hW', e⟩ := hmo (up1 V 76 a) (fun b _ _ x => up1_n x)
      refine ⟨_, up1 V 76 a, W', ?_, e, hsc W' hW'⟩
      unfold tp_silent tp_silent_0
      have h1' : inB (2 : Int32) 0 2 = true := by decide
      simp (disch := first | omega | decide) only [nI_lel, nI_ltl, nI_ler, nI_ltr, nI_addl, nI_addr, nI_eqN, nI_leN, nI_ltN, Nat.zero_add, Option.bind_some, Option.bind_none, Option.map_some, bd2_some, b2i_0, b2i_1, b2i_t, b2i_f, ↓reduceIte, if_true, if_false, Bool.true_eq_false, Bool.false_eq_true, not_true_eq_false, not_false_eq_true, true_and, and_true, false_and, and_false, true_or, or_true, false_or, or_false, decide_true, decide_false, Bool.true_and, Bool.false_and, Bool.and_true, Bool.and_false, and_self, Nat.le_refl, Nat.lt_irrefl, ite_self, i10, i01, Option.some.injEq, grd_t isC_7, tp_in3, c, h1', ea, show ¬ (2 : Int32) = 0 by decide, show ¬ (2 : Int32) = 1 by decide]
    · obtain ⟨W', hW', e⟩ := hmo V (fun b _ _ _ => rfl)
      refine ⟨_, V, W', ?_, e, hsc W' hW'⟩
      unfold tp_silent tp_silent_0
      simp (disch := first | omega | decide) only [nI_lel, nI_ltl, nI_ler, nI_ltr, nI_addl, nI_addr, nI_eqN, nI_leN, nI_ltN, Nat.zero_add, Option.bind_some, Option.bind_none, Option.map_some, bd2_some, b2i_0, b2i_1, b2i_t, b2i_f, ↓reduceIte, if_true, if_false, Bool.true_eq_false, Bool.false_eq_true, not_true_eq_false, not_false_eq_true, true_and, and_true, false_and, and_false, true_or, or_true, false_or, or_false, decide_true, decide_false, Bool.true_and, Bool.false_and, Bool.and_true, Bool.and_false, and_self, Nat.le_refl, Nat.lt_irrefl, ite_self, i10, i01, Option.some.injEq, grd_t isC_7, tp_in3, h1, c, tp_silent_01 r w eo, hP]
      obtain ⟨k, hk, rfl⟩ := in_n (n := 2) (by decide) h1
      by_cases d0 : nI k = 0
      · simp (disch := first | omega | decide) only [nI_lel, nI_ltl, nI_ler, nI_ltr, nI_addl, nI_addr, nI_eqN, nI_leN, nI_ltN, Nat.zero_add, Option.bind_some, Option.bind_none, Option.map_some, bd2_some, b2i_0, b2i_1, b2i_t, b2i_f, ↓reduceIte, if_true, if_false, Bool.true_eq_false, Bool.false_eq_true, not_true_eq_false, not_false_eq_true, true_and, and_true, false_and, and_false, true_or, or_true, false_or, or_false, decide_true, decide_false, Bool.true_and, Bool.false_and, Bool.and_true, Bool.and_false, and_self, Nat.le_refl, Nat.lt_irrefl, ite_self, i10, i01, Option.some.injEq, d0]
      · by_cases d1 : nI k = 1
        · simp (disch := first | omega | decide) only [nI_lel, nI_ltl, nI_ler, nI_ltr, nI_addl, nI_addr, nI_eqN, nI_leN, nI_ltN, Nat.zero_add, Option.bind_some, Option.bind_none, Option.map_some, bd2_some, b2i_0, b2i_1, b2i_t, b2i_f, ↓reduceIte, if_true, if_false, Bool.true_eq_false, Bool.false_eq_true, not_true_eq_false, not_false_eq_true, true_and, and_true, false_and, and_false, true_or, or_true, false_or, or_false, decide_true, decide_false, Bool.true_and, Bool.false_and, Bool.and_true, Bool.and_false, and_self, Nat.le_refl, Nat.lt_irrefl, ite_self, i10, i01, Option.some.injEq, d0, d1]
        · exfalso
          have : k = 0 ∨ k = 1 ∨ k = 2 := by omega
          rcases this with rfl | rfl | rfl
          · exact d0 rfl
          · exact d1 rfl
          · exact c rfl
  · rw [Bool.not_eq_true] at h1
    refine ⟨-1, V, V, ?_, ?_, Sc.rfl' V⟩
    · unfold tp_silent tp_silent_0
      simp (disch := first | omega | decide) only [nI_lel, nI_ltl, nI_ler, nI_ltr, nI_addl, nI_addr, nI_eqN, nI_leN, nI_ltN, Nat.zero_add, Option.bind_some, Option.bind_none, Option.map_some, bd2_some, b2i_0, b2i_1, b2i_t, b2i_f, ↓reduceIte, if_true, if_false, Bool.true_eq_false, Bool.false_eq_true, not_true_eq_false, not_false_eq_true, true_and, and_true, false_and, and_false, true_or, or_true, false_or, or_false, decide_true, decide_false, Bool.true_and, Bool.false_and, Bool.and_true, Bool.and_false, and_self, Nat.le_refl, Nat.lt_irrefl, ite_self, i10, i01, Option.some.injEq, grd_t isC_7, tp_in3, h1]
    · unfold mo_silent mo_silent_0
      simp (disch := first | omega | decide) only [nI_lel, nI_ltl, nI_ler, nI_ltr, nI_addl, nI_addr, nI_eqN, nI_leN, nI_ltN, Nat.zero_add, Option.bind_some, Option.bind_none, Option.map_some, bd2_some, b2i_0, b2i_1, b2i_t, b2i_f, ↓reduceIte, if_true, if_false, Bool.true_eq_false, Bool.false_eq_true, not_true_eq_false, not_false_eq_true, true_and, and_true, false_and, and_false, true_or, or_true, false_or, or_false, decide_true, decide_false, Bool.true_and, Bool.false_and, Bool.and_true, Bool.and_false, and_self, Nat.le_refl, Nat.lt_irrefl, ite_self, i10, i01, Option.some.injEq, grd_t isC_77, mo_in_eq, h1]
end SI
