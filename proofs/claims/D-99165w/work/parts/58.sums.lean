/-! sums as integers; yardTalk, hold, good -/
set_option maxRecDepth 100000
def zsum (g : Nat → Int) : Nat → Int := rep (fun i s => s + g i) 0
theorem zsum_s (g : Nat → Int) (n : Nat) : zsum g (n + 1) = zsum g n + g n := rfl
theorem zsum_congr {g g' : Nat → Int} {n : Nat} (h : ∀ i, i < n → g i = g' i) : zsum g n = zsum g' n := rep_congr fun i hi x => by rw [h i hi]
theorem zsum_add (g g' : Nat → Int) : ∀ n, zsum (fun i => g i + g' i) n = zsum g n + zsum g' n
  | 0 => rfl
  | n + 1 => by rw [zsum_s, zsum_s, zsum_s, zsum_add g g' n]; omega
theorem zz {g : Nat → Nat → Int} {N : Nat} (sy : ∀ p q, p < N → q < N → g p q = g q p) (z : ∀ p, g p p = 0) : ∀ n, n ≤ N → zsum (fun p => zsum (g p) n) n = 2 * zsum (fun p => zsum (g p) p) n
  | 0, _ => rfl
  | n + 1, hn => by
    rw [zsum_s, zsum_s]
    have h1 : zsum (fun p => zsum (g p) (n + 1)) n = zsum (fun p => zsum (g p) n) n + zsum (g n) n := by
      rw [show (fun p => zsum (g p) (n + 1)) = fun p => zsum (g p) n + g p n from rfl, zsum_add]
      congr 1
      exact zsum_congr fun i hi => sy i n (by omega) (by omega)
    rw [h1, zz sy z n (by omega), zsum_s, z n]
    omega
theorem tI_add {a b : Int32} {A B : Nat} (ha : -(A : Int) ≤ a.toInt ∧ a.toInt ≤ A) (hb : -(B : Int) ≤ b.toInt ∧ b.toInt ≤ B) (h : A + B < 2 ^ 31) : (a + b).toInt = a.toInt + b.toInt := by
  rw [Int32.toInt_add]
  apply Int.bmod_eq_of_le <;> omega
theorem tI_sub {a b : Int32} {A B : Nat} (ha : -(A : Int) ≤ a.toInt ∧ a.toInt ≤ A) (hb : -(B : Int) ≤ b.toInt ∧ b.toInt ≤ B) (h : A + B < 2 ^ 31) : (a - b).toInt = a.toInt - b.toInt := by
  rw [Int32.toInt_sub]
  apply Int.bmod_eq_of_le <;> omega
theorem rep_toInt {c : Nat → Prop} [∀ i, Decidable (c i)] {t : Nat → Int32} {s0 : Int32} {K M : Nat} (h0 : -(K : Int) ≤ s0.toInt ∧ s0.toInt ≤ K) : ∀ n, (∀ i, i < n → -(M : Int) ≤ (t i).toInt ∧ (t i).toInt ≤ M) → K + n * M < 2 ^ 31 → (rep (fun q s => if c q then s + t q else s) s0 n).toInt = s0.toInt + zsum (fun q => if c q then (t q).toInt else 0) n ∧ -((K + n * M : Nat) : Int) ≤ (rep (fun q s => if c q then s + t q else s) s0 n).toInt ∧ (rep (fun q s => if c q then s + t q else s) s0 n).toInt ≤ (K + n * M : Nat)
  | 0, _, _ => by
    show s0.toInt = s0.toInt + 0 ∧ _ ≤ s0.toInt ∧ s0.toInt ≤ _
    omega
  | n + 1, hb, hn => by
    have hm : (n + 1) * M = n * M + M := Nat.succ_mul n M
    obtain ⟨e, l, u⟩ := rep_toInt (c := c) (t := t) h0 n (fun i hi => hb i (by omega)) (by omega)
    have hbn := hb n (by omega)
    rw [show rep (fun q s => if c q then s + t q else s) s0 (n + 1) = if c n then rep (fun q s => if c q then s + t q else s) s0 n + t n else rep (fun q s => if c q then s + t q else s) s0 n from rfl, zsum_s]
    by_cases hc : c n
    · rw [if_pos hc, if_pos hc, tI_add ⟨l, u⟩ hbn (by omega), e]
      omega
    · rw [if_neg hc, if_neg hc, e]
      omega
theorem tlk_all : ∀ a, a < 17 → ∀ b, b < 17 → (3 * nI a - nI b).toInt = 3 * (a : Int) - b := by decide +kernel
theorem talk_b {f : Nat → Int32} (w : WF f) {p q : Nat} (hp : p < 16) (hq : q < 16) : -(48 : Nat) ≤ (talkF f p q).toInt ∧ (talkF f p q).toInt ≤ (48 : Nat) := by
  obtain ⟨a, ha, ea⟩ := bits_a w hp hq
  obtain ⟨b, hb, eb⟩ := bits_x w hp hq
  unfold talkF
  rw [ea, eb, tlk_all a (by omega) b (by omega)]
  omega
theorem talk_sy (f : Nat → Int32) (p q : Nat) : talkF f p q = talkF f q p := by
  unfold talkF
  rw [Int32.and_comm, Int32.xor_comm]
theorem nxt_sy {a b : Nat} (ha : a < 60) (hb : b < 60) : nxtB (nI a) (nI b) = nxtB (nI b) (nI a) := by
  rw [nxt_all a ha b hb, nxt_all b hb a ha]
  apply Bool.eq_iff_iff.mpr
  simp only [Bool.or_eq_true, Bool.and_eq_true, decide_eq_true_eq]
  omega
theorem bes_sy {f : Nat → Int32} (w : WF f) {p q : Nat} (hp : p < 16) (hq : q < 16) : besB f p q = besB f q p := by
  unfold besB
  cases h1 : laidB f p
  · simp only [Bool.false_and, Bool.and_false]
  · cases h2 : laidB f q
    · simp only [Bool.false_and, Bool.and_false]
    · obtain ⟨-, k, hk, ek⟩ := laid_plot w hp h1
      obtain ⟨-, j, hj, ej⟩ := laid_plot w hq h2
      rw [ek, ej, nxt_sy hk hj]
/-- what two beside each other say -/
def gT (f : Nat → Int32) (p q : Nat) : Int := if besB f p q = true ∧ ¬ q = p then (talkF f p q).toInt else 0
theorem gT_sy {f : Nat → Int32} (w : WF f) {p q : Nat} (hp : p < 16) (hq : q < 16) : gT f p q = gT f q p := by
  unfold gT
  rw [bes_sy w hp hq, talk_sy]
  by_cases h : p = q
  · subst h; rfl
  · have h2 : ¬ q = p := fun e => h e.symm
    simp only [h, h2]
/-- what is said in the yard -/
def ytZ (f : Nat → Int32) : Int := zsum (fun p => zsum (gT f p) p) 16
theorem tw_int {f : Nat → Int32} (w : WF f) {p : Nat} (hp : p < 16) : (twF f p (bsdF f p) 16).toInt = zsum (gT f p) 16 ∧ -(768 : Nat) ≤ (twF f p (bsdF f p) 16).toInt ∧ (twF f p (bsdF f p) 16).toInt ≤ (768 : Nat) := by
  obtain ⟨e, l, u⟩ := rep_toInt (c := fun q => ¬ q = p ∧ hasB (bsdF f p) (nI q) = true) (t := fun q => talkF f p q) (s0 := 0) (K := 0) (M := 48) (by decide) 16 (fun i hi => talk_b w hp hi) (by decide)
  refine ⟨?_, l, u⟩
  refine e.trans ?_
  rw [show (0 : Int32).toInt = 0 by decide, Int.zero_add]
  refine zsum_congr fun i hi => ?_
  unfold gT bsdF
  rw [has_setF hi]
  by_cases h : besB f p i = true
  · by_cases h2 : i = p <;> simp [h, h2]
  · simp [h]
section RS
variable {E : EE} {V : Nat → Nat → Int32} {f : Nat → Int32} {h : PH}
theorem rep_all {t : Nat → Int32} {s0 : Int32} {n : Nat} : rep (fun q s => s + t q) s0 n = rep (fun q s => if True then s + t q else s) s0 n := rep_congr fun i hi x => (if_pos trivial).symm
theorem yd_talk_z {y : Nat} (hy : isY y) (r : YR y f V) (w : WF f) (eo : EO E) : ∃ v, yd_talk (some y) (mkH E V) = some v ∧ v.toInt = ytZ f := by
  refine ⟨_, yd_talk_eq hy r w eo, ?_⟩
  rw [rep_all]
  obtain ⟨e, l, u⟩ := rep_toInt (c := fun _ => True) (t := fun p => twF f p (bsdF f p) 16) (s0 := 0) (K := 0) (M := 768) (by decide) 16 (fun i hi => (tw_int w hi).2) (by decide)
  have e2 : zsum (fun q => if True then (twF f q (bsdF f q) 16).toInt else 0) 16 = 2 * ytZ f := by
    refine (zsum_congr fun i hi => ?_).trans (zz (g := gT f) (N := 16) (fun p q hp hq => gT_sy w hp hq) (fun p => by unfold gT; simp) 16 (by decide))
    rw [if_pos trivial, (tw_int w hi).1]
  rw [e2, show (0 : Int32).toInt = 0 by decide, Int.zero_add] at e
  rw [e] at l u
  rw [Int32.toInt_div, e, show (2 : Int32).toInt = 2 by decide, Int.mul_tdiv_cancel_left _ (by decide)]
  apply Int.bmod_eq_of_le <;> omega
theorem mo_yardTalk_z (w : WF (V 78)) : ∃ v, mo_yardTalk (some 77) (mkH E V) = some v ∧ v.toInt = ytZ (V 78) ∧ -(12288 : Int) ≤ v.toInt ∧ v.toInt ≤ 12288 := by
  refine ⟨rep (fun p s => rep (fun q s => if besB (V 78) p q = true then s + talkF (V 78) p q else s) s p) 0 16, ?_, ?_⟩
  · unfold mo_yardTalk mo_yardTalk_0 mo_yardTalk_L4
    rw [grd_t isC_77]
    refine iter_toR (fun i => (rep (fun p s => rep (fun q s => if besB (V 78) p q = true then s + talkF (V 78) p q else s) s p) 0 i, nI i)) 16 (fun i hi => ?_) rfl
    have hn : ¬ 16 ≤ i := by omega
    unfold mo_yardTalk_b4 mo_yardTalk_L12
    simp (disch := first | omega | decide) only [nI_lel, nI_ltl, nI_ler, nI_ltr, nI_addl, nI_addr, nI_eqN, nI_leN, nI_ltN, Nat.zero_add, Option.bind_some, Option.bind_none, Option.map_some, bd2_some, b2i_0, b2i_1, b2i_t, b2i_f, ↓reduceIte, if_true, if_false, Bool.true_eq_false, Bool.false_eq_true, not_true_eq_false, not_false_eq_true, true_and, and_true, false_and, and_false, true_or, or_true, false_or, or_false, decide_true, decide_false, Bool.true_and, Bool.false_and, Bool.and_true, Bool.and_false, and_self, Nat.le_refl, Nat.lt_irrefl, ite_self, i10, i01, Option.some.injEq, hn]
    rw [show rep (fun p s => rep (fun q s => if besB (V 78) p q = true then s + talkF (V 78) p q else s) s p) 0 (i + 1) = rep (fun q s => if besB (V 78) i q = true then s + talkF (V 78) i q else s) (rep (fun p s => rep (fun q s => if besB (V 78) p q = true then s + talkF (V 78) p q else s) s p) 0 i) i from rfl]
    generalize rep (fun p s => rep (fun q s => if besB (V 78) p q = true then s + talkF (V 78) p q else s) s p) 0 i = s
    refine iter_toR (fun k => (rep (fun q s => if besB (V 78) i q = true then s + talkF (V 78) i q else s) s k, nI k)) i (fun k hk => ?_) (by
      unfold mo_yardTalk_b12
      simp (disch := first | omega | decide) only [nI_lel, nI_ltl, nI_ler, nI_ltr, nI_addl, nI_addr, nI_eqN, nI_leN, nI_ltN, Nat.zero_add, Option.bind_some, Option.bind_none, Option.map_some, bd2_some, b2i_0, b2i_1, b2i_t, b2i_f, ↓reduceIte, if_true, if_false, Bool.true_eq_false, Bool.false_eq_true, not_true_eq_false, not_false_eq_true, true_and, and_true, false_and, and_false, true_or, or_true, false_or, or_false, decide_true, decide_false, Bool.true_and, Bool.false_and, Bool.and_true, Bool.and_false, and_self, Nat.le_refl, Nat.lt_irrefl, ite_self, i10, i01, Option.some.injEq])
    unfold mo_yardTalk_b12
    simp (disch := first | omega | decide) only [nI_lel, nI_ltl, nI_ler, nI_ltr, nI_addl, nI_addr, nI_eqN, nI_leN, nI_ltN, Nat.zero_add, Option.bind_some, Option.bind_none, Option.map_some, bd2_some, b2i_0, b2i_1, b2i_t, b2i_f, ↓reduceIte, if_true, if_false, Bool.true_eq_false, Bool.false_eq_true, not_true_eq_false, not_false_eq_true, true_and, and_true, false_and, and_false, true_or, or_true, false_or, or_false, decide_true, decide_false, Bool.true_and, Bool.false_and, Bool.and_true, Bool.and_false, and_self, Nat.le_refl, Nat.lt_irrefl, ite_self, i10, i01, Option.some.injEq, show ¬ i ≤ k by omega, mo_areBeside_eq hi (show k < 16 by omega), mo_talkOf_eq hi (show k < 16 by omega), rep]
    cases besB (V 78) i k <;> simp (disch := first | omega | decide) only [nI_lel, nI_ltl, nI_ler, nI_ltr, nI_addl, nI_addr, nI_eqN, nI_leN, nI_ltN, Nat.zero_add, Option.bind_some, Option.bind_none, Option.map_some, bd2_some, b2i_0, b2i_1, b2i_t, b2i_f, ↓reduceIte, if_true, if_false, Bool.true_eq_false, Bool.false_eq_true, not_true_eq_false, not_false_eq_true, true_and, and_true, false_and, and_false, true_or, or_true, false_or, or_false, decide_true, decide_false, Bool.true_and, Bool.false_and, Bool.and_true, Bool.and_false, and_self, Nat.le_refl, Nat.lt_irrefl, ite_self, i10, i01, Option.some.injEq]
  · have hk : ∀ n, n ≤ 16 → (rep (fun p s => rep (fun q s => if besB (V 78) p q = true then s + talkF (V 78) p q else s) s p) 0 n).toInt = zsum (fun p => zsum (gT (V 78) p) p) n ∧ -((n * 768 : Nat) : Int) ≤ (rep (fun p s => rep (fun q s => if besB (V 78) p q = true then s + talkF (V 78) p q else s) s p) 0 n).toInt ∧ (rep (fun p s => rep (fun q s => if besB (V 78) p q = true then s + talkF (V 78) p q else s) s p) 0 n).toInt ≤ ((n * 768 : Nat) : Int) := by
      intro n
      induction n with
      | zero => intro _; exact ⟨rfl, by show -((0 * 768 : Nat) : Int) ≤ (0 : Int32).toInt; decide, by show (0 : Int32).toInt ≤ ((0 * 768 : Nat) : Int); decide⟩
      | succ n ih =>
        intro hn
        obtain ⟨e, l, u⟩ := ih (by omega)
        rw [show rep (fun p s => rep (fun q s => if besB (V 78) p q = true then s + talkF (V 78) p q else s) s p) 0 (n + 1) = rep (fun q s => if besB (V 78) n q = true then s + talkF (V 78) n q else s) (rep (fun p s => rep (fun q s => if besB (V 78) p q = true then s + talkF (V 78) p q else s) s p) 0 n) n from rfl]
        generalize rep (fun p s => rep (fun q s => if besB (V 78) p q = true then s + talkF (V 78) p q else s) s p) 0 n = s at e l u ⊢
        obtain ⟨e1, l1, u1⟩ := rep_toInt (c := fun q => besB (V 78) n q = true) (t := fun q => talkF (V 78) n q) (s0 := s) (K := n * 768) (M := 48) ⟨l, u⟩ n (fun i hi => talk_b w (by omega) (by omega)) (by omega)
        have e3 : zsum (fun q => if besB (V 78) n q = true then (talkF (V 78) n q).toInt else 0) n = zsum (gT (V 78) n) n := zsum_congr fun i hi => by
          unfold gT
          have : ¬ i = n := by omega
          simp only [this, not_false_eq_true, and_true]
        rw [e1, zsum_s, e3, e]
        refine ⟨rfl, ?_⟩
        rw [e1, e3, e] at l1 u1
        omega
    obtain ⟨e, l, u⟩ := hk 16 (by decide)
    exact ⟨e, l, u⟩
end RS
