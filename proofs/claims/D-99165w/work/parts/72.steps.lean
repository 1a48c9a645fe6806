/-! laysSteps: x's distances -/
set_option maxRecDepth 100000
theorem lev_dn {f : Nat → Int32} {g : Nat → Option Nat} (h2 : ∀ b j, b < 60 → g b = some (j + 1) → frB f b = true ∧ ∃ a, a < 60 ∧ g a = some j ∧ adjB a b = true) : ∀ d j, (∃ b, b < 60 ∧ g b = some (j + d)) → ∃ b, b < 60 ∧ g b = some j
  | 0, j, h => h
  | d + 1, j, ⟨b, hb, e⟩ => by
    obtain ⟨-, a, ha, ea, -⟩ := h2 b (j + d) hb e
    exact lev_dn h2 d j ⟨a, ha, ea⟩
theorem lev_lt {f : Nat → Int32} {g : Nat → Option Nat} (h2 : ∀ b j, b < 60 → g b = some (j + 1) → frB f b = true ∧ ∃ a, a < 60 ∧ g a = some j ∧ adjB a b = true) {k b : Nat} (hb : b < 60) (e : g b = some k) : k < 60 := by
  by_cases hk : k < 60
  · exact hk
  · have hl : ∀ j, j < 61 → ∃ b, b < 60 ∧ g b = some j := fun j hj => lev_dn h2 (k - j) j ⟨b, hb, by rw [show j + (k - j) = k by omega]; exact e⟩
    obtain ⟨i, j, h1, h3, h4⟩ := php 60 (fun j => if hj : j < 61 then Classical.choose (hl j hj) else 0) (fun j hj => by
      show (if hj : j < 61 then Classical.choose (hl j hj) else 0) < 60
      rw [dif_pos hj]
      exact (Classical.choose_spec (hl j hj)).1)
    revert h4
    show (if hj : i < 61 then Classical.choose (hl i hj) else 0) = (if hj : j < 61 then Classical.choose (hl j hj) else 0) → _
    rw [dif_pos (show i < 61 by omega), dif_pos (show j < 61 by omega)]
    intro h4
    have a1 := (Classical.choose_spec (hl i (by omega))).2
    have a2 := (Classical.choose_spec (hl j (by omega))).2
    rw [h4, a2] at a1
    have := Option.some.inj a1
    omega
theorem encX_eq {o : Option Nat} {k : Nat} (hk : k < 1000) (ho : ∀ j, o = some j → j < 1000) : (encX o = nI k) = (o = some k) := by
  cases o with
  | none =>
    have h : ¬ (268435456 : Int32) = nI k := fun e => by
      rw [show (268435456 : Int32) = nI 268435456 from rfl, nI_eqN (by omega) (by omega)] at e
      omega
    simp [encX, h]
  | some j =>
    have := ho j rfl
    show (nI j = nI k) = _
    rw [nI_eqN (by omega) (by omega)]
    simp
theorem encX_le {o : Option Nat} {k : Nat} (hk : k < 1000) (ho : ∀ j, o = some j → j < 1000) : (encX o ≤ nI k) = (∃ j, o = some j ∧ j ≤ k) := by
  cases o with
  | none =>
    have h : ¬ (268435456 : Int32) ≤ nI k := fun e => by
      rw [show (268435456 : Int32) = nI 268435456 from rfl, nI_leN (by omega) (by omega)] at e
      omega
    simp [encX, h]
  | some j =>
    have := ho j rfl
    show (nI j ≤ nI k) = _
    rw [nI_leN (by omega) (by omega)]
    simp
section ST
variable {E : EE} {V : Nat → Nat → Int32}
/-- the array shows g -/
def encA (a : Nat → Int32) (g : Nat → Option Nat) : Prop := ∀ b, b < 60 → a b = encX (g b)
theorem encA_upd {a : Nat → Int32} {g : Nat → Option Nat} (h : encA a g) {q k : Nat} : encA (upd a q (nI k)) (updO g q (some k)) := fun b hb => by
  by_cases e : b = q
  · subst e; rw [ups, updO_s]; rfl
  · rw [upsn e, updO_n e]; exact h b hb
theorem tp_ways {f : Nat → Int32} (r : YR 9 f V) (w : WF f) (eo : EO E) {s k p : Nat} (hp : p < 60) (hk : k ≤ 60) : ∀ d m, m + d = 4 → ∀ (more : Int32) (a : Nat → Int32) (g : Nat → Option Nat), encA a g → XP f s k p m more g → ∃ more' a' g', iter (fun s : Int32 × Int32 × PH => tp_laysSteps_b66 (some 7) s.1 (nI k) (nI p) s.2.1 s.2.2) (more, nI m, mkH E (up1 V 76 a)) = some (.inl (more', nI (p + 1), mkH E (up1 V 76 a'))) ∧ encA a' g' ∧ XP f s k (p + 1) 0 more' g' := by
  intro d
  induction d with
  | zero =>
    intro m hm more a g he hx
    have : m = 4 := by omega
    subst this
    refine ⟨more, a, g, iter_r ?_, he, hx.next hp (Or.inl (by omega))⟩
    unfold tp_laysSteps_b66
    simp (disch := first | omega | decide) only [nI_lel, nI_ltl, nI_ler, nI_ltr, nI_addl, nI_addr, nI_eqN, nI_leN, nI_ltN, Nat.zero_add, Option.bind_some, Option.bind_none, Option.map_some, bd2_some, b2i_0, b2i_1, b2i_t, b2i_f, ↓reduceIte, if_true, if_false, Bool.true_eq_false, Bool.false_eq_true, not_true_eq_false, not_false_eq_true, true_and, and_true, false_and, and_false, true_or, or_true, false_or, or_false, decide_true, decide_false, Bool.true_and, Bool.false_and, Bool.and_true, Bool.and_false, and_self, Nat.le_refl, Nat.lt_irrefl, ite_self, i10, i01, Option.some.injEq]
  | succ d ih =>
    intro m hm more a g he hx
    have hm4 : m < 4 := by omega
    have hbd : ∀ b j, b < 60 → g b = some j → j < 1000 := fun b j hb e => by have := hx.2.2.2.2.1 b j hb e; omega
    have r' : ∀ a, YR 9 f (up1 V 76 a) := fun a => r.congr (fun _ _ => rfl) fun c h1 h2 => by rw [up1_n (by omega)]
    have eP : (a p = nI k) = (g p = some k) := by rw [he p hp, encX_eq (by omega) (fun j => hbd p j hp)]
    by_cases c1 : g p = some k
    · -- at this level
      rcases nex_rng p hp m hm4 with e | ⟨hq, eq, hne⟩
      · obtain ⟨more', a', g', e1, e2, e3⟩ := ih (m + 1) (by omega) more a g he (hx.skip hp hm4 fun b hb hn => by
          rw [e] at hn
          exact absurd hn.symm (nI_ne1 (by omega)))
        refine ⟨more', a', g', ?_, e2, e3⟩
        rw [← e1]
        refine iter_l ?_
        unfold tp_laysSteps_b66
        simp (disch := first | omega | decide) only [nI_lel, nI_ltl, nI_ler, nI_ltr, nI_addl, nI_addr, nI_eqN, nI_leN, nI_ltN, Nat.zero_add, Option.bind_some, Option.bind_none, Option.map_some, bd2_some, b2i_0, b2i_1, b2i_t, b2i_f, ↓reduceIte, if_true, if_false, Bool.true_eq_false, Bool.false_eq_true, not_true_eq_false, not_false_eq_true, true_and, and_true, false_and, and_false, true_or, or_true, false_or, or_false, decide_true, decide_false, Bool.true_and, Bool.false_and, Bool.and_true, Bool.and_false, and_self, Nat.le_refl, Nat.lt_irrefl, ite_self, i10, i01, Option.some.injEq, up1_s, up1_up, ups, up1_x, upsn, show ¬ 4 ≤ m by omega, x_steps, ald_76 hp, eP, c1, tp_next_eq eo hp hm4, e]
      · generalize (nexN p m).toNatClampNeg = q at hq eq hne
        have eQ : (a q ≤ nI (k + 1)) = (∃ j, g q = some j ∧ j ≤ k + 1) := by rw [he q hq, encX_le (by omega) (fun j => hbd q j hq)]
        by_cases c2 : ∃ j, g q = some j ∧ j ≤ k + 1
        · obtain ⟨more', a', g', e1, e2, e3⟩ := ih (m + 1) (by omega) more a g he (hx.skip hp hm4 fun b hb hn _ => by
            rw [eq] at hn
            have := (nI_eqN (show q < 2 ^ 31 by omega) (show b < 2 ^ 31 by omega)).mp hn
            subst this
            obtain ⟨j, h1, h2⟩ := c2
            exact ⟨j, h2, h1⟩)
          refine ⟨more', a', g', ?_, e2, e3⟩
          rw [← e1]
          refine iter_l ?_
          unfold tp_laysSteps_b66
          simp (disch := first | omega | decide) only [nI_lel, nI_ltl, nI_ler, nI_ltr, nI_addl, nI_addr, nI_eqN, nI_leN, nI_ltN, Nat.zero_add, Option.bind_some, Option.bind_none, Option.map_some, bd2_some, b2i_0, b2i_1, b2i_t, b2i_f, ↓reduceIte, if_true, if_false, Bool.true_eq_false, Bool.false_eq_true, not_true_eq_false, not_false_eq_true, true_and, and_true, false_and, and_false, true_or, or_true, false_or, or_false, decide_true, decide_false, Bool.true_and, Bool.false_and, Bool.and_true, Bool.and_false, and_self, Nat.le_refl, Nat.lt_irrefl, ite_self, i10, i01, Option.some.injEq, up1_s, up1_up, ups, up1_x, upsn, show ¬ 4 ≤ m by omega, x_steps, ald_76 hp, eP, c1, tp_next_eq eo hp hm4, eq, nI_ne1 (show q < 2 ^ 31 by omega), ald_76 hq, eQ, c2]
        · have gn : g q = none := by
            cases hgq : g q with
            | none => rfl
            | some j => exact absurd ⟨j, hgq, hx.2.2.2.2.1 q j hq hgq⟩ c2
          by_cases c3 : whoF f (nI q) = -2
          · obtain ⟨more', a', g', e1, e2, e3⟩ := ih (m + 1) (by omega) 1 (upd a q (nI (k + 1))) (updO g q (some (k + 1))) (encA_upd he) (hx.set hp hq hm4 c1 eq (decide_eq_true c3) gn)
            refine ⟨more', a', g', ?_, e2, e3⟩
            rw [← e1]
            refine iter_l ?_
            unfold tp_laysSteps_b66
            simp (disch := first | omega | decide) only [nI_lel, nI_ltl, nI_ler, nI_ltr, nI_addl, nI_addr, nI_eqN, nI_leN, nI_ltN, Nat.zero_add, Option.bind_some, Option.bind_none, Option.map_some, bd2_some, b2i_0, b2i_1, b2i_t, b2i_f, ↓reduceIte, if_true, if_false, Bool.true_eq_false, Bool.false_eq_true, not_true_eq_false, not_false_eq_true, true_and, and_true, false_and, and_false, true_or, or_true, false_or, or_false, decide_true, decide_false, Bool.true_and, Bool.false_and, Bool.and_true, Bool.and_false, and_self, Nat.le_refl, Nat.lt_irrefl, ite_self, i10, i01, Option.some.injEq, up1_s, up1_up, ups, up1_x, upsn, show ¬ 4 ≤ m by omega, x_steps, ald_76 hp, eP, c1, tp_next_eq eo hp hm4, eq, nI_ne1 (show q < 2 ^ 31 by omega), ald_76 hq, eQ, c2, x_yard, yd_whoLiesAt_eq y9 (r' _) w, who2, c3, ast_76 hq]
          · obtain ⟨more', a', g', e1, e2, e3⟩ := ih (m + 1) (by omega) more a g he (hx.skip hp hm4 fun b hb hn hf => by
              rw [eq] at hn
              have := (nI_eqN (show q < 2 ^ 31 by omega) (show b < 2 ^ 31 by omega)).mp hn
              subst this
              exact absurd (of_decide_eq_true hf) c3)
            refine ⟨more', a', g', ?_, e2, e3⟩
            rw [← e1]
            refine iter_l ?_
            unfold tp_laysSteps_b66
            simp (disch := first | omega | decide) only [nI_lel, nI_ltl, nI_ler, nI_ltr, nI_addl, nI_addr, nI_eqN, nI_leN, nI_ltN, Nat.zero_add, Option.bind_some, Option.bind_none, Option.map_some, bd2_some, b2i_0, b2i_1, b2i_t, b2i_f, ↓reduceIte, if_true, if_false, Bool.true_eq_false, Bool.false_eq_true, not_true_eq_false, not_false_eq_true, true_and, and_true, false_and, and_false, true_or, or_true, false_or, or_false, decide_true, decide_false, Bool.true_and, Bool.false_and, Bool.and_true, Bool.and_false, and_self, Nat.le_refl, Nat.lt_irrefl, ite_self, i10, i01, Option.some.injEq, up1_s, up1_up, ups, up1_x, upsn, show ¬ 4 ≤ m by omega, x_steps, ald_76 hp, eP, c1, tp_next_eq eo hp hm4, eq, nI_ne1 (show q < 2 ^ 31 by omega), ald_76 hq, eQ, c2, x_yard, yd_whoLiesAt_eq y9 (r' _) w, who2, c3]
    · refine ⟨more, a, g, iter_r ?_, he, hx.next hp (Or.inr c1)⟩
      unfold tp_laysSteps_b66
      simp (disch := first | omega | decide) only [nI_lel, nI_ltl, nI_ler, nI_ltr, nI_addl, nI_addr, nI_eqN, nI_leN, nI_ltN, Nat.zero_add, Option.bind_some, Option.bind_none, Option.map_some, bd2_some, b2i_0, b2i_1, b2i_t, b2i_f, ↓reduceIte, if_true, if_false, Bool.true_eq_false, Bool.false_eq_true, not_true_eq_false, not_false_eq_true, true_and, and_true, false_and, and_false, true_or, or_true, false_or, or_false, decide_true, decide_false, Bool.true_and, Bool.false_and, Bool.and_true, Bool.and_false, and_self, Nat.le_refl, Nat.lt_irrefl, ite_self, i10, i01, Option.some.injEq, up1_s, up1_up, ups, up1_x, upsn, show ¬ 4 ≤ m by omega, x_steps, ald_76 hp, eP, c1]
theorem tp_pass {f : Nat → Int32} (r : YR 9 f V) (w : WF f) (eo : EO E) {s k : Nat} (hk : k ≤ 60) : ∀ d p, p + d = 60 → ∀ (more : Int32) (a : Nat → Int32) (g : Nat → Option Nat), encA a g → XP f s k p 0 more g → ∃ more' a' g', iter (fun s : Int32 × Int32 × PH => tp_laysSteps_b56 (some 7) s.1 (nI k) s.2.1 s.2.2) (more, nI p, mkH E (up1 V 76 a)) = some (.inl (more', nI (k + 1), mkH E (up1 V 76 a'))) ∧ encA a' g' ∧ XP f s k 60 0 more' g' := by
  intro d
  induction d with
  | zero =>
    intro p hp more a g he hx
    have : p = 60 := by omega
    subst this
    refine ⟨more, a, g, iter_r ?_, he, hx⟩
    unfold tp_laysSteps_b56
    simp (disch := first | omega | decide) only [nI_lel, nI_ltl, nI_ler, nI_ltr, nI_addl, nI_addr, nI_eqN, nI_leN, nI_ltN, Nat.zero_add, Option.bind_some, Option.bind_none, Option.map_some, bd2_some, b2i_0, b2i_1, b2i_t, b2i_f, ↓reduceIte, if_true, if_false, Bool.true_eq_false, Bool.false_eq_true, not_true_eq_false, not_false_eq_true, true_and, and_true, false_and, and_false, true_or, or_true, false_or, or_false, decide_true, decide_false, Bool.true_and, Bool.false_and, Bool.and_true, Bool.and_false, and_self, Nat.le_refl, Nat.lt_irrefl, ite_self, i10, i01, Option.some.injEq]
  | succ d ih =>
    intro p hp more a g he hx
    obtain ⟨m1, a1, g1, e1, e2, e3⟩ := tp_ways r w eo (show p < 60 by omega) hk 4 0 rfl more a g he hx
    obtain ⟨m2, a2, g2, f1, f2, f3⟩ := ih (p + 1) (by omega) m1 a1 g1 e2 e3
    refine ⟨m2, a2, g2, ?_, f2, f3⟩
    rw [← f1]
    refine iter_l ?_
    unfold tp_laysSteps_b56 tp_laysSteps_L66
    simp (disch := first | omega | decide) only [nI_lel, nI_ltl, nI_ler, nI_ltr, nI_addl, nI_addr, nI_eqN, nI_leN, nI_ltN, Nat.zero_add, Option.bind_some, Option.bind_none, Option.map_some, bd2_some, b2i_0, b2i_1, b2i_t, b2i_f, ↓reduceIte, if_true, if_false, Bool.true_eq_false, Bool.false_eq_true, not_true_eq_false, not_false_eq_true, true_and, and_true, false_and, and_false, true_or, or_true, false_or, or_false, decide_true, decide_false, Bool.true_and, Bool.false_and, Bool.and_true, Bool.and_false, and_self, Nat.le_refl, Nat.lt_irrefl, ite_self, i10, i01, Option.some.injEq, show ¬ 60 ≤ p by omega]
    exact e1
theorem tp_passes {f : Nat → Int32} (r : YR 9 f V) (w : WF f) (eo : EO E) {s : Nat} : ∀ d k, k + d = 61 → ∀ (a : Nat → Int32) (g : Nat → Option Nat), encA a g → XP f s k 0 0 0 g → (∃ b, b < 60 ∧ g b = some k) → ∃ a' g', iter (fun s : Int32 × Int32 × PH => tp_laysSteps_b47 (some 7) s.1 s.2.1 s.2.2) (1, nI k, mkH E (up1 V 76 a)) = some (mkH E (up1 V 76 a')) ∧ encA a' g' ∧ Dst f s g' := by
  intro d
  induction d with
  | zero =>
    intro k hk a g he hx ⟨b, hb, eb⟩
    have := lev_lt hx.2.1 hb eb
    omega
  | succ d ih =>
    intro k hk a g he hx hlev
    obtain ⟨m1, a1, g1, e1, e2, e3⟩ := tp_pass r w eo (show k ≤ 60 by omega) 60 0 rfl 0 a g he hx
    have hb47 : tp_laysSteps_b47 (some 7) 1 (nI k) (mkH E (up1 V 76 a)) = some (.inl (m1, nI (k + 1), mkH E (up1 V 76 a1))) := by
      unfold tp_laysSteps_b47 tp_laysSteps_L56
      simp (disch := first | omega | decide) only [nI_lel, nI_ltl, nI_ler, nI_ltr, nI_addl, nI_addr, nI_eqN, nI_leN, nI_ltN, Nat.zero_add, Option.bind_some, Option.bind_none, Option.map_some, bd2_some, b2i_0, b2i_1, b2i_t, b2i_f, ↓reduceIte, if_true, if_false, Bool.true_eq_false, Bool.false_eq_true, not_true_eq_false, not_false_eq_true, true_and, and_true, false_and, and_false, true_or, or_true, false_or, or_false, decide_true, decide_false, Bool.true_and, Bool.false_and, Bool.and_true, Bool.and_false, and_self, Nat.le_refl, Nat.lt_irrefl, ite_self, i10, i01, Option.some.injEq]
      exact e1
    rcases e3.2.2.2.2.2 with ⟨c, -⟩ | ⟨c, hl⟩
    · subst c
      refine ⟨a1, g1, ?_, e2, e3.done⟩
      refine (iter_l hb47).trans (iter_r ?_)
      unfold tp_laysSteps_b47
      simp (disch := first | omega | decide) only [nI_lel, nI_ltl, nI_ler, nI_ltr, nI_addl, nI_addr, nI_eqN, nI_leN, nI_ltN, Nat.zero_add, Option.bind_some, Option.bind_none, Option.map_some, bd2_some, b2i_0, b2i_1, b2i_t, b2i_f, ↓reduceIte, if_true, if_false, Bool.true_eq_false, Bool.false_eq_true, not_true_eq_false, not_false_eq_true, true_and, and_true, false_and, and_false, true_or, or_true, false_or, or_false, decide_true, decide_false, Bool.true_and, Bool.false_and, Bool.and_true, Bool.and_false, and_self, Nat.le_refl, Nat.lt_irrefl, ite_self, i10, i01, Option.some.injEq]
    · subst c
      obtain ⟨a2, g2, f1, f2, f3⟩ := ih (k + 1) (by omega) a1 g1 e2 e3.pass hl
      exact ⟨a2, g2, (iter_l hb47).trans f1, f2, f3⟩
/-- x's steps from s: none if it is not free -/
def Dst0 (f : Nat → Int32) (s : Nat) (g : Nat → Option Nat) : Prop := if frB f s = true then Dst f s g else ∀ b, b < 60 → g b = none
theorem tp_laysSteps_q {f : Nat → Int32} (r : YR 9 f V) (w : WF f) (eo : EO E) {s : Nat} (hs : s < 60) : ∃ a g, tp_laysSteps (some 7) (nI s) (mkH E V) = some (mkH E (up1 V 76 a)) ∧ encA a g ∧ Dst0 f s g := by
  unfold tp_laysSteps tp_laysSteps_0 tp_laysSteps_L2
  rw [grd_t isC_7]
  have e0 : up1 V 76 (fun i => if i < 0 then 268435456 else V 76 i) = V := by
    funext c
    by_cases h : c = 76
    · subst h; rw [up1_s]; funext i; exact if_neg (by omega)
    · rw [up1_n h]
  have hto := iter_to (B := fun s' : Int32 × PH => tp_laysSteps_b2 (some 7) (nI s) s'.1 s'.2) (fun i => (nI i, mkH E (up1 V 76 fun j => if j < i then 268435456 else V 76 j))) 60 (fun i hi => by
    unfold tp_laysSteps_b2
    simp (disch := first | omega | decide) only [nI_lel, nI_ltl, nI_ler, nI_ltr, nI_addl, nI_addr, nI_eqN, nI_leN, nI_ltN, Nat.zero_add, Option.bind_some, Option.bind_none, Option.map_some, bd2_some, b2i_0, b2i_1, b2i_t, b2i_f, ↓reduceIte, if_true, if_false, Bool.true_eq_false, Bool.false_eq_true, not_true_eq_false, not_false_eq_true, true_and, and_true, false_and, and_false, true_or, or_true, false_or, or_false, decide_true, decide_false, Bool.true_and, Bool.false_and, Bool.and_true, Bool.and_false, and_self, Nat.le_refl, Nat.lt_irrefl, ite_self, i10, i01, Option.some.injEq, up1_s, up1_up, ups, up1_x, upsn, show ¬ 60 ≤ i by omega, x_steps, ast_76 hi]
    congr 4
    funext j
    by_cases h : j = i
    · subst h; rw [ups, if_pos (by omega)]
    · rw [upsn h]
      by_cases h2 : j < i
      · rw [if_pos h2, if_pos (by omega)]
      · rw [if_neg h2, if_neg (by omega)])
  rw [e0] at hto
  have r' : ∀ a, YR 9 f (up1 V 76 a) := fun a => r.congr (fun _ _ => rfl) fun c h1 h2 => by rw [up1_n (by omega)]
  have hinit : encA (fun j => if j < 60 then 268435456 else V 76 j) (fun _ => none) := fun b hb => if_pos hb
  by_cases c : whoF f (nI s) = -2
  · have hfr : frB f s = true := decide_eq_true c
    have hx0 : XP f s 0 0 0 0 (updO (fun _ => none) s (some 0)) := by
      have back : ∀ {a j : Nat}, updO (fun _ => none) s (some 0) a = some j → a = s ∧ j = 0 := fun {a j} e => by
        by_cases h : a = s
        · subst h
          rw [updO_s] at e
          exact ⟨rfl, (Option.some.inj e).symm⟩
        · rw [updO_n h] at e
          exact nomatch e
      refine ⟨fun b hb => ⟨fun e => (back e).1, fun e => by subst e; exact updO_s _ _ _⟩, fun b j hb e => absurd (back e).2 (by omega), fun a b j ha hb e hj => absurd hj (by omega), fun a b ha hb e hab hf hc => ?_, fun b j hb e => by rw [(back e).2]; omega, Or.inl ⟨rfl, fun b j hb e => by rw [(back e).2]; omega⟩⟩
      rcases hc with hc | ⟨-, w', hw', -⟩ <;> omega
    obtain ⟨a1, g1, f1, f2, f3⟩ := tp_passes (E := E) (V := V) r w eo 61 0 rfl _ _ (encA_upd (q := s) (k := 0) hinit) hx0 ⟨s, hs, updO_s _ _ _⟩
    refine ⟨a1, g1, ?_, f2, by unfold Dst0; rw [if_pos hfr]; exact f3⟩
    refine hto.trans (iter_r ?_)
    unfold tp_laysSteps_b2 tp_laysSteps_L47
    simp (disch := first | omega | decide) only [nI_lel, nI_ltl, nI_ler, nI_ltr, nI_addl, nI_addr, nI_eqN, nI_leN, nI_ltN, Nat.zero_add, Option.bind_some, Option.bind_none, Option.map_some, bd2_some, b2i_0, b2i_1, b2i_t, b2i_f, ↓reduceIte, if_true, if_false, Bool.true_eq_false, Bool.false_eq_true, not_true_eq_false, not_false_eq_true, true_and, and_true, false_and, and_false, true_or, or_true, false_or, or_false, decide_true, decide_false, Bool.true_and, Bool.false_and, Bool.and_true, Bool.and_false, and_self, Nat.le_refl, Nat.lt_irrefl, ite_self, i10, i01, Option.some.injEq, up1_s, up1_up, ups, up1_x, upsn, x_yard, yd_whoLiesAt_eq y9 (r' _) w, who2, c, x_steps, ast_76 hs]
    rw [show (0 : Int32) = nI 0 from rfl, f1]
    rfl
  · have hfr : frB f s = false := decide_eq_false c
    refine ⟨_, fun _ => none, ?_, hinit, by unfold Dst0; rw [hfr]; exact fun _ _ => rfl⟩
    refine hto.trans (iter_r ?_)
    unfold tp_laysSteps_b2
    simp (disch := first | omega | decide) only [nI_lel, nI_ltl, nI_ler, nI_ltr, nI_addl, nI_addr, nI_eqN, nI_leN, nI_ltN, Nat.zero_add, Option.bind_some, Option.bind_none, Option.map_some, bd2_some, b2i_0, b2i_1, b2i_t, b2i_f, ↓reduceIte, if_true, if_false, Bool.true_eq_false, Bool.false_eq_true, not_true_eq_false, not_false_eq_true, true_and, and_true, false_and, and_false, true_or, or_true, false_or, or_false, decide_true, decide_false, Bool.true_and, Bool.false_and, Bool.and_true, Bool.and_false, and_self, Nat.le_refl, Nat.lt_irrefl, ite_self, i10, i01, Option.some.injEq, up1_s, up1_up, ups, up1_x, upsn, x_yard, yd_whoLiesAt_eq y9 (r' _) w, who2, c]
end ST
