/-! silent, visit, visited -/
set_option maxRecDepth 100000
def minO : Option Nat → Option Nat → Option Nat
  | none, y => y
  | some a, none => some a
  | some a, some b => some (min a b)
def Lst (P : Nat → Prop) (g : Nat → Option Nat) (o : Option Nat) : Prop := (∀ b j, P b → g b = some j → ∃ k, o = some k ∧ k ≤ j) ∧ ∀ k, o = some k → ∃ b, P b ∧ g b = some k
theorem Lst.uniq {P : Nat → Prop} {g : Nat → Option Nat} {o o' : Option Nat} (h : Lst P g o) (h' : Lst P g o') : o = o' := by
  cases o with
  | none =>
    cases o' with
    | none => rfl
    | some k =>
      obtain ⟨b, hb, e⟩ := h'.2 k rfl
      obtain ⟨k', e', -⟩ := h.1 b k hb e
      exact nomatch e'
  | some k =>
    obtain ⟨b, hb, e⟩ := h.2 k rfl
    obtain ⟨k1, e1, l1⟩ := h'.1 b k hb e
    obtain ⟨b2, hb2, e2⟩ := h'.2 k1 e1
    obtain ⟨k2, e3, l2⟩ := h.1 b2 k1 hb2 e2
    have := Option.some.inj e3
    rw [e1]
    congr 1
    omega
theorem Lst.iff {P P' : Nat → Prop} {g : Nat → Option Nat} {o : Option Nat} (h : Lst P g o) (hp : ∀ b, P' b ↔ P b) : Lst P' g o := ⟨fun b j hb => h.1 b j ((hp b).mp hb), fun k e => by
  obtain ⟨b, hb, e⟩ := h.2 k e
  exact ⟨b, (hp b).mpr hb, e⟩⟩
theorem Lst.add {P P' : Nat → Prop} {g : Nat → Option Nat} {o : Option Nat} {q : Nat} (h : Lst P g o) (hp : ∀ b, P' b ↔ (P b ∨ b = q)) : Lst P' g (minO o (g q)) := by
  refine ⟨fun b j hb e => ?_, fun k e => ?_⟩
  · rcases (hp b).mp hb with c | c
    · obtain ⟨k, ek, lk⟩ := h.1 b j c e
      subst ek
      cases hq : g q with
      | none => exact ⟨k, rfl, lk⟩
      | some m => exact ⟨min k m, rfl, by omega⟩
    · subst c
      rw [e]
      cases o with
      | none => exact ⟨j, rfl, Nat.le_refl j⟩
      | some k => exact ⟨min k j, rfl, by omega⟩
  · cases o with
    | none => exact ⟨q, (hp q).mpr (Or.inr rfl), e⟩
    | some m =>
      obtain ⟨b, hb, eb⟩ := h.2 m rfl
      cases hq : g q with
      | none =>
        rw [hq] at e
        have := Option.some.inj e
        exact ⟨b, (hp b).mpr (Or.inl hb), by rw [eb]; congr 1⟩
      | some n =>
        rw [hq] at e
        have he : min m n = k := Option.some.inj e
        by_cases c : m ≤ n
        · exact ⟨b, (hp b).mpr (Or.inl hb), by rw [eb]; congr 1; omega⟩
        · exact ⟨q, (hp q).mpr (Or.inr rfl), by rw [hq]; congr 1; omega⟩
theorem minX {o o' : Option Nat} (h : ∀ j, o = some j → j < 1000) (h' : ∀ j, o' = some j → j < 1000) : (if encX o ≤ encX o' then encX o else encX o') = encX (minO o o') := by
  have k0 : (268435456 : Int32) = nI 268435456 := rfl
  cases o with
  | none =>
    cases o' with
    | none => exact if_pos (by rw [le_rf]; trivial)
    | some b =>
      have := h' b rfl
      show (if (268435456 : Int32) ≤ nI b then _ else nI b) = nI b
      rw [if_neg]
      rw [k0, nI_leN (by omega) (by omega)]
      omega
  | some a =>
    have := h a rfl
    cases o' with
    | none =>
      show (if nI a ≤ (268435456 : Int32) then nI a else _) = nI a
      rw [if_pos]
      rw [k0, nI_leN (by omega) (by omega)]
      omega
    | some b =>
      have := h' b rfl
      show (if nI a ≤ nI b then nI a else nI b) = nI (min a b)
      by_cases c : a ≤ b
      · rw [if_pos (by rw [nI_leN (by omega) (by omega)]; exact c), Nat.min_eq_left c]
      · rw [if_neg (by rw [nI_leN (by omega) (by omega)]; exact c), Nat.min_eq_right (by omega)]
theorem minO_lt {o o' : Option Nat} (h : ∀ j, o = some j → j < 1000) (h' : ∀ j, o' = some j → j < 1000) : ∀ j, minO o o' = some j → j < 1000 := by
  intro j e
  cases o with
  | none => exact h' j e
  | some a =>
    cases o' with
    | none => exact h j e
    | some b =>
      have := h a rfl
      have := h' b rfl
      have : min a b = j := Option.some.inj e
      omega
def enc2 (o : Option Nat) : Int32 := match o with | some k => nI k | none => -2
section VI
variable {E : EE} {V : Nat → Nat → Int32}
theorem tp_stepsTo_q {f : Nat → Int32} (r : YR 9 f V) (w : WF f) (eo : EO E) {p k : Nat} (hp : p < 16) (hk : k < 60) (ek : f (48 + p) = nI k) {g : Nat → Option Nat} (ha : encA (V 76) g) (hb : ∀ b j, b < 60 → g b = some j → j < 1000) : ∃ o, tp_stepsTo (some 7) (nI p) (mkH E V) = some (encX o) ∧ Lst (fun b => b < 60 ∧ adjB k b = true) g o ∧ ∀ j, o = some j → j < 1000 := by
  have key : ∀ d m, m + d = 4 → ∀ o, Lst (fun b => b < 60 ∧ ∃ w', w' < m ∧ nexN k w' = nI b) g o → (∀ j, o = some j → j < 1000) → ∃ o', iter (fun s : Int32 × Int32 => tp_stepsTo_b6 (some 7) (nI p) s.1 s.2 (mkH E V)) (encX o, nI m) = some (encX o') ∧ Lst (fun b => b < 60 ∧ ∃ w', w' < 4 ∧ nexN k w' = nI b) g o' ∧ ∀ j, o' = some j → j < 1000 := by
    intro d
    induction d with
    | zero =>
      intro m hm o hl ho
      have : m = 4 := by omega
      subst this
      refine ⟨o, iter_r ?_, hl, ho⟩
      unfold tp_stepsTo_b6
      simp (disch := first | omega | decide) only [nI_lel, nI_ltl, nI_ler, nI_ltr, nI_addl, nI_addr, nI_eqN, nI_leN, nI_ltN, Nat.zero_add, Option.bind_some, Option.bind_none, Option.map_some, bd2_some, b2i_0, b2i_1, b2i_t, b2i_f, ↓reduceIte, if_true, if_false, Bool.true_eq_false, Bool.false_eq_true, not_true_eq_false, not_false_eq_true, true_and, and_true, false_and, and_false, true_or, or_true, false_or, or_false, decide_true, decide_false, Bool.true_and, Bool.false_and, Bool.and_true, Bool.and_false, and_self, Nat.le_refl, Nat.lt_irrefl, ite_self, i10, i01, Option.some.injEq]
    | succ d ih =>
      intro m hm o hl ho
      have hm4 : m < 4 := by omega
      rcases nex_rng k hk m hm4 with e | ⟨hq, eq, hne⟩
      · obtain ⟨o', e1, e2, e3⟩ := ih (m + 1) (by omega) o (hl.iff fun b => ⟨fun ⟨h1, w', h2, h3⟩ => ⟨h1, w', by
          have : w' ≠ m := fun c => by
            subst c
            rw [e] at h3
            exact absurd h3.symm (nI_ne1 (by omega))
          omega, h3⟩, fun ⟨h1, w', h2, h3⟩ => ⟨h1, w', by omega, h3⟩⟩) ho
        refine ⟨o', ?_, e2, e3⟩
        rw [← e1]
        refine iter_l ?_
        unfold tp_stepsTo_b6
        simp (disch := first | omega | decide) only [nI_lel, nI_ltl, nI_ler, nI_ltr, nI_addl, nI_addr, nI_eqN, nI_leN, nI_ltN, Nat.zero_add, Option.bind_some, Option.bind_none, Option.map_some, bd2_some, b2i_0, b2i_1, b2i_t, b2i_f, ↓reduceIte, if_true, if_false, Bool.true_eq_false, Bool.false_eq_true, not_true_eq_false, not_false_eq_true, true_and, and_true, false_and, and_false, true_or, or_true, false_or, or_false, decide_true, decide_false, Bool.true_and, Bool.false_and, Bool.and_true, Bool.and_false, and_self, Nat.le_refl, Nat.lt_irrefl, ite_self, i10, i01, Option.some.injEq, show ¬ 4 ≤ m by omega, x_yard, yd_people y9, people_at y9 hp, p_plot y9 hp, r.plot hp, ek, xpl_nI (show k < 2 ^ 31 by omega), tp_next_eq eo hk hm4, e]
      · generalize (nexN k m).toNatClampNeg = q at hq eq hne
        obtain ⟨o', e1, e2, e3⟩ := ih (m + 1) (by omega) (minO o (g q)) (hl.add fun b => by
          constructor
          · rintro ⟨h1, w', h2, h3⟩
            by_cases c : w' = m
            · subst c
              rw [eq] at h3
              exact Or.inr ((nI_eqN (show q < 2 ^ 31 by omega) (show b < 2 ^ 31 by omega)).mp h3).symm
            · exact Or.inl ⟨h1, w', by omega, h3⟩
          · rintro (⟨h1, w', h2, h3⟩ | c)
            · exact ⟨h1, w', by omega, h3⟩
            · subst c
              exact ⟨hq, m, by omega, eq⟩) (minO_lt ho fun j => hb q j hq)
        refine ⟨o', ?_, e2, e3⟩
        rw [← e1]
        refine iter_l ?_
        unfold tp_stepsTo_b6
        simp (disch := first | omega | decide) only [nI_lel, nI_ltl, nI_ler, nI_ltr, nI_addl, nI_addr, nI_eqN, nI_leN, nI_ltN, Nat.zero_add, Option.bind_some, Option.bind_none, Option.map_some, bd2_some, b2i_0, b2i_1, b2i_t, b2i_f, ↓reduceIte, if_true, if_false, Bool.true_eq_false, Bool.false_eq_true, not_true_eq_false, not_false_eq_true, true_and, and_true, false_and, and_false, true_or, or_true, false_or, or_false, decide_true, decide_false, Bool.true_and, Bool.false_and, Bool.and_true, Bool.and_false, and_self, Nat.le_refl, Nat.lt_irrefl, ite_self, i10, i01, Option.some.injEq, show ¬ 4 ≤ m by omega, x_yard, yd_people y9, people_at y9 hp, p_plot y9 hp, r.plot hp, ek, xpl_nI (show k < 2 ^ 31 by omega), tp_next_eq eo hk hm4, eq, nI_ne1 (show q < 2 ^ 31 by omega), x_steps, ald_76 hq, ha q hq, jM_min_eq, minX ho (fun j => hb q j hq)]
  obtain ⟨o', e1, e2, e3⟩ := key 4 0 rfl none ⟨fun b j ⟨_, w', h, _⟩ => absurd h (by omega), fun k e => nomatch e⟩ (fun j e => nomatch e)
  refine ⟨o', ?_, e2.iff fun b => ⟨fun ⟨h1, h2⟩ => ⟨h1, adj_way hk h1 h2⟩, fun ⟨h1, w', h2, h3⟩ => ⟨h1, way_adj hk h1 h2 h3⟩⟩, e3⟩
  unfold tp_stepsTo tp_stepsTo_0 tp_stepsTo_L6
  rw [grd_t isC_7]
  exact e1
theorem mo_stepsBeside_q {k : Nat} (hk : k < 60) {g : Nat → Option Nat} (ha : encB (V 107) g) (hb : ∀ b j, b < 60 → g b = some j → j < 1000) : ∃ o, mo_stepsBeside (some 77) (nI k) (mkH E V) = some (enc2 o) ∧ Lst (fun b => b < 60 ∧ adjB k b = true) g o := by
  have key : ∀ d m, m + d = 60 → ∀ o, Lst (fun b => b < m ∧ adjB k b = true) g o → (∀ j, o = some j → j < 1000) → ∃ o', iter (fun s : Int32 × Int32 => mo_stepsBeside_b5 (some 77) (nI k) s.1 s.2 (mkH E V)) (enc2 o, nI m) = some (enc2 o') ∧ Lst (fun b => b < 60 ∧ adjB k b = true) g o' := by
    intro d
    induction d with
    | zero =>
      intro m hm o hl ho
      have : m = 60 := by omega
      subst this
      refine ⟨o, iter_r ?_, hl⟩
      unfold mo_stepsBeside_b5
      simp (disch := first | omega | decide) only [nI_lel, nI_ltl, nI_ler, nI_ltr, nI_addl, nI_addr, nI_eqN, nI_leN, nI_ltN, Nat.zero_add, Option.bind_some, Option.bind_none, Option.map_some, bd2_some, b2i_0, b2i_1, b2i_t, b2i_f, ↓reduceIte, if_true, if_false, Bool.true_eq_false, Bool.false_eq_true, not_true_eq_false, not_false_eq_true, true_and, and_true, false_and, and_false, true_or, or_true, false_or, or_false, decide_true, decide_false, Bool.true_and, Bool.false_and, Bool.and_true, Bool.and_false, and_self, Nat.le_refl, Nat.lt_irrefl, ite_self, i10, i01, Option.some.injEq]
    | succ d ih =>
      intro m hm o hl ho
      have hm60 : m < 60 := by omega
      by_cases c1 : adjB k m = true
      · have c1' : nxtB (nI k) (nI m) = true := c1
        obtain ⟨o', e1, e2⟩ := ih (m + 1) (by omega) (minO o (g m)) (hl.add fun b => by
          constructor
          · rintro ⟨h1, h2⟩
            by_cases c : b = m
            · exact Or.inr c
            · exact Or.inl ⟨by omega, h2⟩
          · rintro (⟨h1, h2⟩ | c)
            · exact ⟨by omega, h2⟩
            · subst c; exact ⟨by omega, c1⟩) (minO_lt ho fun j => hb m j hm60)
        refine ⟨o', ?_, e2⟩
        rw [← e1]
        refine iter_l ?_
        have eN : (V 107 m = -1) = (g m = none) := by rw [ha m hm60, encM_n1 (fun j => hb m j hm60)]
        unfold mo_stepsBeside_b5
        cases hg : g m with
        | none =>
          have : minO o none = o := by cases o <;> rfl
          simp (disch := first | omega | decide) only [nI_lel, nI_ltl, nI_ler, nI_ltr, nI_addl, nI_addr, nI_eqN, nI_leN, nI_ltN, Nat.zero_add, Option.bind_some, Option.bind_none, Option.map_some, bd2_some, b2i_0, b2i_1, b2i_t, b2i_f, ↓reduceIte, if_true, if_false, Bool.true_eq_false, Bool.false_eq_true, not_true_eq_false, not_false_eq_true, true_and, and_true, false_and, and_false, true_or, or_true, false_or, or_false, decide_true, decide_false, Bool.true_and, Bool.false_and, Bool.and_true, Bool.and_false, and_self, Nat.le_refl, Nat.lt_irrefl, ite_self, i10, i01, Option.some.injEq, show ¬ 60 ≤ m by omega, mo_areNext_eq, c1', m_stepsTo, ald_107 hm60, eN, hg, this]
        | some j =>
          have hj := hb m j hm60 hg
          have ev : V 107 m = nI j := by rw [ha m hm60, hg]; rfl
          have hjn : ¬ nI j = -1 := nI_ne1 (by omega)
          cases o with
          | none =>
            simp (disch := first | omega | decide) only [nI_lel, nI_ltl, nI_ler, nI_ltr, nI_addl, nI_addr, nI_eqN, nI_leN, nI_ltN, Nat.zero_add, Option.bind_some, Option.bind_none, Option.map_some, bd2_some, b2i_0, b2i_1, b2i_t, b2i_f, ↓reduceIte, if_true, if_false, Bool.true_eq_false, Bool.false_eq_true, not_true_eq_false, not_false_eq_true, true_and, and_true, false_and, and_false, true_or, or_true, false_or, or_false, decide_true, decide_false, Bool.true_and, Bool.false_and, Bool.and_true, Bool.and_false, and_self, Nat.le_refl, Nat.lt_irrefl, ite_self, i10, i01, Option.some.injEq, show ¬ 60 ≤ m by omega, mo_areNext_eq, c1', m_stepsTo, ald_107 hm60, ev, hjn, enc2, minO]
          | some i =>
            have hi := ho i rfl
            simp (disch := first | omega | decide) only [nI_lel, nI_ltl, nI_ler, nI_ltr, nI_addl, nI_addr, nI_eqN, nI_leN, nI_ltN, Nat.zero_add, Option.bind_some, Option.bind_none, Option.map_some, bd2_some, b2i_0, b2i_1, b2i_t, b2i_f, ↓reduceIte, if_true, if_false, Bool.true_eq_false, Bool.false_eq_true, not_true_eq_false, not_false_eq_true, true_and, and_true, false_and, and_false, true_or, or_true, false_or, or_false, decide_true, decide_false, Bool.true_and, Bool.false_and, Bool.and_true, Bool.and_false, and_self, Nat.le_refl, Nat.lt_irrefl, ite_self, i10, i01, Option.some.injEq, show ¬ 60 ≤ m by omega, mo_areNext_eq, c1', m_stepsTo, ald_107 hm60, ev, hjn, enc2, minO, nI_ne2 (show i < 2 ^ 31 by omega)]
            by_cases c : i ≤ j
            · simp (disch := first | omega | decide) only [nI_lel, nI_ltl, nI_ler, nI_ltr, nI_addl, nI_addr, nI_eqN, nI_leN, nI_ltN, Nat.zero_add, Option.bind_some, Option.bind_none, Option.map_some, bd2_some, b2i_0, b2i_1, b2i_t, b2i_f, ↓reduceIte, if_true, if_false, Bool.true_eq_false, Bool.false_eq_true, not_true_eq_false, not_false_eq_true, true_and, and_true, false_and, and_false, true_or, or_true, false_or, or_false, decide_true, decide_false, Bool.true_and, Bool.false_and, Bool.and_true, Bool.and_false, and_self, Nat.le_refl, Nat.lt_irrefl, ite_self, i10, i01, Option.some.injEq, c, Nat.min_eq_left c]
            · simp (disch := first | omega | decide) only [nI_lel, nI_ltl, nI_ler, nI_ltr, nI_addl, nI_addr, nI_eqN, nI_leN, nI_ltN, Nat.zero_add, Option.bind_some, Option.bind_none, Option.map_some, bd2_some, b2i_0, b2i_1, b2i_t, b2i_f, ↓reduceIte, if_true, if_false, Bool.true_eq_false, Bool.false_eq_true, not_true_eq_false, not_false_eq_true, true_and, and_true, false_and, and_false, true_or, or_true, false_or, or_false, decide_true, decide_false, Bool.true_and, Bool.false_and, Bool.and_true, Bool.and_false, and_self, Nat.le_refl, Nat.lt_irrefl, ite_self, i10, i01, Option.some.injEq, c, Nat.min_eq_right (show j ≤ i by omega)]
      · obtain ⟨o', e1, e2⟩ := ih (m + 1) (by omega) o (hl.iff fun b => ⟨fun ⟨h1, h2⟩ => ⟨by
          have : b ≠ m := fun c => by subst c; exact c1 h2
          omega, h2⟩, fun ⟨h1, h2⟩ => ⟨by omega, h2⟩⟩) ho
        refine ⟨o', ?_, e2⟩
        rw [← e1]
        refine iter_l ?_
        rw [Bool.not_eq_true] at c1
        have c1' : nxtB (nI k) (nI m) = false := c1
        unfold mo_stepsBeside_b5
        simp (disch := first | omega | decide) only [nI_lel, nI_ltl, nI_ler, nI_ltr, nI_addl, nI_addr, nI_eqN, nI_leN, nI_ltN, Nat.zero_add, Option.bind_some, Option.bind_none, Option.map_some, bd2_some, b2i_0, b2i_1, b2i_t, b2i_f, ↓reduceIte, if_true, if_false, Bool.true_eq_false, Bool.false_eq_true, not_true_eq_false, not_false_eq_true, true_and, and_true, false_and, and_false, true_or, or_true, false_or, or_false, decide_true, decide_false, Bool.true_and, Bool.false_and, Bool.and_true, Bool.and_false, and_self, Nat.le_refl, Nat.lt_irrefl, ite_self, i10, i01, Option.some.injEq, show ¬ 60 ≤ m by omega, mo_areNext_eq, c1']
  obtain ⟨o', e1, e2⟩ := key 60 0 rfl none ⟨fun b j ⟨h, _⟩ => absurd h (by omega), fun k e => nomatch e⟩ (fun j e => nomatch e)
  refine ⟨o', ?_, e2⟩
  unfold mo_stepsBeside mo_stepsBeside_0 mo_stepsBeside_L5
  rw [grd_t isC_77]
  exact e1
theorem Dst0.lt {f : Nat → Int32} {s : Nat} {g : Nat → Option Nat} (h : Dst0 f s g) : ∀ b j, b < 60 → g b = some j → j < 1000 := by
  intro b j hb e
  unfold Dst0 at h
  split at h
  · have := lev_lt h.2.1 hb e; omega
  · rw [h b hb] at e; exact nomatch e
theorem Lst.gcongr {P : Nat → Prop} {g g' : Nat → Option Nat} {o : Option Nat} (h : Lst P g o) (hg : ∀ b, P b → g' b = g b) : Lst P g' o := ⟨fun b j hb e => h.1 b j hb (by rw [← hg b hb]; exact e), fun k e => by
  obtain ⟨b, hb, e⟩ := h.2 k e
  exact ⟨b, hb, by rw [hg b hb]; exact e⟩⟩
theorem encX_far {o : Option Nat} (h : ∀ j, o = some j → j < 1000) : (encX o = 268435456) = (o = none) := by
  cases o with
  | none => simp [encX]
  | some j =>
    have := h j rfl
    have : ¬ nI j = 268435456 := fun e => by
      rw [show (268435456 : Int32) = nI 268435456 from rfl, nI_eqN (by omega) (by omega)] at e
      omega
    simp [encX, this]
theorem encX_farle {o : Option Nat} (h : ∀ j, o = some j → j < 1000) : ((268435456 : Int32) ≤ encX o) = (o = none) := by
  cases o with
  | none => simp [encX, le_rf]
  | some j =>
    have := h j rfl
    have : ¬ (268435456 : Int32) ≤ nI j := fun e => by
      rw [show (268435456 : Int32) = nI 268435456 from rfl, nI_leN (by omega) (by omega)] at e
      omega
    simp [encX, this]
theorem visit_q (rw0 : Rw V) (eo : EO E) (p : Int32) : ∃ v V1 V2, tp_visit (some 7) p (mkH E V) = some (v, mkH E V1) ∧ mo_visit (some 77) p (mkH E V1) = some (v, mkH E V2) ∧ Sc V V2 := by
  obtain ⟨w, r⟩ := rw0
  unfold tp_visit tp_visit_0 mo_visit mo_visit_0
  by_cases h1 : tldB (V 78) p = true
  · obtain ⟨a, ha, rfl, -⟩ := tldB_t h1
    by_cases h2 : laidB (V 78) a = true
    · obtain ⟨-, k, hk, ek⟩ := laid_plot w ha h2
      obtain ⟨a1, g1, e1, c1, d1⟩ := tp_laysSteps_q (E := E) r w eo (s := 0) (by omega)
      have r1 : YR 9 (V 78) (up1 V 76 a1) := r.congr (fun _ _ => rfl) fun c h1 h2 => by rw [up1_n (by omega)]
      obtain ⟨o1, s1, l1, b1⟩ := tp_stepsTo_q (E := E) r1 w eo ha hk ek (by rw [up1_s]; exact c1) d1.lt
      obtain ⟨a2, c2, g2, e2, f2, d2⟩ := mo_walksFrom_q (E := E) (V := up1 V 76 a1) (s := 0) (by omega)
      rw [up1_n (show 78 ≠ 76 by decide)] at d2
      obtain ⟨o2, s2, l2⟩ := mo_stepsBeside_q (E := E) (V := up1 (up1 (up1 V 76 a1) 107 a2) 108 c2) hk (g := g2) (by rw [up1_n (by decide), up1_s]; exact f2) d2.lt
      have hoo : o1 = o2 := l1.uniq (l2.gcongr fun b hb => Dst0.uniq d1 d2 b hb.1)
      subst hoo
      refine ⟨enc2 o1, up1 V 76 a1, up1 (up1 (up1 V 76 a1) 107 a2) 108 c2, ?_, ?_, Sc.of fun b hb => ?_⟩
      · simp (disch := first | omega | decide) only [nI_lel, nI_ltl, nI_ler, nI_ltr, nI_addl, nI_addr, nI_eqN, nI_leN, nI_ltN, Nat.zero_add, Option.bind_some, Option.bind_none, Option.map_some, bd2_some, b2i_0, b2i_1, b2i_t, b2i_f, ↓reduceIte, if_true, if_false, Bool.true_eq_false, Bool.false_eq_true, not_true_eq_false, not_false_eq_true, true_and, and_true, false_and, and_false, true_or, or_true, false_or, or_false, decide_true, decide_false, Bool.true_and, Bool.false_and, Bool.and_true, Bool.and_false, and_self, Nat.le_refl, Nat.lt_irrefl, ite_self, i10, i01, Option.some.injEq, grd_t isC_7, tp_isTold_g r w, h1, x_yard, yd_people y9, people_at y9 ha, pe_isLaid_eq y9 ha r w, h2]
        rw [show (0 : Int32) = nI 0 from rfl, e1]
        simp (disch := first | omega | decide) only [nI_lel, nI_ltl, nI_ler, nI_ltr, nI_addl, nI_addr, nI_eqN, nI_leN, nI_ltN, Nat.zero_add, Option.bind_some, Option.bind_none, Option.map_some, bd2_some, b2i_0, b2i_1, b2i_t, b2i_f, ↓reduceIte, if_true, if_false, Bool.true_eq_false, Bool.false_eq_true, not_true_eq_false, not_false_eq_true, true_and, and_true, false_and, and_false, true_or, or_true, false_or, or_false, decide_true, decide_false, Bool.true_and, Bool.false_and, Bool.and_true, Bool.and_false, and_self, Nat.le_refl, Nat.lt_irrefl, ite_self, i10, i01, Option.some.injEq, s1, encX_far b1]
        cases o1 <;> simp (disch := first | omega | decide) only [nI_lel, nI_ltl, nI_ler, nI_ltr, nI_addl, nI_addr, nI_eqN, nI_leN, nI_ltN, Nat.zero_add, Option.bind_some, Option.bind_none, Option.map_some, bd2_some, b2i_0, b2i_1, b2i_t, b2i_f, ↓reduceIte, if_true, if_false, Bool.true_eq_false, Bool.false_eq_true, not_true_eq_false, not_false_eq_true, true_and, and_true, false_and, and_false, true_or, or_true, false_or, or_false, decide_true, decide_false, Bool.true_and, Bool.false_and, Bool.and_true, Bool.and_false, and_self, Nat.le_refl, Nat.lt_irrefl, ite_self, i10, i01, Option.some.injEq, enc2, encX]
        simp
      · simp (disch := first | omega | decide) only [nI_lel, nI_ltl, nI_ler, nI_ltr, nI_addl, nI_addr, nI_eqN, nI_leN, nI_ltN, Nat.zero_add, Option.bind_some, Option.bind_none, Option.map_some, bd2_some, b2i_0, b2i_1, b2i_t, b2i_f, ↓reduceIte, if_true, if_false, Bool.true_eq_false, Bool.false_eq_true, not_true_eq_false, not_false_eq_true, true_and, and_true, false_and, and_false, true_or, or_true, false_or, or_false, decide_true, decide_false, Bool.true_and, Bool.false_and, Bool.and_true, Bool.and_false, and_self, Nat.le_refl, Nat.lt_irrefl, ite_self, i10, i01, Option.some.injEq, up1_s, up1_up, ups, up1_x, upsn, grd_t isC_77, mo_isTold_g, h1, mo_isLaid_eq ha, h2]
        rw [show (0 : Int32) = nI 0 from rfl, e2]
        simp (disch := first | omega | decide) only [nI_lel, nI_ltl, nI_ler, nI_ltr, nI_addl, nI_addr, nI_eqN, nI_leN, nI_ltN, Nat.zero_add, Option.bind_some, Option.bind_none, Option.map_some, bd2_some, b2i_0, b2i_1, b2i_t, b2i_f, ↓reduceIte, if_true, if_false, Bool.true_eq_false, Bool.false_eq_true, not_true_eq_false, not_false_eq_true, true_and, and_true, false_and, and_false, true_or, or_true, false_or, or_false, decide_true, decide_false, Bool.true_and, Bool.false_and, Bool.and_true, Bool.and_false, and_self, Nat.le_refl, Nat.lt_irrefl, ite_self, i10, i01, Option.some.injEq, up1_s, up1_up, ups, up1_x, upsn, m_now, ald_78, ek, s2]
      · revert hb; unfold scrA; intro hb
        rw [up1_n (by omega), up1_n (by omega), up1_n (by omega)]
    · rw [Bool.not_eq_true] at h2
      refine ⟨-2, V, V, ?_, ?_, Sc.rfl' V⟩
      · simp (disch := first | omega | decide) only [nI_lel, nI_ltl, nI_ler, nI_ltr, nI_addl, nI_addr, nI_eqN, nI_leN, nI_ltN, Nat.zero_add, Option.bind_some, Option.bind_none, Option.map_some, bd2_some, b2i_0, b2i_1, b2i_t, b2i_f, ↓reduceIte, if_true, if_false, Bool.true_eq_false, Bool.false_eq_true, not_true_eq_false, not_false_eq_true, true_and, and_true, false_and, and_false, true_or, or_true, false_or, or_false, decide_true, decide_false, Bool.true_and, Bool.false_and, Bool.and_true, Bool.and_false, and_self, Nat.le_refl, Nat.lt_irrefl, ite_self, i10, i01, Option.some.injEq, grd_t isC_7, tp_isTold_g r w, h1, x_yard, yd_people y9, people_at y9 ha, pe_isLaid_eq y9 ha r w, h2]
      · simp (disch := first | omega | decide) only [nI_lel, nI_ltl, nI_ler, nI_ltr, nI_addl, nI_addr, nI_eqN, nI_leN, nI_ltN, Nat.zero_add, Option.bind_some, Option.bind_none, Option.map_some, bd2_some, b2i_0, b2i_1, b2i_t, b2i_f, ↓reduceIte, if_true, if_false, Bool.true_eq_false, Bool.false_eq_true, not_true_eq_false, not_false_eq_true, true_and, and_true, false_and, and_false, true_or, or_true, false_or, or_false, decide_true, decide_false, Bool.true_and, Bool.false_and, Bool.and_true, Bool.and_false, and_self, Nat.le_refl, Nat.lt_irrefl, ite_self, i10, i01, Option.some.injEq, grd_t isC_77, mo_isTold_g, h1, mo_isLaid_eq ha, h2]
  · rw [Bool.not_eq_true] at h1
    refine ⟨-1, V, V, ?_, ?_, Sc.rfl' V⟩
    · simp (disch := first | omega | decide) only [nI_lel, nI_ltl, nI_ler, nI_ltr, nI_addl, nI_addr, nI_eqN, nI_leN, nI_ltN, Nat.zero_add, Option.bind_some, Option.bind_none, Option.map_some, bd2_some, b2i_0, b2i_1, b2i_t, b2i_f, ↓reduceIte, if_true, if_false, Bool.true_eq_false, Bool.false_eq_true, not_true_eq_false, not_false_eq_true, true_and, and_true, false_and, and_false, true_or, or_true, false_or, or_false, decide_true, decide_false, Bool.true_and, Bool.false_and, Bool.and_true, Bool.and_false, and_self, Nat.le_refl, Nat.lt_irrefl, ite_self, i10, i01, Option.some.injEq, grd_t isC_7, tp_isTold_g r w, h1]
    · simp (disch := first | omega | decide) only [nI_lel, nI_ltl, nI_ler, nI_ltr, nI_addl, nI_addr, nI_eqN, nI_leN, nI_ltN, Nat.zero_add, Option.bind_some, Option.bind_none, Option.map_some, bd2_some, b2i_0, b2i_1, b2i_t, b2i_f, ↓reduceIte, if_true, if_false, Bool.true_eq_false, Bool.false_eq_true, not_true_eq_false, not_false_eq_true, true_and, and_true, false_and, and_false, true_or, or_true, false_or, or_false, decide_true, decide_false, Bool.true_and, Bool.false_and, Bool.and_true, Bool.and_false, and_self, Nat.le_refl, Nat.lt_irrefl, ite_self, i10, i01, Option.some.injEq, grd_t isC_77, mo_isTold_g, h1]
theorem visited_q (rw0 : Rw V) (eo : EO E) : ∃ v V1 V2, tp_visited (some 7) (mkH E V) = some (v, mkH E V1) ∧ mo_visited (some 77) (mkH E V1) = some (v, mkH E V2) ∧ Sc V V2 := by
  obtain ⟨w, r⟩ := rw0
  obtain ⟨a1, g1, e1, c1, d1⟩ := tp_laysSteps_q (E := E) r w eo (s := 0) (by omega)
  have r1 : YR 9 (V 78) (up1 V 76 a1) := r.congr (fun _ _ => rfl) fun c h1 h2 => by rw [up1_n (by omega)]
  obtain ⟨a2, c2, g2, e2, f2, d2⟩ := mo_walksFrom_q (E := E) (V := up1 V 76 a1) (s := 0) (by omega)
  rw [up1_n (show 78 ≠ 76 by decide)] at d2
  have hst : ∀ p, p < 16 → laidB (V 78) p = true → ∃ o, tp_stepsTo (some 7) (nI p) (mkH E (up1 V 76 a1)) = some (encX o) ∧ mo_stepsBeside (some 77) (V 78 (48 + p)) (mkH E (up1 (up1 (up1 V 76 a1) 107 a2) 108 c2)) = some (enc2 o) ∧ ∀ j, o = some j → j < 1000 := fun p hp hl => by
    obtain ⟨-, k, hk, ek⟩ := laid_plot w hp hl
    obtain ⟨o1, s1, l1, b1⟩ := tp_stepsTo_q (E := E) r1 w eo hp hk ek (by rw [up1_s]; exact c1) d1.lt
    obtain ⟨o2, s2, l2⟩ := mo_stepsBeside_q (E := E) (V := up1 (up1 (up1 V 76 a1) 107 a2) 108 c2) hk (g := g2) (by rw [up1_n (by decide), up1_s]; exact f2) d2.lt
    have hoo : o1 = o2 := l1.uniq (l2.gcongr fun b hb => Dst0.uniq d1 d2 b hb.1)
    subst hoo
    exact ⟨o1, s1, by rw [ek]; exact s2, b1⟩
  have hP : ∃ P : Nat → Bool, ∀ p, p < 16 → (laidB (V 78) p = false → P p = false) ∧ (laidB (V 78) p = true → ∃ o, tp_stepsTo (some 7) (nI p) (mkH E (up1 V 76 a1)) = some (encX o) ∧ mo_stepsBeside (some 77) (V 78 (48 + p)) (mkH E (up1 (up1 (up1 V 76 a1) 107 a2) 108 c2)) = some (enc2 o) ∧ (∀ j, o = some j → j < 1000) ∧ P p = o.isSome) :=
    ⟨fun p => if h : p < 16 ∧ laidB (V 78) p = true then (Classical.choose (hst p h.1 h.2)).isSome else false, fun p hp => ⟨fun h => dif_neg (fun c => by rw [h] at c; exact absurd c.2 (by decide)), fun h => by
      obtain ⟨x, y, z⟩ := Classical.choose_spec (hst p hp h)
      exact ⟨_, x, y, z, dif_pos ⟨hp, h⟩⟩⟩⟩
  obtain ⟨P, hP⟩ := hP
  refine ⟨setF P 16, up1 V 76 a1, up1 (up1 (up1 V 76 a1) 107 a2) 108 c2, ?_, ?_, Sc.of fun b hb => ?_⟩
  · unfold tp_visited tp_visited_0
    rw [grd_t isC_7, show (0 : Int32) = nI 0 from rfl, e1]
    simp (disch := first | omega | decide) only [nI_lel, nI_ltl, nI_ler, nI_ltr, nI_addl, nI_addr, nI_eqN, nI_leN, nI_ltN, Nat.zero_add, Option.bind_some, Option.bind_none, Option.map_some, bd2_some, b2i_0, b2i_1, b2i_t, b2i_f, ↓reduceIte, if_true, if_false, Bool.true_eq_false, Bool.false_eq_true, not_true_eq_false, not_false_eq_true, true_and, and_true, false_and, and_false, true_or, or_true, false_or, or_false, decide_true, decide_false, Bool.true_and, Bool.false_and, Bool.and_true, Bool.and_false, and_self, Nat.le_refl, Nat.lt_irrefl, ite_self, i10, i01, Option.some.injEq]
    unfold tp_visited_L9
    refine iter_toR (B := fun s : Int32 × Int32 => tp_visited_b9 (some 7) s.1 s.2 (mkH E (up1 V 76 a1))) (fun i => (setF P i, nI i)) 16 (fun i hi => ?_) (by unfold tp_visited_b9; simp (disch := first | omega | decide) only [nI_lel, nI_ltl, nI_ler, nI_ltr, nI_addl, nI_addr, nI_eqN, nI_leN, nI_ltN, Nat.zero_add, Option.bind_some, Option.bind_none, Option.map_some, bd2_some, b2i_0, b2i_1, b2i_t, b2i_f, ↓reduceIte, if_true, if_false, Bool.true_eq_false, Bool.false_eq_true, not_true_eq_false, not_false_eq_true, true_and, and_true, false_and, and_false, true_or, or_true, false_or, or_false, decide_true, decide_false, Bool.true_and, Bool.false_and, Bool.and_true, Bool.and_false, and_self, Nat.le_refl, Nat.lt_irrefl, ite_self, i10, i01, Option.some.injEq])
    unfold tp_visited_b9
    rw [show setF P (i + 1) = if P i = true then setF P i ||| bitF i else setF P i from rfl]
    simp (disch := first | omega | decide) only [nI_lel, nI_ltl, nI_ler, nI_ltr, nI_addl, nI_addr, nI_eqN, nI_leN, nI_ltN, Nat.zero_add, Option.bind_some, Option.bind_none, Option.map_some, bd2_some, b2i_0, b2i_1, b2i_t, b2i_f, ↓reduceIte, if_true, if_false, Bool.true_eq_false, Bool.false_eq_true, not_true_eq_false, not_false_eq_true, true_and, and_true, false_and, and_false, true_or, or_true, false_or, or_false, decide_true, decide_false, Bool.true_and, Bool.false_and, Bool.and_true, Bool.and_false, and_self, Nat.le_refl, Nat.lt_irrefl, ite_self, i10, i01, Option.some.injEq, show ¬ 16 ≤ i by omega, x_yard, yd_people y9, people_at y9 hi, pe_isLaid_eq y9 hi r1 w, or_z]
    cases h : laidB (V 78) i
    · simp (disch := first | omega | decide) only [nI_lel, nI_ltl, nI_ler, nI_ltr, nI_addl, nI_addr, nI_eqN, nI_leN, nI_ltN, Nat.zero_add, Option.bind_some, Option.bind_none, Option.map_some, bd2_some, b2i_0, b2i_1, b2i_t, b2i_f, ↓reduceIte, if_true, if_false, Bool.true_eq_false, Bool.false_eq_true, not_true_eq_false, not_false_eq_true, true_and, and_true, false_and, and_false, true_or, or_true, false_or, or_false, decide_true, decide_false, Bool.true_and, Bool.false_and, Bool.and_true, Bool.and_false, and_self, Nat.le_refl, Nat.lt_irrefl, ite_self, i10, i01, Option.some.injEq, (hP i hi).1 h]
    · obtain ⟨o, x1, x2, x3, x4⟩ := (hP i hi).2 h
      simp (disch := first | omega | decide) only [nI_lel, nI_ltl, nI_ler, nI_ltr, nI_addl, nI_addr, nI_eqN, nI_leN, nI_ltN, Nat.zero_add, Option.bind_some, Option.bind_none, Option.map_some, bd2_some, b2i_0, b2i_1, b2i_t, b2i_f, ↓reduceIte, if_true, if_false, Bool.true_eq_false, Bool.false_eq_true, not_true_eq_false, not_false_eq_true, true_and, and_true, false_and, and_false, true_or, or_true, false_or, or_false, decide_true, decide_false, Bool.true_and, Bool.false_and, Bool.and_true, Bool.and_false, and_self, Nat.le_refl, Nat.lt_irrefl, ite_self, i10, i01, Option.some.injEq, x1, x4, encX_farle x3]
      cases o <;> simp (disch := first | omega | decide) only [nI_lel, nI_ltl, nI_ler, nI_ltr, nI_addl, nI_addr, nI_eqN, nI_leN, nI_ltN, Nat.zero_add, Option.bind_some, Option.bind_none, Option.map_some, bd2_some, b2i_0, b2i_1, b2i_t, b2i_f, ↓reduceIte, if_true, if_false, Bool.true_eq_false, Bool.false_eq_true, not_true_eq_false, not_false_eq_true, true_and, and_true, false_and, and_false, true_or, or_true, false_or, or_false, decide_true, decide_false, Bool.true_and, Bool.false_and, Bool.and_true, Bool.and_false, and_self, Nat.le_refl, Nat.lt_irrefl, ite_self, i10, i01, Option.some.injEq, Option.isSome] <;> simp <;> rfl
  · unfold mo_visited mo_visited_0
    rw [grd_t isC_77, show (0 : Int32) = nI 0 from rfl, e2]
    simp (disch := first | omega | decide) only [nI_lel, nI_ltl, nI_ler, nI_ltr, nI_addl, nI_addr, nI_eqN, nI_leN, nI_ltN, Nat.zero_add, Option.bind_some, Option.bind_none, Option.map_some, bd2_some, b2i_0, b2i_1, b2i_t, b2i_f, ↓reduceIte, if_true, if_false, Bool.true_eq_false, Bool.false_eq_true, not_true_eq_false, not_false_eq_true, true_and, and_true, false_and, and_false, true_or, or_true, false_or, or_false, decide_true, decide_false, Bool.true_and, Bool.false_and, Bool.and_true, Bool.and_false, and_self, Nat.le_refl, Nat.lt_irrefl, ite_self, i10, i01, Option.some.injEq]
    unfold mo_visited_L10
    refine iter_toR (B := fun s : Int32 × Int32 => mo_visited_b10 (some 77) s.1 s.2 (mkH E (up1 (up1 (up1 V 76 a1) 107 a2) 108 c2))) (fun i => (setF P i, nI i)) 16 (fun i hi => ?_) (by unfold mo_visited_b10; simp (disch := first | omega | decide) only [nI_lel, nI_ltl, nI_ler, nI_ltr, nI_addl, nI_addr, nI_eqN, nI_leN, nI_ltN, Nat.zero_add, Option.bind_some, Option.bind_none, Option.map_some, bd2_some, b2i_0, b2i_1, b2i_t, b2i_f, ↓reduceIte, if_true, if_false, Bool.true_eq_false, Bool.false_eq_true, not_true_eq_false, not_false_eq_true, true_and, and_true, false_and, and_false, true_or, or_true, false_or, or_false, decide_true, decide_false, Bool.true_and, Bool.false_and, Bool.and_true, Bool.and_false, and_self, Nat.le_refl, Nat.lt_irrefl, ite_self, i10, i01, Option.some.injEq])
    unfold mo_visited_b10
    rw [show setF P (i + 1) = if P i = true then setF P i ||| bitF i else setF P i from rfl]
    simp (disch := first | omega | decide) only [nI_lel, nI_ltl, nI_ler, nI_ltr, nI_addl, nI_addr, nI_eqN, nI_leN, nI_ltN, Nat.zero_add, Option.bind_some, Option.bind_none, Option.map_some, bd2_some, b2i_0, b2i_1, b2i_t, b2i_f, ↓reduceIte, if_true, if_false, Bool.true_eq_false, Bool.false_eq_true, not_true_eq_false, not_false_eq_true, true_and, and_true, false_and, and_false, true_or, or_true, false_or, or_false, decide_true, decide_false, Bool.true_and, Bool.false_and, Bool.and_true, Bool.and_false, and_self, Nat.le_refl, Nat.lt_irrefl, ite_self, i10, i01, Option.some.injEq, up1_s, up1_up, ups, up1_x, upsn, show ¬ 16 ≤ i by omega, mo_isLaid_eq hi, m_now, ald_78]
    cases h : laidB (V 78) i
    · simp (disch := first | omega | decide) only [nI_lel, nI_ltl, nI_ler, nI_ltr, nI_addl, nI_addr, nI_eqN, nI_leN, nI_ltN, Nat.zero_add, Option.bind_some, Option.bind_none, Option.map_some, bd2_some, b2i_0, b2i_1, b2i_t, b2i_f, ↓reduceIte, if_true, if_false, Bool.true_eq_false, Bool.false_eq_true, not_true_eq_false, not_false_eq_true, true_and, and_true, false_and, and_false, true_or, or_true, false_or, or_false, decide_true, decide_false, Bool.true_and, Bool.false_and, Bool.and_true, Bool.and_false, and_self, Nat.le_refl, Nat.lt_irrefl, ite_self, i10, i01, Option.some.injEq, (hP i hi).1 h]
    · obtain ⟨o, x1, x2, x3, x4⟩ := (hP i hi).2 h
      simp (disch := first | omega | decide) only [nI_lel, nI_ltl, nI_ler, nI_ltr, nI_addl, nI_addr, nI_eqN, nI_leN, nI_ltN, Nat.zero_add, Option.bind_some, Option.bind_none, Option.map_some, bd2_some, b2i_0, b2i_1, b2i_t, b2i_f, ↓reduceIte, if_true, if_false, Bool.true_eq_false, Bool.false_eq_true, not_true_eq_false, not_false_eq_true, true_and, and_true, false_and, and_false, true_or, or_true, false_or, or_false, decide_true, decide_false, Bool.true_and, Bool.false_and, Bool.and_true, Bool.and_false, and_self, Nat.le_refl, Nat.lt_irrefl, ite_self, i10, i01, Option.some.injEq, x2, x4]
      cases o with
      | none => simp (disch := first | omega | decide) only [nI_lel, nI_ltl, nI_ler, nI_ltr, nI_addl, nI_addr, nI_eqN, nI_leN, nI_ltN, Nat.zero_add, Option.bind_some, Option.bind_none, Option.map_some, bd2_some, b2i_0, b2i_1, b2i_t, b2i_f, ↓reduceIte, if_true, if_false, Bool.true_eq_false, Bool.false_eq_true, not_true_eq_false, not_false_eq_true, true_and, and_true, false_and, and_false, true_or, or_true, false_or, or_false, decide_true, decide_false, Bool.true_and, Bool.false_and, Bool.and_true, Bool.and_false, and_self, Nat.le_refl, Nat.lt_irrefl, ite_self, i10, i01, Option.some.injEq, Option.isSome, enc2]
      | some j =>
        have := x3 j rfl
        simp (disch := first | omega | decide) only [nI_lel, nI_ltl, nI_ler, nI_ltr, nI_addl, nI_addr, nI_eqN, nI_leN, nI_ltN, Nat.zero_add, Option.bind_some, Option.bind_none, Option.map_some, bd2_some, b2i_0, b2i_1, b2i_t, b2i_f, ↓reduceIte, if_true, if_false, Bool.true_eq_false, Bool.false_eq_true, not_true_eq_false, not_false_eq_true, true_and, and_true, false_and, and_false, true_or, or_true, false_or, or_false, decide_true, decide_false, Bool.true_and, Bool.false_and, Bool.and_true, Bool.and_false, and_self, Nat.le_refl, Nat.lt_irrefl, ite_self, i10, i01, Option.some.injEq, Option.isSome, enc2, nI_ne2 (show j < 2 ^ 31 by omega)]
        rfl
  · revert hb; unfold scrA; intro hb
    rw [up1_n (by omega), up1_n (by omega), up1_n (by omega)]
end VI
