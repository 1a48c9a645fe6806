/-! walksFrom: the model's distances by a queue -/
set_option maxRecDepth 100000
theorem cnN_le (P : Nat → Bool) : ∀ n k, cnN P n k ≤ n
  | 0, _ => Nat.le_refl 0
  | n + 1, k => by
    have := cnN_le P n (k + 1)
    show (if P k = true then 1 else 0) + cnN P n (k + 1) ≤ n + 1
    split <;> omega
theorem cnN_same {P P' : Nat → Bool} : ∀ n k, (∀ i, k ≤ i → i < k + n → P i = P' i) → cnN P n k = cnN P' n k
  | 0, _, _ => rfl
  | n + 1, k, h => by
    show (if P k = true then 1 else 0) + cnN P n (k + 1) = (if P' k = true then 1 else 0) + cnN P' n (k + 1)
    rw [h k (by omega) (by omega), cnN_same n (k + 1) fun i h1 h2 => h i (by omega) (by omega)]
theorem cnN_one {P P' : Nat → Bool} {b : Nat} (h0 : P b = false) (h1 : P' b = true) (hs : ∀ i, i ≠ b → P i = P' i) : ∀ n k, k ≤ b → b < k + n → cnN P' n k = cnN P n k + 1
  | 0, _, a, c => absurd a (by omega)
  | n + 1, k, a, c => by
    show (if P' k = true then 1 else 0) + cnN P' n (k + 1) = (if P k = true then 1 else 0) + cnN P n (k + 1) + 1
    by_cases e : k = b
    · subst e
      rw [h0, h1, cnN_same (P := P') (P' := P) n (k + 1) fun i h1 h2 => (hs i (by omega)).symm]
      simp; omega
    · rw [hs k e, cnN_one h0 h1 hs n (k + 1) (by omega) (by omega)]
      omega
def updQ (Q : Nat → Nat) (n p : Nat) : Nat → Nat := fun i => if i = n then p else Q i
def isS (g : Nat → Option Nat) (b : Nat) : Bool := (g b).isSome
/-- the queue Q of n plots, k of them done, of the k-th the plots below p -/
def MQu (f : Nat → Int32) (s k p n : Nat) (Q : Nat → Nat) (g : Nat → Option Nat) : Prop :=
  (∀ b, b < 60 → (g b = some 0 ↔ b = s)) ∧
  (∀ b j, b < 60 → g b = some (j + 1) → frB f b = true ∧ ∃ a, a < 60 ∧ g a = some j ∧ adjB a b = true) ∧
  (∀ i, i < n → Q i < 60 ∧ ∃ d, g (Q i) = some d) ∧
  (∀ b d, b < 60 → g b = some d → ∃ i, i < n ∧ Q i = b) ∧
  (∀ i j di dj, i ≤ j → j < n → g (Q i) = some di → g (Q j) = some dj → di ≤ dj) ∧
  (∀ j dj dk, j < n → k < n → g (Q j) = some dj → g (Q k) = some dk → dj ≤ dk + 1) ∧
  (∀ i b d, i < n → b < 60 → (i < k ∨ (i = k ∧ b < p)) → g (Q i) = some d → adjB (Q i) b = true → frB f b = true → ∃ j, j ≤ d + 1 ∧ g b = some j) ∧
  n = cnN (isS g) 60 0 ∧ k ≤ n
theorem MQu.skip {f : Nat → Int32} {s k p n : Nat} {Q : Nat → Nat} {g : Nat → Option Nat} (h : MQu f s k p n Q g) (hk : k < n) (hd : adjB (Q k) p = true → frB f p = true → ∃ j, g p = some j) (hp : p < 60) : MQu f s k (p + 1) n Q g := by
  obtain ⟨h1, h2, h3, h4, h5, h6, h7, h8, h9⟩ := h
  refine ⟨h1, h2, h3, h4, h5, h6, fun i b d hi hb hc e hab hf => ?_, h8, h9⟩
  rcases hc with hc | ⟨hc, hbp⟩
  · exact h7 i b d hi hb (Or.inl hc) e hab hf
  · by_cases e2 : b = p
    · subst e2 hc
      obtain ⟨j, ej⟩ := hd hab hf
      obtain ⟨i', hi', ei'⟩ := h4 b j hb ej
      exact ⟨j, h6 i' j d hi' hk (by rw [ei']; exact ej) e, ej⟩
    · exact h7 i b d hi hb (Or.inr ⟨hc, by omega⟩) e hab hf
theorem MQu.set {f : Nat → Int32} {s k p n dk : Nat} {Q : Nat → Nat} {g : Nat → Option Nat} (h : MQu f s k p n Q g) (hk : k < n) (hp : p < 60) (hg : g (Q k) = some dk) (hab : adjB (Q k) p = true) (hf : frB f p = true) (h0 : g p = none) : MQu f s k (p + 1) (n + 1) (updQ Q n p) (updO g p (some (dk + 1))) ∧ n < 60 := by
  obtain ⟨h1, h2, h3, h4, h5, h6, h7, h8, h9⟩ := h
  have back : ∀ {a j : Nat}, updO g p (some (dk + 1)) a = some j → (a = p ∧ j = dk + 1) ∨ (a ≠ p ∧ g a = some j) := fun {a j} e => by
    by_cases c : a = p
    · subst c
      rw [updO_s] at e
      exact Or.inl ⟨rfl, (Option.some.inj e).symm⟩
    · rw [updO_n c] at e
      exact Or.inr ⟨c, e⟩
  have fwd : ∀ {a j : Nat}, g a = some j → updO g p (some (dk + 1)) a = some j := fun e => updO_ext h0 e
  have hcn : cnN (isS (updO g p (some (dk + 1)))) 60 0 = cnN (isS g) 60 0 + 1 := cnN_one (b := p) (by unfold isS; rw [h0]; rfl) (by unfold isS; rw [updO_s]; rfl) (fun i hi => by unfold isS; rw [updO_n hi]) 60 0 (by omega) (by omega)
  have hle := cnN_le (isS (updO g p (some (dk + 1)))) 60 0
  have Qo : ∀ i, i < n → updQ Q n p i = Q i := fun i hi => if_neg (by omega)
  have Qn : updQ Q n p n = p := if_pos rfl
  have Qne : ∀ i, i < n → Q i ≠ p := fun i hi e => by
    obtain ⟨-, d, ed⟩ := h3 i hi
    rw [e, h0] at ed
    exact nomatch ed
  refine ⟨⟨fun b hb => ⟨fun e => ?_, fun e => fwd ((h1 b hb).mpr e)⟩, fun b j hb e => ?_, fun i hi => ?_, fun b d hb e => ?_, fun i j di dj hij hj ei ej => ?_, fun j dj dk' hj hk' ej ek => ?_, fun i b d hi hb hc e hab' hf' => ?_, by omega, by omega⟩, by omega⟩
  · rcases back e with ⟨-, c⟩ | ⟨-, c⟩
    · omega
    · exact (h1 b hb).mp c
  · rcases back e with ⟨c0, c⟩ | ⟨-, c⟩
    · subst c0
      have : j = dk := by omega
      subst this
      exact ⟨hf, Q k, (h3 k hk).1, fwd hg, hab⟩
    · obtain ⟨x, a, ha, ea, hab⟩ := h2 b j hb c
      exact ⟨x, a, ha, fwd ea, hab⟩
  · by_cases c : i = n
    · subst c
      rw [Qn]
      exact ⟨hp, _, updO_s _ _ _⟩
    · rw [Qo i (by omega)]
      obtain ⟨x, d, ed⟩ := h3 i (by omega)
      exact ⟨x, d, fwd ed⟩
  · rcases back e with ⟨c0, c⟩ | ⟨-, c⟩
    · exact ⟨n, by omega, by rw [Qn]; exact c0.symm⟩
    · obtain ⟨i, hi, ei⟩ := h4 b d hb c
      exact ⟨i, by omega, by rw [Qo i hi]; exact ei⟩
  · by_cases c : j = n
    · subst c
      rw [Qn, updO_s] at ej
      have := Option.some.inj ej
      by_cases c2 : i = j
      · subst c2
        rw [Qn, updO_s] at ei
        have := Option.some.inj ei
        omega
      · rw [Qo i (by omega)] at ei
        rcases back ei with ⟨c3, -⟩ | ⟨-, c3⟩
        · exact absurd c3 (Qne i (by omega))
        · have := h6 i di dk (by omega) hk c3 hg
          omega
    · rw [Qo i (by omega)] at ei
      rw [Qo j (by omega)] at ej
      rcases back ei with ⟨c3, -⟩ | ⟨-, c3⟩
      · exact absurd c3 (Qne i (by omega))
      · rcases back ej with ⟨c4, -⟩ | ⟨-, c4⟩
        · exact absurd c4 (Qne j (by omega))
        · exact h5 i j di dj hij (by omega) c3 c4
  · rw [Qo k hk] at ek
    have ek' := ek
    rw [fwd hg] at ek'
    have hdk := Option.some.inj ek'
    by_cases c : j = n
    · subst c
      rw [Qn, updO_s] at ej
      have := Option.some.inj ej
      omega
    · rw [Qo j (by omega)] at ej
      rcases back ej with ⟨c4, -⟩ | ⟨-, c4⟩
      · exact absurd c4 (Qne j (by omega))
      · have := h6 j dj dk (by omega) hk c4 hg
        omega
  · have hin : i < n := by omega
    rw [Qo i hin] at e hab'
    rcases back e with ⟨c4, -⟩ | ⟨-, c4⟩
    · exact absurd c4 (Qne i hin)
    · by_cases c5 : b = p
      · subst c5
        refine ⟨dk + 1, ?_, updO_s _ _ _⟩
        rcases hc with hc | ⟨hc, -⟩
        · obtain ⟨j, hj, ej⟩ := h7 i b d hin hb (Or.inl hc) c4 hab' hf'
          rw [h0] at ej
          exact nomatch ej
        · subst hc
          rw [hg] at c4
          have := Option.some.inj c4
          omega
      · have : ∃ j, j ≤ d + 1 ∧ g b = some j := h7 i b d hin hb (by omega) c4 hab' hf'
        obtain ⟨j, hj, ej⟩ := this
        exact ⟨j, hj, fwd ej⟩
theorem MQu.next {f : Nat → Int32} {s k n : Nat} {Q : Nat → Nat} {g : Nat → Option Nat} (h : MQu f s k 60 n Q g) (hk : k < n) : MQu f s (k + 1) 0 n Q g := by
  obtain ⟨h1, h2, h3, h4, h5, h6, h7, h8, h9⟩ := h
  refine ⟨h1, h2, h3, h4, h5, fun j dj dk hj hk' ej ek => ?_, fun i b d hi hb hc e hab hf => ?_, h8, by omega⟩
  · obtain ⟨-, d0, e0⟩ := h3 k hk
    have a1 := h6 j dj d0 hj hk ej e0
    have a2 := h5 k (k + 1) d0 dk (by omega) hk' e0 ek
    omega
  · exact h7 i b d hi hb (by omega) e hab hf
theorem MQu.done {f : Nat → Int32} {s n : Nat} {Q : Nat → Nat} {g : Nat → Option Nat} (h : MQu f s n 0 n Q g) : Dst f s g := by
  obtain ⟨h1, h2, h3, h4, h5, h6, h7, h8, h9⟩ := h
  refine ⟨h1, h2, fun a b k ha hb ea hab hf => ?_⟩
  obtain ⟨i, hi, ei⟩ := h4 a k ha ea
  subst ei
  exact h7 i b k hi hb (Or.inl hi) ea hab hf
theorem encM_n1 {o : Option Nat} (ho : ∀ j, o = some j → j < 1000) : (encM o = -1) = (o = none) := by
  cases o with
  | none => simp [encM]
  | some j =>
    have := ho j rfl
    have h : ¬ nI j = -1 := nI_ne1 (by omega)
    simp [encM, h]
theorem up3 {V : Nat → Nat → Int32} {x y : Nat} {a c a' : Nat → Int32} (h : x ≠ y) : up1 (up1 (up1 V x a) y c) x a' = up1 (up1 V x a') y c := by
  funext b
  by_cases h1 : b = x
  · subst h1
    rw [up1_s, up1_n h, up1_s]
  · rw [up1_n h1]
    by_cases h2 : b = y
    · subst h2; rw [up1_s, up1_s]
    · rw [up1_n h2, up1_n h1, up1_n h2, up1_n h1]
section WK
variable {E : EE} {V : Nat → Nat → Int32}
def encB (a : Nat → Int32) (g : Nat → Option Nat) : Prop := ∀ b, b < 60 → a b = encM (g b)
theorem encB_upd {a : Nat → Int32} {g : Nat → Option Nat} (h : encB a g) {q k : Nat} : encB (upd a q (nI k)) (updO g q (some k)) := fun b hb => by
  by_cases e : b = q
  · subst e; rw [ups, updO_s]; rfl
  · rw [upsn e, updO_n e]; exact h b hb
def encQ (c : Nat → Int32) (n : Nat) (Q : Nat → Nat) : Prop := ∀ i, i < n → c i = nI (Q i)
theorem encQ_upd {c : Nat → Int32} {n p : Nat} {Q : Nat → Nat} (h : encQ c n Q) : encQ (upd c n (nI p)) (n + 1) (updQ Q n p) := fun i hi => by
  by_cases e : i = n
  · subst e; rw [ups, show updQ Q i p i = p from if_pos rfl]
  · rw [upsn e, show updQ Q n p i = Q i from if_neg e]; exact h i (by omega)
theorem mo_around {s k : Nat} : ∀ d p, p + d = 60 → ∀ (n : Nat) (a c : Nat → Int32) (Q : Nat → Nat) (g : Nat → Option Nat), k < n → encB a g → encQ c n Q → MQu (V 78) s k p n Q g → ∃ n' a' c' Q' g', iter (fun s : Int32 × Int32 × PH => mo_walksFrom_b59 (some 77) s.1 (nI k) s.2.1 s.2.2) (nI n, nI p, mkH E (up1 (up1 V 107 a) 108 c)) = some (.inl (nI n', nI (k + 1), mkH E (up1 (up1 V 107 a') 108 c'))) ∧ encB a' g' ∧ encQ c' n' Q' ∧ MQu (V 78) s (k + 1) 0 n' Q' g' := by
  intro d
  induction d with
  | zero =>
    intro p hp n a c Q g hk ha hc hm
    have : p = 60 := by omega
    subst this
    refine ⟨n, a, c, Q, g, iter_r ?_, ha, hc, hm.next hk⟩
    unfold mo_walksFrom_b59
    simp (disch := first | omega | decide) only [nI_lel, nI_ltl, nI_ler, nI_ltr, nI_addl, nI_addr, nI_eqN, nI_leN, nI_ltN, Nat.zero_add, Option.bind_some, Option.bind_none, Option.map_some, bd2_some, b2i_0, b2i_1, b2i_t, b2i_f, ↓reduceIte, if_true, if_false, Bool.true_eq_false, Bool.false_eq_true, not_true_eq_false, not_false_eq_true, true_and, and_true, false_and, and_false, true_or, or_true, false_or, or_false, decide_true, decide_false, Bool.true_and, Bool.false_and, Bool.and_true, Bool.and_false, and_self, Nat.le_refl, Nat.lt_irrefl, ite_self, i10, i01, Option.some.injEq]
  | succ d ih =>
    intro p hp n a c Q g hk ha hc hm
    have hp60 : p < 60 := by omega
    have hn60 : n ≤ 60 := by have := cnN_le (isS g) 60 0; have := hm.2.2.2.2.2.2.2.1; omega
    have hbd : ∀ b j, b < 60 → g b = some j → j < 1000 := fun b j hb e => by have := lev_lt hm.2.1 hb e; omega
    obtain ⟨hQk, dk, edk⟩ := hm.2.2.1 k hk
    have eP : (a p = -1) = (g p = none) := by rw [ha p hp60, encM_n1 (fun j => hbd p j hp60)]
    have eK : a (Q k) = nI dk := by rw [ha _ hQk, edk]; rfl
    by_cases c1 : adjB (Q k) p = true
    · by_cases c2 : g p = none
      · by_cases c3 : whoF (V 78) (nI p) = -2
        · obtain ⟨hm', hn⟩ := hm.set hk hp60 edk c1 (decide_eq_true c3) c2
          obtain ⟨n', a', c', Q', g', e1, e2, e3, e4⟩ := ih (p + 1) (by omega) (n + 1) (upd a p (nI (dk + 1))) (upd c n (nI p)) _ _ (by omega) (encB_upd ha) (encQ_upd hc) hm'
          refine ⟨n', a', c', Q', g', ?_, e2, e3, e4⟩
          rw [← e1]
          refine iter_l ?_
          have c1' : nxtB (nI (Q k)) (nI p) = true := c1
          unfold mo_walksFrom_b59
          simp (disch := first | omega | decide) only [nI_lel, nI_ltl, nI_ler, nI_ltr, nI_addl, nI_addr, nI_eqN, nI_leN, nI_ltN, Nat.zero_add, Option.bind_some, Option.bind_none, Option.map_some, bd2_some, b2i_0, b2i_1, b2i_t, b2i_f, ↓reduceIte, if_true, if_false, Bool.true_eq_false, Bool.false_eq_true, not_true_eq_false, not_false_eq_true, true_and, and_true, false_and, and_false, true_or, or_true, false_or, or_false, decide_true, decide_false, Bool.true_and, Bool.false_and, Bool.and_true, Bool.and_false, and_self, Nat.le_refl, Nat.lt_irrefl, ite_self, i10, i01, Option.some.injEq, up1_s, up1_up, ups, up1_x, upsn, show ¬ 60 ≤ p by omega, m_queue, ald_108 (show k < 60 by omega), hc k hk, mo_areNext_eq, c1', m_stepsTo, ald_107 hp60, eP, c2, mo_whoLies_eq, c3, ald_107 hQk, eK, ast_107 hp60, ast_108 hn]
          simp (disch := first | omega | decide) only [nI_lel, nI_ltl, nI_ler, nI_ltr, nI_addl, nI_addr, nI_eqN, nI_leN, nI_ltN, Nat.zero_add, Option.bind_some, Option.bind_none, Option.map_some, bd2_some, b2i_0, b2i_1, b2i_t, b2i_f, ↓reduceIte, if_true, if_false, Bool.true_eq_false, Bool.false_eq_true, not_true_eq_false, not_false_eq_true, true_and, and_true, false_and, and_false, true_or, or_true, false_or, or_false, decide_true, decide_false, Bool.true_and, Bool.false_and, Bool.and_true, Bool.and_false, and_self, Nat.le_refl, Nat.lt_irrefl, ite_self, i10, i01, Option.some.injEq, up1_s, up1_up, ups, up1_x, upsn, up3 (show 107 ≠ 108 by decide), up1_up]
        · obtain ⟨n', a', c', Q', g', e1, e2, e3, e4⟩ := ih (p + 1) (by omega) n a c Q g hk ha hc (hm.skip hk (fun _ h => absurd (of_decide_eq_true h) c3) hp60)
          refine ⟨n', a', c', Q', g', ?_, e2, e3, e4⟩
          rw [← e1]
          refine iter_l ?_
          have c1' : nxtB (nI (Q k)) (nI p) = true := c1
          unfold mo_walksFrom_b59
          simp (disch := first | omega | decide) only [nI_lel, nI_ltl, nI_ler, nI_ltr, nI_addl, nI_addr, nI_eqN, nI_leN, nI_ltN, Nat.zero_add, Option.bind_some, Option.bind_none, Option.map_some, bd2_some, b2i_0, b2i_1, b2i_t, b2i_f, ↓reduceIte, if_true, if_false, Bool.true_eq_false, Bool.false_eq_true, not_true_eq_false, not_false_eq_true, true_and, and_true, false_and, and_false, true_or, or_true, false_or, or_false, decide_true, decide_false, Bool.true_and, Bool.false_and, Bool.and_true, Bool.and_false, and_self, Nat.le_refl, Nat.lt_irrefl, ite_self, i10, i01, Option.some.injEq, up1_s, up1_up, ups, up1_x, upsn, show ¬ 60 ≤ p by omega, m_queue, ald_108 (show k < 60 by omega), hc k hk, mo_areNext_eq, c1', m_stepsTo, ald_107 hp60, eP, c2, mo_whoLies_eq, c3]
      · obtain ⟨n', a', c', Q', g', e1, e2, e3, e4⟩ := ih (p + 1) (by omega) n a c Q g hk ha hc (hm.skip hk (fun _ _ => by
          cases hx : g p with
          | none => exact absurd hx c2
          | some j => exact ⟨j, rfl⟩) hp60)
        refine ⟨n', a', c', Q', g', ?_, e2, e3, e4⟩
        rw [← e1]
        refine iter_l ?_
        have c1' : nxtB (nI (Q k)) (nI p) = true := c1
        unfold mo_walksFrom_b59
        simp (disch := first | omega | decide) only [nI_lel, nI_ltl, nI_ler, nI_ltr, nI_addl, nI_addr, nI_eqN, nI_leN, nI_ltN, Nat.zero_add, Option.bind_some, Option.bind_none, Option.map_some, bd2_some, b2i_0, b2i_1, b2i_t, b2i_f, ↓reduceIte, if_true, if_false, Bool.true_eq_false, Bool.false_eq_true, not_true_eq_false, not_false_eq_true, true_and, and_true, false_and, and_false, true_or, or_true, false_or, or_false, decide_true, decide_false, Bool.true_and, Bool.false_and, Bool.and_true, Bool.and_false, and_self, Nat.le_refl, Nat.lt_irrefl, ite_self, i10, i01, Option.some.injEq, up1_s, up1_up, ups, up1_x, upsn, show ¬ 60 ≤ p by omega, m_queue, ald_108 (show k < 60 by omega), hc k hk, mo_areNext_eq, c1', m_stepsTo, ald_107 hp60, eP, c2]
    · obtain ⟨n', a', c', Q', g', e1, e2, e3, e4⟩ := ih (p + 1) (by omega) n a c Q g hk ha hc (hm.skip hk (fun h => absurd h c1) hp60)
      refine ⟨n', a', c', Q', g', ?_, e2, e3, e4⟩
      rw [← e1]
      refine iter_l ?_
      rw [Bool.not_eq_true] at c1
      have c1' : nxtB (nI (Q k)) (nI p) = false := c1
      unfold mo_walksFrom_b59
      simp (disch := first | omega | decide) only [nI_lel, nI_ltl, nI_ler, nI_ltr, nI_addl, nI_addr, nI_eqN, nI_leN, nI_ltN, Nat.zero_add, Option.bind_some, Option.bind_none, Option.map_some, bd2_some, b2i_0, b2i_1, b2i_t, b2i_f, ↓reduceIte, if_true, if_false, Bool.true_eq_false, Bool.false_eq_true, not_true_eq_false, not_false_eq_true, true_and, and_true, false_and, and_false, true_or, or_true, false_or, or_false, decide_true, decide_false, Bool.true_and, Bool.false_and, Bool.and_true, Bool.and_false, and_self, Nat.le_refl, Nat.lt_irrefl, ite_self, i10, i01, Option.some.injEq, up1_s, up1_up, ups, up1_x, upsn, show ¬ 60 ≤ p by omega, m_queue, ald_108 (show k < 60 by omega), hc k hk, mo_areNext_eq, c1']
theorem mo_queue {s : Nat} : ∀ d k, k + d = 60 → ∀ (n : Nat) (a c : Nat → Int32) (Q : Nat → Nat) (g : Nat → Option Nat), encB a g → encQ c n Q → MQu (V 78) s k 0 n Q g → ∃ a' c' g', iter (fun s : Int32 × Int32 × PH => mo_walksFrom_b51 (some 77) s.1 s.2.1 s.2.2) (nI n, nI k, mkH E (up1 (up1 V 107 a) 108 c)) = some (nI (cnN (isS g') 60 0), mkH E (up1 (up1 V 107 a') 108 c')) ∧ encB a' g' ∧ Dst (V 78) s g' := by
  intro d
  induction d with
  | zero =>
    intro k hk n a c Q g ha hc hm
    have h1 := cnN_le (isS g) 60 0
    have h2 := hm.2.2.2.2.2.2.2.1
    have h3 := hm.2.2.2.2.2.2.2.2
    have : k = n := by omega
    subst this
    refine ⟨a, c, g, iter_r ?_, ha, hm.done⟩
    unfold mo_walksFrom_b51
    rw [← h2]
    simp (disch := first | omega | decide) only [nI_lel, nI_ltl, nI_ler, nI_ltr, nI_addl, nI_addr, nI_eqN, nI_leN, nI_ltN, Nat.zero_add, Option.bind_some, Option.bind_none, Option.map_some, bd2_some, b2i_0, b2i_1, b2i_t, b2i_f, ↓reduceIte, if_true, if_false, Bool.true_eq_false, Bool.false_eq_true, not_true_eq_false, not_false_eq_true, true_and, and_true, false_and, and_false, true_or, or_true, false_or, or_false, decide_true, decide_false, Bool.true_and, Bool.false_and, Bool.and_true, Bool.and_false, and_self, Nat.le_refl, Nat.lt_irrefl, ite_self, i10, i01, Option.some.injEq]
  | succ d ih =>
    intro k hk n a c Q g ha hc hm
    have h1 := cnN_le (isS g) 60 0
    have h2 := hm.2.2.2.2.2.2.2.1
    have h3 := hm.2.2.2.2.2.2.2.2
    by_cases hkn : k < n
    · obtain ⟨n', a', c', Q', g', e1, e2, e3, e4⟩ := mo_around (E := E) 60 0 rfl n a c Q g hkn ha hc hm
      obtain ⟨a2, c2, g2, f1, f2, f3⟩ := ih (k + 1) (by omega) n' a' c' Q' g' e2 e3 e4
      refine ⟨a2, c2, g2, ?_, f2, f3⟩
      rw [← f1]
      refine iter_l ?_
      unfold mo_walksFrom_b51 mo_walksFrom_L59
      simp (disch := first | omega | decide) only [nI_lel, nI_ltl, nI_ler, nI_ltr, nI_addl, nI_addr, nI_eqN, nI_leN, nI_ltN, Nat.zero_add, Option.bind_some, Option.bind_none, Option.map_some, bd2_some, b2i_0, b2i_1, b2i_t, b2i_f, ↓reduceIte, if_true, if_false, Bool.true_eq_false, Bool.false_eq_true, not_true_eq_false, not_false_eq_true, true_and, and_true, false_and, and_false, true_or, or_true, false_or, or_false, decide_true, decide_false, Bool.true_and, Bool.false_and, Bool.and_true, Bool.and_false, and_self, Nat.le_refl, Nat.lt_irrefl, ite_self, i10, i01, Option.some.injEq, show ¬ n ≤ k by omega]
      exact e1
    · have : k = n := by omega
      subst this
      refine ⟨a, c, g, iter_r ?_, ha, hm.done⟩
      unfold mo_walksFrom_b51
      rw [← h2]
      simp (disch := first | omega | decide) only [nI_lel, nI_ltl, nI_ler, nI_ltr, nI_addl, nI_addr, nI_eqN, nI_leN, nI_ltN, Nat.zero_add, Option.bind_some, Option.bind_none, Option.map_some, bd2_some, b2i_0, b2i_1, b2i_t, b2i_f, ↓reduceIte, if_true, if_false, Bool.true_eq_false, Bool.false_eq_true, not_true_eq_false, not_false_eq_true, true_and, and_true, false_and, and_false, true_or, or_true, false_or, or_false, decide_true, decide_false, Bool.true_and, Bool.false_and, Bool.and_true, Bool.and_false, and_self, Nat.le_refl, Nat.lt_irrefl, ite_self, i10, i01, Option.some.injEq]
theorem mo_walksFrom_q {s : Nat} (hs : s < 60) : ∃ a c g, mo_walksFrom (some 77) (nI s) (mkH E V) = some (nI (cnN (isS g) 60 0), mkH E (up1 (up1 V 107 a) 108 c)) ∧ encB a g ∧ Dst0 (V 78) s g := by
  unfold mo_walksFrom mo_walksFrom_0 mo_walksFrom_L2
  rw [grd_t isC_77]
  have e0 : up1 V 107 (fun i => if i < 0 then -1 else V 107 i) = V := by
    funext c
    by_cases h : c = 107
    · subst h; rw [up1_s]; funext i; exact if_neg (by omega)
    · rw [up1_n h]
  have hto := iter_to (B := fun s' : Int32 × PH => mo_walksFrom_b2 (some 77) (nI s) s'.1 s'.2) (fun i => (nI i, mkH E (up1 V 107 fun j => if j < i then -1 else V 107 j))) 60 (fun i hi => by
    unfold mo_walksFrom_b2
    simp (disch := first | omega | decide) only [nI_lel, nI_ltl, nI_ler, nI_ltr, nI_addl, nI_addr, nI_eqN, nI_leN, nI_ltN, Nat.zero_add, Option.bind_some, Option.bind_none, Option.map_some, bd2_some, b2i_0, b2i_1, b2i_t, b2i_f, ↓reduceIte, if_true, if_false, Bool.true_eq_false, Bool.false_eq_true, not_true_eq_false, not_false_eq_true, true_and, and_true, false_and, and_false, true_or, or_true, false_or, or_false, decide_true, decide_false, Bool.true_and, Bool.false_and, Bool.and_true, Bool.and_false, and_self, Nat.le_refl, Nat.lt_irrefl, ite_self, i10, i01, Option.some.injEq, up1_s, up1_up, ups, up1_x, upsn, show ¬ 60 ≤ i by omega, m_stepsTo, ast_107 hi]
    congr 4
    funext j
    by_cases h : j = i
    · subst h; rw [ups, if_pos (by omega)]
    · rw [upsn h]
      by_cases h2 : j < i
      · rw [if_pos h2, if_pos (by omega)]
      · rw [if_neg h2, if_neg (by omega)])
  rw [e0] at hto
  have hinit : encB (fun j => if j < 60 then -1 else V 107 j) (fun _ => none) := fun b hb => if_pos hb
  have a108 : ∀ {W : Nat → Nat → Int32} {v : Int32}, ast 0 (some 108) 0 v (mkH E W) = some (mkH E (up1 W 108 (upd (W 108) 0 v))) := fun {W v} => ast_108 (j := 0) (by decide)
  by_cases c : whoF (V 78) (nI s) = -2
  · have hfr : frB (V 78) s = true := decide_eq_true c
    have back : ∀ {a j : Nat}, updO (fun _ => none) s (some 0) a = some j → a = s ∧ j = 0 := fun {a j} e => by
      by_cases h : a = s
      · subst h
        rw [updO_s] at e
        exact ⟨rfl, (Option.some.inj e).symm⟩
      · rw [updO_n h] at e
        exact nomatch e
    have hz : ∀ n k, cnN (isS fun _ => none) n k = 0 := fun n => by
      induction n with
      | zero => intro k; rfl
      | succ n ih =>
        intro k
        show (if isS (fun _ => none) k = true then 1 else 0) + cnN (isS fun _ => none) n (k + 1) = 0
        rw [ih]; rfl
    have hcn : cnN (isS (updO (fun _ => none) s (some 0))) 60 0 = 1 := by
      rw [cnN_one (P := isS fun _ => none) (b := s) rfl (by unfold isS; rw [updO_s]; rfl) (fun i hi => by unfold isS; rw [updO_n hi]) 60 0 (by omega) (by omega), hz]
    have hm0 : MQu (V 78) s 0 0 1 (fun _ => s) (updO (fun _ => none) s (some 0)) := by
      refine ⟨fun b hb => ⟨fun e => (back e).1, fun e => by subst e; exact updO_s _ _ _⟩, fun b j hb e => absurd (back e).2 (by omega), fun i hi => ⟨hs, 0, updO_s _ _ _⟩, fun b d hb e => ⟨0, by omega, (back e).1.symm⟩, fun i j di dj hij hj ei ej => ?_, fun j dj dk hj hk ej ek => ?_, fun i b d hi hb hc => ?_, hcn.symm, by omega⟩
      · have := (back ei).2; omega
      · have := (back ej).2; omega
      · omega
    obtain ⟨a1, c1, g1, f1, f2, f3⟩ := mo_queue (E := E) (V := V) 60 0 rfl 1 _ (upd (V 108) 0 (nI s)) _ _ (encB_upd (q := s) (k := 0) hinit) (fun i hi => by
      have : i = 0 := by omega
      subst this
      rw [ups]) hm0
    refine ⟨a1, c1, g1, ?_, f2, by unfold Dst0; rw [if_pos hfr]; exact f3⟩
    refine hto.trans (iter_r ?_)
    unfold mo_walksFrom_b2 mo_walksFrom_L51
    simp (disch := first | omega | decide) only [nI_lel, nI_ltl, nI_ler, nI_ltr, nI_addl, nI_addr, nI_eqN, nI_leN, nI_ltN, Nat.zero_add, Option.bind_some, Option.bind_none, Option.map_some, bd2_some, b2i_0, b2i_1, b2i_t, b2i_f, ↓reduceIte, if_true, if_false, Bool.true_eq_false, Bool.false_eq_true, not_true_eq_false, not_false_eq_true, true_and, and_true, false_and, and_false, true_or, or_true, false_or, or_false, decide_true, decide_false, Bool.true_and, Bool.false_and, Bool.and_true, Bool.and_false, and_self, Nat.le_refl, Nat.lt_irrefl, ite_self, i10, i01, Option.some.injEq, up1_s, up1_up, ups, up1_x, upsn, mo_whoLies_eq, c, m_stepsTo, ast_107 hs, m_queue, a108]
    exact congrArg (Option.map Sum.inr) f1
  · have hfr : frB (V 78) s = false := decide_eq_false c
    have hz : ∀ n k, cnN (isS fun _ => none) n k = 0 := fun n => by
      induction n with
      | zero => intro k; rfl
      | succ n ih =>
        intro k
        show (if isS (fun _ => none) k = true then 1 else 0) + cnN (isS fun _ => none) n (k + 1) = 0
        rw [ih]; rfl
    refine ⟨fun j => if j < 60 then -1 else V 107 j, V 108, fun _ => none, ?_, hinit, by unfold Dst0; rw [hfr]; exact fun _ _ => rfl⟩
    rw [hz, show V 108 = up1 V 107 (fun j => if j < 60 then -1 else V 107 j) 108 from (up1_n (by decide)).symm, up1_same]
    refine hto.trans (iter_r ?_)
    unfold mo_walksFrom_b2
    simp (disch := first | omega | decide) only [nI_lel, nI_ltl, nI_ler, nI_ltr, nI_addl, nI_addr, nI_eqN, nI_leN, nI_ltN, Nat.zero_add, Option.bind_some, Option.bind_none, Option.map_some, bd2_some, b2i_0, b2i_1, b2i_t, b2i_f, ↓reduceIte, if_true, if_false, Bool.true_eq_false, Bool.false_eq_true, not_true_eq_false, not_false_eq_true, true_and, and_true, false_and, and_false, true_or, or_true, false_or, or_false, decide_true, decide_false, Bool.true_and, Bool.false_and, Bool.and_true, Bool.and_false, and_self, Nat.le_refl, Nat.lt_irrefl, ite_self, i10, i01, Option.some.injEq, up1_s, up1_up, ups, up1_x, upsn, mo_whoLies_eq, c]
    rfl
theorem Dst0.uniq {f : Nat → Int32} {s : Nat} {g g' : Nat → Option Nat} (h : Dst0 f s g) (h' : Dst0 f s g') : ∀ b, b < 60 → g b = g' b := by
  unfold Dst0 at h h'
  by_cases c : frB f s = true
  · rw [if_pos c] at h h'
    exact Dst.uniq h h'
  · rw [if_neg c] at h h'
    exact fun b hb => (h b hb).trans (h' b hb).symm
end WK
