/-! thread: both sides -/
set_option maxRecDepth 100000
theorem mxa (a b : Nat) : (if a < b then nI b else nI a) = nI (max a b) := by
  by_cases h : a < b
  · rw [if_pos h, Nat.max_eq_right (by omega)]
  · rw [if_neg h, Nat.max_eq_left (by omega)]
theorem mxb (a b : Nat) : (if a ≤ b then nI b else nI a) = nI (max a b) := by
  by_cases h : a ≤ b
  · rw [if_pos h, Nat.max_eq_right (by omega)]
  · rw [if_neg h, Nat.max_eq_left (by omega)]
section TH
variable {E : EE} {V : Nat → Nat → Int32}

theorem tp_thread_find {W : Nat → Nat → Int32} {n q : Nat} (hn : n ≤ 20) (h0 : 0 < n) {A : Nat → Nat → Bool} (hA : ∀ i j, i < 20 → j < 20 → sayA (sayN (W 63)) i j = A i j) (hq : q < thB A n n) : tp_thread_L159 (some 7) (nI q) (nI (thB A n n)) 0 (mkH E (up1 W 75 (thA A n (W 75) n))) = some (nI (thC A n q), mkH E (up1 W 75 (thA A n (W 75) n))) := by
  have hsay : ∀ i, i < 20 → tp_saying (some 7) (nI i) (mkH E (up1 W 75 (thA A n (W 75) n))) = some (nI (sayN (W 63) i)) := fun i hi => by rw [tp_saying_eq hi, up1_n (by decide)]
  have hand : ∀ i j, i < 20 → j < 20 → (nI (sayN (W 63) i) &&& nI (sayN (W 63) j) = 0) = (A i j = false) := fun i j hi hj => by rw [say_and _ (sayN_lt _), hA i j hi hj]
  have hL : ∀ x, x < n → thL A n n x ≤ 20 := fun x hx => by have := thL_le A n n (Nat.le_refl n) x hx; omega
  have hB : thB A n n ≤ n := thB_le A n (Nat.le_refl n)
  have hrd : ∀ x, x < n → thA A n (W 75) n x = nI (thL A n n x) := fun x hx => if_pos (by omega)
  have hchain : tp_thread_L179 (some 7) (nI q) (nI (thC A n 0)) 0 (mkH E (up1 W 75 (thA A n (W 75) n))) = some (nI (thC A n q), mkH E (up1 W 75 (thA A n (W 75) n))) := by
    unfold tp_thread_L179
    refine iter_toR (B := fun s : Int32 × Int32 => tp_thread_b179 (some 7) (nI q) s.1 s.2 (mkH E (up1 W 75 (thA A n (W 75) n)))) (fun k => (nI (thC A n k), nI k)) q (fun k hk => ?_) (by
      unfold tp_thread_b179
      simp (disch := first | omega | decide) only [nI_lel, nI_ltl, nI_ler, nI_ltr, nI_addl, nI_addr, nI_eqN, nI_leN, nI_ltN, Nat.zero_add, Option.bind_some, Option.bind_none, Option.map_some, bd2_some, b2i_0, b2i_1, b2i_t, b2i_f, ↓reduceIte, if_true, if_false, Bool.true_eq_false, Bool.false_eq_true, not_true_eq_false, not_false_eq_true, true_and, and_true, false_and, and_false, true_or, or_true, false_or, or_false, decide_true, decide_false, Bool.true_and, Bool.false_and, Bool.and_true, Bool.and_false, and_self, Nat.le_refl, Nat.lt_irrefl, ite_self, i10, i01, Option.some.injEq])
    obtain ⟨c1, c2⟩ := thC_ok A h0 k (by omega)
    unfold tp_thread_b179 tp_thread_L192
    simp (disch := first | omega | decide) only [nI_lel, nI_ltl, nI_ler, nI_ltr, nI_addl, nI_addr, nI_eqN, nI_leN, nI_ltN, Nat.zero_add, Option.bind_some, Option.bind_none, Option.map_some, bd2_some, b2i_0, b2i_1, b2i_t, b2i_f, ↓reduceIte, if_true, if_false, Bool.true_eq_false, Bool.false_eq_true, not_true_eq_false, not_false_eq_true, true_and, and_true, false_and, and_false, true_or, or_true, false_or, or_false, decide_true, decide_false, Bool.true_and, Bool.false_and, Bool.and_true, Bool.and_false, and_self, Nat.le_refl, Nat.lt_irrefl, ite_self, i10, i01, Option.some.injEq, show ¬ q ≤ k by omega]
    refine iter_srch (B := fun s : Int32 => tp_thread_b192 (some 7) (nI q) s (nI k) (nI (thC A n k)) (mkH E (up1 W 75 (thA A n (W 75) n)))) (P := fun j => decide (thL A n n j = thB A n n - (k + 1)) && A (thC A n k) j) (g := fun j => .inl (nI j, nI (k + 1))) nI (n - (thC A n k + 1)) (thC A n k + 1) (thC_s A h0 (by omega)) (fun j j1 j2 => ?_)
    unfold tp_thread_b192
    have hsub : nI (thL A n n (thC A n k)) - 1 = nI (thB A n n - (k + 1)) := by
      rw [c2, show thB A n n - k = (thB A n n - (k + 1)) + 1 by omega]
      exact dI_s _
    have b1 := hL j (by omega)
    simp (disch := first | omega | decide) only [nI_lel, nI_ltl, nI_ler, nI_ltr, nI_addl, nI_addr, nI_eqN, nI_leN, nI_ltN, Nat.zero_add, Option.bind_some, Option.bind_none, Option.map_some, bd2_some, b2i_0, b2i_1, b2i_t, b2i_f, ↓reduceIte, if_true, if_false, Bool.true_eq_false, Bool.false_eq_true, not_true_eq_false, not_false_eq_true, true_and, and_true, false_and, and_false, true_or, or_true, false_or, or_false, decide_true, decide_false, Bool.true_and, Bool.false_and, Bool.and_true, Bool.and_false, and_self, Nat.le_refl, Nat.lt_irrefl, ite_self, i10, i01, Option.some.injEq, up1_s, up1_up, ups, up1_x, upsn, x_longest, ald_75 (show j < 20 by omega), ald_75 (show thC A n k < 20 by omega), hrd j (by omega), hrd _ c1, hsub, hsay (thC A n k) (by omega), hsay j (by omega), hand]
    by_cases d : thL A n n j = thB A n n - (k + 1)
    · cases A (thC A n k) j <;> simp (disch := first | omega | decide) only [nI_lel, nI_ltl, nI_ler, nI_ltr, nI_addl, nI_addr, nI_eqN, nI_leN, nI_ltN, Nat.zero_add, Option.bind_some, Option.bind_none, Option.map_some, bd2_some, b2i_0, b2i_1, b2i_t, b2i_f, ↓reduceIte, if_true, if_false, Bool.true_eq_false, Bool.false_eq_true, not_true_eq_false, not_false_eq_true, true_and, and_true, false_and, and_false, true_or, or_true, false_or, or_false, decide_true, decide_false, Bool.true_and, Bool.false_and, Bool.and_true, Bool.and_false, and_self, Nat.le_refl, Nat.lt_irrefl, ite_self, i10, i01, Option.some.injEq, d]
    · simp (disch := first | omega | decide) only [nI_lel, nI_ltl, nI_ler, nI_ltr, nI_addl, nI_addr, nI_eqN, nI_leN, nI_ltN, Nat.zero_add, Option.bind_some, Option.bind_none, Option.map_some, bd2_some, b2i_0, b2i_1, b2i_t, b2i_f, ↓reduceIte, if_true, if_false, Bool.true_eq_false, Bool.false_eq_true, not_true_eq_false, not_false_eq_true, true_and, and_true, false_and, and_false, true_or, or_true, false_or, or_false, decide_true, decide_false, Bool.true_and, Bool.false_and, Bool.and_true, Bool.and_false, and_self, Nat.le_refl, Nat.lt_irrefl, ite_self, i10, i01, Option.some.injEq, d]
  unfold tp_thread_L159
  refine iter_srch2 (B := fun s : Int32 => tp_thread_b159 (some 7) (nI q) (nI (thB A n n)) s (mkH E (up1 W 75 (thA A n (W 75) n)))) (P := fun i => decide (thL A n n i = thB A n n)) (r := 0) nI n 0 (thC_0 A h0) (fun i _ hi hp => ?_) ?_
  · unfold tp_thread_b159
    have b1 := hL i (by omega)
    have d : ¬ thL A n n i = thB A n n := of_decide_eq_false hp
    simp (disch := first | omega | decide) only [nI_lel, nI_ltl, nI_ler, nI_ltr, nI_addl, nI_addr, nI_eqN, nI_leN, nI_ltN, Nat.zero_add, Option.bind_some, Option.bind_none, Option.map_some, bd2_some, b2i_0, b2i_1, b2i_t, b2i_f, ↓reduceIte, if_true, if_false, Bool.true_eq_false, Bool.false_eq_true, not_true_eq_false, not_false_eq_true, true_and, and_true, false_and, and_false, true_or, or_true, false_or, or_false, decide_true, decide_false, Bool.true_and, Bool.false_and, Bool.and_true, Bool.and_false, and_self, Nat.le_refl, Nat.lt_irrefl, ite_self, i10, i01, Option.some.injEq, up1_s, up1_up, ups, up1_x, upsn, x_longest, ald_75 (show i < 20 by omega), hrd i (by omega), d]
  · show tp_thread_b159 (some 7) (nI q) (nI (thB A n n)) (nI (thC A n 0)) (mkH E (up1 W 75 (thA A n (W 75) n))) = _
    obtain ⟨c1, c2⟩ := thC_ok A h0 0 (by omega)
    unfold tp_thread_b159
    simp (disch := first | omega | decide) only [nI_lel, nI_ltl, nI_ler, nI_ltr, nI_addl, nI_addr, nI_eqN, nI_leN, nI_ltN, Nat.zero_add, Option.bind_some, Option.bind_none, Option.map_some, bd2_some, b2i_0, b2i_1, b2i_t, b2i_f, ↓reduceIte, if_true, if_false, Bool.true_eq_false, Bool.false_eq_true, not_true_eq_false, not_false_eq_true, true_and, and_true, false_and, and_false, true_or, or_true, false_or, or_false, decide_true, decide_false, Bool.true_and, Bool.false_and, Bool.and_true, Bool.and_false, and_self, Nat.le_refl, Nat.lt_irrefl, ite_self, i10, i01, Option.some.injEq, up1_s, up1_up, ups, up1_x, upsn, x_longest, ald_75 (show thC A n 0 < 20 by omega), hrd _ c1, c2, Nat.sub_zero, hchain]

theorem tp_thread_main {W : Nat → Nat → Int32} {n : Nat} {A : Nat → Nat → Bool} (hA : ∀ i j, i < 20 → j < 20 → sayA (sayN (W 63)) i j = A i j) (hn : n ≤ 20) (h0 : 0 < n) (v : Int32) (hv : v = 100 ∨ ∃ k, k < 20 ∧ v = nI k) : tp_thread_L49 (some 7) (nI n) v 0 (dI n) (mkH E W) = some (thF A n v, mkH E (up1 W 75 (thA A n (W 75) n))) := by
  have hsay : ∀ (g : Nat → Int32) i, i < 20 → tp_saying (some 7) (nI i) (mkH E (up1 W 75 g)) = some (nI (sayN (W 63) i)) := fun g i hi => by rw [tp_saying_eq hi, up1_n (by decide)]
  have hand : ∀ i j, i < 20 → j < 20 → (nI (sayN (W 63) i) &&& nI (sayN (W 63) j) = 0) = (A i j = false) := fun i j hi hj => by rw [say_and _ (sayN_lt _), hA i j hi hj]
  have e0 : up1 W 75 (thA A n (W 75) 0) = W := by
    funext c
    by_cases h : c = 75
    · subst h
      rw [up1_s]
      funext i
      exact if_neg (by omega)
    · rw [up1_n h]
  have hL : ∀ x, x < n → thL A n n x ≤ 20 := fun x hx => by have := thL_le A n n (Nat.le_refl n) x hx; omega
  have hB : thB A n n ≤ n := thB_le A n (Nat.le_refl n)
  have hrd : ∀ x, x < n → thA A n (W 75) n x = nI (thL A n n x) := fun x hx => if_pos (by omega)
  unfold tp_thread_L49
  have := iter_toR (B := fun s : Int32 × Int32 × PH => tp_thread_b49 (some 7) (nI n) v s.1 s.2.1 s.2.2) (fun k => (nI (thB A n k), dI (n - k), mkH E (up1 W 75 (thA A n (W 75) k)))) n (r := (thF A n v, mkH E (up1 W 75 (thA A n (W 75) n)))) (fun k hk => ?_) ?_
  · rw [e0, Nat.sub_zero] at this
    exact this
  · obtain ⟨i, hi⟩ : ∃ i, n - k = i + 1 := ⟨n - 1 - k, by omega⟩
    have hi2 : i = n - 1 - k := by omega
    unfold tp_thread_b49
    simp (disch := first | omega | decide) only [nI_lel, nI_ltl, nI_ler, nI_ltr, nI_addl, nI_addr, nI_eqN, nI_leN, nI_ltN, Nat.zero_add, Option.bind_some, Option.bind_none, Option.map_some, bd2_some, b2i_0, b2i_1, b2i_t, b2i_f, ↓reduceIte, if_true, if_false, Bool.true_eq_false, Bool.false_eq_true, not_true_eq_false, not_false_eq_true, true_and, and_true, false_and, and_false, true_or, or_true, false_or, or_false, decide_true, decide_false, Bool.true_and, Bool.false_and, Bool.and_true, Bool.and_false, and_self, Nat.le_refl, Nat.lt_irrefl, ite_self, i10, i01, Option.some.injEq, up1_s, up1_up, ups, up1_x, upsn, hi, dI_s, nI_n0 (show i < 2 ^ 31 by omega), x_longest, ast_75 (show i < 20 by omega)]
    unfold tp_thread_L68
    rw [show (1 : Int32) = nI (thV A (thL A n k) i 0) from rfl]
    refine iter_toR (B := fun s : Int32 × PH => tp_thread_b68 (some 7) (nI n) v (nI (thB A n k)) (nI i) s.1 s.2) (fun t => (nI (i + 1 + t), mkH E (up1 W 75 (upd (thA A n (W 75) k) i (nI (thV A (thL A n k) i t)))))) k (fun t ht => ?_) ?_
    · unfold tp_thread_b68
      have hj : thA A n (W 75) k (i + 1 + t) = nI (thL A n k (i + 1 + t)) := if_pos (by omega)
      have b1 : thL A n k (i + 1 + t) ≤ 20 := by have := thL_le A n k (by omega) (i + 1 + t) (by omega); omega
      have b2 : thV A (thL A n k) i t ≤ 21 := by
        rcases thV_at A (thL A n k) i t with e | ⟨t', h1, h2, h3⟩
        · omega
        · have := thL_le A n k (by omega) (i + 1 + t') (by omega); omega
      rw [show thV A (thL A n k) i (t + 1) = if A i (i + 1 + t) = true then max (thV A (thL A n k) i t) (thL A n k (i + 1 + t) + 1) else thV A (thL A n k) i t from rfl]
      simp (disch := first | omega | decide) only [nI_lel, nI_ltl, nI_ler, nI_ltr, nI_addl, nI_addr, nI_eqN, nI_leN, nI_ltN, Nat.zero_add, Option.bind_some, Option.bind_none, Option.map_some, bd2_some, b2i_0, b2i_1, b2i_t, b2i_f, ↓reduceIte, if_true, if_false, Bool.true_eq_false, Bool.false_eq_true, not_true_eq_false, not_false_eq_true, true_and, and_true, false_and, and_false, true_or, or_true, false_or, or_false, decide_true, decide_false, Bool.true_and, Bool.false_and, Bool.and_true, Bool.and_false, and_self, Nat.le_refl, Nat.lt_irrefl, ite_self, i10, i01, Option.some.injEq, up1_s, up1_up, ups, up1_x, upsn, show ¬ n ≤ i + 1 + t by omega, hsay _ i (by omega), hsay _ (i + 1 + t) (by omega), hand, x_longest, ald_75 (show i < 20 by omega), ald_75 (show i + 1 + t < 20 by omega), show i + 1 + t ≠ i by omega, hj, jM_max_eq, mxa, ast_75 (show i < 20 by omega), upd_upd]
      cases A i (i + 1 + t) <;> simp (disch := first | omega | decide) only [nI_lel, nI_ltl, nI_ler, nI_ltr, nI_addl, nI_addr, nI_eqN, nI_leN, nI_ltN, Nat.zero_add, Option.bind_some, Option.bind_none, Option.map_some, bd2_some, b2i_0, b2i_1, b2i_t, b2i_f, ↓reduceIte, if_true, if_false, Bool.true_eq_false, Bool.false_eq_true, not_true_eq_false, not_false_eq_true, true_and, and_true, false_and, and_false, true_or, or_true, false_or, or_false, decide_true, decide_false, Bool.true_and, Bool.false_and, Bool.and_true, Bool.and_false, and_self, Nat.le_refl, Nat.lt_irrefl, ite_self, i10, i01, Option.some.injEq, Nat.add_assoc]
    · unfold tp_thread_b68
      have b1 : thB A n k ≤ n := thB_le A k (by omega)
      have b2 : thL A n (k + 1) i ≤ 20 := by have := thL_le A n (k + 1) (by omega) i (by omega); omega
      have e3 : thV A (thL A n k) i k = thL A n (k + 1) i := by
        show _ = if i = n - 1 - k then _ else _
        rw [if_pos hi2, ← hi2]
      rw [show thB A n (k + 1) = max (thB A n k) (thL A n (k + 1) (n - 1 - k)) from rfl, ← hi2, ← thA_s A (W 75) hk, ← hi2, show n - (k + 1) = i by omega]
      simp (disch := first | omega | decide) only [nI_lel, nI_ltl, nI_ler, nI_ltr, nI_addl, nI_addr, nI_eqN, nI_leN, nI_ltN, Nat.zero_add, Option.bind_some, Option.bind_none, Option.map_some, bd2_some, b2i_0, b2i_1, b2i_t, b2i_f, ↓reduceIte, if_true, if_false, Bool.true_eq_false, Bool.false_eq_true, not_true_eq_false, not_false_eq_true, true_and, and_true, false_and, and_false, true_or, or_true, false_or, or_false, decide_true, decide_false, Bool.true_and, Bool.false_and, Bool.and_true, Bool.and_false, and_self, Nat.le_refl, Nat.lt_irrefl, ite_self, i10, i01, Option.some.injEq, up1_s, up1_up, ups, up1_x, upsn, show n ≤ i + 1 + k by omega, x_longest, ald_75 (show i < 20 by omega), jM_max_eq, dI_m]
      rw [e3, mxa]
  · unfold tp_thread_b49 thF
    rw [Nat.sub_self]
    simp (disch := first | omega | decide) only [nI_lel, nI_ltl, nI_ler, nI_ltr, nI_addl, nI_addr, nI_eqN, nI_leN, nI_ltN, Nat.zero_add, Option.bind_some, Option.bind_none, Option.map_some, bd2_some, b2i_0, b2i_1, b2i_t, b2i_f, ↓reduceIte, if_true, if_false, Bool.true_eq_false, Bool.false_eq_true, not_true_eq_false, not_false_eq_true, true_and, and_true, false_and, and_false, true_or, or_true, false_or, or_false, decide_true, decide_false, Bool.true_and, Bool.false_and, Bool.and_true, Bool.and_false, and_self, Nat.le_refl, Nat.lt_irrefl, ite_self, i10, i01, Option.some.injEq, dI_z]
    by_cases c1 : v = 100
    · simp (disch := first | omega | decide) only [nI_lel, nI_ltl, nI_ler, nI_ltr, nI_addl, nI_addr, nI_eqN, nI_leN, nI_ltN, Nat.zero_add, Option.bind_some, Option.bind_none, Option.map_some, bd2_some, b2i_0, b2i_1, b2i_t, b2i_f, ↓reduceIte, if_true, if_false, Bool.true_eq_false, Bool.false_eq_true, not_true_eq_false, not_false_eq_true, true_and, and_true, false_and, and_false, true_or, or_true, false_or, or_false, decide_true, decide_false, Bool.true_and, Bool.false_and, Bool.and_true, Bool.and_false, and_self, Nat.le_refl, Nat.lt_irrefl, ite_self, i10, i01, Option.some.injEq, c1]
    · simp (disch := first | omega | decide) only [nI_lel, nI_ltl, nI_ler, nI_ltr, nI_addl, nI_addr, nI_eqN, nI_leN, nI_ltN, Nat.zero_add, Option.bind_some, Option.bind_none, Option.map_some, bd2_some, b2i_0, b2i_1, b2i_t, b2i_f, ↓reduceIte, if_true, if_false, Bool.true_eq_false, Bool.false_eq_true, not_true_eq_false, not_false_eq_true, true_and, and_true, false_and, and_false, true_or, or_true, false_or, or_false, decide_true, decide_false, Bool.true_and, Bool.false_and, Bool.and_true, Bool.and_false, and_self, Nat.le_refl, Nat.lt_irrefl, ite_self, i10, i01, Option.some.injEq, c1]
      rcases hv with hv | ⟨q, hq, rfl⟩
      · exact absurd hv c1
      · simp (disch := first | omega | decide) only [nI_lel, nI_ltl, nI_ler, nI_ltr, nI_addl, nI_addr, nI_eqN, nI_leN, nI_ltN, Nat.zero_add, Option.bind_some, Option.bind_none, Option.map_some, bd2_some, b2i_0, b2i_1, b2i_t, b2i_f, ↓reduceIte, if_true, if_false, Bool.true_eq_false, Bool.false_eq_true, not_true_eq_false, not_false_eq_true, true_and, and_true, false_and, and_false, true_or, or_true, false_or, or_false, decide_true, decide_false, Bool.true_and, Bool.false_and, Bool.and_true, Bool.and_false, and_self, Nat.le_refl, Nat.lt_irrefl, ite_self, i10, i01, Option.some.injEq, nI_clamp (show q < 2 ^ 31 by omega)]
        by_cases c2 : q < thB A n n
        · simp (disch := first | omega | decide) only [nI_lel, nI_ltl, nI_ler, nI_ltr, nI_addl, nI_addr, nI_eqN, nI_leN, nI_ltN, Nat.zero_add, Option.bind_some, Option.bind_none, Option.map_some, bd2_some, b2i_0, b2i_1, b2i_t, b2i_f, ↓reduceIte, if_true, if_false, Bool.true_eq_false, Bool.false_eq_true, not_true_eq_false, not_false_eq_true, true_and, and_true, false_and, and_false, true_or, or_true, false_or, or_false, decide_true, decide_false, Bool.true_and, Bool.false_and, Bool.and_true, Bool.and_false, and_self, Nat.le_refl, Nat.lt_irrefl, ite_self, i10, i01, Option.some.injEq, c2]
          have hf := tp_thread_find (E := E) (W := W) hn h0 hA c2
          simp (disch := first | omega | decide) only [nI_lel, nI_ltl, nI_ler, nI_ltr, nI_addl, nI_addr, nI_eqN, nI_leN, nI_ltN, Nat.zero_add, Option.bind_some, Option.bind_none, Option.map_some, bd2_some, b2i_0, b2i_1, b2i_t, b2i_f, ↓reduceIte, if_true, if_false, Bool.true_eq_false, Bool.false_eq_true, not_true_eq_false, not_false_eq_true, true_and, and_true, false_and, and_false, true_or, or_true, false_or, or_false, decide_true, decide_false, Bool.true_and, Bool.false_and, Bool.and_true, Bool.and_false, and_self, Nat.le_refl, Nat.lt_irrefl, ite_self, i10, i01, Option.some.injEq, hf]
        · simp (disch := first | omega | decide) only [nI_lel, nI_ltl, nI_ler, nI_ltr, nI_addl, nI_addr, nI_eqN, nI_leN, nI_ltN, Nat.zero_add, Option.bind_some, Option.bind_none, Option.map_some, bd2_some, b2i_0, b2i_1, b2i_t, b2i_f, ↓reduceIte, if_true, if_false, Bool.true_eq_false, Bool.false_eq_true, not_true_eq_false, not_false_eq_true, true_and, and_true, false_and, and_false, true_or, or_true, false_or, or_false, decide_true, decide_false, Bool.true_and, Bool.false_and, Bool.and_true, Bool.and_false, and_self, Nat.le_refl, Nat.lt_irrefl, ite_self, i10, i01, Option.some.injEq, c2]

theorem mo_thread_find {W : Nat → Nat → Int32} {n q : Nat} (hn : n ≤ 20) (h0 : 0 < n) {A : Nat → Nat → Bool} (hA : ∀ i j, i < 20 → j < 20 → sayA (sayN (W 81)) i j = A i j) (hq : q < thB A n n) : mo_thread_L160 (some 77) (nI q) (nI (thB A n n)) 0 (mkH E (up1 W 106 (thA A n (W 106) n))) = some (nI (thC A n q), mkH E (up1 W 106 (thA A n (W 106) n))) := by
  have hsay : ∀ i, i < 20 → mo_sayingOf (some 77) (nI i) (mkH E (up1 W 106 (thA A n (W 106) n))) = some (nI (sayN (W 81) i)) := fun i hi => by rw [mo_saying_eq hi, up1_n (by decide)]
  have hand : ∀ i j, i < 20 → j < 20 → (nI (sayN (W 81) i) &&& nI (sayN (W 81) j) = 0) = (A i j = false) := fun i j hi hj => by rw [say_and _ (sayN_lt _), hA i j hi hj]
  have hL : ∀ x, x < n → thL A n n x ≤ 20 := fun x hx => by have := thL_le A n n (Nat.le_refl n) x hx; omega
  have hB : thB A n n ≤ n := thB_le A n (Nat.le_refl n)
  have hrd : ∀ x, x < n → thA A n (W 106) n x = nI (thL A n n x) := fun x hx => if_pos (by omega)
  have hchain : mo_thread_L183 (some 77) (nI q) (nI (thB A n n)) (nI (thC A n 0)) 1 (mkH E (up1 W 106 (thA A n (W 106) n))) = some (nI (thC A n q), mkH E (up1 W 106 (thA A n (W 106) n))) := by
    unfold mo_thread_L183
    refine iter_toR (B := fun s : Int32 × Int32 => mo_thread_b183 (some 77) (nI q) (nI (thB A n n)) s.1 s.2 (mkH E (up1 W 106 (thA A n (W 106) n)))) (fun k => (nI (thC A n k), nI (1 + k))) q (fun k hk => ?_) (by
      unfold mo_thread_b183
      simp (disch := first | omega | decide) only [nI_lel, nI_ltl, nI_ler, nI_ltr, nI_addl, nI_addr, nI_eqN, nI_leN, nI_ltN, Nat.zero_add, Option.bind_some, Option.bind_none, Option.map_some, bd2_some, b2i_0, b2i_1, b2i_t, b2i_f, ↓reduceIte, if_true, if_false, Bool.true_eq_false, Bool.false_eq_true, not_true_eq_false, not_false_eq_true, true_and, and_true, false_and, and_false, true_or, or_true, false_or, or_false, decide_true, decide_false, Bool.true_and, Bool.false_and, Bool.and_true, Bool.and_false, and_self, Nat.le_refl, Nat.lt_irrefl, ite_self, i10, i01, Option.some.injEq, show q < 1 + q by omega])
    obtain ⟨c1, c2⟩ := thC_ok A h0 k (by omega)
    unfold mo_thread_b183 mo_thread_L195
    simp (disch := first | omega | decide) only [nI_lel, nI_ltl, nI_ler, nI_ltr, nI_addl, nI_addr, nI_eqN, nI_leN, nI_ltN, Nat.zero_add, Option.bind_some, Option.bind_none, Option.map_some, bd2_some, b2i_0, b2i_1, b2i_t, b2i_f, ↓reduceIte, if_true, if_false, Bool.true_eq_false, Bool.false_eq_true, not_true_eq_false, not_false_eq_true, true_and, and_true, false_and, and_false, true_or, or_true, false_or, or_false, decide_true, decide_false, Bool.true_and, Bool.false_and, Bool.and_true, Bool.and_false, and_self, Nat.le_refl, Nat.lt_irrefl, ite_self, i10, i01, Option.some.injEq, show ¬ q < 1 + k by omega]
    refine iter_srch (B := fun s : Int32 => mo_thread_b195 (some 77) (nI q) (nI (thB A n n)) (nI (thC A n k)) (nI (1 + k)) s (mkH E (up1 W 106 (thA A n (W 106) n)))) (P := fun j => decide (thL A n n j = thB A n n - (k + 1)) && A (thC A n k) j) (g := fun j => .inl (nI j, nI (1 + (k + 1)))) nI (n - (thC A n k + 1)) (thC A n k + 1) (thC_s A h0 (by omega)) (fun j j1 j2 => ?_)
    unfold mo_thread_b195
    have hsub : nI (thB A n n) - nI (1 + k) = nI (thB A n n - (k + 1)) := by
      apply Int32.toInt_inj.1
      rw [nI_subc (by omega) (by omega), nI_toInt (by omega)]
      omega
    have b1 := hL j (by omega)
    simp (disch := first | omega | decide) only [nI_lel, nI_ltl, nI_ler, nI_ltr, nI_addl, nI_addr, nI_eqN, nI_leN, nI_ltN, Nat.zero_add, Option.bind_some, Option.bind_none, Option.map_some, bd2_some, b2i_0, b2i_1, b2i_t, b2i_f, ↓reduceIte, if_true, if_false, Bool.true_eq_false, Bool.false_eq_true, not_true_eq_false, not_false_eq_true, true_and, and_true, false_and, and_false, true_or, or_true, false_or, or_false, decide_true, decide_false, Bool.true_and, Bool.false_and, Bool.and_true, Bool.and_false, and_self, Nat.le_refl, Nat.lt_irrefl, ite_self, i10, i01, Option.some.injEq, up1_s, up1_up, ups, up1_x, upsn, m_longFrom, ald_106 (show j < 20 by omega), hrd j (by omega), hsub, hsay (thC A n k) (by omega), hsay j (by omega), hand, show 1 + k + 1 = 1 + (k + 1) by omega]
    by_cases d : thL A n n j = thB A n n - (k + 1)
    · cases A (thC A n k) j <;> simp (disch := first | omega | decide) only [nI_lel, nI_ltl, nI_ler, nI_ltr, nI_addl, nI_addr, nI_eqN, nI_leN, nI_ltN, Nat.zero_add, Option.bind_some, Option.bind_none, Option.map_some, bd2_some, b2i_0, b2i_1, b2i_t, b2i_f, ↓reduceIte, if_true, if_false, Bool.true_eq_false, Bool.false_eq_true, not_true_eq_false, not_false_eq_true, true_and, and_true, false_and, and_false, true_or, or_true, false_or, or_false, decide_true, decide_false, Bool.true_and, Bool.false_and, Bool.and_true, Bool.and_false, and_self, Nat.le_refl, Nat.lt_irrefl, ite_self, i10, i01, Option.some.injEq, d]
    · simp (disch := first | omega | decide) only [nI_lel, nI_ltl, nI_ler, nI_ltr, nI_addl, nI_addr, nI_eqN, nI_leN, nI_ltN, Nat.zero_add, Option.bind_some, Option.bind_none, Option.map_some, bd2_some, b2i_0, b2i_1, b2i_t, b2i_f, ↓reduceIte, if_true, if_false, Bool.true_eq_false, Bool.false_eq_true, not_true_eq_false, not_false_eq_true, true_and, and_true, false_and, and_false, true_or, or_true, false_or, or_false, decide_true, decide_false, Bool.true_and, Bool.false_and, Bool.and_true, Bool.and_false, and_self, Nat.le_refl, Nat.lt_irrefl, ite_self, i10, i01, Option.some.injEq, d]
  unfold mo_thread_L160
  refine iter_srch2 (B := fun s : Int32 => mo_thread_b160 (some 77) (nI q) (nI (thB A n n)) s (mkH E (up1 W 106 (thA A n (W 106) n)))) (P := fun i => decide (thL A n n i = thB A n n)) (r := 0) nI n 0 (thC_0 A h0) (fun i _ hi hp => ?_) ?_
  · unfold mo_thread_b160
    have b1 := hL i (by omega)
    have d : ¬ thL A n n i = thB A n n := of_decide_eq_false hp
    simp (disch := first | omega | decide) only [nI_lel, nI_ltl, nI_ler, nI_ltr, nI_addl, nI_addr, nI_eqN, nI_leN, nI_ltN, Nat.zero_add, Option.bind_some, Option.bind_none, Option.map_some, bd2_some, b2i_0, b2i_1, b2i_t, b2i_f, ↓reduceIte, if_true, if_false, Bool.true_eq_false, Bool.false_eq_true, not_true_eq_false, not_false_eq_true, true_and, and_true, false_and, and_false, true_or, or_true, false_or, or_false, decide_true, decide_false, Bool.true_and, Bool.false_and, Bool.and_true, Bool.and_false, and_self, Nat.le_refl, Nat.lt_irrefl, ite_self, i10, i01, Option.some.injEq, up1_s, up1_up, ups, up1_x, upsn, m_longFrom, ald_106 (show i < 20 by omega), hrd i (by omega), d]
  · show mo_thread_b160 (some 77) (nI q) (nI (thB A n n)) (nI (thC A n 0)) (mkH E (up1 W 106 (thA A n (W 106) n))) = _
    obtain ⟨c1, c2⟩ := thC_ok A h0 0 (by omega)
    unfold mo_thread_b160
    simp (disch := first | omega | decide) only [nI_lel, nI_ltl, nI_ler, nI_ltr, nI_addl, nI_addr, nI_eqN, nI_leN, nI_ltN, Nat.zero_add, Option.bind_some, Option.bind_none, Option.map_some, bd2_some, b2i_0, b2i_1, b2i_t, b2i_f, ↓reduceIte, if_true, if_false, Bool.true_eq_false, Bool.false_eq_true, not_true_eq_false, not_false_eq_true, true_and, and_true, false_and, and_false, true_or, or_true, false_or, or_false, decide_true, decide_false, Bool.true_and, Bool.false_and, Bool.and_true, Bool.and_false, and_self, Nat.le_refl, Nat.lt_irrefl, ite_self, i10, i01, Option.some.injEq, up1_s, up1_up, ups, up1_x, upsn, m_longFrom, ald_106 (show thC A n 0 < 20 by omega), hrd _ c1, c2, Nat.sub_zero, hchain]

theorem mo_thread_main {W : Nat → Nat → Int32} {n : Nat} {A : Nat → Nat → Bool} (hA : ∀ i j, i < 20 → j < 20 → sayA (sayN (W 81)) i j = A i j) (hn : n ≤ 20) (h0 : 0 < n) (v : Int32) (hv : v = 100 ∨ ∃ k, k < 20 ∧ v = nI k) : mo_thread_L50 (some 77) (nI n) v 0 (dI n) (mkH E W) = some (thF A n v, mkH E (up1 W 106 (thA A n (W 106) n))) := by
  have hsay : ∀ (g : Nat → Int32) i, i < 20 → mo_sayingOf (some 77) (nI i) (mkH E (up1 W 106 g)) = some (nI (sayN (W 81) i)) := fun g i hi => by rw [mo_saying_eq hi, up1_n (by decide)]
  have hand : ∀ i j, i < 20 → j < 20 → (nI (sayN (W 81) i) &&& nI (sayN (W 81) j) = 0) = (A i j = false) := fun i j hi hj => by rw [say_and _ (sayN_lt _), hA i j hi hj]
  have e0 : up1 W 106 (thA A n (W 106) 0) = W := by
    funext c
    by_cases h : c = 106
    · subst h
      rw [up1_s]
      funext i
      exact if_neg (by omega)
    · rw [up1_n h]
  have hL : ∀ x, x < n → thL A n n x ≤ 20 := fun x hx => by have := thL_le A n n (Nat.le_refl n) x hx; omega
  have hB : thB A n n ≤ n := thB_le A n (Nat.le_refl n)
  have hrd : ∀ x, x < n → thA A n (W 106) n x = nI (thL A n n x) := fun x hx => if_pos (by omega)
  unfold mo_thread_L50
  have := iter_toR (B := fun s : Int32 × Int32 × PH => mo_thread_b50 (some 77) (nI n) v s.1 s.2.1 s.2.2) (fun k => (nI (thB A n k), dI (n - k), mkH E (up1 W 106 (thA A n (W 106) k)))) n (r := (thF A n v, mkH E (up1 W 106 (thA A n (W 106) n)))) (fun k hk => ?_) ?_
  · rw [e0, Nat.sub_zero] at this
    exact this
  · obtain ⟨i, hi⟩ : ∃ i, n - k = i + 1 := ⟨n - 1 - k, by omega⟩
    have hi2 : i = n - 1 - k := by omega
    unfold mo_thread_b50
    simp (disch := first | omega | decide) only [nI_lel, nI_ltl, nI_ler, nI_ltr, nI_addl, nI_addr, nI_eqN, nI_leN, nI_ltN, Nat.zero_add, Option.bind_some, Option.bind_none, Option.map_some, bd2_some, b2i_0, b2i_1, b2i_t, b2i_f, ↓reduceIte, if_true, if_false, Bool.true_eq_false, Bool.false_eq_true, not_true_eq_false, not_false_eq_true, true_and, and_true, false_and, and_false, true_or, or_true, false_or, or_false, decide_true, decide_false, Bool.true_and, Bool.false_and, Bool.and_true, Bool.and_false, and_self, Nat.le_refl, Nat.lt_irrefl, ite_self, i10, i01, Option.some.injEq, up1_s, up1_up, ups, up1_x, upsn, hi, dI_s, nI_n0 (show i < 2 ^ 31 by omega), m_longFrom, ast_106 (show i < 20 by omega)]
    unfold mo_thread_L69
    rw [show (1 : Int32) = nI (thV A (thL A n k) i 0) from rfl]
    refine iter_toR (B := fun s : Int32 × PH => mo_thread_b69 (some 77) (nI n) v (nI (thB A n k)) (nI i) s.1 s.2) (fun t => (nI (i + 1 + t), mkH E (up1 W 106 (upd (thA A n (W 106) k) i (nI (thV A (thL A n k) i t)))))) k (fun t ht => ?_) ?_
    · unfold mo_thread_b69
      have hj : thA A n (W 106) k (i + 1 + t) = nI (thL A n k (i + 1 + t)) := if_pos (by omega)
      have b1 : thL A n k (i + 1 + t) ≤ 20 := by have := thL_le A n k (by omega) (i + 1 + t) (by omega); omega
      have b2 : thV A (thL A n k) i t ≤ 21 := by
        rcases thV_at A (thL A n k) i t with e | ⟨t', h1, h2, h3⟩
        · omega
        · have := thL_le A n k (by omega) (i + 1 + t') (by omega); omega
      rw [show thV A (thL A n k) i (t + 1) = if A i (i + 1 + t) = true then max (thV A (thL A n k) i t) (thL A n k (i + 1 + t) + 1) else thV A (thL A n k) i t from rfl]
      simp (disch := first | omega | decide) only [nI_lel, nI_ltl, nI_ler, nI_ltr, nI_addl, nI_addr, nI_eqN, nI_leN, nI_ltN, Nat.zero_add, Option.bind_some, Option.bind_none, Option.map_some, bd2_some, b2i_0, b2i_1, b2i_t, b2i_f, ↓reduceIte, if_true, if_false, Bool.true_eq_false, Bool.false_eq_true, not_true_eq_false, not_false_eq_true, true_and, and_true, false_and, and_false, true_or, or_true, false_or, or_false, decide_true, decide_false, Bool.true_and, Bool.false_and, Bool.and_true, Bool.and_false, and_self, Nat.le_refl, Nat.lt_irrefl, ite_self, i10, i01, Option.some.injEq, up1_s, up1_up, ups, up1_x, upsn, show ¬ n ≤ i + 1 + t by omega, hsay _ i (by omega), hsay _ (i + 1 + t) (by omega), hand, m_longFrom, ald_106 (show i < 20 by omega), ald_106 (show i + 1 + t < 20 by omega), show i + 1 + t ≠ i by omega, hj, mo_max_eq, mxb, ast_106 (show i < 20 by omega), upd_upd]
      cases A i (i + 1 + t) <;> simp (disch := first | omega | decide) only [nI_lel, nI_ltl, nI_ler, nI_ltr, nI_addl, nI_addr, nI_eqN, nI_leN, nI_ltN, Nat.zero_add, Option.bind_some, Option.bind_none, Option.map_some, bd2_some, b2i_0, b2i_1, b2i_t, b2i_f, ↓reduceIte, if_true, if_false, Bool.true_eq_false, Bool.false_eq_true, not_true_eq_false, not_false_eq_true, true_and, and_true, false_and, and_false, true_or, or_true, false_or, or_false, decide_true, decide_false, Bool.true_and, Bool.false_and, Bool.and_true, Bool.and_false, and_self, Nat.le_refl, Nat.lt_irrefl, ite_self, i10, i01, Option.some.injEq, Nat.add_assoc]
    · unfold mo_thread_b69
      have b1 : thB A n k ≤ n := thB_le A k (by omega)
      have b2 : thL A n (k + 1) i ≤ 20 := by have := thL_le A n (k + 1) (by omega) i (by omega); omega
      have e3 : thV A (thL A n k) i k = thL A n (k + 1) i := by
        show _ = if i = n - 1 - k then _ else _
        rw [if_pos hi2, ← hi2]
      rw [show thB A n (k + 1) = max (thB A n k) (thL A n (k + 1) (n - 1 - k)) from rfl, ← hi2, ← thA_s A (W 106) hk, ← hi2, show n - (k + 1) = i by omega]
      simp (disch := first | omega | decide) only [nI_lel, nI_ltl, nI_ler, nI_ltr, nI_addl, nI_addr, nI_eqN, nI_leN, nI_ltN, Nat.zero_add, Option.bind_some, Option.bind_none, Option.map_some, bd2_some, b2i_0, b2i_1, b2i_t, b2i_f, ↓reduceIte, if_true, if_false, Bool.true_eq_false, Bool.false_eq_true, not_true_eq_false, not_false_eq_true, true_and, and_true, false_and, and_false, true_or, or_true, false_or, or_false, decide_true, decide_false, Bool.true_and, Bool.false_and, Bool.and_true, Bool.and_false, and_self, Nat.le_refl, Nat.lt_irrefl, ite_self, i10, i01, Option.some.injEq, up1_s, up1_up, ups, up1_x, upsn, show n ≤ i + 1 + k by omega, m_longFrom, ald_106 (show i < 20 by omega), mo_max_eq, dI_m]
      rw [e3, mxb]
  · unfold mo_thread_b50 thF
    rw [Nat.sub_self]
    simp (disch := first | omega | decide) only [nI_lel, nI_ltl, nI_ler, nI_ltr, nI_addl, nI_addr, nI_eqN, nI_leN, nI_ltN, Nat.zero_add, Option.bind_some, Option.bind_none, Option.map_some, bd2_some, b2i_0, b2i_1, b2i_t, b2i_f, ↓reduceIte, if_true, if_false, Bool.true_eq_false, Bool.false_eq_true, not_true_eq_false, not_false_eq_true, true_and, and_true, false_and, and_false, true_or, or_true, false_or, or_false, decide_true, decide_false, Bool.true_and, Bool.false_and, Bool.and_true, Bool.and_false, and_self, Nat.le_refl, Nat.lt_irrefl, ite_self, i10, i01, Option.some.injEq, dI_z]
    by_cases c1 : v = 100
    · simp (disch := first | omega | decide) only [nI_lel, nI_ltl, nI_ler, nI_ltr, nI_addl, nI_addr, nI_eqN, nI_leN, nI_ltN, Nat.zero_add, Option.bind_some, Option.bind_none, Option.map_some, bd2_some, b2i_0, b2i_1, b2i_t, b2i_f, ↓reduceIte, if_true, if_false, Bool.true_eq_false, Bool.false_eq_true, not_true_eq_false, not_false_eq_true, true_and, and_true, false_and, and_false, true_or, or_true, false_or, or_false, decide_true, decide_false, Bool.true_and, Bool.false_and, Bool.and_true, Bool.and_false, and_self, Nat.le_refl, Nat.lt_irrefl, ite_self, i10, i01, Option.some.injEq, c1]
    · simp (disch := first | omega | decide) only [nI_lel, nI_ltl, nI_ler, nI_ltr, nI_addl, nI_addr, nI_eqN, nI_leN, nI_ltN, Nat.zero_add, Option.bind_some, Option.bind_none, Option.map_some, bd2_some, b2i_0, b2i_1, b2i_t, b2i_f, ↓reduceIte, if_true, if_false, Bool.true_eq_false, Bool.false_eq_true, not_true_eq_false, not_false_eq_true, true_and, and_true, false_and, and_false, true_or, or_true, false_or, or_false, decide_true, decide_false, Bool.true_and, Bool.false_and, Bool.and_true, Bool.and_false, and_self, Nat.le_refl, Nat.lt_irrefl, ite_self, i10, i01, Option.some.injEq, c1]
      rcases hv with hv | ⟨q, hq, rfl⟩
      · exact absurd hv c1
      · simp (disch := first | omega | decide) only [nI_lel, nI_ltl, nI_ler, nI_ltr, nI_addl, nI_addr, nI_eqN, nI_leN, nI_ltN, Nat.zero_add, Option.bind_some, Option.bind_none, Option.map_some, bd2_some, b2i_0, b2i_1, b2i_t, b2i_f, ↓reduceIte, if_true, if_false, Bool.true_eq_false, Bool.false_eq_true, not_true_eq_false, not_false_eq_true, true_and, and_true, false_and, and_false, true_or, or_true, false_or, or_false, decide_true, decide_false, Bool.true_and, Bool.false_and, Bool.and_true, Bool.and_false, and_self, Nat.le_refl, Nat.lt_irrefl, ite_self, i10, i01, Option.some.injEq, nI_clamp (show q < 2 ^ 31 by omega)]
        by_cases c2 : q < thB A n n
        · simp (disch := first | omega | decide) only [nI_lel, nI_ltl, nI_ler, nI_ltr, nI_addl, nI_addr, nI_eqN, nI_leN, nI_ltN, Nat.zero_add, Option.bind_some, Option.bind_none, Option.map_some, bd2_some, b2i_0, b2i_1, b2i_t, b2i_f, ↓reduceIte, if_true, if_false, Bool.true_eq_false, Bool.false_eq_true, not_true_eq_false, not_false_eq_true, true_and, and_true, false_and, and_false, true_or, or_true, false_or, or_false, decide_true, decide_false, Bool.true_and, Bool.false_and, Bool.and_true, Bool.and_false, and_self, Nat.le_refl, Nat.lt_irrefl, ite_self, i10, i01, Option.some.injEq, c2]
          have hf := mo_thread_find (E := E) (W := W) hn h0 hA c2
          simp (disch := first | omega | decide) only [nI_lel, nI_ltl, nI_ler, nI_ltr, nI_addl, nI_addr, nI_eqN, nI_leN, nI_ltN, Nat.zero_add, Option.bind_some, Option.bind_none, Option.map_some, bd2_some, b2i_0, b2i_1, b2i_t, b2i_f, ↓reduceIte, if_true, if_false, Bool.true_eq_false, Bool.false_eq_true, not_true_eq_false, not_false_eq_true, true_and, and_true, false_and, and_false, true_or, or_true, false_or, or_false, decide_true, decide_false, Bool.true_and, Bool.false_and, Bool.and_true, Bool.and_false, and_self, Nat.le_refl, Nat.lt_irrefl, ite_self, i10, i01, Option.some.injEq, hf]
        · simp (disch := first | omega | decide) only [nI_lel, nI_ltl, nI_ler, nI_ltr, nI_addl, nI_addr, nI_eqN, nI_leN, nI_ltN, Nat.zero_add, Option.bind_some, Option.bind_none, Option.map_some, bd2_some, b2i_0, b2i_1, b2i_t, b2i_f, ↓reduceIte, if_true, if_false, Bool.true_eq_false, Bool.false_eq_true, not_true_eq_false, not_false_eq_true, true_and, and_true, false_and, and_false, true_or, or_true, false_or, or_false, decide_true, decide_false, Bool.true_and, Bool.false_and, Bool.and_true, Bool.and_false, and_self, Nat.le_refl, Nat.lt_irrefl, ite_self, i10, i01, Option.some.injEq, c2]
end TH
