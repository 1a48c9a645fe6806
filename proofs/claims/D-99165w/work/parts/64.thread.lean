/-! thread -/
set_option maxRecDepth 100000
theorem fnd_ok {P : Nat → Bool} {r : Nat} : ∀ (m k : Nat), (∃ j, k ≤ j ∧ j < k + m ∧ P j = true) → P (fnd P id r m k) = true ∧ k ≤ fnd P id r m k ∧ fnd P id r m k < k + m
  | 0, k, ⟨j, h1, h2, _⟩ => absurd h1 (by omega)
  | m + 1, k, ⟨j, h1, h2, h3⟩ => by
    unfold fnd
    by_cases hp : P k = true
    · rw [if_pos hp]
      exact ⟨hp, Nat.le_refl k, by show k < _; omega⟩
    · rw [if_neg hp]
      have hj : j ≠ k := fun e => hp (e ▸ h3)
      obtain ⟨a, b, c⟩ := fnd_ok m (k + 1) ⟨j, by omega, by omega, h3⟩
      exact ⟨a, by omega, by omega⟩
theorem iter_srch {σ ρ : Type} {B : σ → Option (σ ⊕ ρ)} {P : Nat → Bool} {g : Nat → ρ} {r : Nat} (S : Nat → σ) : ∀ (m k : Nat), (∃ j, k ≤ j ∧ j < k + m ∧ P j = true) → (∀ i, k ≤ i → i < k + m → B (S i) = if P i = true then some (.inr (g i)) else some (.inl (S (i + 1)))) → iter B (S k) = some (g (fnd P id r m k))
  | 0, k, ⟨j, h1, h2, _⟩, _ => absurd h1 (by omega)
  | m + 1, k, ⟨j, h1, h2, h3⟩, hs => by
    unfold fnd
    have h0 := hs k (by omega) (by omega)
    by_cases hp : P k = true
    · rw [if_pos hp] at h0 ⊢
      exact iter_r h0
    · rw [if_neg hp] at h0 ⊢
      rw [iter_l h0]
      have hj : j ≠ k := fun e => hp (e ▸ h3)
      exact iter_srch S m (k + 1) ⟨j, by omega, by omega, h3⟩ (fun i h1 h2 => hs i (by omega) (by omega))
theorem iter_srch2 {σ ρ : Type} {B : σ → Option (σ ⊕ ρ)} {P : Nat → Bool} {r : Nat} {res : ρ} (S : Nat → σ) : ∀ (m k : Nat), (∃ j, k ≤ j ∧ j < k + m ∧ P j = true) → (∀ i, k ≤ i → i < k + m → P i = false → B (S i) = some (.inl (S (i + 1)))) → B (S (fnd P id r m k)) = some (.inr res) → iter B (S k) = some res
  | 0, k, ⟨j, h1, h2, _⟩, _, _ => absurd h1 (by omega)
  | m + 1, k, ⟨j, h1, h2, h3⟩, hs, hr => by
    unfold fnd at hr
    by_cases hp : P k = true
    · rw [if_pos hp] at hr
      exact iter_r hr
    · rw [if_neg hp] at hr
      rw [iter_l (hs k (by omega) (by omega) (by rw [Bool.not_eq_true] at hp; exact hp))]
      have hj : j ≠ k := fun e => hp (e ▸ h3)
      exact iter_srch2 S m (k + 1) ⟨j, by omega, by omega, h3⟩ (fun i h1 h2 => hs i (by omega) (by omega)) hr
def thV (A : Nat → Nat → Bool) (L : Nat → Nat) (i : Nat) : Nat → Nat := rep (fun t v => if A i (i + 1 + t) = true then max v (L (i + 1 + t) + 1) else v) 1
def thL (A : Nat → Nat → Bool) (n : Nat) : Nat → Nat → Nat
  | 0 => fun _ => 0
  | k + 1 => fun x => if x = n - 1 - k then thV A (thL A n k) (n - 1 - k) k else thL A n k x
def thB (A : Nat → Nat → Bool) (n : Nat) : Nat → Nat := rep (fun k b => max b (thL A n (k + 1) (n - 1 - k))) 0
theorem thV_at (A : Nat → Nat → Bool) (L : Nat → Nat) (i : Nat) : ∀ m, thV A L i m = 1 ∨ ∃ t, t < m ∧ A i (i + 1 + t) = true ∧ thV A L i m = L (i + 1 + t) + 1
  | 0 => Or.inl rfl
  | m + 1 => by
    have ih := thV_at A L i m
    rw [show thV A L i (m + 1) = if A i (i + 1 + m) = true then max (thV A L i m) (L (i + 1 + m) + 1) else thV A L i m from rfl]
    by_cases hA : A i (i + 1 + m) = true
    · rw [if_pos hA]
      by_cases hm : thV A L i m ≤ L (i + 1 + m) + 1
      · rw [Nat.max_eq_right hm]
        exact Or.inr ⟨m, by omega, hA, rfl⟩
      · rw [Nat.max_eq_left (by omega)]
        rcases ih with e | ⟨t, h1, h2, h3⟩
        · exact Or.inl e
        · exact Or.inr ⟨t, by omega, h2, h3⟩
    · rw [if_neg hA]
      rcases ih with e | ⟨t, h1, h2, h3⟩
      · exact Or.inl e
      · exact Or.inr ⟨t, by omega, h2, h3⟩
theorem thL_st (A : Nat → Nat → Bool) (n : Nat) {x k : Nat} (hx : n - k ≤ x) (hk : k ≤ n) : ∀ d, k + d ≤ n → thL A n (k + d) x = thL A n k x
  | 0, _ => rfl
  | d + 1, h => by
    have ih := thL_st A n hx hk d (by omega)
    rw [show thL A n (k + (d + 1)) x = if x = n - 1 - (k + d) then thV A (thL A n (k + d)) (n - 1 - (k + d)) (k + d) else thL A n (k + d) x from rfl, if_neg (by omega), ih]
theorem thL_le (A : Nat → Nat → Bool) (n : Nat) : ∀ k, k ≤ n → ∀ x, x < n → thL A n k x ≤ n - x
  | 0, _, x, _ => Nat.zero_le _
  | k + 1, h, x, hx => by
    have ih := thL_le A n k (by omega)
    rw [show thL A n (k + 1) x = if x = n - 1 - k then thV A (thL A n k) (n - 1 - k) k else thL A n k x from rfl]
    split
    · rename_i e
      subst e
      rcases thV_at A (thL A n k) (n - 1 - k) k with e | ⟨t, h1, h2, h3⟩
      · rw [e]; omega
      · rw [h3]
        have := ih (n - 1 - k + 1 + t) (by omega)
        omega
    · exact ih x hx
theorem thB_at (A : Nat → Nat → Bool) (n : Nat) : ∀ k, k < n → ∃ x, x < n ∧ thL A n n x = thB A n (k + 1)
  | 0, h => ⟨n - 1 - 0, by omega, by
      rw [show thB A n (0 + 1) = max 0 (thL A n (0 + 1) (n - 1 - 0)) from rfl, Nat.zero_max]
      have := thL_st A n (x := n - 1 - 0) (k := 0 + 1) (by omega) (by omega) (n - 1) (by omega)
      rw [show 0 + 1 + (n - 1) = n by omega] at this
      exact this⟩
  | k + 1, h => by
    obtain ⟨x, hx, e⟩ := thB_at A n k (by omega)
    rw [show thB A n (k + 1 + 1) = max (thB A n (k + 1)) (thL A n (k + 1 + 1) (n - 1 - (k + 1))) from rfl]
    by_cases hm : thB A n (k + 1) ≤ thL A n (k + 1 + 1) (n - 1 - (k + 1))
    · rw [Nat.max_eq_right hm]
      refine ⟨n - 1 - (k + 1), by omega, ?_⟩
      have := thL_st A n (x := n - 1 - (k + 1)) (k := k + 1 + 1) (by omega) (by omega) (n - (k + 1 + 1)) (by omega)
      rw [show k + 1 + 1 + (n - (k + 1 + 1)) = n by omega] at this
      exact this
    · rw [Nat.max_eq_left (by omega)]
      exact ⟨x, hx, e⟩
theorem thL_dn (A : Nat → Nat → Bool) {n i : Nat} (hi : i < n) (h2 : 2 ≤ thL A n n i) : ∃ j, i + 1 ≤ j ∧ j < n ∧ A i j = true ∧ thL A n n i = thL A n n j + 1 := by
  have e1 := thL_st A n (x := i) (k := n - i) (by omega) (by omega) i (by omega)
  rw [show n - i + i = n by omega] at e1
  have e2 : thL A n (n - i) i = thV A (thL A n (n - 1 - i)) i (n - 1 - i) := by
    rw [show n - i = (n - 1 - i) + 1 by omega]
    show (if i = n - 1 - (n - 1 - i) then thV A (thL A n (n - 1 - i)) (n - 1 - (n - 1 - i)) (n - 1 - i) else _) = _
    rw [if_pos (by omega), show n - 1 - (n - 1 - i) = i by omega]
  rcases thV_at A (thL A n (n - 1 - i)) i (n - 1 - i) with e | ⟨t, h1, h3, h4⟩
  · omega
  · refine ⟨i + 1 + t, by omega, by omega, h3, ?_⟩
    have e5 := thL_st A n (x := i + 1 + t) (k := n - 1 - i) (by omega) (by omega) (i + 1) (by omega)
    rw [show n - 1 - i + (i + 1) = n by omega] at e5
    rw [e1, e2, h4, e5]
/-- the k-th saying of the thread -/
def thC (A : Nat → Nat → Bool) (n : Nat) : Nat → Nat
  | 0 => fnd (fun i => decide (thL A n n i = thB A n n)) id 0 n 0
  | k + 1 => fnd (fun j => decide (thL A n n j = thB A n n - (k + 1)) && A (thC A n k) j) id 0 (n - (thC A n k + 1)) (thC A n k + 1)
theorem thC_0 (A : Nat → Nat → Bool) {n : Nat} (hn : 0 < n) : ∃ j, 0 ≤ j ∧ j < 0 + n ∧ decide (thL A n n j = thB A n n) = true := by
  obtain ⟨x, hx, e⟩ := thB_at A n (n - 1) (by omega)
  rw [show n - 1 + 1 = n by omega] at e
  exact ⟨x, by omega, by omega, decide_eq_true e⟩
theorem thC_ok (A : Nat → Nat → Bool) {n : Nat} (hn : 0 < n) : ∀ k, k < thB A n n → thC A n k < n ∧ thL A n n (thC A n k) = thB A n n - k
  | 0, _ => by
    obtain ⟨a, b, c⟩ := fnd_ok (r := 0) n 0 (thC_0 A hn)
    refine ⟨by simpa [thC] using c, ?_⟩
    exact of_decide_eq_true a
  | k + 1, hk => by
    obtain ⟨h1, h2⟩ := thC_ok A hn k (by omega)
    obtain ⟨j, j1, j2, j3, j4⟩ := thL_dn A h1 (by omega)
    obtain ⟨a, b, c⟩ := fnd_ok (P := fun j => decide (thL A n n j = thB A n n - (k + 1)) && A (thC A n k) j) (r := 0) (n - (thC A n k + 1)) (thC A n k + 1) ⟨j, j1, by omega, by rw [j3, decide_eq_true (by omega), Bool.true_and]⟩
    simp only [Bool.and_eq_true, decide_eq_true_eq] at a
    exact ⟨by show fnd _ _ _ _ _ < n; omega, a.1⟩
theorem thC_s (A : Nat → Nat → Bool) {n k : Nat} (hn : 0 < n) (hk : k + 1 < thB A n n) : ∃ j, thC A n k + 1 ≤ j ∧ j < thC A n k + 1 + (n - (thC A n k + 1)) ∧ (decide (thL A n n j = thB A n n - (k + 1)) && A (thC A n k) j) = true := by
  obtain ⟨h1, h2⟩ := thC_ok A hn k (by omega)
  obtain ⟨j, j1, j2, j3, j4⟩ := thL_dn A h1 (by omega)
  exact ⟨j, j1, by omega, by rw [j3, decide_eq_true (by omega), Bool.true_and]⟩
def thF (A : Nat → Nat → Bool) (n : Nat) (v : Int32) : Int32 := if v = 100 then nI (thB A n n) else if v < nI (thB A n n) then nI (thC A n v.toNatClampNeg) else -4
def thA (A : Nat → Nat → Bool) (n : Nat) (g : Nat → Int32) (k : Nat) : Nat → Int32 := fun x => if n - k ≤ x ∧ x < n then nI (thL A n k x) else g x
theorem upd_upd (f : Nat → Int32) (j : Nat) (a b : Int32) : upd (upd f j a) j b = upd f j b := by
  funext i
  by_cases h : i = j
  · subst h; rw [ups, ups]
  · rw [upsn h, upsn h, upsn h]
theorem thA_s (A : Nat → Nat → Bool) {n k : Nat} (g : Nat → Int32) (hk : k < n) : upd (thA A n g k) (n - 1 - k) (nI (thV A (thL A n k) (n - 1 - k) k)) = thA A n g (k + 1) := by
  funext x
  by_cases h : x = n - 1 - k
  · subst h
    rw [ups]
    show _ = if _ then nI (if n - 1 - k = n - 1 - k then _ else _) else _
    rw [if_pos (by omega), if_pos rfl]
  · rw [upsn h]
    show (if _ then _ else _) = if _ then nI (if x = n - 1 - k then _ else _) else _
    rw [if_neg h]
    by_cases h2 : n - k ≤ x ∧ x < n
    · rw [if_pos h2, if_pos (by omega)]
    · rw [if_neg h2, if_neg (by omega)]
theorem mx1 {a b : Nat} (ha : a < 2 ^ 31) (hb : b < 2 ^ 31) : (if nI a < nI b then nI b else nI a) = nI (max a b) := by
  simp only [nI_ltN ha hb]
  by_cases h : a < b
  · rw [if_pos h, Nat.max_eq_right (by omega)]
  · rw [if_neg h, Nat.max_eq_left (by omega)]
theorem mx2 {a b : Nat} (ha : a < 2 ^ 31) (hb : b < 2 ^ 31) : (if nI a ≤ nI b then nI b else nI a) = nI (max a b) := by
  simp only [nI_leN ha hb]
  by_cases h : a ≤ b
  · rw [if_pos h, Nat.max_eq_right (by omega)]
  · rw [if_neg h, Nat.max_eq_left (by omega)]
theorem thB_le (A : Nat → Nat → Bool) {n : Nat} : ∀ k, k ≤ n → thB A n k ≤ n
  | 0, _ => Nat.zero_le _
  | k + 1, h => by
    rw [show thB A n (k + 1) = max (thB A n k) (thL A n (k + 1) (n - 1 - k)) from rfl]
    have h1 := thB_le A (n := n) k (by omega)
    have h2 := thL_le A n (k + 1) h (n - 1 - k) (by omega)
    exact Nat.max_le.mpr ⟨h1, by omega⟩
def sayA (s : Nat → Nat) (i j : Nat) : Bool := decide (¬ (s i &&& s j) = 0)
theorem byte_n (v : Int32) : ∃ u, u < 256 ∧ v &&& 255 = nI u := by
  refine ⟨v.toBitVec.toNat % 256, Nat.mod_lt _ (by decide), ?_⟩
  apply Int32.toBitVec_inj.1
  apply BitVec.eq_of_toNat_eq
  show (v.toBitVec &&& 255#32).toNat = (BitVec.ofNat 32 (v.toBitVec.toNat % 256)).toNat
  rw [BitVec.toNat_and, show (255#32).toNat = 2 ^ 8 - 1 from rfl, Nat.and_two_pow_sub_one_eq_mod, BitVec.toNat_ofNat, Nat.mod_eq_of_lt (a := v.toBitVec.toNat % 256) (by omega)]
theorem sh8 : ∀ u, u < 256 → nI u <<< (8 &&& 31) = nI (256 * u) := by decide +kernel
theorem mu256 : ∀ u, u < 256 → 256 * nI u = nI (256 * u) := by decide +kernel
theorem two_k : ∀ k, k < 32 → 2 * nI k = nI (2 * k) := by decide +kernel
def bytN (v : Int32) : Nat := (v &&& 255).toNatClampNeg
theorem bytN_ok (v : Int32) : bytN v < 256 ∧ v &&& 255 = nI (bytN v) := by
  obtain ⟨u, hu, e⟩ := byte_n v
  unfold bytN
  rw [e, nI_clamp (by omega)]
  exact ⟨hu, rfl⟩
def sayN (T : Nat → Int32) (i : Nat) : Nat := 256 * bytN (T (2 * i)) + bytN (T (2 * i + 1))
theorem sayN_lt (T : Nat → Int32) (i : Nat) : sayN T i < 65536 := by
  have h1 := (bytN_ok (T (2 * i))).1
  have h2 := (bytN_ok (T (2 * i + 1))).1
  unfold sayN; omega
theorem say_and (s : Nat → Nat) (h : ∀ i, s i < 65536) (i j : Nat) : (nI (s i) &&& nI (s j) = 0) = (sayA s i j = false) := by
  rw [nx_and]
  unfold sayA
  have hl : s i &&& s j < 65536 := Nat.lt_of_le_of_lt Nat.and_le_left (h i)
  rw [show (0 : Int32) = nI 0 from rfl, nI_eqN (by omega) (by omega)]
  by_cases e : (s i &&& s j) = 0 <;> simp [e]
theorem sayA_sy (s : Nat → Nat) (i j : Nat) : sayA s i j = sayA s j i := by
  unfold sayA
  rw [Nat.and_comm]
section TH
variable {E : EE} {V : Nat → Nat → Int32}
theorem tp_saying_eq {i : Nat} (hi : i < 20) : tp_saying (some 7) (nI i) (mkH E V) = some (nI (sayN (V 63) i)) := by
  unfold tp_saying tp_saying_0 sayN
  obtain ⟨h1, e1⟩ := bytN_ok (V 63 (2 * i))
  obtain ⟨h2, e2⟩ := bytN_ok (V 63 (2 * i + 1))
  simp (disch := first | omega | decide) only [nI_lel, nI_ltl, nI_ler, nI_ltr, nI_addl, nI_addr, nI_eqN, nI_leN, nI_ltN, Nat.zero_add, Option.bind_some, Option.bind_none, Option.map_some, bd2_some, b2i_0, b2i_1, b2i_t, b2i_f, ↓reduceIte, if_true, if_false, Bool.true_eq_false, Bool.false_eq_true, not_true_eq_false, not_false_eq_true, true_and, and_true, false_and, and_false, true_or, or_true, false_or, or_false, decide_true, decide_false, Bool.true_and, Bool.false_and, Bool.and_true, Bool.and_false, and_self, Nat.le_refl, Nat.lt_irrefl, ite_self, i10, i01, Option.some.injEq, grd_t isC_7, x_tape, two_k i (by omega), ald_63, e1, e2, sh8 _ h1, nx_or]
  congr 1
  have := Nat.two_pow_add_eq_or_of_lt (i := 8) h2 (bytN (V 63 (2 * i)))
  rw [show 2 ^ 8 * bytN (V 63 (2 * i)) = 256 * bytN (V 63 (2 * i)) from rfl] at this
  exact this.symm
theorem mo_saying_eq {i : Nat} (hi : i < 20) : mo_sayingOf (some 77) (nI i) (mkH E V) = some (nI (sayN (V 81) i)) := by
  unfold mo_sayingOf mo_sayingOf_0 sayN mo_octet mo_octet_0
  obtain ⟨h1, e1⟩ := bytN_ok (V 81 (2 * i))
  obtain ⟨h2, e2⟩ := bytN_ok (V 81 (2 * i + 1))
  simp (disch := first | omega | decide) only [nI_lel, nI_ltl, nI_ler, nI_ltr, nI_addl, nI_addr, nI_eqN, nI_leN, nI_ltN, Nat.zero_add, Option.bind_some, Option.bind_none, Option.map_some, bd2_some, b2i_0, b2i_1, b2i_t, b2i_f, ↓reduceIte, if_true, if_false, Bool.true_eq_false, Bool.false_eq_true, not_true_eq_false, not_false_eq_true, true_and, and_true, false_and, and_false, true_or, or_true, false_or, or_false, decide_true, decide_false, Bool.true_and, Bool.false_and, Bool.and_true, Bool.and_false, and_self, Nat.le_refl, Nat.lt_irrefl, ite_self, i10, i01, Option.some.injEq, grd_t isC_77, m_tape, two_k i (by omega), ald_81, e1, e2, mu256 _ h1, nI_add]
end TH
