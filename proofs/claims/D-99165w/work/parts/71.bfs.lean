/-! distances by free plots: unique by four laws -/
set_option maxRecDepth 100000
def adjB (a b : Nat) : Bool := nxtB (nI a) (nI b)
def frB (f : Nat → Int32) (b : Nat) : Bool := decide (whoF f (nI b) = -2)
/-- g: steps from s by free plots -/
def Dst (f : Nat → Int32) (s : Nat) (g : Nat → Option Nat) : Prop := (∀ b, b < 60 → (g b = some 0 ↔ b = s)) ∧ (∀ b k, b < 60 → g b = some (k + 1) → frB f b = true ∧ ∃ a, a < 60 ∧ g a = some k ∧ adjB a b = true) ∧ ∀ a b k, a < 60 → b < 60 → g a = some k → adjB a b = true → frB f b = true → ∃ i, i ≤ k + 1 ∧ g b = some i
theorem Dst.uniq {f : Nat → Int32} {s : Nat} {g g' : Nat → Option Nat} (h : Dst f s g) (h' : Dst f s g') : ∀ b, b < 60 → g b = g' b := by
  have key : ∀ (k : Nat), (∀ b, b < 60 → (g b = some k ↔ g' b = some k)) := by
    intro k
    induction k using Nat.strongRecOn with
    | ind k ih =>
      intro b hb
      cases k with
      | zero => rw [h.1 b hb, h'.1 b hb]
      | succ k =>
        constructor
        · intro e
          obtain ⟨hf, a, ha, ea, hab⟩ := h.2.1 b k hb e
          obtain ⟨i, hi, ei⟩ := h'.2.2 a b k ha hb ((ih k (by omega) a ha).mp ea) hab hf
          by_cases c : i = k + 1
          · rw [ei, c]
          · have := (ih i (by omega) b hb).mpr ei
            rw [e] at this
            have := Option.some.inj this
            omega
        · intro e
          obtain ⟨hf, a, ha, ea, hab⟩ := h'.2.1 b k hb e
          obtain ⟨i, hi, ei⟩ := h.2.2 a b k ha hb ((ih k (by omega) a ha).mpr ea) hab hf
          by_cases c : i = k + 1
          · rw [ei, c]
          · have := (ih i (by omega) b hb).mp ei
            rw [e] at this
            have := Option.some.inj this
            omega
  intro b hb
  cases e : g b with
  | some k => exact ((key k b hb).mp e).symm
  | none =>
    cases e' : g' b with
    | none => rfl
    | some k =>
      have := (key k b hb).mpr e'
      rw [e] at this
      exact nomatch this
/-- a loop with an invariant, n rounds -/
theorem iter_inv {σ ρ : Type} {B : σ → Option (σ ⊕ ρ)} (S : Nat → σ → Prop) (n : Nat) : ∀ d k s, k + d = n → (∀ i s, k ≤ i → i < n → S i s → ∃ s', B s = some (.inl s') ∧ S (i + 1) s') → S k s → ∃ s', S n s' ∧ iter B s = iter B s'
  | 0, k, s, hk, _, h0 => ⟨s, by rw [← hk]; exact h0, rfl⟩
  | d + 1, k, s, hk, hs, h0 => by
    obtain ⟨s1, e1, h1⟩ := hs k s (Nat.le_refl k) (by omega) h0
    obtain ⟨s2, h2, e2⟩ := iter_inv S n d (k + 1) s1 (by omega) (fun i s a b c => hs i s (by omega) b c) h1
    exact ⟨s2, h2, by rw [iter_l e1, e2]⟩
def updO (g : Nat → Option Nat) (b : Nat) (v : Option Nat) : Nat → Option Nat := fun i => if i = b then v else g i
theorem updO_s (g : Nat → Option Nat) (b : Nat) (v : Option Nat) : updO g b v b = v := if_pos rfl
theorem updO_n {g : Nat → Option Nat} {b i : Nat} {v : Option Nat} (h : i ≠ b) : updO g b v i = g i := if_neg h
/-- extending g at an unset place keeps what was -/
theorem updO_ext {g : Nat → Option Nat} {b : Nat} {v : Option Nat} (h : g b = none) {a k : Nat} (e : g a = some k) : updO g b v a = some k := by
  rw [updO_n (fun c => by subst c; rw [h] at e; exact nomatch e)]; exact e
def encX (o : Option Nat) : Int32 := match o with | some k => nI k | none => 268435456
def encM (o : Option Nat) : Int32 := match o with | some k => nI k | none => -1
/-- x in pass k: plots below p done, in plot p ways below w -/
def XP (f : Nat → Int32) (s k p w : Nat) (more : Int32) (g : Nat → Option Nat) : Prop :=
  (∀ b, b < 60 → (g b = some 0 ↔ b = s)) ∧
  (∀ b j, b < 60 → g b = some (j + 1) → frB f b = true ∧ ∃ a, a < 60 ∧ g a = some j ∧ adjB a b = true) ∧
  (∀ a b j, a < 60 → b < 60 → g a = some j → j < k → adjB a b = true → frB f b = true → ∃ i, i ≤ j + 1 ∧ g b = some i) ∧
  (∀ a b, a < 60 → b < 60 → g a = some k → adjB a b = true → frB f b = true → (a < p ∨ (a = p ∧ ∃ w', w' < w ∧ nexN a w' = nI b)) → ∃ i, i ≤ k + 1 ∧ g b = some i) ∧
  (∀ b j, b < 60 → g b = some j → j ≤ k + 1) ∧
  ((more = 0 ∧ ∀ b j, b < 60 → g b = some j → j ≤ k) ∨ (more = 1 ∧ ∃ b, b < 60 ∧ g b = some (k + 1)))
theorem adj_way {a b : Nat} (ha : a < 60) (hb : b < 60) (h : adjB a b = true) : ∃ w, w < 4 ∧ nexN a w = nI b := by
  unfold adjB at h
  rw [nex_adj a ha b hb] at h
  simp only [Bool.or_eq_true, decide_eq_true_eq] at h
  rcases h with ((h | h) | h) | h
  · exact ⟨0, by omega, h⟩
  · exact ⟨1, by omega, h⟩
  · exact ⟨2, by omega, h⟩
  · exact ⟨3, by omega, h⟩
theorem way_adj {a b w : Nat} (ha : a < 60) (hb : b < 60) (hw : w < 4) (h : nexN a w = nI b) : adjB a b = true := by
  unfold adjB
  rw [nex_adj a ha b hb]
  simp only [Bool.or_eq_true, decide_eq_true_eq]
  match w, hw with
  | 0, _ => exact Or.inl (Or.inl (Or.inl h))
  | 1, _ => exact Or.inl (Or.inl (Or.inr h))
  | 2, _ => exact Or.inl (Or.inr h)
  | 3, _ => exact Or.inr h
/-- plot p is done with: no more ways, or not at this level -/
theorem XP.next {f : Nat → Int32} {s k p : Nat} {more : Int32} {g : Nat → Option Nat} {w : Nat} (hp : p < 60) (h : XP f s k p w more g) (hd : 4 ≤ w ∨ ¬ g p = some k) : XP f s k (p + 1) 0 more g := by
  obtain ⟨h1, h2, h3, h4, h5, h6⟩ := h
  refine ⟨h1, h2, h3, fun a b ha hb ea hab hf hc => ?_, h5, h6⟩
  rcases hc with hc | ⟨hc, w', hw', -⟩
  · by_cases e : a = p
    · subst e
      rcases hd with hd | hd
      · obtain ⟨w', hw', e'⟩ := adj_way ha hb hab
        exact h4 a b ha hb ea hab hf (Or.inr ⟨rfl, w', by omega, e'⟩)
      · exact absurd ea hd
    · exact h4 a b ha hb ea hab hf (Or.inl (by omega))
  · omega
theorem XP.skip {f : Nat → Int32} {s k p w : Nat} {more : Int32} {g : Nat → Option Nat} (hp : p < 60) (hw : w < 4) (h : XP f s k p w more g) (hd : ∀ b, b < 60 → nexN p w = nI b → frB f b = true → ∃ i, i ≤ k + 1 ∧ g b = some i) : XP f s k p (w + 1) more g := by
  obtain ⟨h1, h2, h3, h4, h5, h6⟩ := h
  refine ⟨h1, h2, h3, fun a b ha hb ea hab hf hc => ?_, h5, h6⟩
  rcases hc with hc | ⟨hc, w', hw', e'⟩
  · exact h4 a b ha hb ea hab hf (Or.inl hc)
  · by_cases e : w' = w
    · subst e hc
      exact hd b hb e' hf
    · exact h4 a b ha hb ea hab hf (Or.inr ⟨hc, w', by omega, e'⟩)
theorem XP.set {f : Nat → Int32} {s k p w q : Nat} {more : Int32} {g : Nat → Option Nat} (hp : p < 60) (hq : q < 60) (hw : w < 4) (h : XP f s k p w more g) (hg : g p = some k) (hn : nexN p w = nI q) (hf : frB f q = true) (h0 : g q = none) : XP f s k p (w + 1) 1 (updO g q (some (k + 1))) := by
  obtain ⟨h1, h2, h3, h4, h5, h6⟩ := h
  have back : ∀ {a j : Nat}, updO g q (some (k + 1)) a = some j → (a = q ∧ j = k + 1) ∨ (a ≠ q ∧ g a = some j) := fun {a j} e => by
    by_cases c : a = q
    · subst c
      rw [updO_s] at e
      exact Or.inl ⟨rfl, (Option.some.inj e).symm⟩
    · rw [updO_n c] at e
      exact Or.inr ⟨c, e⟩
  have fwd : ∀ {a j : Nat}, g a = some j → updO g q (some (k + 1)) a = some j := fun e => updO_ext h0 e
  refine ⟨fun b hb => ⟨fun e => ?_, fun e => fwd ((h1 b hb).mpr e)⟩, fun b j hb e => ?_, fun a b j ha hb ea hj hab hfb => ?_, fun a b ha hb ea hab hfb hc => ?_, fun b j hb e => ?_, Or.inr ⟨rfl, q, hq, updO_s _ _ _⟩⟩
  · rcases back e with ⟨-, c⟩ | ⟨-, c⟩
    · omega
    · exact (h1 b hb).mp c
  · rcases back e with ⟨rfl, c⟩ | ⟨-, c⟩
    · have : j = k := by omega
      subst this
      exact ⟨hf, p, hp, fwd hg, way_adj hp hb hw hn⟩
    · obtain ⟨x, a, ha, ea, hab⟩ := h2 b j hb c
      exact ⟨x, a, ha, fwd ea, hab⟩
  · rcases back ea with ⟨-, c⟩ | ⟨-, c⟩
    · omega
    · obtain ⟨i, hi, ei⟩ := h3 a b j ha hb c hj hab hfb
      exact ⟨i, hi, fwd ei⟩
  · rcases back ea with ⟨-, c⟩ | ⟨-, c⟩
    · omega
    · by_cases e : b = q
      · subst e
        exact ⟨k + 1, Nat.le_refl _, updO_s _ _ _⟩
      · have : ∃ i, i ≤ k + 1 ∧ g b = some i := by
          rcases hc with hc | ⟨hc, w', hw', e'⟩
          · exact h4 a b ha hb c hab hfb (Or.inl hc)
          · by_cases e2 : w' = w
            · subst e2 hc
              rw [hn] at e'
              exact absurd ((nI_eqN (show q < 2 ^ 31 by omega) (show b < 2 ^ 31 by omega)).mp e').symm e
            · exact h4 a b ha hb c hab hfb (Or.inr ⟨hc, w', by omega, e'⟩)
        obtain ⟨i, hi, ei⟩ := this
        exact ⟨i, hi, fwd ei⟩
  · rcases back e with ⟨-, c⟩ | ⟨-, c⟩
    · omega
    · exact h5 b j hb c
/-- the next pass -/
theorem XP.pass {f : Nat → Int32} {s k : Nat} {g : Nat → Option Nat} (h : XP f s k 60 0 1 g) : XP f s (k + 1) 0 0 0 g := by
  obtain ⟨h1, h2, h3, h4, h5, -⟩ := h
  refine ⟨h1, h2, fun a b j ha hb ea hj hab hf => ?_, fun a b ha hb ea hab hf hc => ?_, fun b j hb e => ?_, Or.inl ⟨rfl, fun b j hb e => ?_⟩⟩
  · by_cases e : j = k
    · subst e
      exact h4 a b ha hb ea hab hf (Or.inl ha)
    · exact h3 a b j ha hb ea (by omega) hab hf
  · rcases hc with hc | ⟨-, w', hw', -⟩ <;> omega
  · have := h5 b j hb e; omega
  · have := h5 b j hb e; omega
theorem XP.done {f : Nat → Int32} {s k : Nat} {g : Nat → Option Nat} (h : XP f s k 60 0 0 g) : Dst f s g := by
  obtain ⟨h1, h2, h3, h4, h5, h6⟩ := h
  refine ⟨h1, h2, fun a b j ha hb ea hab hf => ?_⟩
  rcases h6 with ⟨-, h6⟩ | ⟨c, -⟩
  · have := h6 a j ha ea
    by_cases e : j = k
    · subst e
      exact h4 a b ha hb ea hab hf (Or.inl ha)
    · exact h3 a b j ha hb ea (by omega) hab hf
  · exact absurd c (by decide)
