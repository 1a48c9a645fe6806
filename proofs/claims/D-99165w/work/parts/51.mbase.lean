/-! THE MODEL's SMALL METHODS in closed form over its row f = V 78 -/
set_option maxRecDepth 100000
def b2i (b : Bool) : Int32 := if b = true then 1 else 0
theorem b2i_t : b2i true = 1 := rfl
theorem b2i_f : b2i false = 0 := rfl
theorem i10 : ((1 : Int32) = 0) = False := by decide
theorem i01 : ((0 : Int32) = 1) = False := by decide
theorem b2i_d (c : Prop) [Decidable c] : b2i (decide c) = if c then 1 else 0 := by
  unfold b2i
  by_cases h : c <;> simp [h]
theorem b2i_0 (b : Bool) : (b2i b = 0) = (b = false) := by cases b <;> simp [b2i]
theorem b2i_1 (b : Bool) : (b2i b = 1) = (b = true) := by cases b <;> simp [b2i]
theorem b2i_ok (b : Bool) : b2i b = 0 ∨ b2i b = 1 := by cases b <;> simp [b2i]
theorem zok_b (b : Bool) : zok (b2i b) = some (b2i b) := by cases b <;> rfl
def inB (v lo hi : Int32) : Bool := decide (lo ≤ v) && decide (v ≤ hi)
def sizeF (v : Int32) : Int32 := if 0 ≤ v then v else -v
def hasB (s k : Int32) : Bool := decide (((s >>> (k &&& 31)) &&& 1) = 1)
def bitsF (v : Int32) : Int32 := rep (fun k n => n + ((v >>> (nI k &&& 31)) &&& 1)) 0 16
def bitF (k : Nat) : Int32 := (1 : Int32) <<< (nI k &&& 31)
def setF (P : Nat → Bool) (n : Nat) : Int32 := rep (fun k s => if P k = true then s ||| bitF k else s) 0 n
def laidB (f : Nat → Int32) (p : Nat) : Bool := decide (f p = 1) && decide (0 ≤ f (48 + p))
def nxtB (a b : Int32) : Bool := decide (sizeF (irm a 10 - irm b 10) + sizeF (a / 10 - b / 10) = 1)
def besB (f : Nat → Int32) (p q : Nat) : Bool := laidB f p && laidB f q && nxtB (f (48 + p)) (f (48 + q))
def whoF (f : Nat → Int32) (plot : Int32) : Int32 := fnd (fun p => laidB f p && decide (f (48 + p) = plot)) nI (-2) 16 0
def talkF (f : Nat → Int32) (p q : Nat) : Int32 := 3 * bitsF (f (16 + p) &&& f (16 + q)) - bitsF (f (16 + p) ^^^ f (16 + q))
theorem nlt {a b : Int32} : ¬ a < b ↔ b ≤ a := by
  rw [Int32.lt_iff_toInt_lt, Int32.le_iff_toInt_le]; omega
theorem nle {a b : Int32} : ¬ a ≤ b ↔ b < a := by
  rw [Int32.lt_iff_toInt_lt, Int32.le_iff_toInt_le]; omega
section MB
variable {E : EE} {V : Nat → Nat → Int32} {h : PH}
theorem mo_in_eq (v lo hi : Int32) : mo_in v lo hi h = some (b2i (inB v lo hi)) := by
  unfold mo_in mo_in_0 inB
  by_cases h1 : v < lo
  · rw [if_pos h1, decide_eq_false (show ¬ lo ≤ v from nle.mpr h1)]; rfl
  · rw [if_neg h1, decide_eq_true (nlt.mp h1)]
    by_cases h2 : hi < v
    · rw [if_pos h2, decide_eq_false (show ¬ v ≤ hi from nle.mpr h2)]; rfl
    · rw [if_neg h2, decide_eq_true (nlt.mp h2)]; rfl
theorem mo_size_eq (v : Int32) : mo_size v h = some (sizeF v) := by
  unfold mo_size mo_size_0 sizeF
  split <;> rfl
theorem mo_has_eq (s k : Int32) : mo_has s k h = some (b2i (hasB s k)) := by
  unfold mo_has mo_has_0 hasB b2i
  split <;> simp [*]
theorem mo_min_eq (a b : Int32) : mo_min a b h = some (if b ≤ a then b else a) := by
  unfold mo_min mo_min_0
  split <;> rfl
theorem mo_max_eq (a b : Int32) : mo_max a b h = some (if a ≤ b then b else a) := by
  unfold mo_max mo_max_0
  split <;> rfl
theorem mo_bits_eq (v : Int32) : mo_bits v h = some (bitsF v) := by
  unfold mo_bits mo_bits_0 mo_bits_L4
  refine iter_toR (fun i => (rep (fun k n => n + ((v >>> (nI k &&& 31)) &&& 1)) 0 i, nI i)) 16 (fun i hi => ?_) rfl
  have hn : ¬ 16 ≤ i := by omega
  unfold mo_bits_b4
  simp (disch := first | omega | decide) only [nI_lel, nI_ltl, nI_ler, nI_ltr, nI_addl, nI_addr, nI_eqN, nI_leN, nI_ltN, Nat.zero_add, Option.bind_some, Option.bind_none, Option.map_some, bd2_some, b2i_0, b2i_1, b2i_t, b2i_f, ↓reduceIte, if_true, if_false, hn, rep]
theorem mo_isTold_eq {p : Nat} (hp : p < 16) : mo_isTold (some 77) (nI p) (mkH E V) = some (b2i (decide (V 78 p = 1))) := by
  unfold mo_isTold mo_isTold_0
  have h1 : inB (nI p) 0 15 = true := by
    unfold inB
    simp (disch := first | omega | decide) only [nI_lel, nI_ltl, nI_ler, nI_ltr, nI_addl, nI_addr, nI_eqN, nI_leN, nI_ltN, Nat.zero_add, Option.bind_some, Option.bind_none, Option.map_some, bd2_some, b2i_0, b2i_1, b2i_t, b2i_f, ↓reduceIte, if_true, if_false]
    simp; omega
  simp (disch := first | omega | decide) only [nI_lel, nI_ltl, nI_ler, nI_ltr, nI_addl, nI_addr, nI_eqN, nI_leN, nI_ltN, Nat.zero_add, Option.bind_some, Option.bind_none, Option.map_some, bd2_some, b2i_0, b2i_1, b2i_t, b2i_f, ↓reduceIte, if_true, if_false, grd_t isC_77, mo_in_eq, m_now, ald_78, h1, Bool.true_eq_false, i10, b2i_d]
  split <;> rfl
theorem mo_isLaid_eq {p : Nat} (hp : p < 16) : mo_isLaid (some 77) (nI p) (mkH E V) = some (b2i (laidB (V 78) p)) := by
  unfold mo_isLaid mo_isLaid_0 laidB
  simp (disch := first | omega | decide) only [nI_lel, nI_ltl, nI_ler, nI_ltr, nI_addl, nI_addr, nI_eqN, nI_leN, nI_ltN, Nat.zero_add, Option.bind_some, Option.bind_none, Option.map_some, bd2_some, b2i_0, b2i_1, b2i_t, b2i_f, ↓reduceIte, if_true, if_false, grd_t isC_77, m_now, ald_78]
  by_cases h1 : V 78 p = 1
  · simp (disch := first | omega | decide) only [nI_lel, nI_ltl, nI_ler, nI_ltr, nI_addl, nI_addr, nI_eqN, nI_leN, nI_ltN, Nat.zero_add, Option.bind_some, Option.bind_none, Option.map_some, bd2_some, b2i_0, b2i_1, b2i_t, b2i_f, ↓reduceIte, if_true, if_false, h1, decide_true, Bool.true_and]
    by_cases h2 : V 78 (48 + p) < 0
    · rw [if_pos h2, decide_eq_false (nle.mpr h2)]; rfl
    · rw [if_neg h2, decide_eq_true (nlt.mp h2)]; rfl
  · rw [if_neg h1, decide_eq_false h1]; rfl
theorem mo_whoLies_eq (plot : Int32) : mo_whoLies (some 77) plot (mkH E V) = some (whoF (V 78) plot) := by
  unfold mo_whoLies mo_whoLies_0 mo_whoLies_L2
  rw [grd_t isC_77]
  refine iter_fnd (B := fun s : Int32 => mo_whoLies_b2 (some 77) plot s (mkH E V)) nI 16 0 (fun i _ hi => ?_) rfl
  have hn : ¬ 16 ≤ i := by omega
  unfold mo_whoLies_b2
  simp (disch := first | omega | decide) only [nI_lel, nI_ltl, nI_ler, nI_ltr, nI_addl, nI_addr, nI_eqN, nI_leN, nI_ltN, Nat.zero_add, Option.bind_some, Option.bind_none, Option.map_some, bd2_some, b2i_0, b2i_1, b2i_t, b2i_f, ↓reduceIte, if_true, if_false, hn, mo_isLaid_eq, m_now, ald_78]
  by_cases h1 : laidB (V 78) i = true
  · simp (disch := first | omega | decide) only [nI_lel, nI_ltl, nI_ler, nI_ltr, nI_addl, nI_addr, nI_eqN, nI_leN, nI_ltN, Nat.zero_add, Option.bind_some, Option.bind_none, Option.map_some, bd2_some, b2i_0, b2i_1, b2i_t, b2i_f, ↓reduceIte, if_true, if_false, h1, Bool.true_eq_false, Bool.true_and, decide_eq_true_eq]
  · simp (disch := first | omega | decide) only [nI_lel, nI_ltl, nI_ler, nI_ltr, nI_addl, nI_addr, nI_eqN, nI_leN, nI_ltN, Nat.zero_add, Option.bind_some, Option.bind_none, Option.map_some, bd2_some, b2i_0, b2i_1, b2i_t, b2i_f, ↓reduceIte, if_true, if_false, h1, Bool.not_eq_true, Bool.false_and, Bool.false_eq_true]
theorem mo_areNext_eq (a b : Int32) : mo_areNext a b h = some (b2i (nxtB a b)) := by
  unfold mo_areNext mo_areNext_0 nxtB
  simp (disch := first | omega | decide) only [nI_lel, nI_ltl, nI_ler, nI_ltr, nI_addl, nI_addr, nI_eqN, nI_leN, nI_ltN, Nat.zero_add, Option.bind_some, Option.bind_none, Option.map_some, bd2_some, b2i_0, b2i_1, b2i_t, b2i_f, ↓reduceIte, if_true, if_false, mo_size_eq]
  unfold b2i
  split <;> simp [*]
theorem mo_areBeside_eq {p q : Nat} (hp : p < 16) (hq : q < 16) : mo_areBeside (some 77) (nI p) (nI q) (mkH E V) = some (b2i (besB (V 78) p q)) := by
  unfold mo_areBeside mo_areBeside_0 besB
  simp (disch := first | omega | decide) only [nI_lel, nI_ltl, nI_ler, nI_ltr, nI_addl, nI_addr, nI_eqN, nI_leN, nI_ltN, Nat.zero_add, Option.bind_some, Option.bind_none, Option.map_some, bd2_some, b2i_0, b2i_1, b2i_t, b2i_f, ↓reduceIte, if_true, if_false, grd_t isC_77, mo_isLaid_eq, m_now, ald_78, mo_areNext_eq]
  cases laidB (V 78) p <;> cases laidB (V 78) q <;> cases nxtB (V 78 (48 + p)) (V 78 (48 + q)) <;> rfl
theorem mo_besideSet_eq {p : Nat} (hp : p < 16) : mo_besideSet (some 77) (nI p) (mkH E V) = some (setF (besB (V 78) p) 16) := by
  unfold mo_besideSet mo_besideSet_0 mo_besideSet_L4
  rw [grd_t isC_77]
  refine iter_toR (fun i => (setF (besB (V 78) p) i, nI i)) 16 (fun i hi => ?_) rfl
  have hn : ¬ 16 ≤ i := by omega
  unfold mo_besideSet_b4
  simp (disch := first | omega | decide) only [nI_lel, nI_ltl, nI_ler, nI_ltr, nI_addl, nI_addr, nI_eqN, nI_leN, nI_ltN, Nat.zero_add, Option.bind_some, Option.bind_none, Option.map_some, bd2_some, b2i_0, b2i_1, b2i_t, b2i_f, ↓reduceIte, if_true, if_false, hn, mo_areBeside_eq, setF, rep]
  cases besB (V 78) p i <;> rfl
theorem mo_shared_eq {p q : Nat} (hp : p < 16) (hq : q < 16) : mo_shared (some 77) (nI p) (nI q) (mkH E V) = some (bitsF (V 78 (16 + p) &&& V 78 (16 + q))) := by
  unfold mo_shared mo_shared_0
  simp (disch := first | omega | decide) only [nI_lel, nI_ltl, nI_ler, nI_ltr, nI_addl, nI_addr, nI_eqN, nI_leN, nI_ltN, Nat.zero_add, Option.bind_some, Option.bind_none, Option.map_some, bd2_some, b2i_0, b2i_1, b2i_t, b2i_f, ↓reduceIte, if_true, if_false, grd_t isC_77, m_now, ald_78, mo_bits_eq]
theorem mo_talkOf_eq {p q : Nat} (hp : p < 16) (hq : q < 16) : mo_talkOf (some 77) (nI p) (nI q) (mkH E V) = some (talkF (V 78) p q) := by
  unfold mo_talkOf mo_talkOf_0 talkF
  simp (disch := first | omega | decide) only [nI_lel, nI_ltl, nI_ler, nI_ltr, nI_addl, nI_addr, nI_eqN, nI_leN, nI_ltN, Nat.zero_add, Option.bind_some, Option.bind_none, Option.map_some, bd2_some, b2i_0, b2i_1, b2i_t, b2i_f, ↓reduceIte, if_true, if_false, grd_t isC_77, m_now, ald_78, mo_bits_eq, mo_shared_eq]
theorem mo_toldSet_eq : mo_toldSet (some 77) (mkH E V) = some (setF (fun p => decide (V 78 p = 1)) 16) := by
  unfold mo_toldSet mo_toldSet_0 mo_toldSet_L4
  rw [grd_t isC_77]
  refine iter_toR (fun i => (setF (fun p => decide (V 78 p = 1)) i, nI i)) 16 (fun i hi => ?_) rfl
  have hn : ¬ 16 ≤ i := by omega
  unfold mo_toldSet_b4
  simp (disch := first | omega | decide) only [nI_lel, nI_ltl, nI_ler, nI_ltr, nI_addl, nI_addr, nI_eqN, nI_leN, nI_ltN, Nat.zero_add, Option.bind_some, Option.bind_none, Option.map_some, bd2_some, b2i_0, b2i_1, b2i_t, b2i_f, ↓reduceIte, if_true, if_false, hn, mo_isTold_eq, setF, rep]
  cases decide (V 78 i = 1) <;> rfl
theorem mo_laidSet_eq : mo_laidSet (some 77) (mkH E V) = some (setF (laidB (V 78)) 16) := by
  unfold mo_laidSet mo_laidSet_0 mo_laidSet_L4
  rw [grd_t isC_77]
  refine iter_toR (fun i => (setF (laidB (V 78)) i, nI i)) 16 (fun i hi => ?_) rfl
  have hn : ¬ 16 ≤ i := by omega
  unfold mo_laidSet_b4
  simp (disch := first | omega | decide) only [nI_lel, nI_ltl, nI_ler, nI_ltr, nI_addl, nI_addr, nI_eqN, nI_leN, nI_ltN, Nat.zero_add, Option.bind_some, Option.bind_none, Option.map_some, bd2_some, b2i_0, b2i_1, b2i_t, b2i_f, ↓reduceIte, if_true, if_false, hn, mo_isLaid_eq, setF, rep]
  cases laidB (V 78) i <;> rfl
end MB
