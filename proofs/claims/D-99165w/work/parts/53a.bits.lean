/-! BITS: sets of sixteen as numbers; Integer.bitCount and numberOfTrailingZeros -/
set_option maxRecDepth 100000
theorem nx_and (a b : Nat) : nI a &&& nI b = nI (a &&& b) := by
  apply Int32.toBitVec_inj.1
  show BitVec.ofNat 32 a &&& BitVec.ofNat 32 b = BitVec.ofNat 32 (a &&& b)
  apply BitVec.eq_of_getLsbD_eq
  intro i hi
  simp [hi]
theorem nx_xor (a b : Nat) : nI a ^^^ nI b = nI (a ^^^ b) := by
  apply Int32.toBitVec_inj.1
  show BitVec.ofNat 32 a ^^^ BitVec.ofNat 32 b = BitVec.ofNat 32 (a ^^^ b)
  apply BitVec.eq_of_getLsbD_eq
  intro i hi
  simp [hi]
theorem nx_or (a b : Nat) : nI a ||| nI b = nI (a ||| b) := by
  apply Int32.toBitVec_inj.1
  show BitVec.ofNat 32 a ||| BitVec.ofNat 32 b = BitVec.ofNat 32 (a ||| b)
  apply BitVec.eq_of_getLsbD_eq
  intro i hi
  simp [hi]
theorem nx_sl : ∀ n, n < 32 → ((nI n &&& 31).toBitVec.smod 32).toNat = n := by decide +kernel
theorem nx_sh {v k : Nat} (hv : v < 2 ^ 31) (hk : k < 32) : nI v >>> (nI k &&& 31) = nI (v / 2 ^ k) := pk_shrN hv _ k (nx_sl k hk)
theorem nx_bit {v k : Nat} (hv : v < 2 ^ 31) (hk : k < 32) : (nI v >>> (nI k &&& 31)) &&& 1 = nI (v / 2 ^ k % 2) := by
  rw [nx_sh hv hk]
  have : v / 2 ^ k ≤ v := Nat.div_le_self _ _
  exact pk_andN (by omega) 1 (by decide)
theorem nx_bitF {k : Nat} (hk : k < 31) : bitF k = nI (2 ^ k) := by
  have h := pk_shlN (n := 1) (nI k &&& 31) k (nx_sl k (by omega)) (by
    rw [Nat.one_mul]
    exact Nat.pow_lt_pow_right (by decide) (by omega))
  rw [Nat.one_mul] at h
  exact h
theorem nx_has {v k : Nat} (hv : v < 2 ^ 31) (hk : k < 32) : hasB (nI v) (nI k) = v.testBit k := by
  unfold hasB
  rw [nx_bit hv hk, Nat.testBit_eq_decide_div_mod_eq]
  have h2 : v / 2 ^ k % 2 < 2 := Nat.mod_lt _ (by decide)
  have e : (nI (v / 2 ^ k % 2) = 1) = (v / 2 ^ k % 2 = 1) := propext (nI_eq (b := 1) (by omega) (by decide))
  simp only [e]
theorem ius_n {v k : Nat} (hv : v < 2 ^ 32) (hk : (((nI k).toUInt32 &&& Int32.toUInt32 31).toBitVec % 32).toNat = k) : ius (nI v) (nI k) = nI (v / 2 ^ k) := pk_ushrN hv _ k hk
def pcN (v : Nat) : Nat → Nat := rep (fun k n => n + v / 2 ^ k % 2) 0
theorem bitsF_n {v : Nat} (hv : v < 2 ^ 31) : bitsF (nI v) = nI (pcN v 16) := by
  have : ∀ n, n ≤ 16 → rep (fun k n => n + ((nI v >>> (nI k &&& 31)) &&& 1)) 0 n = nI (pcN v n) := by
    intro n hn
    induction n with
    | zero => rfl
    | succ n ih =>
      show rep _ 0 n + _ = nI (pcN v n + v / 2 ^ n % 2)
      rw [ih (by omega), nx_bit hv (by omega)]
      exact nI_add _ _
  exact this 16 (Nat.le_refl _)
theorem bc_ok {v : Nat} (hv : v < 65536) : bcN v = pc16 v := by
  have h := chkBC_ok
  unfold chkBC at h
  rw [List.all_eq_true] at h
  have h1 := h (v / 256) (List.mem_range.mpr (by omega))
  rw [List.all_eq_true] at h1
  have h2 := h1 (v % 256) (List.mem_range.mpr (by omega))
  rw [show 256 * (v / 256) + v % 256 = v by omega] at h2
  exact Nat.eq_of_beq_eq_true h2
theorem tz_ok {v : Nat} (h0 : 0 < v) (hv : v < 65536) : tzI v < 65536 ∧ v / 2 ^ tzN v % 2 = 1 ∧ v % 2 ^ tzN v = 0 ∧ tzN v < 16 := by
  have h := chkTZ_ok
  unfold chkTZ at h
  rw [List.all_eq_true] at h
  have h1 := h (v / 256) (List.mem_range.mpr (by omega))
  rw [List.all_eq_true] at h1
  have h2 := h1 (v % 256) (List.mem_range.mpr (by omega))
  rw [show 256 * (v / 256) + v % 256 = v by omega, Bool.or_eq_true] at h2
  rcases h2 with h2 | h2
  · exact absurd (Nat.eq_of_beq_eq_true h2) (by omega)
  · unfold chkTZ1 at h2
    simp only [Bool.and_eq_true] at h2
    obtain ⟨⟨⟨a, b⟩, c⟩, d⟩ := h2
    exact ⟨Nat.lt_succ_of_le (Nat.le_of_ble_eq_true a), Nat.eq_of_beq_eq_true b, Nat.eq_of_beq_eq_true c, Nat.lt_succ_of_le (Nat.le_of_ble_eq_true d)⟩
theorem pc16_eq (v : Nat) : pc16 v = pcN v 16 := by
  unfold pc16
  simp only [pcN, rep]
  simp only [Nat.pow_zero, Nat.div_one, Nat.zero_add]
section BT
variable {h : PH}
theorem jI_bitCount_eq {v : Nat} (hv : v < 65536) : jI_bitCount (nI v) h = some (bitsF (nI v)) := by
  rw [bitsF_n (by omega), ← pc16_eq, ← bc_ok hv]
  unfold jI_bitCount jI_bitCount_0 bcN
  dsimp only
  have l1 : v / 2 &&& 1431655765 ≤ v := Nat.le_trans Nat.and_le_left (Nat.div_le_self _ _)
  have a1 : nI v - (ius (nI v) 1 &&& 1431655765) = nI (bcA v) := by
    rw [show (1 : Int32) = nI 1 from rfl, ius_n (by omega) (by decide), show (1431655765 : Int32) = nI 1431655765 from rfl, nx_and, pk_sub l1]
    rfl
  have la : bcA v < 65536 := Nat.lt_of_le_of_lt (Nat.sub_le _ _) hv
  have a2 : (nI (bcA v) &&& 858993459) + (ius (nI (bcA v)) 2 &&& 858993459) = nI (bcB (bcA v)) := by
    rw [show (2 : Int32) = nI 2 from rfl, ius_n (by omega) (by decide), show (858993459 : Int32) = nI 858993459 from rfl, nx_and, nx_and, nI_add]
    rfl
  have lb : bcB (bcA v) < 131072 := by
    have q1 : bcA v &&& 858993459 ≤ bcA v := Nat.and_le_left
    have q2 : bcA v / 4 &&& 858993459 ≤ bcA v / 4 := Nat.and_le_left
    unfold bcB
    omega
  have a3 : (nI (bcB (bcA v)) + ius (nI (bcB (bcA v))) 4) &&& 252645135 = nI (bcC (bcB (bcA v))) := by
    rw [show (4 : Int32) = nI 4 from rfl, ius_n (by omega) (by decide), show (252645135 : Int32) = nI 252645135 from rfl, nI_add, nx_and]
    rfl
  have lc : bcC (bcB (bcA v)) < 262144 := by
    have q1 : (bcB (bcA v) + bcB (bcA v) / 16) &&& 252645135 ≤ bcB (bcA v) + bcB (bcA v) / 16 := Nat.and_le_left
    unfold bcC
    omega
  rw [a1, a2]
  simp only [Option.bind_some]
  rw [a3]
  generalize bcC (bcB (bcA v)) = c at lc
  have a4 : nI c + ius (nI c) 8 = nI (c + c / 256) := by
    rw [show (8 : Int32) = nI 8 from rfl, ius_n (by omega) (by decide), nI_add]
  rw [a4]
  have a5 : (nI (c + c / 256) + ius (nI (c + c / 256)) 16) &&& 63 = nI ((c + c / 256 + (c + c / 256) / 65536) &&& 63) := by
    rw [show (16 : Int32) = nI 16 from rfl, ius_n (by omega) (by decide), show (63 : Int32) = nI 63 from rfl, nI_add, nx_and]
  rw [a5]
theorem tz62_eq {v n : Nat} (hv : v < 65536) : jI_numberOfTrailingZeros_62 (nI v) (nI n) h = some (nI (tz62 v n)) := by
  unfold jI_numberOfTrailingZeros_62 tz62
  have e1 : ius (nI v) 1 = nI (v / 2) := ius_n (k := 1) (by omega) (by decide)
  have e2 : ius (nI v) 2 = nI (v / 4) := ius_n (k := 2) (by omega) (by decide)
  have e3 : ius (nI (v / 4)) 1 = nI (v / 4 / 2) := ius_n (k := 1) (by omega) (by decide)
  simp (disch := first | omega | decide) only [nI_lel, nI_ltl, nI_ler, nI_ltr, nI_addl, nI_addr, nI_eqN, nI_leN, nI_ltN, Nat.zero_add, Option.bind_some, Option.bind_none, Option.map_some, bd2_some, b2i_0, b2i_1, b2i_t, b2i_f, ↓reduceIte, if_true, if_false, e1, e2, e3, nI_add, Nat.ble_eq]
  split <;> rfl
theorem tz49_eq {v n : Nat} (hv : v < 65536) : jI_numberOfTrailingZeros_49 (nI v) (nI n) h = some (nI (tz49 v n)) := by
  unfold jI_numberOfTrailingZeros_49 tz49
  have e1 : ius (nI v) 4 = nI (v / 16) := ius_n (k := 4) (by omega) (by decide)
  simp (disch := first | omega | decide) only [nI_lel, nI_ltl, nI_ler, nI_ltr, nI_addl, nI_addr, nI_eqN, nI_leN, nI_ltN, Nat.zero_add, Option.bind_some, Option.bind_none, Option.map_some, bd2_some, b2i_0, b2i_1, b2i_t, b2i_f, ↓reduceIte, if_true, if_false, e1, nI_add, Nat.ble_eq, tz62_eq hv, tz62_eq (show v / 16 < 65536 by omega)]
  split <;> rfl
theorem tz34_eq {v n : Nat} (hv : v < 65536) : jI_numberOfTrailingZeros_34 (nI v) (nI n) h = some (nI (tz34 v n)) := by
  unfold jI_numberOfTrailingZeros_34 tz34
  have e1 : ius (nI v) 8 = nI (v / 256) := ius_n (k := 8) (by omega) (by decide)
  simp (disch := first | omega | decide) only [nI_lel, nI_ltl, nI_ler, nI_ltr, nI_addl, nI_addr, nI_eqN, nI_leN, nI_ltN, Nat.zero_add, Option.bind_some, Option.bind_none, Option.map_some, bd2_some, b2i_0, b2i_1, b2i_t, b2i_f, ↓reduceIte, if_true, if_false, e1, nI_add, Nat.ble_eq, tz49_eq hv, tz49_eq (show v / 256 < 65536 by omega)]
  split <;> rfl
theorem jI_tz_eq {v : Nat} (h0 : 0 < v) (hv : v < 65536) : jI_numberOfTrailingZeros (nI v) h = some (nI (tzN v)) := by
  obtain ⟨t1, -⟩ := tz_ok h0 hv
  unfold jI_numberOfTrailingZeros jI_numberOfTrailingZeros_0
  have e : (nI v ^^^ (-1)) &&& (nI v - 1) = nI (tzI v) := by
    rw [show (-1 : Int32) = nI 4294967295 by decide, show (1 : Int32) = nI 1 from rfl, nx_xor, pk_sub h0, nx_and]
    unfold tzI
    rw [Nat.xor_comm]
  rw [e]
  unfold tzN
  rcases Nat.eq_zero_or_pos (tzI v) with z | z
  · rw [z]; rfl
  · have b1 : Nat.beq (tzI v) 0 = false := by
      cases hb : Nat.beq (tzI v) 0 with
      | false => rfl
      | true => exact absurd (Nat.eq_of_beq_eq_true hb) (by omega)
    have c1 : (0 : Int32) < nI (tzI v) := nI_lt (a := 0) z (by omega)
    have c2 : nI (tzI v) ≤ (65536 : Int32) := nI_le (b := 65536) (by omega) (by decide)
    rw [b1, if_pos c1, if_pos c2, if_neg (by decide)]
    exact tz34_eq (n := 1) t1
theorem jI_tz0 : jI_numberOfTrailingZeros 0 h = some 32 := rfl
theorem tp_lowest_eq {v : Nat} (h0 : 0 < v) (hv : v < 65536) : tp_lowest (nI v) h = some (nI (tzN v)) := by
  unfold tp_lowest tp_lowest_0
  rw [jI_tz_eq h0 hv]; rfl
end BT
/-! neighbours -/
def nexN (a way : Nat) : Int32 := match way with
  | 0 => if 10 ≤ a then nI (a - 10) else -1
  | 1 => if 1 ≤ a % 10 then nI (a - 1) else -1
  | 2 => if a % 10 ≤ 8 then nI (a + 1) else -1
  | _ => if a ≤ 49 then nI (a + 10) else -1
def nexI (v : Int32) (o d : Int32) : Int32 := if (decide (0 ≤ irm v 10 + o) && decide (irm v 10 + o < 10)) = false then -1 else if (decide (0 ≤ v / 10 + d) && decide (v / 10 + d < 6)) = false then -1 else 10 * (v / 10 + d) + (irm v 10 + o)
theorem nex_all : ∀ way, way < 4 → ∀ a, a < 60 → nexI (nI a) (fOver way) (fDown way) = nexN a way := by decide +kernel
theorem nxt_all : ∀ a, a < 60 → ∀ b, b < 60 → nxtB (nI a) (nI b) = (decide (b + 10 = a) || (decide (b + 1 = a) && decide (1 ≤ a % 10)) || (decide (b = a + 1) && decide (a % 10 ≤ 8)) || decide (b = a + 10)) := by decide +kernel
section NX
variable {E : EE} {V : Nat → Nat → Int32}
theorem tp_next_eq {a way : Nat} (eo : EO E) (ha : a < 60) (hw : way < 4) : tp_next (nI a) (nI way) (mkH E V) = some (nexN a way) := by
  have l0 : ald 0 (some 0) (nI way) (mkH E V) = some (fOver way) := by
    unfold ald
    dsimp only
    rw [show (mkH E V).2.2 0 = E.2.2.2 0 from rfl, eo.1]
    dsimp only
    rw [if_pos ⟨rfl, nIin hw (by decide)⟩, nI_clamp (by omega)]
  have l1 : ald 0 (some 1) (nI way) (mkH E V) = some (fDown way) := by
    unfold ald
    dsimp only
    rw [show (mkH E V).2.2 1 = E.2.2.2 1 from rfl, eo.2.1]
    dsimp only
    rw [if_pos ⟨rfl, nIin hw (by decide)⟩, nI_clamp (by omega)]
  unfold tp_next tp_next_0
  simp (disch := first | omega | decide) only [nI_lel, nI_ltl, nI_ler, nI_ltr, nI_addl, nI_addr, nI_eqN, nI_leN, nI_ltN, Nat.zero_add, Option.bind_some, Option.bind_none, Option.map_some, bd2_some, b2i_0, b2i_1, b2i_t, b2i_f, ↓reduceIte, if_true, if_false, l0, l1, tp_in_eq]
  rw [← nex_all way hw a ha]
  unfold nexI
  split
  · rfl
  · split <;> rfl
theorem tp_areNext_eq {a b : Nat} (eo : EO E) (ha : a < 60) (hb : b < 60) : tp_areNext (nI a) (nI b) (mkH E V) = some (b2i (nxtB (nI a) (nI b))) := by
  unfold tp_areNext tp_areNext_0 tp_areNext_L2
  have key := iter_fnd (B := fun s : Int32 => tp_areNext_b2 (nI a) (nI b) s (mkH E V)) (P := fun way => decide (nexN a way = nI b)) (g := fun _ => (1 : Int32)) (r := 0) nI 4 0 (fun i _ hi => by
    have hn : ¬ 4 ≤ i := by omega
    unfold tp_areNext_b2
    simp (disch := first | omega | decide) only [nI_lel, nI_ltl, nI_ler, nI_ltr, nI_addl, nI_addr, nI_eqN, nI_leN, nI_ltN, Nat.zero_add, Option.bind_some, Option.bind_none, Option.map_some, bd2_some, b2i_0, b2i_1, b2i_t, b2i_f, ↓reduceIte, if_true, if_false, hn, tp_next_eq eo ha (show i < 4 by omega), decide_eq_true_eq]) rfl
  refine key.trans ?_
  rw [nxt_all a ha b hb]
  simp only [fnd, nexN, decide_eq_true_eq]
  have d1 : ∀ {k : Nat}, k < 70 → ((nI k = nI b) = (k = b)) := fun hk => propext (nI_eq (by omega) (by omega))
  have d2 : ((-1 : Int32) = nI b) = False := eq_false (fun q => nI_ne1 (show b < 2 ^ 31 by omega) q.symm)
  by_cases c1 : 10 ≤ a <;> by_cases c2 : 1 ≤ a % 10 <;> by_cases c3 : a % 10 ≤ 8 <;> by_cases c4 : a ≤ 49 <;> (
    simp only [c1, c2, c3, c4, ↓reduceIte, if_true, if_false, d1 (show a - 10 < 70 by omega), d1 (show a - 1 < 70 by omega), d1 (show a + 1 < 70 by omega), d1 (show a + 10 < 70 by omega), d2, b2i, Bool.or_eq_true, Bool.and_eq_true, decide_eq_true_eq, and_true, and_false, or_false]
    repeat' split
    all_goals first | rfl | (exfalso; omega))
end NX
