/-! THE FIXED HEAP: the component's cells 7..63, 68..76 and the model's 77..108, with the numbers that they hold as one function V; the rest (old cells, texts of laws, scribes) as g -/
set_option maxRecDepth 100000
def fixd (a : Nat) : Bool := Nat.ble 7 a && Nat.ble a 108 && !(Nat.ble 64 a && Nat.ble a 67)
def persR (y : Nat) : Nat → Option Nat := fun i => if i < 16 then some (y + 2 + i) else none
def cellOf (f : Nat → Int32) (lr : Option Nat) (a : Nat) : PCell := match a with
  | 7 => .inr (.inr (0, [.inr (some 8), .inr (some 9), .inr (some 27), .inr (some 45), .inr (some 63), .inr lr, .inl (f 6), .inl (f 7), .inr (some 68), .inr (some 69), .inr (some 70), .inl (f 11), .inr (some 71), .inr (some 72), .inl (f 14), .inl (f 15), .inr (some 73), .inr (some 74), .inr (some 75), .inr (some 76)]))
  | 8 => .inr (.inr (1, [.inl (f 0), .inl (f 1), .inl (f 2), .inl (f 3), .inl (f 4), .inl (f 5), .inl (f 6), .inl (f 7), .inl (f 8)]))
  | 63 => .inl (1, 260, f)
  | 68 => .inl (0, 24, f)
  | 69 => .inl (0, 24, f)
  | 70 => .inl (0, 24, f)
  | 71 => .inl (0, 7, f)
  | 72 => .inl (0, 7, f)
  | 73 => .inl (0, 1024, f)
  | 74 => .inl (0, 10, f)
  | 75 => .inl (0, 20, f)
  | 76 => .inl (0, 60, f)
  | 78 => .inl (0, 66, f)
  | 79 => .inl (0, 66, f)
  | 80 => .inl (0, 66, f)
  | 81 => .inl (1, 260, f)
  | 82 => .inl (0, 260, f)
  | 83 => .inl (0, 260, f)
  | 84 => .inl (0, 16, f)
  | 85 => .inl (0, 16, f)
  | 86 => .inl (0, 16, f)
  | 87 => .inl (0, 16, f)
  | 88 => .inl (0, 260, f)
  | 89 => .inl (0, 16, f)
  | 90 => .inl (0, 16, f)
  | 91 => .inl (0, 16, f)
  | 92 => .inl (0, 16, f)
  | 93 => .inl (0, 260, f)
  | 94 => .inl (0, 8, f)
  | 95 => .inl (0, 24, f)
  | 96 => .inl (0, 24, f)
  | 97 => .inl (0, 24, f)
  | 98 => .inl (0, 24, f)
  | 99 => .inl (0, 24, f)
  | 100 => .inl (0, 24, f)
  | 101 => .inl (0, 7, f)
  | 102 => .inl (0, 7, f)
  | 103 => .inl (0, 16, f)
  | 104 => .inl (0, 10, f)
  | 105 => .inl (0, 1024, f)
  | 106 => .inl (0, 20, f)
  | 107 => .inl (0, 60, f)
  | 108 => .inl (0, 60, f)
  | 77 => .inr (.inr (5, [.inr (some 78), .inr (some 79), .inr (some 80), .inr (some 81), .inl (f 4), .inl (f 5), .inl (f 6), .inl (f 7), .inl (f 8), .inl (f 9), .inl (f 10), .inl (f 11), .inl (f 12), .inl (f 13), .inr (some 82), .inr (some 83), .inr (some 84), .inr (some 85), .inr (some 86), .inr (some 87), .inr (some 88), .inr (some 89), .inr (some 90), .inr (some 91), .inr (some 92), .inr (some 93), .inr (some 94), .inl (f 27), .inr (some 95), .inr (some 96), .inr (some 97), .inr (some 98), .inr (some 99), .inr (some 100), .inl (f 34), .inl (f 35), .inl (f 36), .inl (f 37), .inr (some 101), .inr (some 102), .inr (some 103), .inl (f 41), .inl (f 42), .inr (some 104), .inr (some 105), .inl (f 45), .inr (some 106), .inr (some 107), .inr (some 108), .inl (f 49)]))
  | a => if a = 9 ∨ a = 27 ∨ a = 45 then .inr (.inr (2, [.inr (some (a + 1)), .inl (f 1), .inl (f 2), .inl (f 3), .inl (f 4), .inr (some 7)])) else if a = 10 ∨ a = 28 ∨ a = 46 then .inr (.inl (2, 16, persR (a - 1))) else .inr (.inr (3, [.inl (f 0), .inl (f 1), .inl (f 2), .inl (f 3)]))
abbrev EE : Type := Nat × Nat × Option Nat × (Nat → PCell)
def mkH (E : EE) (V : Nat → Nat → Int32) : PH := (E.1, E.2.1, fun a => if fixd a = true then cellOf (V a) E.2.2.1 a else E.2.2.2 a)
def up1 (V : Nat → Nat → Int32) (a : Nat) (f : Nat → Int32) : Nat → Nat → Int32 := fun b => if b = a then f else V b
theorem up1_s (V : Nat → Nat → Int32) (a : Nat) (f : Nat → Int32) : up1 V a f a = f := if_pos rfl
theorem up1_n {V : Nat → Nat → Int32} {a b : Nat} {f : Nat → Int32} (h : b ≠ a) : up1 V a f b = V b := if_neg h
theorem mk_at {E : EE} {V : Nat → Nat → Int32} {a : Nat} (h : fixd a = true) : (mkH E V).2.2 a = cellOf (V a) E.2.2.1 a := if_pos h
theorem mk_up {E : EE} {V : Nat → Nat → Int32} {a : Nat} {f : Nat → Int32} (h : fixd a = true) : ((mkH E V).1, (mkH E V).2.1, hup (mkH E V).2.2 a (cellOf f E.2.2.1 a)) = mkH E (up1 V a f) := by
  refine Prod.ext rfl (Prod.ext rfl (funext fun b => ?_))
  show (if b = a then cellOf f E.2.2.1 a else if fixd b = true then _ else _) = if fixd b = true then cellOf (up1 V a f b) E.2.2.1 b else _
  by_cases e : b = a
  · subst e
    rw [if_pos rfl, if_pos h, up1_s]
  · rw [if_neg e, up1_n e]
section Lib
variable {E : EE} {V : Nat → Nat → Int32}
theorem nIin {j n : Nat} (h : j < n) (hn : n < 2 ^ 31) : ¬ (nI j < 0 ∨ n ≤ (nI j).toNatClampNeg) := nI_in h hn
theorem ald_mk {a t n j : Nat} (hf : fixd a = true) (hc : ∀ f lr, cellOf f lr a = .inl (t, n, f)) (hj : j < n) (hn : n < 2 ^ 31) : ald t (some a) (nI j) (mkH E V) = some (V a j) := by
  unfold ald
  dsimp only
  rw [mk_at hf, hc]
  dsimp only
  rw [if_pos ⟨rfl, nIin hj hn⟩, nI_clamp (by omega)]
theorem ast_mk {a t n j : Nat} {v : Int32} (hf : fixd a = true) (hc : ∀ f lr, cellOf f lr a = .inl (t, n, f)) (hj : j < n) (hn : n < 2 ^ 31) : ast t (some a) (nI j) v (mkH E V) = some (mkH E (up1 V a (upd (V a) j v))) := by
  unfold ast
  dsimp only
  rw [mk_at hf, hc]
  dsimp only
  have h7 : 7 ≤ a := by
    unfold fixd at hf
    simp only [Bool.and_eq_true] at hf
    exact Nat.le_of_ble_eq_true hf.1.1
  rw [if_pos ⟨rfl, h7, nIin hj hn⟩, nI_clamp (by omega), ← hc (upd (V a) j v) E.2.2.1]
  exact congrArg some (mk_up hf)
theorem gfi_mk {a c k : Nat} {cs : List Nat} {fs : List PV} {x : Int32} (hf : fixd a = true) (hc : cellOf (V a) E.2.2.1 a = .inr (.inr (c, fs))) (hm : c ∈ cs) (hk : fs[k]? = some (.inl x)) : gfi cs k (some a) (mkH E V) = some x := by
  unfold gfi fget
  dsimp only
  rw [mk_at hf, hc]
  dsimp only
  rw [if_pos hm, hk]
theorem gfr_mk {a c k : Nat} {cs : List Nat} {fs : List PV} {x : Option Nat} (hf : fixd a = true) (hc : cellOf (V a) E.2.2.1 a = .inr (.inr (c, fs))) (hm : c ∈ cs) (hk : fs[k]? = some (.inr x)) : gfr cs k (some a) (mkH E V) = some x := by
  unfold gfr fget
  dsimp only
  rw [mk_at hf, hc]
  dsimp only
  rw [if_pos hm, hk]
theorem pf_mk {a c k : Nat} {cs : List Nat} {fs : List PV} {v : Int32} (hf : fixd a = true) (hc : cellOf (V a) E.2.2.1 a = .inr (.inr (c, fs))) (hm : c ∈ cs) (hk : k < fs.length) (hn : cellOf (upd (V a) k v) E.2.2.1 a = .inr (.inr (c, fs.set k (.inl v)))) : pf cs k (some a) (.inl v) (mkH E V) = some (mkH E (up1 V a (upd (V a) k v))) := by
  unfold pf
  dsimp only
  rw [mk_at hf, hc]
  dsimp only
  rw [if_pos ⟨hm, hk⟩, ← hn]
  exact congrArg some (mk_up hf)
theorem isC_mk {a c : Nat} {cs : List Nat} {fs : List PV} (hf : fixd a = true) (hc : cellOf (V a) E.2.2.1 a = .inr (.inr (c, fs))) (hm : c ∈ cs) : isC cs (some a) (mkH E V) = true := by
  unfold isC
  dsimp only
  rw [mk_at hf, hc]
  exact decide_eq_true hm
theorem ald_63 {j : Nat} (hj : j < 260) : ald 1 (some 63) (nI j) (mkH E V) = some (V 63 j) := ald_mk rfl (fun _ _ => rfl) hj (by decide)
theorem ast_63 {j : Nat} {v : Int32} (hj : j < 260) : ast 1 (some 63) (nI j) v (mkH E V) = some (mkH E (up1 V 63 (upd (V 63) j v))) := ast_mk rfl (fun _ _ => rfl) hj (by decide)
theorem ald_68 {j : Nat} (hj : j < 24) : ald 0 (some 68) (nI j) (mkH E V) = some (V 68 j) := ald_mk rfl (fun _ _ => rfl) hj (by decide)
theorem ast_68 {j : Nat} {v : Int32} (hj : j < 24) : ast 0 (some 68) (nI j) v (mkH E V) = some (mkH E (up1 V 68 (upd (V 68) j v))) := ast_mk rfl (fun _ _ => rfl) hj (by decide)
theorem ald_69 {j : Nat} (hj : j < 24) : ald 0 (some 69) (nI j) (mkH E V) = some (V 69 j) := ald_mk rfl (fun _ _ => rfl) hj (by decide)
theorem ast_69 {j : Nat} {v : Int32} (hj : j < 24) : ast 0 (some 69) (nI j) v (mkH E V) = some (mkH E (up1 V 69 (upd (V 69) j v))) := ast_mk rfl (fun _ _ => rfl) hj (by decide)
theorem ald_70 {j : Nat} (hj : j < 24) : ald 0 (some 70) (nI j) (mkH E V) = some (V 70 j) := ald_mk rfl (fun _ _ => rfl) hj (by decide)
theorem ast_70 {j : Nat} {v : Int32} (hj : j < 24) : ast 0 (some 70) (nI j) v (mkH E V) = some (mkH E (up1 V 70 (upd (V 70) j v))) := ast_mk rfl (fun _ _ => rfl) hj (by decide)
theorem ald_71 {j : Nat} (hj : j < 7) : ald 0 (some 71) (nI j) (mkH E V) = some (V 71 j) := ald_mk rfl (fun _ _ => rfl) hj (by decide)
theorem ast_71 {j : Nat} {v : Int32} (hj : j < 7) : ast 0 (some 71) (nI j) v (mkH E V) = some (mkH E (up1 V 71 (upd (V 71) j v))) := ast_mk rfl (fun _ _ => rfl) hj (by decide)
theorem ald_72 {j : Nat} (hj : j < 7) : ald 0 (some 72) (nI j) (mkH E V) = some (V 72 j) := ald_mk rfl (fun _ _ => rfl) hj (by decide)
theorem ast_72 {j : Nat} {v : Int32} (hj : j < 7) : ast 0 (some 72) (nI j) v (mkH E V) = some (mkH E (up1 V 72 (upd (V 72) j v))) := ast_mk rfl (fun _ _ => rfl) hj (by decide)
theorem ald_73 {j : Nat} (hj : j < 1024) : ald 0 (some 73) (nI j) (mkH E V) = some (V 73 j) := ald_mk rfl (fun _ _ => rfl) hj (by decide)
theorem ast_73 {j : Nat} {v : Int32} (hj : j < 1024) : ast 0 (some 73) (nI j) v (mkH E V) = some (mkH E (up1 V 73 (upd (V 73) j v))) := ast_mk rfl (fun _ _ => rfl) hj (by decide)
theorem ald_74 {j : Nat} (hj : j < 10) : ald 0 (some 74) (nI j) (mkH E V) = some (V 74 j) := ald_mk rfl (fun _ _ => rfl) hj (by decide)
theorem ast_74 {j : Nat} {v : Int32} (hj : j < 10) : ast 0 (some 74) (nI j) v (mkH E V) = some (mkH E (up1 V 74 (upd (V 74) j v))) := ast_mk rfl (fun _ _ => rfl) hj (by decide)
theorem ald_75 {j : Nat} (hj : j < 20) : ald 0 (some 75) (nI j) (mkH E V) = some (V 75 j) := ald_mk rfl (fun _ _ => rfl) hj (by decide)
theorem ast_75 {j : Nat} {v : Int32} (hj : j < 20) : ast 0 (some 75) (nI j) v (mkH E V) = some (mkH E (up1 V 75 (upd (V 75) j v))) := ast_mk rfl (fun _ _ => rfl) hj (by decide)
theorem ald_76 {j : Nat} (hj : j < 60) : ald 0 (some 76) (nI j) (mkH E V) = some (V 76 j) := ald_mk rfl (fun _ _ => rfl) hj (by decide)
theorem ast_76 {j : Nat} {v : Int32} (hj : j < 60) : ast 0 (some 76) (nI j) v (mkH E V) = some (mkH E (up1 V 76 (upd (V 76) j v))) := ast_mk rfl (fun _ _ => rfl) hj (by decide)
theorem ald_78 {j : Nat} (hj : j < 66) : ald 0 (some 78) (nI j) (mkH E V) = some (V 78 j) := ald_mk rfl (fun _ _ => rfl) hj (by decide)
theorem ast_78 {j : Nat} {v : Int32} (hj : j < 66) : ast 0 (some 78) (nI j) v (mkH E V) = some (mkH E (up1 V 78 (upd (V 78) j v))) := ast_mk rfl (fun _ _ => rfl) hj (by decide)
theorem ald_79 {j : Nat} (hj : j < 66) : ald 0 (some 79) (nI j) (mkH E V) = some (V 79 j) := ald_mk rfl (fun _ _ => rfl) hj (by decide)
theorem ast_79 {j : Nat} {v : Int32} (hj : j < 66) : ast 0 (some 79) (nI j) v (mkH E V) = some (mkH E (up1 V 79 (upd (V 79) j v))) := ast_mk rfl (fun _ _ => rfl) hj (by decide)
theorem ald_80 {j : Nat} (hj : j < 66) : ald 0 (some 80) (nI j) (mkH E V) = some (V 80 j) := ald_mk rfl (fun _ _ => rfl) hj (by decide)
theorem ast_80 {j : Nat} {v : Int32} (hj : j < 66) : ast 0 (some 80) (nI j) v (mkH E V) = some (mkH E (up1 V 80 (upd (V 80) j v))) := ast_mk rfl (fun _ _ => rfl) hj (by decide)
theorem ald_81 {j : Nat} (hj : j < 260) : ald 1 (some 81) (nI j) (mkH E V) = some (V 81 j) := ald_mk rfl (fun _ _ => rfl) hj (by decide)
theorem ast_81 {j : Nat} {v : Int32} (hj : j < 260) : ast 1 (some 81) (nI j) v (mkH E V) = some (mkH E (up1 V 81 (upd (V 81) j v))) := ast_mk rfl (fun _ _ => rfl) hj (by decide)
theorem ald_82 {j : Nat} (hj : j < 260) : ald 0 (some 82) (nI j) (mkH E V) = some (V 82 j) := ald_mk rfl (fun _ _ => rfl) hj (by decide)
theorem ast_82 {j : Nat} {v : Int32} (hj : j < 260) : ast 0 (some 82) (nI j) v (mkH E V) = some (mkH E (up1 V 82 (upd (V 82) j v))) := ast_mk rfl (fun _ _ => rfl) hj (by decide)
theorem ald_83 {j : Nat} (hj : j < 260) : ald 0 (some 83) (nI j) (mkH E V) = some (V 83 j) := ald_mk rfl (fun _ _ => rfl) hj (by decide)
theorem ast_83 {j : Nat} {v : Int32} (hj : j < 260) : ast 0 (some 83) (nI j) v (mkH E V) = some (mkH E (up1 V 83 (upd (V 83) j v))) := ast_mk rfl (fun _ _ => rfl) hj (by decide)
theorem ald_84 {j : Nat} (hj : j < 16) : ald 0 (some 84) (nI j) (mkH E V) = some (V 84 j) := ald_mk rfl (fun _ _ => rfl) hj (by decide)
theorem ast_84 {j : Nat} {v : Int32} (hj : j < 16) : ast 0 (some 84) (nI j) v (mkH E V) = some (mkH E (up1 V 84 (upd (V 84) j v))) := ast_mk rfl (fun _ _ => rfl) hj (by decide)
theorem ald_85 {j : Nat} (hj : j < 16) : ald 0 (some 85) (nI j) (mkH E V) = some (V 85 j) := ald_mk rfl (fun _ _ => rfl) hj (by decide)
theorem ast_85 {j : Nat} {v : Int32} (hj : j < 16) : ast 0 (some 85) (nI j) v (mkH E V) = some (mkH E (up1 V 85 (upd (V 85) j v))) := ast_mk rfl (fun _ _ => rfl) hj (by decide)
theorem ald_86 {j : Nat} (hj : j < 16) : ald 0 (some 86) (nI j) (mkH E V) = some (V 86 j) := ald_mk rfl (fun _ _ => rfl) hj (by decide)
theorem ast_86 {j : Nat} {v : Int32} (hj : j < 16) : ast 0 (some 86) (nI j) v (mkH E V) = some (mkH E (up1 V 86 (upd (V 86) j v))) := ast_mk rfl (fun _ _ => rfl) hj (by decide)
theorem ald_87 {j : Nat} (hj : j < 16) : ald 0 (some 87) (nI j) (mkH E V) = some (V 87 j) := ald_mk rfl (fun _ _ => rfl) hj (by decide)
theorem ast_87 {j : Nat} {v : Int32} (hj : j < 16) : ast 0 (some 87) (nI j) v (mkH E V) = some (mkH E (up1 V 87 (upd (V 87) j v))) := ast_mk rfl (fun _ _ => rfl) hj (by decide)
theorem ald_88 {j : Nat} (hj : j < 260) : ald 0 (some 88) (nI j) (mkH E V) = some (V 88 j) := ald_mk rfl (fun _ _ => rfl) hj (by decide)
theorem ast_88 {j : Nat} {v : Int32} (hj : j < 260) : ast 0 (some 88) (nI j) v (mkH E V) = some (mkH E (up1 V 88 (upd (V 88) j v))) := ast_mk rfl (fun _ _ => rfl) hj (by decide)
theorem ald_89 {j : Nat} (hj : j < 16) : ald 0 (some 89) (nI j) (mkH E V) = some (V 89 j) := ald_mk rfl (fun _ _ => rfl) hj (by decide)
theorem ast_89 {j : Nat} {v : Int32} (hj : j < 16) : ast 0 (some 89) (nI j) v (mkH E V) = some (mkH E (up1 V 89 (upd (V 89) j v))) := ast_mk rfl (fun _ _ => rfl) hj (by decide)
theorem ald_90 {j : Nat} (hj : j < 16) : ald 0 (some 90) (nI j) (mkH E V) = some (V 90 j) := ald_mk rfl (fun _ _ => rfl) hj (by decide)
theorem ast_90 {j : Nat} {v : Int32} (hj : j < 16) : ast 0 (some 90) (nI j) v (mkH E V) = some (mkH E (up1 V 90 (upd (V 90) j v))) := ast_mk rfl (fun _ _ => rfl) hj (by decide)
theorem ald_91 {j : Nat} (hj : j < 16) : ald 0 (some 91) (nI j) (mkH E V) = some (V 91 j) := ald_mk rfl (fun _ _ => rfl) hj (by decide)
theorem ast_91 {j : Nat} {v : Int32} (hj : j < 16) : ast 0 (some 91) (nI j) v (mkH E V) = some (mkH E (up1 V 91 (upd (V 91) j v))) := ast_mk rfl (fun _ _ => rfl) hj (by decide)
theorem ald_92 {j : Nat} (hj : j < 16) : ald 0 (some 92) (nI j) (mkH E V) = some (V 92 j) := ald_mk rfl (fun _ _ => rfl) hj (by decide)
theorem ast_92 {j : Nat} {v : Int32} (hj : j < 16) : ast 0 (some 92) (nI j) v (mkH E V) = some (mkH E (up1 V 92 (upd (V 92) j v))) := ast_mk rfl (fun _ _ => rfl) hj (by decide)
theorem ald_93 {j : Nat} (hj : j < 260) : ald 0 (some 93) (nI j) (mkH E V) = some (V 93 j) := ald_mk rfl (fun _ _ => rfl) hj (by decide)
theorem ast_93 {j : Nat} {v : Int32} (hj : j < 260) : ast 0 (some 93) (nI j) v (mkH E V) = some (mkH E (up1 V 93 (upd (V 93) j v))) := ast_mk rfl (fun _ _ => rfl) hj (by decide)
theorem ald_94 {j : Nat} (hj : j < 8) : ald 0 (some 94) (nI j) (mkH E V) = some (V 94 j) := ald_mk rfl (fun _ _ => rfl) hj (by decide)
theorem ast_94 {j : Nat} {v : Int32} (hj : j < 8) : ast 0 (some 94) (nI j) v (mkH E V) = some (mkH E (up1 V 94 (upd (V 94) j v))) := ast_mk rfl (fun _ _ => rfl) hj (by decide)
theorem ald_95 {j : Nat} (hj : j < 24) : ald 0 (some 95) (nI j) (mkH E V) = some (V 95 j) := ald_mk rfl (fun _ _ => rfl) hj (by decide)
theorem ast_95 {j : Nat} {v : Int32} (hj : j < 24) : ast 0 (some 95) (nI j) v (mkH E V) = some (mkH E (up1 V 95 (upd (V 95) j v))) := ast_mk rfl (fun _ _ => rfl) hj (by decide)
theorem ald_96 {j : Nat} (hj : j < 24) : ald 0 (some 96) (nI j) (mkH E V) = some (V 96 j) := ald_mk rfl (fun _ _ => rfl) hj (by decide)
theorem ast_96 {j : Nat} {v : Int32} (hj : j < 24) : ast 0 (some 96) (nI j) v (mkH E V) = some (mkH E (up1 V 96 (upd (V 96) j v))) := ast_mk rfl (fun _ _ => rfl) hj (by decide)
theorem ald_97 {j : Nat} (hj : j < 24) : ald 0 (some 97) (nI j) (mkH E V) = some (V 97 j) := ald_mk rfl (fun _ _ => rfl) hj (by decide)
theorem ast_97 {j : Nat} {v : Int32} (hj : j < 24) : ast 0 (some 97) (nI j) v (mkH E V) = some (mkH E (up1 V 97 (upd (V 97) j v))) := ast_mk rfl (fun _ _ => rfl) hj (by decide)
theorem ald_98 {j : Nat} (hj : j < 24) : ald 0 (some 98) (nI j) (mkH E V) = some (V 98 j) := ald_mk rfl (fun _ _ => rfl) hj (by decide)
theorem ast_98 {j : Nat} {v : Int32} (hj : j < 24) : ast 0 (some 98) (nI j) v (mkH E V) = some (mkH E (up1 V 98 (upd (V 98) j v))) := ast_mk rfl (fun _ _ => rfl) hj (by decide)
theorem ald_99 {j : Nat} (hj : j < 24) : ald 0 (some 99) (nI j) (mkH E V) = some (V 99 j) := ald_mk rfl (fun _ _ => rfl) hj (by decide)
theorem ast_99 {j : Nat} {v : Int32} (hj : j < 24) : ast 0 (some 99) (nI j) v (mkH E V) = some (mkH E (up1 V 99 (upd (V 99) j v))) := ast_mk rfl (fun _ _ => rfl) hj (by decide)
theorem ald_100 {j : Nat} (hj : j < 24) : ald 0 (some 100) (nI j) (mkH E V) = some (V 100 j) := ald_mk rfl (fun _ _ => rfl) hj (by decide)
theorem ast_100 {j : Nat} {v : Int32} (hj : j < 24) : ast 0 (some 100) (nI j) v (mkH E V) = some (mkH E (up1 V 100 (upd (V 100) j v))) := ast_mk rfl (fun _ _ => rfl) hj (by decide)
theorem ald_101 {j : Nat} (hj : j < 7) : ald 0 (some 101) (nI j) (mkH E V) = some (V 101 j) := ald_mk rfl (fun _ _ => rfl) hj (by decide)
theorem ast_101 {j : Nat} {v : Int32} (hj : j < 7) : ast 0 (some 101) (nI j) v (mkH E V) = some (mkH E (up1 V 101 (upd (V 101) j v))) := ast_mk rfl (fun _ _ => rfl) hj (by decide)
theorem ald_102 {j : Nat} (hj : j < 7) : ald 0 (some 102) (nI j) (mkH E V) = some (V 102 j) := ald_mk rfl (fun _ _ => rfl) hj (by decide)
theorem ast_102 {j : Nat} {v : Int32} (hj : j < 7) : ast 0 (some 102) (nI j) v (mkH E V) = some (mkH E (up1 V 102 (upd (V 102) j v))) := ast_mk rfl (fun _ _ => rfl) hj (by decide)
theorem ald_103 {j : Nat} (hj : j < 16) : ald 0 (some 103) (nI j) (mkH E V) = some (V 103 j) := ald_mk rfl (fun _ _ => rfl) hj (by decide)
theorem ast_103 {j : Nat} {v : Int32} (hj : j < 16) : ast 0 (some 103) (nI j) v (mkH E V) = some (mkH E (up1 V 103 (upd (V 103) j v))) := ast_mk rfl (fun _ _ => rfl) hj (by decide)
theorem ald_104 {j : Nat} (hj : j < 10) : ald 0 (some 104) (nI j) (mkH E V) = some (V 104 j) := ald_mk rfl (fun _ _ => rfl) hj (by decide)
theorem ast_104 {j : Nat} {v : Int32} (hj : j < 10) : ast 0 (some 104) (nI j) v (mkH E V) = some (mkH E (up1 V 104 (upd (V 104) j v))) := ast_mk rfl (fun _ _ => rfl) hj (by decide)
theorem ald_105 {j : Nat} (hj : j < 1024) : ald 0 (some 105) (nI j) (mkH E V) = some (V 105 j) := ald_mk rfl (fun _ _ => rfl) hj (by decide)
theorem ast_105 {j : Nat} {v : Int32} (hj : j < 1024) : ast 0 (some 105) (nI j) v (mkH E V) = some (mkH E (up1 V 105 (upd (V 105) j v))) := ast_mk rfl (fun _ _ => rfl) hj (by decide)
theorem ald_106 {j : Nat} (hj : j < 20) : ald 0 (some 106) (nI j) (mkH E V) = some (V 106 j) := ald_mk rfl (fun _ _ => rfl) hj (by decide)
theorem ast_106 {j : Nat} {v : Int32} (hj : j < 20) : ast 0 (some 106) (nI j) v (mkH E V) = some (mkH E (up1 V 106 (upd (V 106) j v))) := ast_mk rfl (fun _ _ => rfl) hj (by decide)
theorem ald_107 {j : Nat} (hj : j < 60) : ald 0 (some 107) (nI j) (mkH E V) = some (V 107 j) := ald_mk rfl (fun _ _ => rfl) hj (by decide)
theorem ast_107 {j : Nat} {v : Int32} (hj : j < 60) : ast 0 (some 107) (nI j) v (mkH E V) = some (mkH E (up1 V 107 (upd (V 107) j v))) := ast_mk rfl (fun _ _ => rfl) hj (by decide)
theorem ald_108 {j : Nat} (hj : j < 60) : ald 0 (some 108) (nI j) (mkH E V) = some (V 108 j) := ald_mk rfl (fun _ _ => rfl) hj (by decide)
theorem ast_108 {j : Nat} {v : Int32} (hj : j < 60) : ast 0 (some 108) (nI j) v (mkH E V) = some (mkH E (up1 V 108 (upd (V 108) j v))) := ast_mk rfl (fun _ _ => rfl) hj (by decide)
theorem m_now : gfr [5] 0 (some 77) (mkH E V) = some (some 78) := gfr_mk rfl rfl (by decide) rfl
theorem m_aside : gfr [5] 1 (some 77) (mkH E V) = some (some 79) := gfr_mk rfl rfl (by decide) rfl
theorem m_kept : gfr [5] 2 (some 77) (mkH E V) = some (some 80) := gfr_mk rfl rfl (by decide) rfl
theorem m_tape : gfr [5] 3 (some 77) (mkH E V) = some (some 81) := gfr_mk rfl rfl (by decide) rfl
theorem m_taped : gfi [5] 4 (some 77) (mkH E V) = some (V 77 4) := gfi_mk rfl rfl (by decide) rfl
theorem s_taped {v : Int32} : pf [5] 4 (some 77) (.inl v) (mkH E V) = some (mkH E (up1 V 77 (upd (V 77) 4 v))) := pf_mk rfl rfl (by decide) (by simp) rfl
theorem m_place0 : gfi [5] 5 (some 77) (mkH E V) = some (V 77 5) := gfi_mk rfl rfl (by decide) rfl
theorem s_place0 {v : Int32} : pf [5] 5 (some 77) (.inl v) (mkH E V) = some (mkH E (up1 V 77 (upd (V 77) 5 v))) := pf_mk rfl rfl (by decide) (by simp) rfl
theorem m_length0 : gfi [5] 6 (some 77) (mkH E V) = some (V 77 6) := gfi_mk rfl rfl (by decide) rfl
theorem s_length0 {v : Int32} : pf [5] 6 (some 77) (.inl v) (mkH E V) = some (mkH E (up1 V 77 (upd (V 77) 6 v))) := pf_mk rfl rfl (by decide) (by simp) rfl
theorem m_fault : gfi [5] 7 (some 77) (mkH E V) = some (V 77 7) := gfi_mk rfl rfl (by decide) rfl
theorem s_fault {v : Int32} : pf [5] 7 (some 77) (.inl v) (mkH E V) = some (mkH E (up1 V 77 (upd (V 77) 7 v))) := pf_mk rfl rfl (by decide) (by simp) rfl
theorem m_number0 : gfi [5] 8 (some 77) (mkH E V) = some (V 77 8) := gfi_mk rfl rfl (by decide) rfl
theorem s_number0 {v : Int32} : pf [5] 8 (some 77) (.inl v) (mkH E V) = some (mkH E (up1 V 77 (upd (V 77) 8 v))) := pf_mk rfl rfl (by decide) (by simp) rfl
theorem m_open : gfi [5] 9 (some 77) (mkH E V) = some (V 77 9) := gfi_mk rfl rfl (by decide) rfl
theorem s_open {v : Int32} : pf [5] 9 (some 77) (.inl v) (mkH E V) = some (mkH E (up1 V 77 (upd (V 77) 9 v))) := pf_mk rfl rfl (by decide) (by simp) rfl
theorem m_codeMany : gfi [5] 10 (some 77) (mkH E V) = some (V 77 10) := gfi_mk rfl rfl (by decide) rfl
theorem s_codeMany {v : Int32} : pf [5] 10 (some 77) (.inl v) (mkH E V) = some (mkH E (up1 V 77 (upd (V 77) 10 v))) := pf_mk rfl rfl (by decide) (by simp) rfl
theorem m_waiting : gfi [5] 11 (some 77) (mkH E V) = some (V 77 11) := gfi_mk rfl rfl (by decide) rfl
theorem s_waiting {v : Int32} : pf [5] 11 (some 77) (.inl v) (mkH E V) = some (mkH E (up1 V 77 (upd (V 77) 11 v))) := pf_mk rfl rfl (by decide) (by simp) rfl
theorem m_saidMany : gfi [5] 12 (some 77) (mkH E V) = some (V 77 12) := gfi_mk rfl rfl (by decide) rfl
theorem s_saidMany {v : Int32} : pf [5] 12 (some 77) (.inl v) (mkH E V) = some (mkH E (up1 V 77 (upd (V 77) 12 v))) := pf_mk rfl rfl (by decide) (by simp) rfl
theorem m_clauses : gfi [5] 13 (some 77) (mkH E V) = some (V 77 13) := gfi_mk rfl rfl (by decide) rfl
theorem s_clauses {v : Int32} : pf [5] 13 (some 77) (.inl v) (mkH E V) = some (mkH E (up1 V 77 (upd (V 77) 13 v))) := pf_mk rfl rfl (by decide) (by simp) rfl
theorem m_said : gfr [5] 14 (some 77) (mkH E V) = some (some 82) := gfr_mk rfl rfl (by decide) rfl
theorem m_waitsAt : gfr [5] 15 (some 77) (mkH E V) = some (some 83) := gfr_mk rfl rfl (by decide) rfl
theorem m_saidLetter : gfr [5] 16 (some 77) (mkH E V) = some (some 84) := gfr_mk rfl rfl (by decide) rfl
theorem m_saidFrom : gfr [5] 17 (some 77) (mkH E V) = some (some 85) := gfr_mk rfl rfl (by decide) rfl
theorem m_saidHalf : gfr [5] 18 (some 77) (mkH E V) = some (some 86) := gfr_mk rfl rfl (by decide) rfl
theorem m_saidTo : gfr [5] 19 (some 77) (mkH E V) = some (some 87) := gfr_mk rfl rfl (by decide) rfl
theorem m_codes : gfr [5] 20 (some 77) (mkH E V) = some (some 88) := gfr_mk rfl rfl (by decide) rfl
theorem m_clauseOf : gfr [5] 21 (some 77) (mkH E V) = some (some 89) := gfr_mk rfl rfl (by decide) rfl
theorem m_codeFrom : gfr [5] 22 (some 77) (mkH E V) = some (some 90) := gfr_mk rfl rfl (by decide) rfl
theorem m_codeHalf : gfr [5] 23 (some 77) (mkH E V) = some (some 91) := gfr_mk rfl rfl (by decide) rfl
theorem m_codeTo : gfr [5] 24 (some 77) (mkH E V) = some (some 92) := gfr_mk rfl rfl (by decide) rfl
theorem m_stack : gfr [5] 25 (some 77) (mkH E V) = some (some 93) := gfr_mk rfl rfl (by decide) rfl
theorem m_facts : gfr [5] 26 (some 77) (mkH E V) = some (some 94) := gfr_mk rfl rfl (by decide) rfl
theorem m_lines : gfi [5] 27 (some 77) (mkH E V) = some (V 77 27) := gfi_mk rfl rfl (by decide) rfl
theorem s_lines {v : Int32} : pf [5] 27 (some 77) (.inl v) (mkH E V) = some (mkH E (up1 V 77 (upd (V 77) 27 v))) := pf_mk rfl rfl (by decide) (by simp) rfl
theorem m_wishWho : gfr [5] 28 (some 77) (mkH E V) = some (some 95) := gfr_mk rfl rfl (by decide) rfl
theorem m_wishHow : gfr [5] 29 (some 77) (mkH E V) = some (some 96) := gfr_mk rfl rfl (by decide) rfl
theorem m_wishOther : gfr [5] 30 (some 77) (mkH E V) = some (some 97) := gfr_mk rfl rfl (by decide) rfl
theorem m_newWho : gfr [5] 31 (some 77) (mkH E V) = some (some 98) := gfr_mk rfl rfl (by decide) rfl
theorem m_newHow : gfr [5] 32 (some 77) (mkH E V) = some (some 99) := gfr_mk rfl rfl (by decide) rfl
theorem m_newOther : gfr [5] 33 (some 77) (mkH E V) = some (some 100) := gfr_mk rfl rfl (by decide) rfl
theorem m_wishMany : gfi [5] 34 (some 77) (mkH E V) = some (V 77 34) := gfi_mk rfl rfl (by decide) rfl
theorem s_wishMany {v : Int32} : pf [5] 34 (some 77) (.inl v) (mkH E V) = some (mkH E (up1 V 77 (upd (V 77) 34 v))) := pf_mk rfl rfl (by decide) (by simp) rfl
theorem m_newMany : gfi [5] 35 (some 77) (mkH E V) = some (V 77 35) := gfi_mk rfl rfl (by decide) rfl
theorem s_newMany {v : Int32} : pf [5] 35 (some 77) (.inl v) (mkH E V) = some (mkH E (up1 V 77 (upd (V 77) 35 v))) := pf_mk rfl rfl (by decide) (by simp) rfl
theorem m_talked : gfi [5] 36 (some 77) (mkH E V) = some (V 77 36) := gfi_mk rfl rfl (by decide) rfl
theorem s_talked {v : Int32} : pf [5] 36 (some 77) (.inl v) (mkH E V) = some (mkH E (up1 V 77 (upd (V 77) 36 v))) := pf_mk rfl rfl (by decide) (by simp) rfl
theorem m_learnt : gfi [5] 37 (some 77) (mkH E V) = some (V 77 37) := gfi_mk rfl rfl (by decide) rfl
theorem s_learnt {v : Int32} : pf [5] 37 (some 77) (.inl v) (mkH E V) = some (mkH E (up1 V 77 (upd (V 77) 37 v))) := pf_mk rfl rfl (by decide) (by simp) rfl
theorem m_orderNow : gfr [5] 38 (some 77) (mkH E V) = some (some 101) := gfr_mk rfl rfl (by decide) rfl
theorem m_orderBest : gfr [5] 39 (some 77) (mkH E V) = some (some 102) := gfr_mk rfl rfl (by decide) rfl
theorem m_placeOf : gfr [5] 40 (some 77) (mkH E V) = some (some 103) := gfr_mk rfl rfl (by decide) rfl
theorem m_ordersGood : gfi [5] 41 (some 77) (mkH E V) = some (V 77 41) := gfi_mk rfl rfl (by decide) rfl
theorem s_ordersGood {v : Int32} : pf [5] 41 (some 77) (.inl v) (mkH E V) = some (mkH E (up1 V 77 (upd (V 77) 41 v))) := pf_mk rfl rfl (by decide) (by simp) rfl
theorem m_mostSaid : gfi [5] 42 (some 77) (mkH E V) = some (V 77 42) := gfi_mk rfl rfl (by decide) rfl
theorem s_mostSaid {v : Int32} : pf [5] 42 (some 77) (.inl v) (mkH E V) = some (mkH E (up1 V 77 (upd (V 77) 42 v))) := pf_mk rfl rfl (by decide) (by simp) rfl
theorem m_coupleOf : gfr [5] 43 (some 77) (mkH E V) = some (some 104) := gfr_mk rfl rfl (by decide) rfl
theorem m_mostFor : gfr [5] 44 (some 77) (mkH E V) = some (some 105) := gfr_mk rfl rfl (by decide) rfl
theorem m_coupleMany : gfi [5] 45 (some 77) (mkH E V) = some (V 77 45) := gfi_mk rfl rfl (by decide) rfl
theorem s_coupleMany {v : Int32} : pf [5] 45 (some 77) (.inl v) (mkH E V) = some (mkH E (up1 V 77 (upd (V 77) 45 v))) := pf_mk rfl rfl (by decide) (by simp) rfl
theorem m_longFrom : gfr [5] 46 (some 77) (mkH E V) = some (some 106) := gfr_mk rfl rfl (by decide) rfl
theorem m_stepsTo : gfr [5] 47 (some 77) (mkH E V) = some (some 107) := gfr_mk rfl rfl (by decide) rfl
theorem m_queue : gfr [5] 48 (some 77) (mkH E V) = some (some 108) := gfr_mk rfl rfl (by decide) rfl
theorem m_isKept : gfi [5] 49 (some 77) (mkH E V) = some (V 77 49) := gfi_mk rfl rfl (by decide) rfl
theorem s_isKept {v : Int32} : pf [5] 49 (some 77) (.inl v) (mkH E V) = some (mkH E (up1 V 77 (upd (V 77) 49 v))) := pf_mk rfl rfl (by decide) (by simp) rfl
theorem x_moment : gfr [0] 0 (some 7) (mkH E V) = some (some 8) := gfr_mk rfl rfl (by decide) rfl
theorem x_yard : gfr [0] 1 (some 7) (mkH E V) = some (some 9) := gfr_mk rfl rfl (by decide) rfl
theorem x_then : gfr [0] 2 (some 7) (mkH E V) = some (some 27) := gfr_mk rfl rfl (by decide) rfl
theorem x_kept : gfr [0] 3 (some 7) (mkH E V) = some (some 45) := gfr_mk rfl rfl (by decide) rfl
theorem x_tape : gfr [0] 4 (some 7) (mkH E V) = some (some 63) := gfr_mk rfl rfl (by decide) rfl
theorem x_law : gfr [0] 5 (some 7) (mkH E V) = some E.2.2.1 := gfr_mk rfl rfl (by decide) rfl
theorem x_taped : gfi [0] 6 (some 7) (mkH E V) = some (V 7 6) := gfi_mk rfl rfl (by decide) rfl
theorem sx_taped {v : Int32} : pf [0] 6 (some 7) (.inl v) (mkH E V) = some (mkH E (up1 V 7 (upd (V 7) 6 v))) := pf_mk rfl rfl (by decide) (by simp) rfl
theorem x_isKept : gfi [0] 7 (some 7) (mkH E V) = some (V 7 7) := gfi_mk rfl rfl (by decide) rfl
theorem sx_isKept {v : Int32} : pf [0] 7 (some 7) (.inl v) (mkH E V) = some (mkH E (up1 V 7 (upd (V 7) 7 v))) := pf_mk rfl rfl (by decide) (by simp) rfl
theorem x_wisher : gfr [0] 8 (some 7) (mkH E V) = some (some 68) := gfr_mk rfl rfl (by decide) rfl
theorem x_wished : gfr [0] 9 (some 7) (mkH E V) = some (some 69) := gfr_mk rfl rfl (by decide) rfl
theorem x_signs : gfr [0] 10 (some 7) (mkH E V) = some (some 70) := gfr_mk rfl rfl (by decide) rfl
theorem x_wishes : gfi [0] 11 (some 7) (mkH E V) = some (V 7 11) := gfi_mk rfl rfl (by decide) rfl
theorem sx_wishes {v : Int32} : pf [0] 11 (some 7) (.inl v) (mkH E V) = some (mkH E (up1 V 7 (upd (V 7) 11 v))) := pf_mk rfl rfl (by decide) (by simp) rfl
theorem x_row : gfr [0] 12 (some 7) (mkH E V) = some (some 71) := gfr_mk rfl rfl (by decide) rfl
theorem x_bestRow : gfr [0] 13 (some 7) (mkH E V) = some (some 72) := gfr_mk rfl rfl (by decide) rfl
theorem x_bestTalk : gfi [0] 14 (some 7) (mkH E V) = some (V 7 14) := gfi_mk rfl rfl (by decide) rfl
theorem sx_bestTalk {v : Int32} : pf [0] 14 (some 7) (.inl v) (mkH E V) = some (mkH E (up1 V 7 (upd (V 7) 14 v))) := pf_mk rfl rfl (by decide) (by simp) rfl
theorem x_goodRows : gfi [0] 15 (some 7) (mkH E V) = some (V 7 15) := gfi_mk rfl rfl (by decide) rfl
theorem sx_goodRows {v : Int32} : pf [0] 15 (some 7) (.inl v) (mkH E V) = some (mkH E (up1 V 7 (upd (V 7) 15 v))) := pf_mk rfl rfl (by decide) (by simp) rfl
theorem x_said : gfr [0] 16 (some 7) (mkH E V) = some (some 73) := gfr_mk rfl rfl (by decide) rfl
theorem x_couple : gfr [0] 17 (some 7) (mkH E V) = some (some 74) := gfr_mk rfl rfl (by decide) rfl
theorem x_longest : gfr [0] 18 (some 7) (mkH E V) = some (some 75) := gfr_mk rfl rfl (by decide) rfl
theorem x_steps : gfr [0] 19 (some 7) (mkH E V) = some (some 76) := gfr_mk rfl rfl (by decide) rfl
theorem mt_0 : gfi [1] 0 (some 8) (mkH E V) = some (V 8 0) := gfi_mk rfl rfl (by decide) rfl
theorem st_0 {v : Int32} : pf [1] 0 (some 8) (.inl v) (mkH E V) = some (mkH E (up1 V 8 (upd (V 8) 0 v))) := pf_mk rfl rfl (by decide) (by simp) rfl
theorem mt_1 : gfi [1] 1 (some 8) (mkH E V) = some (V 8 1) := gfi_mk rfl rfl (by decide) rfl
theorem st_1 {v : Int32} : pf [1] 1 (some 8) (.inl v) (mkH E V) = some (mkH E (up1 V 8 (upd (V 8) 1 v))) := pf_mk rfl rfl (by decide) (by simp) rfl
theorem mt_2 : gfi [1] 2 (some 8) (mkH E V) = some (V 8 2) := gfi_mk rfl rfl (by decide) rfl
theorem st_2 {v : Int32} : pf [1] 2 (some 8) (.inl v) (mkH E V) = some (mkH E (up1 V 8 (upd (V 8) 2 v))) := pf_mk rfl rfl (by decide) (by simp) rfl
theorem mt_3 : gfi [1] 3 (some 8) (mkH E V) = some (V 8 3) := gfi_mk rfl rfl (by decide) rfl
theorem st_3 {v : Int32} : pf [1] 3 (some 8) (.inl v) (mkH E V) = some (mkH E (up1 V 8 (upd (V 8) 3 v))) := pf_mk rfl rfl (by decide) (by simp) rfl
theorem mt_4 : gfi [1] 4 (some 8) (mkH E V) = some (V 8 4) := gfi_mk rfl rfl (by decide) rfl
theorem st_4 {v : Int32} : pf [1] 4 (some 8) (.inl v) (mkH E V) = some (mkH E (up1 V 8 (upd (V 8) 4 v))) := pf_mk rfl rfl (by decide) (by simp) rfl
theorem mt_5 : gfi [1] 5 (some 8) (mkH E V) = some (V 8 5) := gfi_mk rfl rfl (by decide) rfl
theorem st_5 {v : Int32} : pf [1] 5 (some 8) (.inl v) (mkH E V) = some (mkH E (up1 V 8 (upd (V 8) 5 v))) := pf_mk rfl rfl (by decide) (by simp) rfl
theorem mt_6 : gfi [1] 6 (some 8) (mkH E V) = some (V 8 6) := gfi_mk rfl rfl (by decide) rfl
theorem st_6 {v : Int32} : pf [1] 6 (some 8) (.inl v) (mkH E V) = some (mkH E (up1 V 8 (upd (V 8) 6 v))) := pf_mk rfl rfl (by decide) (by simp) rfl
theorem mt_7 : gfi [1] 7 (some 8) (mkH E V) = some (V 8 7) := gfi_mk rfl rfl (by decide) rfl
theorem st_7 {v : Int32} : pf [1] 7 (some 8) (.inl v) (mkH E V) = some (mkH E (up1 V 8 (upd (V 8) 7 v))) := pf_mk rfl rfl (by decide) (by simp) rfl
theorem mt_8 : gfi [1] 8 (some 8) (mkH E V) = some (V 8 8) := gfi_mk rfl rfl (by decide) rfl
theorem st_8 {v : Int32} : pf [1] 8 (some 8) (.inl v) (mkH E V) = some (mkH E (up1 V 8 (upd (V 8) 8 v))) := pf_mk rfl rfl (by decide) (by simp) rfl
theorem isC_77 : isC [5] (some 77) (mkH E V) = true := isC_mk rfl rfl (by decide)
theorem isC_7 : isC [0] (some 7) (mkH E V) = true := isC_mk rfl rfl (by decide)
theorem isC_8 : isC [1] (some 8) (mkH E V) = true := isC_mk rfl rfl (by decide)
/-- a yard -/
def isY (y : Nat) : Prop := y = 9 ∨ y = 27 ∨ y = 45
theorem isC_y {y : Nat} (hy : isY y) : isC [2] (some y) (mkH E V) = true := by
  rcases hy with rfl | rfl | rfl <;> exact isC_mk rfl rfl (by decide)
theorem yd_people {y : Nat} (hy : isY y) : gfr [2] 0 (some y) (mkH E V) = some (some (y + 1)) := by
  rcases hy with rfl | rfl | rfl <;> exact gfr_mk rfl rfl (by decide) rfl
theorem yd_out {y : Nat} (hy : isY y) : gfr [2] 5 (some y) (mkH E V) = some (some 7) := by
  rcases hy with rfl | rfl | rfl <;> exact gfr_mk rfl rfl (by decide) rfl
theorem y_night {y : Nat} (hy : isY y) : gfi [2] 1 (some y) (mkH E V) = some (V y 1) := by
  rcases hy with rfl | rfl | rfl <;> exact gfi_mk rfl rfl (by decide) rfl
theorem sy_night {y : Nat} {v : Int32} (hy : isY y) : pf [2] 1 (some y) (.inl v) (mkH E V) = some (mkH E (up1 V y (upd (V y) 1 v))) := by
  rcases hy with rfl | rfl | rfl <;> exact pf_mk rfl rfl (by decide) (by simp) rfl
theorem y_x {y : Nat} (hy : isY y) : gfi [2] 2 (some y) (mkH E V) = some (V y 2) := by
  rcases hy with rfl | rfl | rfl <;> exact gfi_mk rfl rfl (by decide) rfl
theorem sy_x {y : Nat} {v : Int32} (hy : isY y) : pf [2] 2 (some y) (.inl v) (mkH E V) = some (mkH E (up1 V y (upd (V y) 2 v))) := by
  rcases hy with rfl | rfl | rfl <;> exact pf_mk rfl rfl (by decide) (by simp) rfl
theorem y_talked {y : Nat} (hy : isY y) : gfi [2] 3 (some y) (mkH E V) = some (V y 3) := by
  rcases hy with rfl | rfl | rfl <;> exact gfi_mk rfl rfl (by decide) rfl
theorem sy_talked {y : Nat} {v : Int32} (hy : isY y) : pf [2] 3 (some y) (.inl v) (mkH E V) = some (mkH E (up1 V y (upd (V y) 3 v))) := by
  rcases hy with rfl | rfl | rfl <;> exact pf_mk rfl rfl (by decide) (by simp) rfl
theorem y_learnt {y : Nat} (hy : isY y) : gfi [2] 4 (some y) (mkH E V) = some (V y 4) := by
  rcases hy with rfl | rfl | rfl <;> exact gfi_mk rfl rfl (by decide) rfl
theorem sy_learnt {y : Nat} {v : Int32} (hy : isY y) : pf [2] 4 (some y) (.inl v) (mkH E V) = some (mkH E (up1 V y (upd (V y) 4 v))) := by
  rcases hy with rfl | rfl | rfl <;> exact pf_mk rfl rfl (by decide) (by simp) rfl
theorem people_at {y p : Nat} (hy : isY y) (hp : p < 16) : aldr 2 (some (y + 1)) (nI p) (mkH E V) = some (some (y + 2 + p)) := by
  have hf : fixd (y + 1) = true := by rcases hy with rfl | rfl | rfl <;> rfl
  have hc : cellOf (V (y + 1)) E.2.2.1 (y + 1) = .inr (.inl (2, 16, persR y)) := by rcases hy with rfl | rfl | rfl <;> rfl
  unfold aldr
  dsimp only
  rw [mk_at hf, hc]
  dsimp only
  rw [if_pos ⟨rfl, nIin hp (by decide)⟩, nI_clamp (by omega)]
  unfold persR
  rw [if_pos hp]
theorem pers_cell {y p : Nat} (hy : isY y) (hp : p < 16) (f : Nat → Int32) (lr : Option Nat) : fixd (y + 2 + p) = true ∧ cellOf f lr (y + 2 + p) = .inr (.inr (3, [.inl (f 0), .inl (f 1), .inl (f 2), .inl (f 3)])) := by
  rcases hy with rfl | rfl | rfl <;> (match p, hp with
    | 0, _ => exact ⟨rfl, rfl⟩
    | 1, _ => exact ⟨rfl, rfl⟩
    | 2, _ => exact ⟨rfl, rfl⟩
    | 3, _ => exact ⟨rfl, rfl⟩
    | 4, _ => exact ⟨rfl, rfl⟩
    | 5, _ => exact ⟨rfl, rfl⟩
    | 6, _ => exact ⟨rfl, rfl⟩
    | 7, _ => exact ⟨rfl, rfl⟩
    | 8, _ => exact ⟨rfl, rfl⟩
    | 9, _ => exact ⟨rfl, rfl⟩
    | 10, _ => exact ⟨rfl, rfl⟩
    | 11, _ => exact ⟨rfl, rfl⟩
    | 12, _ => exact ⟨rfl, rfl⟩
    | 13, _ => exact ⟨rfl, rfl⟩
    | 14, _ => exact ⟨rfl, rfl⟩
    | 15, _ => exact ⟨rfl, rfl⟩
    | p + 16, h => exact absurd h (by omega))
theorem isC_p {y p : Nat} (hy : isY y) (hp : p < 16) : isC [3] (some (y + 2 + p)) (mkH E V) = true := isC_mk (pers_cell hy hp (fun _ => 0) none).1 (pers_cell hy hp _ _).2 (by decide)
theorem alen_people {y : Nat} (hy : isY y) : alenr 2 (some (y + 1)) (mkH E V) = some 16 := by
  rcases hy with rfl | rfl | rfl <;> rfl
theorem p_topics {y p : Nat} (hy : isY y) (hp : p < 16) : gfi [3] 0 (some (y + 2 + p)) (mkH E V) = some (V (y + 2 + p) 0) := gfi_mk (pers_cell hy hp (fun _ => 0) none).1 (pers_cell hy hp _ _).2 (by decide) rfl
theorem sp_topics {y p : Nat} {v : Int32} (hy : isY y) (hp : p < 16) : pf [3] 0 (some (y + 2 + p)) (.inl v) (mkH E V) = some (mkH E (up1 V (y + 2 + p) (upd (V (y + 2 + p)) 0 v))) := pf_mk (pers_cell hy hp (fun _ => 0) none).1 (pers_cell hy hp _ _).2 (by decide) (by simp) (by rw [(pers_cell hy hp _ _).2]; rfl)
theorem p_mood {y p : Nat} (hy : isY y) (hp : p < 16) : gfi [3] 1 (some (y + 2 + p)) (mkH E V) = some (V (y + 2 + p) 1) := gfi_mk (pers_cell hy hp (fun _ => 0) none).1 (pers_cell hy hp _ _).2 (by decide) rfl
theorem sp_mood {y p : Nat} {v : Int32} (hy : isY y) (hp : p < 16) : pf [3] 1 (some (y + 2 + p)) (.inl v) (mkH E V) = some (mkH E (up1 V (y + 2 + p) (upd (V (y + 2 + p)) 1 v))) := pf_mk (pers_cell hy hp (fun _ => 0) none).1 (pers_cell hy hp _ _).2 (by decide) (by simp) (by rw [(pers_cell hy hp _ _).2]; rfl)
theorem p_plot {y p : Nat} (hy : isY y) (hp : p < 16) : gfi [3] 2 (some (y + 2 + p)) (mkH E V) = some (V (y + 2 + p) 2) := gfi_mk (pers_cell hy hp (fun _ => 0) none).1 (pers_cell hy hp _ _).2 (by decide) rfl
theorem sp_plot {y p : Nat} {v : Int32} (hy : isY y) (hp : p < 16) : pf [3] 2 (some (y + 2 + p)) (.inl v) (mkH E V) = some (mkH E (up1 V (y + 2 + p) (upd (V (y + 2 + p)) 2 v))) := pf_mk (pers_cell hy hp (fun _ => 0) none).1 (pers_cell hy hp _ _).2 (by decide) (by simp) (by rw [(pers_cell hy hp _ _).2]; rfl)
theorem p_told {y p : Nat} (hy : isY y) (hp : p < 16) : gfi [3] 3 (some (y + 2 + p)) (mkH E V) = some (V (y + 2 + p) 3) := gfi_mk (pers_cell hy hp (fun _ => 0) none).1 (pers_cell hy hp _ _).2 (by decide) rfl
theorem sp_told {y p : Nat} {v : Int32} (hy : isY y) (hp : p < 16) : pf [3] 3 (some (y + 2 + p)) (.inl v) (mkH E V) = some (mkH E (up1 V (y + 2 + p) (upd (V (y + 2 + p)) 3 v))) := pf_mk (pers_cell hy hp (fun _ => 0) none).1 (pers_cell hy hp _ _).2 (by decide) (by simp) (by rw [(pers_cell hy hp _ _).2]; rfl)
/-! numbers -/
theorem nIl (n : Nat) : (no_index (OfNat.ofNat n) : Int32) = nI n := rfl
theorem nI_addl (n k : Nat) : (no_index (OfNat.ofNat n) : Int32) + nI k = nI (n + k) := nI_add n k
theorem nI_addr (n k : Nat) : nI k + (no_index (OfNat.ofNat n) : Int32) = nI (k + n) := nI_add k n
theorem nI_lel {n k : Nat} (hn : n < 2 ^ 31) (hk : k < 2 ^ 31) : ((no_index (OfNat.ofNat n) : Int32) ≤ nI k) = (n ≤ k) := propext (nI_leI hn hk)
theorem nI_ler {n k : Nat} (hn : n < 2 ^ 31) (hk : k < 2 ^ 31) : (nI k ≤ (no_index (OfNat.ofNat n) : Int32)) = (k ≤ n) := propext (nI_leI hk hn)
theorem nI_ltl {n k : Nat} (hn : n < 2 ^ 31) (hk : k < 2 ^ 31) : ((no_index (OfNat.ofNat n) : Int32) < nI k) = (n < k) := propext (nI_ltI hn hk)
theorem nI_ltr {n k : Nat} (hn : n < 2 ^ 31) (hk : k < 2 ^ 31) : (nI k < (no_index (OfNat.ofNat n) : Int32)) = (k < n) := propext (nI_ltI hk hn)
theorem nI_eqN {a b : Nat} (ha : a < 2 ^ 31) (hb : b < 2 ^ 31) : (nI a = nI b) = (a = b) := propext (nI_eq ha hb)
theorem nI_leN {a b : Nat} (ha : a < 2 ^ 31) (hb : b < 2 ^ 31) : (nI a ≤ nI b) = (a ≤ b) := propext (nI_leI ha hb)
theorem nI_ltN {a b : Nat} (ha : a < 2 ^ 31) (hb : b < 2 ^ 31) : (nI a < nI b) = (a < b) := propext (nI_ltI ha hb)
/-! loops in closed form -/
def rep {α : Type} (f : Nat → α → α) (a : α) : Nat → α
  | 0 => a
  | n + 1 => f n (rep f a n)
theorem rep_congr {α : Type} {f g : Nat → α → α} {a : α} {n : Nat} (h : ∀ i, i < n → ∀ x, f i x = g i x) : rep f a n = rep g a n := by
  induction n with
  | zero => rfl
  | succ n ih => unfold rep; rw [ih fun i hi => h i (by omega), h n (by omega)]
/-- the first i from k on, at most n of them, with P; else r -/
def fnd {α : Type} (P : Nat → Bool) (g : Nat → α) (r : α) : Nat → Nat → α
  | 0, _ => r
  | n + 1, k => if P k = true then g k else fnd P g r n (k + 1)
theorem fnd_congr {α : Type} {P Q : Nat → Bool} {g g' : Nat → α} {r : α} : ∀ {n k : Nat}, (∀ i, k ≤ i → i < k + n → P i = Q i ∧ g i = g' i) → fnd P g r n k = fnd Q g' r n k
  | 0, _, _ => rfl
  | n + 1, k, h => by
    unfold fnd
    rw [(h k (by omega) (by omega)).1, (h k (by omega) (by omega)).2, fnd_congr fun i h1 h2 => h i (by omega) (by omega)]
theorem iter_fnd {σ ρ : Type} {B : σ → Option (σ ⊕ ρ)} {P : Nat → Bool} {g : Nat → ρ} {r : ρ} (S : Nat → σ) : ∀ (n k : Nat), (∀ i, k ≤ i → i < k + n → B (S i) = if P i = true then some (.inr (g i)) else some (.inl (S (i + 1)))) → B (S (k + n)) = some (.inr r) → iter B (S k) = some (fnd P g r n k)
  | 0, k, _, hr => iter_r hr
  | n + 1, k, hs, hr => by
    unfold fnd
    have h0 := hs k (by omega) (by omega)
    by_cases hp : P k = true
    · rw [if_pos hp] at h0 ⊢
      exact iter_r h0
    · rw [if_neg hp] at h0 ⊢
      rw [iter_l h0]
      exact iter_fnd S n (k + 1) (fun i h1 h2 => hs i (by omega) (by omega)) (by rw [← hr]; congr 2; omega)
end Lib
