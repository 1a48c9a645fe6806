/-! THE PURE SIDE: values, cells, heap; the machine's picture of it; the judgement Im; a row an opcode -/
set_option maxRecDepth 100000
abbrev PV : Type := Int32 ⊕ Option Nat
abbrev PCell : Type := (Nat × Nat × (Nat → Int32)) ⊕ ((Nat × Nat × (Nat → Option Nat)) ⊕ (Nat × List PV))
abbrev PH : Type := Nat × Nat × (Nat → PCell)
def pNil : PCell := .inr (.inr (1000, []))
def hup (f : Nat → PCell) (a : Nat) (c : PCell) : Nat → PCell := fun j => if j = a then c else f j
abbrev GG : Type := va_G × (Nat → ClassId) × Nat × (Nat → Nat) × Nat × (Nat → Int32)
def gB (G : GG) : Nat := G.2.2.1
def gad (G : GG) (k : Nat) : Nat := if k < 7 then G.2.2.2.1 k else G.2.2.1 + (k - 7)
def gcv (G : GG) : PV → Value
  | .inl x => .int x
  | .inr r => va_rf (r.map (gad G))
def gcw (G : GG) : PCell → va_E
  | .inl (t, n, f) => .inl (G.2.1 t, n, .inl f)
  | .inr (.inl (t, n, f)) => .inl (G.2.1 t, n, .inr (.inr (.inr (.inr (fun i => (f i).map (gad G))))))
  | .inr (.inr (ci, fs)) => .inr (ci, fs.map (gcv G))
def gwl (G : GG) (h : PH) : va_W := (List.range (h.1 - 7)).map fun k => (G.2.2.1 + k, gcw G (h.2.2 (k + 7)))
def gA (G : GG) : Nat → Prop := fun q => G.2.2.1 ≤ q
abbrev vwCl : List vw_C := [(RX0, TX0, 20), (RX2, TX2, 9), (RX3, TX3, 6), (RX4, TX4, 4), (RX5, TX5, 4), (RX6, TX6, 50), (RX7, TX7, 7), (RX9, TX9, 3), (RX10, TX10, 1), (RX11, TX11, 1), (RX13, TX13, 3), (RX14, TX14, 1), (RX15, TX15, 3), (RX17, TX17, 6), (RX18, TX18, 9)]
def gty (G : GG) : List (ClassId × FieldType) := [(G.2.1 0, .int), (G.2.1 1, .byte), (G.2.1 2, .object "TalkingPlots$Person"), (G.2.1 3, .object "TalkingPlots$Sum"), (G.2.1 4, .object "TalkingPlots$Condition")]
def fOver : Nat → Int32 := fun j => ([0, -1, 1, 0] : List Int32).getD j 0
def fDown : Nat → Int32 := fun j => ([-1, 0, 0, 1] : List Int32).getD j 0
def bPks : List Int32 := [112, 107, 115, 117, 109, 111, 110, 116]
def bEhg : List Int32 := [101, 104, 103, 98, 113]
def oldc (G : GG) (k : Nat) : PCell := match k with
  | 0 => .inl (0, 4, fOver)
  | 1 => .inl (0, 4, fDown)
  | 2 => .inl (0, G.2.2.2.2.1, G.2.2.2.2.2)
  | 3 => .inr (.inr (15, [.inr (some 4), .inl 0]))
  | 4 => .inl (1, 8, fun j => bPks.getD j 0)
  | 5 => .inr (.inr (15, [.inr (some 6), .inl 0]))
  | _ => .inl (1, 5, fun j => bEhg.getD j 0)
def gH (G : GG) (h : PH) (H : Heap) : Prop := 7 ≤ h.1 ∧ H.size = G.2.2.1 + (h.1 - 7) ∧ va_P G.1 vwCl (gwl G h) H ∧ (∀ k, h.1 ≤ k → h.2.2 k = pNil) ∧ ∀ k, k < 7 → h.2.2 k = oldc G k
def isNst : Cond → Bool
  | .fieldLinkNest .. => true
  | .methodLinkNest .. => true
  | .declares _ => true
  | .castable .. => true
  | _ => false
def lw_nst : List Cond := lw_tbl.filter isNst
theorem lw_n {w : Cond} (h : w ∈ lw_tbl) (g : isNst w = true) : w ∈ lw_nst := List.mem_filter.mpr ⟨h, g⟩
/-- what holds of the tables and of the cells that were there before the law, all through -/
def gK (G : GG) (U : State) (H : Heap) : Prop :=
  va_K G.1 vwCl (gty G) U ∧ (∀ w ∈ lw_nst, va_Nw w U) ∧
  (va_AO "TalkingPlots$Person" U ∧ va_AO "TalkingPlots$Sum" U ∧ va_AO "TalkingPlots$Condition" U) ∧
  (va_T .int (gad G 0) 4 (fun j => .int (fOver j)) (gA G) U H ∧ va_T .int (gad G 1) 4 (fun j => .int (fDown j)) (gA G) U H ∧ va_T .int (gad G 2) G.2.2.2.2.1 (fun j => .int (G.2.2.2.2.2 j)) (gA G) U H) ∧
  (va_Z "TalkingPlots" "OVER" "[I" (.ref (gad G 0)) (gA G) U H ∧ va_Z "TalkingPlots" "DOWN" "[I" (.ref (gad G 1)) (gA G) U H ∧ va_Z "java/lang/String" "COMPACT_STRINGS" "Z" (.int 1) (gA G) U H) ∧
  (vk_S 2 [8, 5] [bPks, bEhg] (fun i => gad G (3 + 2 * i)) (fun i => gad G (4 + 2 * i)) (gA G) U H ∧ vk_R "TalkingPlots$Reader" 75 "pksumont" (gad G 3) U ∧ vk_R "TalkingPlots$Reader" 129 "ehgbq" (gad G 5) U)
def gW (G : GG) (h : PH) (U : State) : Prop := gH G h U.heap ∧ gK G U U.heap
/-! lists of cells -/
theorem gwl_get {G : GG} {h : PH} {a : Nat} (h1 : 7 ≤ a) (h2 : a < h.1) : (gwl G h)[a - 7]? = some (gad G a, gcw G (h.2.2 a)) := by
  unfold gwl
  rw [List.getElem?_map, List.getElem?_range (by omega)]
  simp only [Option.map_some, gad]
  rw [if_neg (by omega), Nat.sub_add_cancel h1]
theorem gwl_set {G : GG} {h : PH} {a : Nat} {c : PCell} (h1 : 7 ≤ a) : gwl G (h.1, h.2.1, hup h.2.2 a c) = (gwl G h).set (a - 7) (gad G a, gcw G c) := by
  apply List.ext_getElem?
  intro i
  rw [List.getElem?_set]
  unfold gwl
  simp only [List.getElem?_map, List.length_map, List.length_range]
  by_cases hi : i < h.1 - 7
  · rw [List.getElem?_range hi]
    by_cases e : a - 7 = i
    · rw [if_pos e, if_pos (by omega)]
      simp only [Option.map_some, hup, gad]
      rw [if_pos (by omega), if_neg (by omega), e]
    · rw [if_neg e]
      simp only [Option.map_some, hup]
      rw [if_neg (by omega)]
  · have hn : (List.range (h.1 - 7))[i]? = none := by simp; omega
    rw [hn]
    by_cases e : a - 7 = i
    · rw [if_pos e, if_neg (by omega)]; rfl
    · rw [if_neg e]; rfl
theorem gwl_push {G : GG} {h : PH} {n : Nat} {c : PCell} (h1 : 7 ≤ h.1) : gwl G (h.1 + 1, n, hup h.2.2 h.1 c) = gwl G h ++ [(G.2.2.1 + (h.1 - 7), gcw G c)] := by
  unfold gwl
  rw [show h.1 + 1 - 7 = (h.1 - 7) + 1 by omega, List.range_succ, List.map_append]
  congr 1
  · apply List.map_congr_left
    intro k hk
    have := List.mem_range.mp hk
    simp only [hup]
    rw [if_neg (by omega)]
  · simp only [List.map_cons, List.map_nil, hup]
    rw [if_pos (by omega)]
theorem gD_ok (G : GG) (h : PH) : va_D (gA G) (gwl G h) := by
  have key : ∀ (i : Nat) (p : Nat × va_E), (gwl G h)[i]? = some p → p.1 = G.2.2.1 + i := by
    intro i p hp
    unfold gwl at hp
    rw [List.getElem?_map] at hp
    by_cases hi : i < h.1 - 7
    · rw [List.getElem?_range hi] at hp
      cases hp
      rfl
    · rw [show (List.range (h.1 - 7))[i]? = none by simp; omega] at hp
      cases hp
  refine ⟨fun i j p q hp hq e => ?_, fun k q hq => ?_⟩
  · have := key i p hp
    have := key j q hq
    omega
  · show G.2.2.1 ≤ q.1
    rw [key k q hq]
    omega
theorem gH_old {G : GG} {h : PH} {H : Heap} (w : gH G h H) {a : Nat} (ha : a < 7) : h.2.2 a = oldc G a := w.2.2.2.2 a ha
theorem gH_obj {G : GG} {h : PH} {H : Heap} (w : gH G h H) {a c : Nat} {fs : List PV} (e : h.2.2 a = .inr (.inr (c, fs))) (hc : c < 15) : 7 ≤ a ∧ a < h.1 := by
  constructor
  · rcases Nat.lt_or_ge a 7 with q | q
    · have := gH_old w q
      rw [e] at this
      match a, q, this with
      | 0, _, t => simp [oldc] at t
      | 1, _, t => simp [oldc] at t
      | 2, _, t => simp [oldc] at t
      | 3, _, t => simp [oldc] at t; omega
      | 4, _, t => simp [oldc] at t
      | 5, _, t => simp [oldc] at t; omega
      | 6, _, t => simp [oldc] at t
    · exact q
  · rcases Nat.lt_or_ge a h.1 with q | q
    · exact q
    · have := w.2.2.2.1 a q
      rw [e] at this
      simp [pNil] at this
      omega
theorem gH_refs {G : GG} {h : PH} {H : Heap} (w : gH G h H) {a t n : Nat} {f : Nat → Option Nat} (e : h.2.2 a = .inr (.inl (t, n, f))) : 7 ≤ a ∧ a < h.1 := by
  constructor
  · rcases Nat.lt_or_ge a 7 with q | q
    · have := gH_old w q
      rw [e] at this
      match a, q, this with
      | 0, _, t => simp [oldc] at t
      | 1, _, t => simp [oldc] at t
      | 2, _, t => simp [oldc] at t
      | 3, _, t => simp [oldc] at t
      | 4, _, t => simp [oldc] at t
      | 5, _, t => simp [oldc] at t
      | 6, _, t => simp [oldc] at t
    · exact q
  · rcases Nat.lt_or_ge a h.1 with q | q
    · exact q
    · have := w.2.2.2.1 a q
      rw [e] at this
      simp [pNil] at this
theorem gH_lt {G : GG} {h : PH} {H : Heap} (w : gH G h H) {a : Nat} (e : h.2.2 a ≠ pNil) : a < h.1 := by
  rcases Nat.lt_or_ge a h.1 with q | q
  · exact q
  · exact absurd (w.2.2.2.1 a q) e
theorem gH_set {G : GG} {h : PH} {H H1 : Heap} (w : gH G h H) {a : Nat} {c : PCell} (h1 : 7 ≤ a) (h2 : a < h.1) (hz : H1.size = H.size) (hP : va_P G.1 vwCl ((gwl G h).set (a - 7) (gad G a, gcw G c)) H1) : gH G (h.1, h.2.1, hup h.2.2 a c) H1 := by
  refine ⟨w.1, hz.trans w.2.1, ?_, fun k hk => ?_, fun k hk => ?_⟩
  · rw [gwl_set h1]; exact hP
  · show (if k = a then c else h.2.2 k) = pNil
    rw [if_neg (by have : h.1 ≤ k := hk; omega)]
    exact w.2.2.2.1 k hk
  · show (if k = a then c else h.2.2 k) = oldc G k
    rw [if_neg (by omega)]
    exact w.2.2.2.2 k hk
theorem gH_push {G : GG} {h : PH} {H H1 : Heap} (w : gH G h H) {n : Nat} {c : PCell} (hz : H1.size = H.size + 1) (hP : va_P G.1 vwCl (gwl G h ++ [(G.2.2.1 + (h.1 - 7), gcw G c)]) H1) : gH G (h.1 + 1, n, hup h.2.2 h.1 c) H1 := by
  have w1 := w.1
  refine ⟨Nat.le_succ_of_le w.1, ?_, ?_, fun k hk => ?_, fun k hk => ?_⟩
  · rw [hz, w.2.1]; show _ = _ + (h.1 + 1 - 7); omega
  · rw [gwl_push w.1]; exact hP
  · have hk' : h.1 + 1 ≤ k := hk
    show (if k = h.1 then c else h.2.2 k) = pNil
    rw [if_neg (by omega)]
    exact w.2.2.2.1 k (by omega)
  · show (if k = h.1 then c else h.2.2 k) = oldc G k
    rw [if_neg (by omega)]
    exact w.2.2.2.2 k hk
/-! moving what holds all through -/
theorem lw_nst_kind {w : Cond} (h : w ∈ lw_nst) {s U : State} (hW : s.WarmedH U.vm) (hZ : va_Nw w s) : va_Nw w U := by
  have hk : isNst w = true := (List.mem_filter.mp h).2
  cases w with
  | fieldLinkNest a i b n d h => exact va_Nw.warmF hW hZ
  | methodLinkNest a i x h => exact va_Nw.warmM hW hZ
  | declares x => exact va_Nw.warmD hW hZ
  | castable a b => exact va_Nw.warmC hW hZ
  | _ => cases hk
theorem gK_moved {G : GG} {s U : State} {H : Heap} (hW : s.WarmedH U.vm) (k : gK G s H) : gK G U H := by
  obtain ⟨k1, k2, ⟨k3, k4, k5⟩, ⟨t0, t1, t2⟩, ⟨z0, z1, z2⟩, s0, r0, r1⟩ := k
  exact ⟨k1.moved hW.alike, fun w hw => lw_nst_kind hw hW (k2 w hw), ⟨k3.moved hW.alike, k4.moved hW.alike, k5.moved hW.alike⟩, ⟨t0.moved hW.alike, t1.moved hW.alike, t2.moved hW.alike⟩, ⟨z0.moved hW.alike, z1.moved hW.alike, z2.moved hW.alike⟩, s0.moved hW.alike, r0.warm hW, r1.warm hW⟩
theorem gK_kept {G : GG} {U : State} {H H1 : Heap} (hq : ∀ a : Nat, a < H.size → ¬ gA G a → H1[a]? = H[a]?) (k : gK G U H) : gK G U H1 := by
  obtain ⟨k1, k2, k3, ⟨t0, t1, t2⟩, ⟨z0, z1, z2⟩, s0, r0⟩ := k
  exact ⟨k1, k2, k3, ⟨t0.kept hq, t1.kept hq, t2.kept hq⟩, ⟨z0.kept hq, z1.kept hq, z2.kept hq⟩, s0.kept hq, r0⟩
/-! the context of a walk, as one tuple -/
abbrev CT : Type := Program × Launch × Env × Room × State × MethodId × Array Value × List Frame × Method × Code × (State → Prop) × GG × Nat × Nat × Nat × Nat
def xN (X : CT) : Nat := X.2.2.2.2.2.2.2.2.2.2.2.2.2.2.1
def xS (X : CT) : Nat := X.2.2.2.2.2.2.2.2.2.2.2.2.2.2.2
def xG (X : CT) : GG := X.2.2.2.2.2.2.2.2.2.2.2.1
def Ok (X : CT) (cc : ByteArray) (nL : Nat) (own mn : String) (ret : Option FieldType) (d : Nat) : Prop := match X with
  | (p, _, _, R, s, m, args, _, meth, c, _, G, n0, s0, N, SL) => p.tables.exec = Jvm.exec ∧ c.code = cc ∧ c.maxLocals = nL ∧ s.vm.findClass own = some m.cls ∧ meth.locks = false ∧ (∀ w ∈ lw_all, w.before args s = true) ∧ gK G s s.heap ∧ meth.sig.returnType = ret ∧ G.2.2.1 ≤ s.heap.size ∧ (d ≤ R.frames ∧ 60 * d ≤ R.locals) ∧ N - n0 ≤ R.cells ∧ SL - s0 ≤ R.slots ∧ meth.name = mn
/-- the method that is walked: code, locals, class, name, answer, depth -/
abbrev MT : Type := ByteArray × Nat × String × String × Option FieldType × Nat
def OkM (X : CT) (Y : MT) : Prop := Ok X Y.1 Y.2.1 Y.2.2.1 Y.2.2.2.1 Y.2.2.2.2.1 Y.2.2.2.2.2
def lvO (G : GG) (ls : Array Slot) (nL : Nat) (lv : List (Option PV)) : Prop := ls.size = nL ∧ lv_wf ls ∧ ∀ (i : Nat) (v : PV), lv[i]? = some (some v) → ls[i]? = some (.val (gcv G v))
def Wt (X : CT) (pc : Nat) (lv : List (Option PV)) (st : List PV) (h : PH) : Prop := match X with
  | (p, l, e, R, s, m, args, below, meth, c, Q, G, n0, s0, _, _) => n0 ≤ h.1 → s0 ≤ h.2.1 → ∀ (H : Heap) (locs : List Loc) (ls : Array Slot), gH G h H → va_S (gA G) s.heap H locs → lvO G ls c.maxLocals lv → W p l e R s m args below meth c H locs (h.1 - n0) (h.2.1 - s0) Q (F0 m pc ls (st.map (gcv G)))
def Im (X : CT) (Y : MT) {τ : Type} (pc : Nat) (lv : List (Option PV)) (st : List PV) (h : PH) (f : Option τ) (sz : τ → Nat × Nat) (K : τ → Prop) : Prop :=
  ∀ t, f = some t → h.1 ≤ (sz t).1 ∧ h.2.1 ≤ (sz t).2 ∧ (OkM X Y → (sz t).1 ≤ xN X → (sz t).2 ≤ xS X → K t → Wt X pc lv st h)
theorem gcv_cat (G : GG) (v : PV) : (gcv G v).category = 1 := by
  cases v with
  | inl x => rfl
  | inr r => cases r <;> rfl
theorem gcv_sum (G : GG) (st : List PV) : ((st.map (gcv G)).map fun v => v.category).sum = st.length := by
  induction st with
  | nil => rfl
  | cons a t ih => simp only [List.map_cons, List.sum_cons, gcv_cat, ih, List.length_cons]; omega
/-! locals -/
def lvL (G : GG) (lv : List (Option PV)) : List (Nat × Value) := (List.range lv.length).filterMap fun i => (lv[i]?.join).map fun v => (i, gcv G v)
theorem lvL_mem {G : GG} {lv : List (Option PV)} {i : Nat} {v : PV} (h : lv[i]? = some (some v)) : (i, gcv G v) ∈ lvL G lv := by
  unfold lvL
  refine List.mem_filterMap.mpr ⟨i, List.mem_range.mpr (List.getElem?_eq_some_iff.mp h).1, ?_⟩
  rw [h]; rfl
theorem lvL_of {G : GG} {lv : List (Option PV)} {q : Nat × Value} (h : q ∈ lvL G lv) : ∃ v, lv[q.1]? = some (some v) ∧ q.2 = gcv G v := by
  unfold lvL at h
  obtain ⟨i, -, hi⟩ := List.mem_filterMap.mp h
  cases e : lv[i]? with
  | none => rw [e] at hi; cases hi
  | some o =>
    rw [e] at hi
    cases o with
    | none => cases hi
    | some v => cases hi; exact ⟨v, e, rfl⟩
theorem lvO.has {G : GG} {ls : Array Slot} {nL : Nat} {lv : List (Option PV)} (h : lvO G ls nL lv) : lv_has ls nL (lvL G lv) := by
  refine ⟨h.1, h.2.1, fun q hq => ?_⟩
  obtain ⟨v, h1, h2⟩ := lvL_of hq
  rw [h2]
  exact h.2.2 _ _ h1
theorem lvO.set {G : GG} {ls' : Array Slot} {nL i : Nat} {lv : List (Option PV)} {v : PV} (h' : lv_has ls' nL ((i, gcv G v) :: (lvL G lv).filter (fun q => !(q.1 == i) && !(q.1 + 1 == i && q.2.category == 2)))) : lvO G ls' nL (lv.set i (some v)) := by
  refine ⟨h'.1, h'.2.1, fun j w hj => ?_⟩
  by_cases e : i = j
  · subst e
    rw [List.getElem?_set] at hj
    rw [if_pos rfl] at hj
    by_cases hl : i < lv.length
    · rw [if_pos hl] at hj
      cases hj
      exact h'.2.2 (i, gcv G v) List.mem_cons_self
    · rw [if_neg hl] at hj
      cases hj
  · rw [List.getElem?_set_ne e] at hj
    refine h'.2.2 (j, gcv G w) (List.mem_cons_of_mem _ (List.mem_filter.mpr ⟨lvL_mem hj, ?_⟩))
    have : (gcv G w).category = 1 := gcv_cat G w
    simp only [this]
    simp
    omega
def lvM : List Bool → List (Option PV) → List (Option PV)
  | true :: ks, v :: lv => v :: lvM ks lv
  | false :: ks, _ :: lv => none :: lvM ks lv
  | _, _ => []
theorem lvM_get : ∀ (ks : List Bool) (lv : List (Option PV)) (i : Nat) (v : PV), (lvM ks lv)[i]? = some (some v) → lv[i]? = some (some v)
  | [], _, i, v, h => by simp [lvM] at h
  | true :: _, [], i, v, h => by simp [lvM] at h
  | false :: _, [], i, v, h => by simp [lvM] at h
  | true :: ks, a :: lv, 0, v, h => by simpa [lvM] using h
  | false :: ks, a :: lv, 0, v, h => by simp [lvM] at h
  | true :: ks, a :: lv, i + 1, v, h => by
    simp only [lvM, List.getElem?_cons_succ] at h ⊢
    exact lvM_get ks lv i v h
  | false :: ks, a :: lv, i + 1, v, h => by
    simp only [lvM, List.getElem?_cons_succ] at h ⊢
    exact lvM_get ks lv i v h
/-! the judgement's own rules -/
theorem Im.step {X : CT} {Y : MT} {τ : Type} {pc pc' : Nat} {lv lv' : List (Option PV)} {st st' : List PV} {h : PH} {f : Option τ} {sz : τ → Nat × Nat} {K : τ → Prop} (hW : OkM X Y → Wt X pc' lv' st' h → Wt X pc lv st h) (k : Im X Y pc' lv' st' h f sz K) : Im X Y pc lv st h f sz K := fun t ht => ⟨(k t ht).1, (k t ht).2.1, fun o a b c => hW o ((k t ht).2.2 o a b c)⟩
theorem Im.bind {X : CT} {Y : MT} {τ α : Type} {pc pc' : Nat} {lv lv' : List (Option PV)} {st : List PV} {st' : α → List PV} {h : PH} {h' : α → PH} {o : Option α} {g : α → Option τ} {sz : τ → Nat × Nat} {K : τ → Prop} (hs : ∀ x, o = some x → h.1 ≤ (h' x).1 ∧ h.2.1 ≤ (h' x).2.1) (hW : ∀ x, o = some x → OkM X Y → (h' x).1 ≤ xN X → (h' x).2.1 ≤ xS X → Wt X pc' lv' (st' x) (h' x) → Wt X pc lv st h) (k : ∀ x, Im X Y pc' lv' (st' x) (h' x) (g x) sz K) : Im X Y pc lv st h (o.bind g) sz K := by
  intro t ht
  cases ho : o with
  | none => rw [ho] at ht; cases ht
  | some x =>
    rw [ho] at ht
    obtain ⟨a, b, c⟩ := k x t ht
    obtain ⟨a1, b1⟩ := hs x ho
    exact ⟨Nat.le_trans a1 a, Nat.le_trans b1 b, fun q u v w => hW x ho q (Nat.le_trans a u) (Nat.le_trans b v) (c q u v w)⟩
theorem Im.bind0 {X : CT} {Y : MT} {τ α : Type} {pc pc' : Nat} {lv lv' : List (Option PV)} {st : List PV} {st' : α → List PV} {h : PH} {o : Option α} {g : α → Option τ} {sz : τ → Nat × Nat} {K : τ → Prop} (hW : ∀ x, o = some x → OkM X Y → Wt X pc' lv' (st' x) h → Wt X pc lv st h) (k : ∀ x, Im X Y pc' lv' (st' x) h (g x) sz K) : Im X Y pc lv st h (o.bind g) sz K := Im.bind (h' := fun _ => h) (fun _ _ => ⟨Nat.le_refl _, Nat.le_refl _⟩) (fun x hx q _ _ => hW x hx q) k
theorem Im.ite {X : CT} {Y : MT} {τ : Type} {pc p1 p2 : Nat} {lv : List (Option PV)} {st st' : List PV} {h : PH} {c : Prop} [Decidable c] {f1 f2 : Option τ} {sz : τ → Nat × Nat} {K : τ → Prop} (hW : OkM X Y → (c → Wt X p1 lv st' h) → (¬ c → Wt X p2 lv st' h) → Wt X pc lv st h) (k1 : Im X Y p1 lv st' h f1 sz K) (k2 : Im X Y p2 lv st' h f2 sz K) : Im X Y pc lv st h (if c then f1 else f2) sz K := by
  intro t ht
  by_cases hc : c
  · rw [if_pos hc] at ht
    obtain ⟨a, b, d⟩ := k1 t ht
    exact ⟨a, b, fun o u v w => hW o (fun _ => d o u v w) (fun q => absurd hc q)⟩
  · rw [if_neg hc] at ht
    obtain ⟨a, b, d⟩ := k2 t ht
    exact ⟨a, b, fun o u v w => hW o (fun q => absurd q hc) (fun _ => d o u v w)⟩
theorem Im.none {X : CT} {Y : MT} {τ : Type} {pc : Nat} {lv : List (Option PV)} {st : List PV} {h : PH} {sz : τ → Nat × Nat} {K : τ → Prop} : Im X Y pc lv st h (Option.none : Option τ) sz K := fun t ht => by cases ht
/-- fewer locals are known -/
theorem Im.drop {X : CT} {Y : MT} {τ : Type} {pc : Nat} {lv lv' : List (Option PV)} {st : List PV} {h : PH} {f : Option τ} {sz : τ → Nat × Nat} {K : τ → Prop} (ks : List Bool) (hl : lvM ks lv = lv') (k : Im X Y pc lv' st h f sz K) : Im X Y pc lv st h f sz K := by
  refine Im.step (fun _ w => ?_) k
  obtain ⟨p, l, e, R, s, m, args, below, meth, c, Q, G, n0, s0, N, SL⟩ := X
  intro a b H locs ls hh hs hv
  exact w a b H locs ls hh hs ⟨hv.1, hv.2.1, fun i v hi => hv.2.2 i v (lvM_get ks lv i v (by rw [hl]; exact hi))⟩
/-! loops: iter B s runs B until it answers inr -/
def iterN {σ ρ : Type} (B : σ → Option (σ ⊕ ρ)) : Nat → σ → Option ρ
  | 0, _ => none
  | n + 1, s => (B s).bind fun t => match t with
    | .inl s' => iterN B n s'
    | .inr r => some r
theorem iterN_mono {σ ρ : Type} {B : σ → Option (σ ⊕ ρ)} : ∀ {n m : Nat} {s : σ} {r : ρ}, n ≤ m → iterN B n s = some r → iterN B m s = some r
  | 0, _, _, _, _, h => by cases h
  | n + 1, 0, _, _, hl, _ => absurd hl (by omega)
  | n + 1, m + 1, s, r, hl, h => by
    unfold iterN at h ⊢
    cases e : B s with
    | none => rw [e] at h; cases h
    | some t =>
      rw [e] at h
      cases t with
      | inl s' => exact iterN_mono (B := B) (n := n) (m := m) (by omega) h
      | inr q => exact h
noncomputable def iter {σ ρ : Type} (B : σ → Option (σ ⊕ ρ)) (s : σ) : Option ρ := by
  classical
  exact if h : ∃ n r, iterN B n s = some r then some (Classical.choose (Classical.choose_spec h)) else none
theorem iter_of {σ ρ : Type} {B : σ → Option (σ ⊕ ρ)} {s : σ} {r : ρ} {n : Nat} (h : iterN B n s = some r) : iter B s = some r := by
  have hx : ∃ n r, iterN B n s = some r := ⟨n, r, h⟩
  unfold iter
  rw [dif_pos hx]
  have h2 := Classical.choose_spec (Classical.choose_spec hx)
  congr 1
  rcases Nat.le_total n (Classical.choose hx) with q | q
  · exact Option.some.inj (h2.symm.trans (iterN_mono q h))
  · exact Option.some.inj ((iterN_mono q h2).symm.trans h)
theorem iter_has {σ ρ : Type} {B : σ → Option (σ ⊕ ρ)} {s : σ} {r : ρ} (h : iter B s = some r) : ∃ n, iterN B n s = some r := by
  unfold iter at h
  split at h
  · rename_i hx
    have h2 := Classical.choose_spec (Classical.choose_spec hx)
    exact ⟨_, h2.trans h⟩
  · cases h
theorem iter_eq {σ ρ : Type} (B : σ → Option (σ ⊕ ρ)) (s : σ) : iter B s = (B s).bind fun t => match t with
    | .inl s' => iter B s'
    | .inr r => some r := by
  cases e : B s with
  | none =>
    cases h : iter B s with
    | none => rfl
    | some r =>
      obtain ⟨n, hn⟩ := iter_has h
      cases n with
      | zero => cases hn
      | succ n => unfold iterN at hn; rw [e] at hn; cases hn
  | some t =>
    cases t with
    | inr r => exact iter_of (n := 1) (by unfold iterN; rw [e]; rfl)
    | inl s' =>
      show iter B s = iter B s'
      cases h : iter B s' with
      | none =>
        cases h2 : iter B s with
        | none => rfl
        | some r =>
          obtain ⟨n, hn⟩ := iter_has h2
          cases n with
          | zero => cases hn
          | succ n =>
            unfold iterN at hn
            rw [e] at hn
            rw [iter_of (show iterN B n s' = some r from hn)] at h
            cases h
      | some r =>
        obtain ⟨n, hn⟩ := iter_has h
        exact iter_of (n := n + 1) (by unfold iterN; rw [e]; exact hn)
theorem iter_l {σ ρ : Type} {B : σ → Option (σ ⊕ ρ)} {s s' : σ} (h : B s = some (.inl s')) : iter B s = iter B s' := by rw [iter_eq, h]; rfl
theorem iter_r {σ ρ : Type} {B : σ → Option (σ ⊕ ρ)} {s : σ} {r : ρ} (h : B s = some (.inr r)) : iter B s = some r := by rw [iter_eq, h]; rfl
/-- a loop that goes through the states S 0, S 1 .. S n -/
theorem iter_to {σ ρ : Type} {B : σ → Option (σ ⊕ ρ)} (S : Nat → σ) (n : Nat) (hs : ∀ i, i < n → B (S i) = some (.inl (S (i + 1)))) : iter B (S 0) = iter B (S n) := by
  induction n with
  | zero => rfl
  | succ n ih => rw [ih fun i hi => hs i (by omega), iter_l (hs n (by omega))]
theorem iter_toR {σ ρ : Type} {B : σ → Option (σ ⊕ ρ)} (S : Nat → σ) (n : Nat) {r : ρ} (hs : ∀ i, i < n → B (S i) = some (.inl (S (i + 1)))) (hr : B (S n) = some (.inr r)) : iter B (S 0) = some r := by
  rw [iter_to S n hs, iter_r hr]
/-- the walk of a loop: its head is at pc, its state s shows in the locals and the heap -/
def ez {σ ρ : Type} (hp : σ → PH) (sz : ρ → Nat × Nat) : σ ⊕ ρ → Nat × Nat := Sum.elim (fun s => ((hp s).1, (hp s).2.1)) sz
def ek {σ ρ : Type} (X : CT) (pc : Nat) (lv : σ → List (Option PV)) (hp : σ → PH) (K : ρ → Prop) : σ ⊕ ρ → Prop := Sum.elim (fun s => Wt X pc (lv s) [] (hp s)) K
theorem Im.iter {X : CT} {Y : MT} {σ ρ : Type} {pc : Nat} {lv : σ → List (Option PV)} {hp : σ → PH} {B : σ → Option (σ ⊕ ρ)} {sz : ρ → Nat × Nat} {K : ρ → Prop} (hB : ∀ s, Im X Y pc (lv s) [] (hp s) (B s) (ez hp sz) (ek X pc lv hp K)) (s : σ) {lv1 : List (Option PV)} {h1 : PH} (e1 : lv s = lv1) (e2 : hp s = h1) : Im X Y pc lv1 [] h1 (iter B s) sz K := by
  subst e1
  subst e2
  intro r hr
  obtain ⟨n, hn⟩ := iter_has hr
  clear hr
  induction n generalizing s with
  | zero => cases hn
  | succ n ih =>
    unfold iterN at hn
    cases e : B s with
    | none => rw [e] at hn; cases hn
    | some t =>
      rw [e] at hn
      obtain ⟨a, b, c⟩ := hB s t e
      cases t with
      | inr q =>
        cases hn
        exact ⟨a, b, c⟩
      | inl s' =>
        obtain ⟨a1, b1, c1⟩ := ih s' hn
        exact ⟨Nat.le_trans a a1, Nat.le_trans b b1, fun o u v w => c o (Nat.le_trans a1 u) (Nat.le_trans b1 v) (c1 o u v w)⟩
/-- back to the loop's head -/
theorem Im.back {X : CT} {Y : MT} {σ ρ : Type} {pc : Nat} {lv : σ → List (Option PV)} {hp : σ → PH} {sz : ρ → Nat × Nat} {K : ρ → Prop} {s : σ} {lv1 : List (Option PV)} {h : PH} (ks : List Bool) (e1 : lvM ks lv1 = lv s) (e2 : hp s = h) : Im X Y pc lv1 [] h (some (.inl s) : Option (σ ⊕ ρ)) (ez hp sz) (ek X pc lv hp K) := by
  refine Im.drop ks e1 ?_
  intro t ht
  cases ht
  subst e2
  exact ⟨Nat.le_refl _, Nat.le_refl _, fun _ _ _ k => k⟩
/-- what stands inside a loop's body and ends outside of the loop -/
theorem Im.out {X : CT} {Y : MT} {σ ρ : Type} {pc : Nat} {lv : List (Option PV)} {st : List PV} {h : PH} {f : Option ρ} {sz : ρ → Nat × Nat} {K : ρ → Prop} {pc' : Nat} {lv' : σ → List (Option PV)} {hp : σ → PH} (k : Im X Y pc lv st h f sz K) : Im X Y pc lv st h (f.map Sum.inr : Option (σ ⊕ ρ)) (ez hp sz) (ek X pc' lv' hp K) := by
  intro t ht
  cases e : f with
  | none => rw [e] at ht; cases ht
  | some q =>
    rw [e] at ht
    cases ht
    exact k q e
theorem Im.outS {X : CT} {Y : MT} {σ ρ : Type} {pc : Nat} {lv : List (Option PV)} {st : List PV} {h : PH} {q : ρ} {sz : ρ → Nat × Nat} {K : ρ → Prop} {pc' : Nat} {lv' : σ → List (Option PV)} {hp : σ → PH} (k : Im X Y pc lv st h (some q) sz K) : Im X Y pc lv st h (some (.inr q) : Option (σ ⊕ ρ)) (ez hp sz) (ek X pc' lv' hp K) := by
  intro t ht
  cases ht
  exact k q rfl
