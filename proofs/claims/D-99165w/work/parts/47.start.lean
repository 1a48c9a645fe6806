/-! THE START: what the tables and the Statement give, as gK; the law's walk out of its pure function -/
set_option maxRecDepth 100000
def hs0 (L : Nat) (xs : Nat → Int32) : PH := (7, 0, fun k => match k with
  | 0 => .inl (0, 4, fOver)
  | 1 => .inl (0, 4, fDown)
  | 2 => .inl (0, L, xs)
  | 3 => .inr (.inr (15, [.inr (some 4), .inl 0]))
  | 4 => .inl (1, 8, fun j => bPks.getD j 0)
  | 5 => .inr (.inr (15, [.inr (some 6), .inl 0]))
  | 6 => .inl (1, 5, fun j => bEhg.getD j 0)
  | _ => pNil)
theorem st_cls {s : State} {b : Nat} (hts : ∀ w ∈ lw_tbl, w.before #[Value.ref b] s = true) : ∃ D : va_G, ∀ (k : Nat) (q : vw_C), vwCl[k]? = some q → u_Kn s q.1 q.2.1 q.2.2 (D.1 k) (D.2 k) := by
  have one : ∀ k : Nat, ∃ d : ClassId × (Nat → Nat), ∀ q : vw_C, vwCl[k]? = some q → u_Kn s q.1 q.2.1 q.2.2 d.1 d.2 := by
    intro k
    have mk : ∀ {C : String} {T : u_T} {N n : Nat}, vwCl[k]? = some (C, T, N) → (∀ w ∈ u_ws C T N, w ∈ lw_all) → Cond.instantiable C n ∈ lw_all → ∃ d : ClassId × (Nat → Nat), ∀ q : vw_C, vwCl[k]? = some q → u_Kn s q.1 q.2.1 q.2.2 d.1 d.2 := by
      intro C T N n hk hin hi
      obtain ⟨c, iS, h⟩ := u_known (C := C) (T := T) (N := N) (n := n) hts (fun w h => lw_all_tbl (hin w h)) (hts _ (lw_all_tbl hi))
      refine ⟨(c, iS), fun q hq => ?_⟩
      cases hk.symm.trans hq
      exact h
    match k with
    | 0 => exact mk rfl in_X0 q133
    | 1 => exact mk rfl in_X2 q141
    | 2 => exact mk rfl in_X3 q180
    | 3 => exact mk rfl in_X4 q187
    | 4 => exact mk rfl in_X5 q243
    | 5 => exact mk rfl in_X6 q1172
    | 6 => exact mk rfl in_X7 q362
    | 7 => exact mk rfl in_X9 q504
    | 8 => exact mk rfl in_X10 q526
    | 9 => exact mk rfl in_X11 q544
    | 10 => exact mk rfl in_X13 q573
    | 11 => exact mk rfl in_X14 q583
    | 12 => exact mk rfl in_X15 q596
    | 13 => exact mk rfl in_X17 q639
    | 14 => exact mk rfl in_X18 q786
    | k + 15 => exact ⟨(0, fun _ => 0), fun q hq => by simp [vwCl] at hq⟩
  obtain ⟨D, hD⟩ := Classical.axiomOfChoice one
  exact ⟨(fun k => (D k).1, fun k => (D k).2), hD⟩
theorem st_arr {s : State} {b : Nat} (hts : ∀ w ∈ lw_tbl, w.before #[Value.ref b] s = true) : ∃ dA : Nat → ClassId, ∀ (k : Nat) (ty : FieldType), ([FieldType.int, .byte, .object "TalkingPlots$Person", .object "TalkingPlots$Sum", .object "TalkingPlots$Condition"] : List FieldType)[k]? = some ty → ArrOfT s (dA k) ty ∧ va_RA s (dA k) ty := by
  have pr : ∀ {ty : FieldType}, (ty = .int ∨ ty = .byte) → Cond.arrayClass ty ∈ lw_all → ∃ c, ArrOfT s c ty ∧ va_RA s c ty := by
    intro ty ht hw
    obtain ⟨c, k, comp, h1, h2, h3⟩ := Cond.arrayClass_spec (hts _ (lw_all_tbl hw))
    refine ⟨c, fun n z => ⟨fun k h => (by cases h), k, h2, comp, h3⟩, ?_⟩
    rcases ht with rfl | rfl
    · exact h1
    · exact h1
  have po : ∀ {C : String}, Cond.arrayOver (.object C) ∈ lw_tbl → ∃ c, ArrOfT s c (.object C) ∧ va_RA s c (.object C) := by
    intro C hw
    obtain ⟨comp, c, k, h1, h2, h3, h4, h5⟩ := Cond.arrayOver_spec (hts _ hw)
    exact ⟨c, fun n z => ⟨fun k h => (by cases h), k, h3, comp, h4⟩, k, comp, h3, h4, h1, h5⟩
  obtain ⟨c0, h0⟩ := pr (Or.inl rfl) q271
  obtain ⟨c1, h1⟩ := pr (Or.inr rfl) q270
  obtain ⟨c2, h2⟩ := po q186
  obtain ⟨c3, h3⟩ := po q249
  obtain ⟨c4, h4⟩ := po q251
  refine ⟨fun k => match k with
    | 0 => c0
    | 1 => c1
    | 2 => c2
    | 3 => c3
    | _ => c4, fun k ty hk => ?_⟩
  match k, hk with
  | 0, hk => cases hk; exact h0
  | 1, hk => cases hk; exact h1
  | 2, hk => cases hk; exact h2
  | 3, hk => cases hk; exact h3
  | 4, hk => cases hk; exact h4
  | k + 5, hk => simp at hk
theorem st_nst {s : State} {b : Nat} (hts : ∀ w ∈ lw_tbl, w.before #[Value.ref b] s = true) : ∀ w ∈ lw_nst, va_Nw w s := by
  intro w hw
  obtain ⟨h1, h2⟩ := List.mem_filter.mp hw
  refine va_Nw.of ?_ (hts w h1)
  cases w with
  | fieldLinkNest a i b n d h => rfl
  | methodLinkNest a i x h => rfl
  | declares x => rfl
  | castable a b => rfl
  | _ => cases h2
def tmS (i : Nat) : Term := if i = 0 then .string "TalkingPlots$Reader" 75 else .string "TalkingPlots$Reader" 129
theorem st_gK {s : State} {b L : Nat} {xs : Nat → Int32} (hts : ∀ w ∈ lw_tbl, w.before #[Value.ref b] s = true) (hX : va_X b L xs s s.heap) (hL : L < 2 ^ 31) (hbl : b < s.heap.size) (hgv : (Jvm.Cond.and given_1 narrow_1).before #[Value.ref b] s = true) : ∃ G : GG, G.2.2.1 = s.heap.size ∧ G.2.2.2.2.1 = L ∧ G.2.2.2.2.2 = xs ∧ gad G 2 = b ∧ gK G s s.heap := by
  obtain ⟨D, hD⟩ := st_cls hts
  obtain ⟨dA, hdA⟩ := st_arr hts
  have hs := flat_of_before _ hgv
  have hA : ∀ a : Nat, a < s.heap.size → ¬ (fun q => s.heap.size ≤ q) a := fun a ha => Nat.not_le.mpr ha
  have e0 : (Cond.eq (.static "java/lang/String" "COMPACT_STRINGS" "Z") (.int 1)).before #[Value.ref b] s = true := hs _ (by decide +kernel)
  obtain ⟨t0, z0, T0⟩ := va_Tof (tm := .static "TalkingPlots" "OVER" "[I") (ty := .int) (N := 4) (f := fun j => .int (fOver j)) (A := fun q => s.heap.size ≤ q) (by decide) (hs _ (by decide +kernel)) (va_eqt (hs (Cond.eq (.length (.static "TalkingPlots" "OVER" "[I")) (.int 4)) (by decide +kernel))) (fun j hj => by
    match j, hj with
    | 0, _ => exact va_eqt (hs (Cond.eq (.elem (.static "TalkingPlots" "OVER" "[I") (.int 0)) (.int 0)) (by decide +kernel))
    | 1, _ => exact va_eqt (hs (Cond.eq (.elem (.static "TalkingPlots" "OVER" "[I") (.int 1)) (.int (-1))) (by decide +kernel))
    | 2, _ => exact va_eqt (hs (Cond.eq (.elem (.static "TalkingPlots" "OVER" "[I") (.int 2)) (.int 1)) (by decide +kernel))
    | 3, _ => exact va_eqt (hs (Cond.eq (.elem (.static "TalkingPlots" "OVER" "[I") (.int 3)) (.int 0)) (by decide +kernel))) hA
  obtain ⟨t1, z1, T1⟩ := va_Tof (tm := .static "TalkingPlots" "DOWN" "[I") (ty := .int) (N := 4) (f := fun j => .int (fDown j)) (A := fun q => s.heap.size ≤ q) (by decide) (hs _ (by decide +kernel)) (va_eqt (hs (Cond.eq (.length (.static "TalkingPlots" "DOWN" "[I")) (.int 4)) (by decide +kernel))) (fun j hj => by
    match j, hj with
    | 0, _ => exact va_eqt (hs (Cond.eq (.elem (.static "TalkingPlots" "DOWN" "[I") (.int 0)) (.int (-1))) (by decide +kernel))
    | 1, _ => exact va_eqt (hs (Cond.eq (.elem (.static "TalkingPlots" "DOWN" "[I") (.int 1)) (.int 0)) (by decide +kernel))
    | 2, _ => exact va_eqt (hs (Cond.eq (.elem (.static "TalkingPlots" "DOWN" "[I") (.int 2)) (.int 0)) (by decide +kernel))
    | 3, _ => exact va_eqt (hs (Cond.eq (.elem (.static "TalkingPlots" "DOWN" "[I") (.int 3)) (.int 1)) (by decide +kernel))) hA
  have lt2 : ∀ {i : Nat}, i < 2 → i = 0 ∨ i = 1 := fun h => by omega
  obtain ⟨adK, adV, hS, hev⟩ := vk_Sof (args := #[Value.ref b]) (s := s) (N := 2) (tm := tmS) (len := [8, 5]) (byt := [bPks, bEhg]) (A := fun q => s.heap.size ≤ q)
    (fun i hi => by rcases lt2 hi with rfl | rfl <;> decide)
    (fun i hi => by rcases lt2 hi with rfl | rfl <;> exact hs _ (by decide +kernel))
    (fun i hi => by rcases lt2 hi with rfl | rfl <;> exact hs _ (by decide +kernel))
    (fun i hi => by rcases lt2 hi with rfl | rfl <;> exact hs _ (by decide +kernel))
    (fun i hi => by rcases lt2 hi with rfl | rfl <;> exact hs _ (by decide +kernel))
    (fun i hi j hj => by
      rcases lt2 hi with rfl | rfl
      · match j, hj with
        | 0, _ => exact hs _ (by decide +kernel)
        | 1, _ => exact hs _ (by decide +kernel)
        | 2, _ => exact hs _ (by decide +kernel)
        | 3, _ => exact hs _ (by decide +kernel)
        | 4, _ => exact hs _ (by decide +kernel)
        | 5, _ => exact hs _ (by decide +kernel)
        | 6, _ => exact hs _ (by decide +kernel)
        | 7, _ => exact hs _ (by decide +kernel)
      · match j, hj with
        | 0, _ => exact hs _ (by decide +kernel)
        | 1, _ => exact hs _ (by decide +kernel)
        | 2, _ => exact hs _ (by decide +kernel)
        | 3, _ => exact hs _ (by decide +kernel)
        | 4, _ => exact hs _ (by decide +kernel))
    (fun i j hi hj hne => by
      rcases lt2 hi with rfl | rfl <;> rcases lt2 hj with rfl | rfl
      · exact absurd rfl hne
      · exact Or.inr (hs _ (by decide +kernel))
      · exact Or.inl (hs _ (by decide +kernel))
      · exact absurd rfl hne) hA
  obtain ⟨scr, x1, x2, x3, x4, x5⟩ := hX
  refine ⟨(D, dA, s.heap.size, fun k => match k with
    | 0 => t0
    | 1 => t1
    | 2 => b
    | 3 => adK 0
    | 4 => adV 0
    | 5 => adK 1
    | _ => adV 1, L, xs), rfl, rfl, rfl, rfl, ⟨hD, fun k q hq => ?_⟩, st_nst hts, ⟨va_AO.of (hts _ q186), va_AO.of (hts _ q249), va_AO.of (hts _ q251)⟩, ⟨T0, T1, ⟨scr, x1, x2, x3, ?_, ?_, ?_, ?_⟩⟩, ⟨va_Zof (hts _ q842) (hts _ (lw_all_tbl q106)) z0 hA, va_Zof (hts _ q844) (hts _ (lw_all_tbl q106)) z1 hA, va_Zof (hts _ q422) (hts _ (lw_all_tbl q114)) (va_eqi e0) hA⟩, ⟨fun i hi => ?_, fun i j hi hj e => ?_⟩, vk_R.of (hts _ q542) (hev 0 (by decide)), vk_R.of (hts _ q408) (hev 1 (by decide))⟩
  · match k, hq with
    | 0, hq => cases hq; exact hdA 0 _ rfl
    | 1, hq => cases hq; exact hdA 1 _ rfl
    | 2, hq => cases hq; exact hdA 2 _ rfl
    | 3, hq => cases hq; exact hdA 3 _ rfl
    | 4, hq => cases hq; exact hdA 4 _ rfl
    | k + 5, hq => simp [gty] at hq
  · show L ≤ _; omega
  · show scr.slots.size.toInt32 = Int32.ofNat L
    rw [x4]
  · exact x5
  · exact Nat.not_le.mpr hbl
  · rcases lt2 hi with rfl | rfl
    · exact hS.1 0 (by decide)
    · exact hS.1 1 (by decide)
  · rcases lt2 hi with rfl | rfl <;> rcases lt2 hj with rfl | rfl
    · rfl
    · exact hS.2 0 1 (by decide) (by decide) e
    · exact hS.2 1 0 (by decide) (by decide) e
    · rfl
/-- THE PURE CLAIM: on every script the law's pure function answers 1, within the room -/
def PureLaw : Prop := ∀ (L : Nat) (xs : Nat → Int32), L ≤ 384 → ∃ h' : PH, lw_law_0 (some 2) (hs0 L xs) = some (1, h') ∧ h'.1 ≤ 1200000 ∧ h'.2.1 ≤ 5502250
theorem start_of (hp : PureLaw) {p : Program} {e : Env} {s : State} {m : MethodId} {below : List Frame} {meth : Method} {c : Code} (l : Launch) (hflags : l.flags = flags0) {b L : Nat} {xs : Nat → Int32} (hL : L ≤ 384) (C0 : lw_At p s m meth c b L xs) : W p l e room_1 s m #[Value.ref b] below meth c s.heap [] 0 0 (lw_Z below #[Value.ref b] s) (entryFrame m ([Value.ref b] : List Value).toArray 4) := by
  obtain ⟨hx, hb, hr, hml, hown, hts, hX, hbl, hlk, hgv⟩ := C0
  obtain ⟨G, g1, g2, g3, g4, hK⟩ := st_gK hts hX (by omega) hbl hgv
  obtain ⟨h', e1, e2, e3⟩ := hp L xs hL
  have hh : gH G (hs0 L xs) s.heap := by
    refine ⟨Nat.le_refl _, by rw [g1]; rfl, ?_, fun k hk => ?_, fun k hk => ?_⟩
    · intro k q hq; simp [gwl, hs0] at hq
    · have hk' : 7 ≤ k := hk
      obtain ⟨j, rfl⟩ : ∃ j, k = j + 7 := ⟨k - 7, by omega⟩
      rfl
    · match k, hk with
      | 0, _ => rfl
      | 1, _ => rfl
      | 2, _ => show _ = Sum.inl (0, _, _); rw [g2, g3]; rfl
      | 3, _ => rfl
      | 4, _ => rfl
      | 5, _ => rfl
      | 6, _ => rfl
  have hOk : OkM (p, l, e, room_1, s, m, #[Value.ref b], below, meth, c, lw_Z below #[Value.ref b] s, G, 7, 0, h'.1, h'.2.1) (code, 4, R_law, meth.name, some .boolean, 97) := by
    refine ⟨hx, hb, hml, hown, hlk, fun w h => hts w (lw_all_tbl h), hK, hr, by rw [g1]; exact Nat.le_refl _, ⟨(by decide : 97 ≤ room_1.frames), (by decide : 60 * 97 ≤ room_1.locals)⟩, ?_, ?_, rfl⟩
    · show h'.1 - 7 ≤ 1200000; omega
    · show h'.2.1 - 0 ≤ 5502250; omega
  obtain ⟨a1, a2, a3⟩ := lw_law_0_ok (p, l, e, room_1, s, m, #[Value.ref b], below, meth, c, lw_Z below #[Value.ref b] s, G, 7, 0, h'.1, h'.2.1) meth.name (some 2) (hs0 L xs) (1, h') e1
  have ev : [Value.ref b] = ([.inr (some 2)] : List PV).map (gcv G) := by
    show _ = [Value.ref (gad G 2)]
    rw [g4]
  have w := a3 hOk (Nat.le_refl _) (Nat.le_refl _) ⟨rfl, by show h'.1 - 7 ≤ 1200000; omega, by show h'.2.1 - 0 ≤ 5502250; omega, g1, rfl, b, rfl, rfl⟩
  have hev : (#[Value.ref b] : Array Value) = (([.inr (some 2)] : List PV).map (gcv G)).toArray := by rw [← ev]
  have := wt_entry (p := p) (l := l) (e := e) (R := room_1) (s := s) (m := m) (below := below) (meth := meth) (c := c) (Q := lw_Z below #[Value.ref b] s) (G := G) (N := h'.1) (SL := h'.2.1) (nY := 4) (av := [.inr (some 2)]) (h := hs0 L xs) (lv := [some (.inr (some 2)), none, none, none]) hml (by decide) (fun i v hi => by
    match i, hi with
    | 0, hi => cases hi; rfl
    | 1, hi => cases hi
    | 2, hi => cases hi
    | 3, hi => cases hi
    | i + 4, hi => simp at hi) hh (by rw [← hev]; exact w)
  rw [← hev] at this
  exact this
