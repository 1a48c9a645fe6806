/-! ARRAYS OF REFERENCES, STATICS, STRINGS, SWITCHES, CALLS, RETURNS, CONTRACTS -/
set_option maxRecDepth 100000
section RowsN
variable {X : CT} {cc : ByteArray} {nL : Nat} {own mn : String} {ret : Option FieldType} {d : Nat} {τ : Type} {pc : Nat} {lv : List (Option PV)} {st : List PV} {h : PH} {f : Option τ} {sz : τ → Nat × Nat} {K : τ → Prop}
theorem im_newr {t n idx : Nat} (h2 : 2 ≤ t) (h4 : t ≤ 4) {N' : Int32} {g : PH → Option τ} (hcl : Cond.classLink own idx (gtC t) ∈ lw_all) (hn : ¬ N' < 0) (hN : N'.toNatClampNeg = n) (hby : n ≤ 100000) (hdg : decode cc pc = .ok (.anewarray idx, 3)) (kk : ∀ h', Im X (cc, nL, own, mn, ret, d) (pc + 3) lv (.inr (some h.1) :: st) h' (g h') sz K) : Im X (cc, nL, own, mn, ret, d) pc lv (.inl N' :: st) h ((nwr t n h).bind g) sz K := by
  refine Im.bind (st' := fun _ => .inr (some h.1) :: st) (h' := fun h' => h') (fun h' e => ?_) (fun h' e hX y1 y2 w => ?_) kk
  · cases e
    exact ⟨Nat.le_succ _, Nat.le_add_right _ _⟩
  · cases e
    obtain ⟨p, l, e', R, s, m, args, below, meth, c', Q, G, n0, s0, N, SL⟩ := X
    obtain ⟨hx, hb, hml, hown, hlk, hts, hK, hr, hB, hdp, hc1, hc2, hmn⟩ := hX
    intro q1 q2 H locs ls hh hs hl
    have y1' : h.1 + 1 ≤ N := y1
    have y2' : h.2.1 + n ≤ SL := y2
    have hP := hh.2.2.1
    have hsz := hh.2.1
    have h7 := hh.1
    have ea : gcv G (.inr (some h.1)) = .ref H.size := by
      show Value.ref (gad G h.1) = _
      unfold gad
      rw [if_neg (by omega), hsz]
    have e2 : h.1 - n0 + 1 = h.1 + 1 - n0 := by omega
    have e3 : h.2.1 - s0 + n = h.2.1 + n - s0 := by omega
    have hover : va_AO (gtC t) s := by
      match t, h2, h4 with
      | 2, _, _ => exact hK.2.2.1.1
      | 3, _, _ => exact hK.2.2.1.2.1
      | 4, _, _ => exact hK.2.2.1.2.2
    subst hN
    refine W.anew hx hb hown (hts _ hcl) (va_AO.use hover) rfl hdg rfl hn (by omega) (by omega) (by omega) fun cA kA comp f1 f2 f3 f4 => ?_
    generalize hH1 : H.push ({ cls := cA, slots := Array.replicate N'.toNatClampNeg .null, vm := .none } : Cell) = H1
    have z1 : H1.size = H.size + 1 := by rw [← hH1, Array.size_push]
    have e1 : H1[H.size]? = some (arrV cA N'.toNatClampNeg (fun _ => .null)) := by rw [← hH1, Array.getElem?_push_size, ← arrV_new]
    have o1 : ∀ q : Nat, q < H.size → H1[q]? = H[q]? := fun q hq => by rw [← hH1, Array.getElem?_push, if_neg (Nat.ne_of_lt hq)]
    have hcA : cA = G.2.1 t := by
      obtain ⟨kA', comp', g1, g2, g3, g4⟩ := (hK.1.2 t _ (gty_at G h2 h4)).2
      exact Option.some.inj (f1.symm.trans g4)
    subst hcA
    have hk : ∀ (k : Nat) (x : Nat × va_E), (gwl G h)[k]? = some x → H1[x.1]? = H[x.1]? := fun k x hx => o1 x.1 ((hP k x hx).lt)
    have w' := w (by show n0 ≤ h.1 + 1; omega) (by show s0 ≤ h.2.1 + N'.toNatClampNeg; omega) H1 locs ls (gH_push hh z1 ((hP.kept hk).app (fun k x hx => by
      have hz : k < 1 := (List.getElem?_eq_some_iff.mp hx).1
      rw [show k = 0 by omega] at hx
      cases hx
      rw [← hsz]
      show H1[H.size]? = some (vp_cell _ _)
      rw [vp_cell_q]
      exact e1))) ⟨Nat.le_trans hs.1 (by omega), fun x h1 h2 => (o1 x (Nat.lt_of_lt_of_le h1 hs.1)).trans (hs.2.1 x h1 h2), hs.2.2⟩ hl
    rw [e2, e3]
    rw [List.map_cons, ea] at w'
    exact w'
theorem im_getsOver {idx : Nat} (hl0 : Cond.fieldLink own idx "TalkingPlots" "OVER" "[I" ∈ lw_all) (hdg : decode cc pc = .ok (.getstatic idx, 3)) (k : Im X (cc, nL, own, mn, ret, d) (pc + 3) lv (.inr (some 0) :: st) h f sz K) : Im X (cc, nL, own, mn, ret, d) pc lv st h f sz K := by
  refine Im.step (fun hX w => ?_) k
  obtain ⟨p, l, e, R, s, m, args, below, meth, c, Q, G, n0, s0, N, SL⟩ := X
  obtain ⟨hx, hb, hml, hown, hlk, hts, hK, hr, hB, hdp, hc1, hc2, hmn⟩ := hX
  intro a b H locs ls hh hs hl
  exact va_gets hx hb hK.2.2.2.2.1.1 hs hown (hts _ hl0) (fun _ h9 => h9) hdg (w a b H locs ls hh hs hl)
theorem im_getsDown {idx : Nat} (hl0 : Cond.fieldLink own idx "TalkingPlots" "DOWN" "[I" ∈ lw_all) (hdg : decode cc pc = .ok (.getstatic idx, 3)) (k : Im X (cc, nL, own, mn, ret, d) (pc + 3) lv (.inr (some 1) :: st) h f sz K) : Im X (cc, nL, own, mn, ret, d) pc lv st h f sz K := by
  refine Im.step (fun hX w => ?_) k
  obtain ⟨p, l, e, R, s, m, args, below, meth, c, Q, G, n0, s0, N, SL⟩ := X
  obtain ⟨hx, hb, hml, hown, hlk, hts, hK, hr, hB, hdp, hc1, hc2, hmn⟩ := hX
  intro a b H locs ls hh hs hl
  exact va_gets hx hb hK.2.2.2.2.1.2.1 hs hown (hts _ hl0) (fun _ h9 => h9) hdg (w a b H locs ls hh hs hl)
theorem im_getsComp {idx : Nat} (hl0 : Cond.fieldLink own idx "java/lang/String" "COMPACT_STRINGS" "Z" ∈ lw_all) (hdg : decode cc pc = .ok (.getstatic idx, 3)) (k : Im X (cc, nL, own, mn, ret, d) (pc + 3) lv (.inl 1 :: st) h f sz K) : Im X (cc, nL, own, mn, ret, d) pc lv st h f sz K := by
  refine Im.step (fun hX w => ?_) k
  obtain ⟨p, l, e, R, s, m, args, below, meth, c, Q, G, n0, s0, N, SL⟩ := X
  obtain ⟨hx, hb, hml, hown, hlk, hts, hK, hr, hB, hdp, hc1, hc2, hmn⟩ := hX
  intro a b H locs ls hh hs hl
  exact va_gets hx hb hK.2.2.2.2.1.2.2 hs hown (hts _ hl0) (fun _ h9 => h9) hdg (w a b H locs ls hh hs hl)
theorem im_ldcPks (hdg : decode cc pc = .ok (.ldc 75, 2)) (k : Im X (cc, nL, "TalkingPlots$Reader", mn, ret, d) (pc + 2) lv (.inr (some 3) :: st) h f sz K) : Im X (cc, nL, "TalkingPlots$Reader", mn, ret, d) pc lv st h f sz K := by
  refine Im.step (fun hX w => ?_) k
  obtain ⟨p, l, e, R, s, m, args, below, meth, c, Q, G, n0, s0, N, SL⟩ := X
  obtain ⟨hx, hb, hml, hown, hlk, hts, hK, hr, hB, hdp, hc1, hc2, hmn⟩ := hX
  intro a b H locs ls hh hs hl
  exact va_ldcS hx hb hown hK.2.2.2.2.2.2.1 hdg (w a b H locs ls hh hs hl)
theorem im_ldcEhg (hdg : decode cc pc = .ok (.ldc 129, 2)) (k : Im X (cc, nL, "TalkingPlots$Reader", mn, ret, d) (pc + 2) lv (.inr (some 5) :: st) h f sz K) : Im X (cc, nL, "TalkingPlots$Reader", mn, ret, d) pc lv st h f sz K := by
  refine Im.step (fun hX w => ?_) k
  obtain ⟨p, l, e, R, s, m, args, below, meth, c, Q, G, n0, s0, N, SL⟩ := X
  obtain ⟨hx, hb, hml, hown, hlk, hts, hK, hr, hB, hdp, hc1, hc2, hmn⟩ := hX
  intro a b H locs ls hh hs hl
  exact va_ldcS hx hb hown hK.2.2.2.2.2.2.2 hdg (w a b H locs ls hh hs hl)
/-- a String's own fields (value: place 0, coder: place 1), of the two constants -/
theorem gH_str {G : GG} {H : Heap} (w : gH G h H) {a : Nat} {fs : List PV} (e : h.2.2 a = .inr (.inr (15, fs))) : (a = 3 ∧ fs = [.inr (some 4), .inl 0]) ∨ (a = 5 ∧ fs = [.inr (some 6), .inl 0]) := by
  rcases Nat.lt_or_ge a 7 with q | q
  · have ho := gH_old w q
    rw [e] at ho
    match a, q, ho with
    | 0, _, ho => simp [oldc] at ho
    | 1, _, ho => simp [oldc] at ho
    | 2, _, ho => simp [oldc] at ho
    | 3, _, ho => simp [oldc] at ho; exact Or.inl ⟨rfl, ho⟩
    | 4, _, ho => simp [oldc] at ho
    | 5, _, ho => simp [oldc] at ho; exact Or.inr ⟨rfl, ho⟩
    | 6, _, ho => simp [oldc] at ho
  · have r2 : a < h.1 := gH_lt w (by rw [e]; simp [pNil])
    have he : (gwl G h)[a - 7]? = some (gad G a, .inr (15, fs.map (gcv G))) := by rw [gwl_get q r2, e]; rfl
    obtain ⟨r, h1, -⟩ := w.2.2.1 (a - 7) _ he
    cases h1
theorem wt_getS (hX : Ok X cc nL own mn ret d) {idx k a : Nat} {fs : List PV} {v : PV} (hl0 : (k = 0 ∧ Cond.fieldLink own idx "java/lang/String" "value" "[B" ∈ lw_all) ∨ (k = 1 ∧ Cond.fieldLink own idx "java/lang/String" "coder" "B" ∈ lw_all)) (e : h.2.2 a = .inr (.inr (15, fs))) (hv : fs[k]? = some v) (hdg : decode cc pc = .ok (.getfield idx, 3)) (w : Wt X (pc + 3) lv (v :: st) h) : Wt X pc lv (.inr (some a) :: st) h := by
  obtain ⟨p, l, e', R, s, m, args, below, meth, c', Q, G, n0, s0, N, SL⟩ := X
  obtain ⟨hx, hb, hml, hown, hlk, hts, hK, hr, hB, hdp, hc1, hc2, hmn⟩ := hX
  intro q1 q2 H locs ls hh hs hl
  have w' := w q1 q2 H locs ls hh hs hl
  have hS := hK.2.2.2.2.2.1
  rcases gH_str hh e with ⟨rfl, rfl⟩ | ⟨rfl, rfl⟩ <;> rcases hl0 with ⟨rfl, hl0⟩ | ⟨rfl, hl0⟩ <;> cases hv
  · exact vk_getf hx hb (hS.1 0 (by decide)).2.2.1 hs hown (hts _ hl0) (fun _ h9 => h9) hdg w'
  · exact vk_getf hx hb (hS.1 0 (by decide)).2.1 hs hown (hts _ hl0) (fun _ h9 => h9) hdg w'
  · exact vk_getf hx hb (hS.1 1 (by decide)).2.2.1 hs hown (hts _ hl0) (fun _ h9 => h9) hdg w'
  · exact vk_getf hx hb (hS.1 1 (by decide)).2.1 hs hown (hts _ hl0) (fun _ h9 => h9) hdg w'
theorem im_giS {idx : Nat} {r : Option Nat} {g : Int32 → Option τ} (hl0 : Cond.fieldLink own idx "java/lang/String" "coder" "B" ∈ lw_all) (hdg : decode cc pc = .ok (.getfield idx, 3)) (kk : ∀ x, Im X (cc, nL, own, mn, ret, d) (pc + 3) lv (.inl x :: st) h (g x) sz K) : Im X (cc, nL, own, mn, ret, d) pc lv (.inr r :: st) h ((gfi [15] 1 r h).bind g) sz K := by
  refine Im.bind0 (st' := fun x => .inl x :: st) (fun x hx hX w => ?_) kk
  unfold gfi at hx
  split at hx
  · rename_i y hy
    cases hx
    obtain ⟨a, c, fs, rfl, e, hm, hv⟩ := fget_some hy
    cases List.mem_singleton.mp hm
    exact wt_getS hX (Or.inr ⟨rfl, hl0⟩) e hv hdg w
  · cases hx
theorem im_grS {idx : Nat} {r : Option Nat} {g : Option Nat → Option τ} (hl0 : Cond.fieldLink own idx "java/lang/String" "value" "[B" ∈ lw_all) (hdg : decode cc pc = .ok (.getfield idx, 3)) (kk : ∀ x, Im X (cc, nL, own, mn, ret, d) (pc + 3) lv (.inr x :: st) h (g x) sz K) : Im X (cc, nL, own, mn, ret, d) pc lv (.inr r :: st) h ((gfr [15] 0 r h).bind g) sz K := by
  refine Im.bind0 (st' := fun x => .inr x :: st) (fun x hx hX w => ?_) kk
  unfold gfr at hx
  split at hx
  · rename_i y hy
    cases hx
    obtain ⟨a, c, fs, rfl, e, hm, hv⟩ := fget_some hy
    cases List.mem_singleton.mp hm
    exact wt_getS hX (Or.inl ⟨rfl, hl0⟩) e hv hdg w
  · cases hx
/-- super() of a class over Object -/
theorem im_objInit (hd : 1 ≤ d) {idx : Nat} {r : Option Nat} (q1 : Cond.methodLink own idx Lib.objectInit ∈ lw_all) (q2 : Cond.instanceMethod Lib.objectInit ∈ lw_all) (q3 : Cond.code Lib.objectInit ⟨#[0xb1]⟩ 1 none ∈ lw_all) (hst : st.length ≤ 8) (hdg : decode cc pc = .ok (.invokespecial idx, 3)) (k : Im X (cc, nL, own, mn, ret, d) (pc + 3) lv st h f sz K) : Im X (cc, nL, own, mn, ret, d) pc lv (.inr r :: st) h (nul r none f) sz K := by
  cases r with
  | none => exact Im.none
  | some a =>
    refine Im.step (fun hX w => ?_) k
    obtain ⟨p, l, e, R, s, m, args, below, meth, c, Q, G, n0, s0, N, SL⟩ := X
    obtain ⟨hx, hb, hml, hown, hlk, hts, hK, hr, hB, hdp, hc1, hc2, hmn⟩ := hX
    have hdp1 : d ≤ R.frames := hdp.1
    have hdp2 : 60 * d ≤ R.locals := hdp.2
    intro a' b H locs ls hh hs hl
    refine W.objInit hx hb hown (hts _ q1) (hts _ q2) (hts _ q3) rfl hl.1 rfl hdg (by omega) ?_ (w a' b H locs ls hh hs hl)
    have := lv_room (m := m) (pc := pc) (ls := ls) (rest := (.inr (some a) :: st).map (gcv G)) (st := st.map (gcv G)) (by rw [gcv_sum]; exact hst)
    omega
/-! contracts over pure states -/
def QI (G : GG) (r : Int32) (h' : PH) : Array Value → State → Outcome → State → Prop := va_Qi (fun (x : Int32) (_ : Unit) => x = r) (fun _ t => gH G h' t.heap) (gA G)
def QV (G : GG) (h' : PH) : Array Value → State → Outcome → State → Prop := va_Qv (fun (_ : Unit) => True) (fun _ t => gH G h' t.heap) (gA G)
def QR (G : GG) (r : Option Nat) (h' : PH) : Array Value → State → Outcome → State → Prop := va_Qq (fun (x : Option Nat) (_ : Unit) => x = r.map (gad G)) (fun _ t => gH G h' t.heap) (gA G)
abbrev rmD (d mc ms : Nat) : Room := { frames := d, cells := mc, slots := ms, locals := 60 * d }
def SpI (y : MethodName) (cY : ByteArray) (nY : Nat) (rY : Option FieldType) (d : Nat) (av : List PV) (h : PH) (r : Int32) (h' : PH) : Prop := (CT → h.1 ≤ h'.1 ∧ h.2.1 ≤ h'.2.1) ∧ ∀ (l : Launch) (G : GG), Met l y (ws_ y cY nY rY) (rmD d (h'.1 - h.1) (h'.2.1 - h.2.1)) (va_Pc (av.map (gcv G)) (gW G h)) (QI G r h') (h'.1 - h.1) (h'.2.1 - h.2.1) (gA G)
def SpV (y : MethodName) (cY : ByteArray) (nY : Nat) (rY : Option FieldType) (d : Nat) (av : List PV) (h : PH) (h' : PH) : Prop := (CT → h.1 ≤ h'.1 ∧ h.2.1 ≤ h'.2.1) ∧ ∀ (l : Launch) (G : GG), Met l y (ws_ y cY nY rY) (rmD d (h'.1 - h.1) (h'.2.1 - h.2.1)) (va_Pc (av.map (gcv G)) (gW G h)) (QV G h') (h'.1 - h.1) (h'.2.1 - h.2.1) (gA G)
def SpR (y : MethodName) (cY : ByteArray) (nY : Nat) (rY : Option FieldType) (d : Nat) (av : List PV) (h : PH) (r : Option Nat) (h' : PH) : Prop := (CT → h.1 ≤ h'.1 ∧ h.2.1 ≤ h'.2.1) ∧ ∀ (l : Launch) (G : GG), Met l y (ws_ y cY nY rY) (rmD d (h'.1 - h.1) (h'.2.1 - h.2.1)) (va_Pc (av.map (gcv G)) (gW G h)) (QR G r h') (h'.1 - h.1) (h'.2.1 - h.2.1) (gA G)
/-! returns -/
def szI {α : Type} : α × PH → Nat × Nat := fun t => (t.2.1, t.2.2.1)
def szP {α : Type} (h : PH) : α → Nat × Nat := fun _ => (h.1, h.2.1)
def szV : PH → Nat × Nat := fun t => (t.1, t.2.1)
def kI (X : CT) : Int32 × PH → Prop := fun t => match X with
  | (_, _, _, _, s, _, args, below, _, _, Q, G, n0, s0, _, _) => Q = MQ below (QI G t.1 t.2) args s (t.2.1 - n0) (t.2.2.1 - s0) (gA G)
def kP (X : CT) (h : PH) : Int32 → Prop := fun r => kI X (r, h)
def kV (X : CT) : PH → Prop := fun t => match X with
  | (_, _, _, _, s, _, args, below, _, _, Q, G, n0, s0, _, _) => Q = MQ below (QV G t) args s (t.1 - n0) (t.2.1 - s0) (gA G)
def kR (X : CT) : Option Nat × PH → Prop := fun t => match X with
  | (_, _, _, _, s, _, args, below, _, _, Q, G, n0, s0, _, _) => Q = MQ below (QR G t.1 t.2) args s (t.2.1 - n0) (t.2.2.1 - s0) (gA G)
theorem im_iret {v : Int32} (hdg : decode cc pc = .ok (.ireturn, 1)) : Im X (cc, nL, own, mn, (some .int), d) pc lv [.inl v] h (some (v, h)) szI (kI X) := by
  intro t ht
  cases ht
  refine ⟨Nat.le_refl _, Nat.le_refl _, fun hX _ _ k => ?_⟩
  obtain ⟨p, l, e, R, s, m, args, below, meth, c, Q, G, n0, s0, N, SL⟩ := X
  obtain ⟨hx, hb, hml, hown, hlk, hts, hK, hr, hB, hdp, hc1, hc2, hmn⟩ := hX
  intro a' b H locs ls hh hs hl
  cases k
  exact W.iret hx hb hr (fun t ht hW => ⟨⟨v, (), rfl, rfl, by show gH G h t.heap; rw [ht]; exact hh⟩, hs.F ht⟩) hs.2.2 hdg
theorem im_iretP {v : Int32} (hdg : decode cc pc = .ok (.ireturn, 1)) : Im X (cc, nL, own, mn, (some .int), d) pc lv [.inl v] h (some v) (szP h) (kP X h) := by
  intro t ht
  cases ht
  exact im_iret hdg (v, h) rfl
theorem im_zretT {ty : FieldType} {v : Int32} (hv : narrow ty (.int v) = .int v) (hdg : decode cc pc = .ok (.ireturn, 1)) : Im X (cc, nL, own, mn, (some ty), d) pc lv [.inl v] h (some (v, h)) szI (kI X) := by
  intro t ht
  cases ht
  refine ⟨Nat.le_refl _, Nat.le_refl _, fun hX _ _ k => ?_⟩
  obtain ⟨p, l, e, R, s, m, args, below, meth, c, Q, G, n0, s0, N, SL⟩ := X
  obtain ⟨hx, hb, hml, hown, hlk, hts, hK, hr, hB, hdp, hc1, hc2, hmn⟩ := hX
  intro a' b H locs ls hh hs hl
  cases k
  exact W.zret hx hb hr hv (fun t ht hW => ⟨⟨v, (), rfl, rfl, by show gH G h t.heap; rw [ht]; exact hh⟩, hs.F ht⟩) hs.2.2 hdg
theorem im_zretTP {ty : FieldType} {v : Int32} (hv : narrow ty (.int v) = .int v) (hdg : decode cc pc = .ok (.ireturn, 1)) : Im X (cc, nL, own, mn, (some ty), d) pc lv [.inl v] h (some v) (szP h) (kP X h) := by
  intro t ht
  cases ht
  exact im_zretT hv hdg (v, h) rfl
theorem nar_z {v : Int32} (h : v = 0 ∨ v = 1) : narrow .boolean (.int v) = .int v := by
  rcases h with rfl | rfl
  · decide
  · decide
def zok (v : Int32) : Option Int32 := if v = 0 ∨ v = 1 then some v else none
theorem im_zret {v : Int32} (hdg : decode cc pc = .ok (.ireturn, 1)) : Im X (cc, nL, own, mn, (some .boolean), d) pc lv [.inl v] h ((zok v).map fun x => (x, h)) szI (kI X) := by
  unfold zok
  by_cases hv : v = 0 ∨ v = 1
  · rw [if_pos hv]; exact im_zretT (nar_z hv) hdg
  · rw [if_neg hv]; exact Im.none
theorem im_zretP {v : Int32} (hdg : decode cc pc = .ok (.ireturn, 1)) : Im X (cc, nL, own, mn, (some .boolean), d) pc lv [.inl v] h (zok v) (szP h) (kP X h) := by
  unfold zok
  by_cases hv : v = 0 ∨ v = 1
  · rw [if_pos hv]; exact im_zretTP (nar_z hv) hdg
  · rw [if_neg hv]; exact Im.none
theorem im_vret (hdg : decode cc pc = .ok (.return_, 1)) : Im X (cc, nL, own, mn, none, d) pc lv [] h (some h) szV (kV X) := by
  intro t ht
  cases ht
  refine ⟨Nat.le_refl _, Nat.le_refl _, fun hX _ _ k => ?_⟩
  obtain ⟨p, l, e, R, s, m, args, below, meth, c, Q, G, n0, s0, N, SL⟩ := X
  obtain ⟨hx, hb, hml, hown, hlk, hts, hK, hr, hB, hdp, hc1, hc2, hmn⟩ := hX
  intro a' b H locs ls hh hs hl
  cases k
  exact W.vret hx hb hr (fun t ht hW => ⟨⟨(), rfl, trivial, by show gH G h t.heap; rw [ht]; exact hh⟩, hs.F ht⟩) hs.2.2 hdg
theorem im_aret {C : String} {r : Option Nat} (hdg : decode cc pc = .ok (.areturn, 1)) : Im X (cc, nL, own, mn, (some (.object C)), d) pc lv [.inr r] h (some (r, h)) szI (kR X) := by
  intro t ht
  cases ht
  refine ⟨Nat.le_refl _, Nat.le_refl _, fun hX _ _ k => ?_⟩
  obtain ⟨p, l, e, R, s, m, args, below, meth, c, Q, G, n0, s0, N, SL⟩ := X
  obtain ⟨hx, hb, hml, hown, hlk, hts, hK, hr, hB, hdp, hc1, hc2, hmn⟩ := hX
  intro a' b H locs ls hh hs hl
  cases k
  refine W.aret hx hb hr (Or.inl ⟨_, rfl⟩) ?_ (fun t ht hW => ⟨⟨r.map (gad G), (), rfl, rfl, by show gH G h t.heap; rw [ht]; exact hh⟩, hs.F ht⟩) hs.2.2 hdg
  cases r with
  | none => exact Or.inl rfl
  | some a => exact Or.inr ⟨_, rfl⟩
/-! a method's contract out of its walk -/
theorem gW_blind (G : GG) (av : List Value) (h : PH) : FrameBlind (va_Pc av (gW G h)) := by
  intro a U g mk q
  obtain ⟨q0, q1, q2⟩ := q
  exact ⟨q0, q1, gK_moved (U := U.calling g mk a) (State.WarmedH.refl U) q2⟩
theorem lv_args_get (G : GG) : ∀ (av : List PV) (k i : Nat) (v : PV), av[i]? = some v → (k + i, gcv G v) ∈ lv_args k (av.map (gcv G))
  | [], _, _, _, h => by simp at h
  | a :: av, k, 0, v, h => by
    simp only [List.getElem?_cons_zero, Option.some.injEq] at h
    subst h
    simp only [List.map_cons, lv_args]
    exact List.mem_cons_self
  | a :: av, k, i + 1, v, h => by
    simp only [List.getElem?_cons_succ] at h
    simp only [List.map_cons, lv_args]
    refine List.mem_cons_of_mem _ ?_
    have := lv_args_get G av (k + 1) i v h
    rw [gcv_cat, show k + (i + 1) = k + 1 + i by omega]
    exact this
theorem lg_sl_len (G : GG) (av : List PV) : (lg_sl (av.map (gcv G))).length = av.length := by
  induction av with
  | nil => rfl
  | cons a t ih =>
    unfold lg_sl at ih ⊢
    rw [List.map_cons, List.flatMap_cons, List.length_append, ih, if_neg (by rw [gcv_cat]; decide), List.length_cons]
    simp only [List.length_cons, List.length_nil]
    omega
/-- the start of a walk: the machine's entry frame shows the arguments -/
theorem wt_entry {p : Program} {l : Launch} {e : Env} {R : Room} {s : State} {m : MethodId} {below : List Frame} {meth : Method} {c : Code} {Q : State → Prop} {G : GG} {N SL nY : Nat} {av : List PV} {h : PH} {lv : List (Option PV)} (hml : c.maxLocals = nY) (hlen : av.length ≤ nY) (hlv : ∀ (i : Nat) (v : PV), lv[i]? = some (some v) → av[i]? = some v) (hh : gH G h s.heap) (w : Wt (p, l, e, R, s, m, (av.map (gcv G)).toArray, below, meth, c, Q, G, h.1, h.2.1, N, SL) 0 lv [] h) : W p l e R s m (av.map (gcv G)).toArray below meth c s.heap [] 0 0 Q (entryFrame m (av.map (gcv G)).toArray nY) := by
  have hl := lv_entry (av.map (gcv G)) (n := nY) (by rw [lg_sl_len]; exact hlen)
  rw [lg_entry_eq]
  generalize (lg_sl (av.map (gcv G)) ++ List.replicate (nY - (lg_sl (av.map (gcv G))).length) Slot.unset).toArray = ls at hl ⊢
  have w' := w (Nat.le_refl _) (Nat.le_refl _) s.heap [] ls hh va_S.rf ⟨by rw [hml]; exact hl.1, hl.2.1, fun i v hi => by
    have := lv_args_get G av 0 i v (hlv i v hi)
    rw [Nat.zero_add] at this
    exact hl.2.2 _ this⟩
  rw [Nat.sub_self, Nat.sub_self] at w'
  exact w'
def lv0 (av : List PV) (n : Nat) : List (Option PV) := av.map some ++ List.replicate n none
theorem lv0_get (av : List PV) (n : Nat) (i : Nat) (v : PV) (h : (lv0 av n)[i]? = some (some v)) : av[i]? = some v := by
  unfold lv0 at h
  rcases Nat.lt_or_ge i av.length with q | q
  · rw [List.getElem?_append_left (by rw [List.length_map]; exact q), List.getElem?_map] at h
    cases e : av[i]? with
    | none => rw [e] at h; cases h
    | some w => rw [e] at h; cases h; rfl
  · rw [List.getElem?_append_right (by rw [List.length_map]; exact q)] at h
    rw [List.getElem?_replicate] at h
    split at h
    · cases h
    · cases h
theorem ok_of {l : Launch} {y : MethodName} {cY : ByteArray} {nY : Nat} {rY : Option FieldType} {d mc ms : Nat} {p : Program} {e : Env} {s : State} {m : MethodId} {args : Array Value} {below : List Frame} {meth : Method} {c : Code} {s₁ : State} {Q : State → Prop} {G : GG} {h h' : PH} (B : BodyLoose p l y (headSpec (ws_ y cY nY rY) (rmD d mc ms)) cY nY rY e s m args below meth c s₁) (hml : c.maxLocals = nY) (w : gW G h s) (hmc : h'.1 - h.1 = mc) (hms : h'.2.1 - h.2.1 = ms) : OkM (p, l, e, (headSpec (ws_ y cY nY rY) (rmD d mc ms)).room, s, m, args, below, meth, c, Q, G, h.1, h.2.1, h'.1, h'.2.1) (cY, nY, y.cls, y.name, rY, d) := by
  have hts := atoms_spec (ws := ws_ y cY nY rY) B.pre
  refine ⟨B.exec, B.bytes, hml, findClass_of_methodNamed B.named, B.notSynchronized, fun w h => hts w (List.mem_cons_of_mem _ h), w.2, B.returns, ?_, ⟨Nat.le_refl _, Nat.le_refl _⟩, ?_, ?_, (name_of_methodNamed B.named B.method).1⟩
  · rw [w.1.2.1]; omega
  · show h'.1 - h.1 ≤ mc; omega
  · show h'.2.1 - h.2.1 ≤ ms; omega
theorem SpI.of {y : MethodName} {cY : ByteArray} {nY : Nat} {rY : Option FieldType} {d k : Nat} {av : List PV} {h h' : PH} {fo : Option (Int32 × PH)} {r : Int32} (hy : plainFor y = true) (hn : av.length + k = nY) (body : ∀ X : CT, Im X (cY, nY, y.cls, y.name, rY, d) 0 (lv0 av k) [] h fo szI (kI X)) (hf : fo = some (r, h')) : SpI y cY nY rY d av h r h' := by
  subst hf
  refine ⟨fun X => ⟨(body X (r, h') rfl).1, (body X (r, h') rfl).2.1⟩, fun l G => ?_⟩
  refine va_MetF (cc := cY) (maxL := nY) (ret := rY) hy rfl ?_
  intro p e s m args below meth c s₁ B hml hv
  obtain ⟨rfl, w⟩ := hv
  have hX := ok_of (h' := h') (Q := MQ below (QI G r h') (av.map (gcv G)).toArray s (h'.1 - h.1) (h'.2.1 - h.2.1) (gA G)) B hml w rfl rfl
  obtain ⟨a1, a2, a3⟩ := body _ (r, h') rfl
  exact wt_entry hml (by omega) (lv0_get av k) w.1 (a3 hX (Nat.le_refl _) (Nat.le_refl _) rfl)
theorem SpV.of {y : MethodName} {cY : ByteArray} {nY : Nat} {rY : Option FieldType} {d k : Nat} {av : List PV} {h h' : PH} {fo : Option PH} (hy : plainFor y = true) (hn : av.length + k = nY) (body : ∀ X : CT, Im X (cY, nY, y.cls, y.name, rY, d) 0 (lv0 av k) [] h fo szV (kV X)) (hf : fo = some h') : SpV y cY nY rY d av h h' := by
  subst hf
  refine ⟨fun X => ⟨(body X h' rfl).1, (body X h' rfl).2.1⟩, fun l G => ?_⟩
  refine va_MetF (cc := cY) (maxL := nY) (ret := rY) hy rfl ?_
  intro p e s m args below meth c s₁ B hml hv
  obtain ⟨rfl, w⟩ := hv
  have hX := ok_of (h' := h') (Q := MQ below (QV G h') (av.map (gcv G)).toArray s (h'.1 - h.1) (h'.2.1 - h.2.1) (gA G)) B hml w rfl rfl
  obtain ⟨a1, a2, a3⟩ := body _ h' rfl
  exact wt_entry hml (by omega) (lv0_get av k) w.1 (a3 hX (Nat.le_refl _) (Nat.le_refl _) rfl)
theorem SpR.of {y : MethodName} {cY : ByteArray} {nY : Nat} {rY : Option FieldType} {d k : Nat} {av : List PV} {h h' : PH} {fo : Option (Option Nat × PH)} {r : Option Nat} (hy : plainFor y = true) (hn : av.length + k = nY) (body : ∀ X : CT, Im X (cY, nY, y.cls, y.name, rY, d) 0 (lv0 av k) [] h fo szI (kR X)) (hf : fo = some (r, h')) : SpR y cY nY rY d av h r h' := by
  subst hf
  refine ⟨fun X => ⟨(body X (r, h') rfl).1, (body X (r, h') rfl).2.1⟩, fun l G => ?_⟩
  refine va_MetF (cc := cY) (maxL := nY) (ret := rY) hy rfl ?_
  intro p e s m args below meth c s₁ B hml hv
  obtain ⟨rfl, w⟩ := hv
  have hX := ok_of (h' := h') (Q := MQ below (QR G r h') (av.map (gcv G)).toArray s (h'.1 - h.1) (h'.2.1 - h.2.1) (gA G)) B hml w rfl rfl
  obtain ⟨a1, a2, a3⟩ := body _ (r, h') rfl
  exact wt_entry hml (by omega) (lv0_get av k) w.1 (a3 hX (Nat.le_refl _) (Nat.le_refl _) rfl)
theorem SpI.ofP {y : MethodName} {cY : ByteArray} {nY : Nat} {rY : Option FieldType} {d k : Nat} {av : List PV} {h : PH} {fo : Option Int32} {r : Int32} (hy : plainFor y = true) (hn : av.length + k = nY) (body : ∀ X : CT, Im X (cY, nY, y.cls, y.name, rY, d) 0 (lv0 av k) [] h fo (szP h) (kP X h)) (hf : fo = some r) : SpI y cY nY rY d av h r h := by
  refine SpI.of (fo := fo.map fun r => (r, h)) hy hn (fun X => ?_) (by rw [hf]; rfl)
  intro t ht
  cases e : fo with
  | none => rw [e] at ht; cases ht
  | some x => rw [e] at ht; cases ht; exact body X x e

/-! calls: how a method is reached, whatever its answer -/
def Cal (X : CT) (nL pc : Nat) (y : MethodName) (cY : ByteArray) (nY : Nat) (rY : Option FieldType) (av : List PV) (h : PH) : Prop := match X with
  | (p, l, e, R, s, m, args, below, meth, c, _, G, _, _, _, _) => ∀ (rm : Room) (mc ms : Nat) (Qc : Array Value → State → Outcome → State → Prop) (H : Heap) (locs : List Loc) (cells slots : Nat) (ls : Array Slot) (rest : List Value), rm.cells = mc → rm.slots = ms → rm.frames + 1 ≤ R.frames → 8 + (nY + 11) + rm.locals ≤ R.locals → Met l y (ws_ y cY nY rY) rm (va_Pc (av.map (gcv G)) (gW G h)) Qc mc ms (gA G) → gH G h H → va_S (gA G) s.heap H locs → ls.size = nL → (rest.map fun v => v.category).sum ≤ 8 → cells + mc ≤ R.cells ∧ slots + ms ≤ R.slots → va_Run p l e R s m args below meth c H locs cells slots mc ms (F0 m pc ls ((av.map (gcv G)).reverse ++ rest)) rest (Qc (av.map (gcv G)).toArray) (gA G)
theorem gW_at {G : GG} {s U : State} {H : Heap} {locs : List Loc} (hK : gK G s s.heap) (hs : va_S (gA G) s.heap H locs) (hh : gH G h H) (hU : U.heap = H) (hW : s.WarmedH U.vm) : gW G h U := by
  refine ⟨by rw [hU]; exact hh, ?_⟩
  rw [hU]
  exact gK_moved hW (gK_kept hs.2.1 hK)
theorem cal_S (hX : Ok X cc nL own mn ret d) {idx n : Nat} {y : MethodName} {cY : ByteArray} {nY : Nat} {rY : Option FieldType} {av : List PV} (hT : GoodIn lw_all (va_wsS own idx y (ws_ y cY nY rY))) (hd : y.cls ≠ "java/lang/invoke/MethodHandle" ∧ y.cls ≠ "java/lang/invoke/VarHandle" ∧ (parseMethodDescriptor y.desc).map (fun d => d.parameters.length) = some n) (hn : av.length = n) (hdg : decode cc pc = .ok (.invokestatic idx, 3)) : Cal X nL pc y cY nY rY av h := by
  obtain ⟨p, l, e, R, s, m, args, below, meth, c, Q, G, n0, s0, N, SL⟩ := X
  obtain ⟨hx, hb, hml, hown, hlk, hts, hK, hr, hB, hdp, hc1, hc2, hmn⟩ := hX
  intro rm mc ms Qc H locs cells slots ls rest r1 r2 r3 r4 hM hh hs hls hrest hf
  exact va_runS ⟨hx, hb, hml, hown, hts⟩ hM (va_cwS n hts hT rfl r1 r2 hd ⟨r3, r4⟩) ⟨gW_blind G _ h, fun U hU hW => ⟨rfl, gW_at hK hs hh hU hW⟩⟩ rfl (by rw [List.length_map]; exact hn) hls rfl (lv_room hrest) hdg hf
theorem cal_SN (hX : Ok X cc nL own mn ret d) {idx n : Nat} {host : String} {y : MethodName} {cY : ByteArray} {nY : Nat} {rY : Option FieldType} {av : List PV} (k1 : Cond.methodLinkNest own idx y host ∈ lw_nst) (k2 : Cond.static y ∈ lw_all) (k3 : Cond.initialized y.cls ∈ lw_all) (k4 : Cond.code y cY nY rY ∈ lw_all) (hd : y.cls ≠ "java/lang/invoke/MethodHandle" ∧ y.cls ≠ "java/lang/invoke/VarHandle" ∧ (parseMethodDescriptor y.desc).map (fun d => d.parameters.length) = some n) (hn : av.length = n) (hdg : decode cc pc = .ok (.invokestatic idx, 3)) : Cal X nL pc y cY nY rY av h := by
  obtain ⟨p, l, e, R, s, m, args, below, meth, c, Q, G, n0, s0, N, SL⟩ := X
  obtain ⟨hx, hb, hml, hown, hlk, hts, hK, hr, hB, hdp, hc1, hc2, hmn⟩ := hX
  intro rm mc ms Qc H locs cells slots ls rest r1 r2 r3 r4 hM hh hs hls hrest hf
  exact va_runSN ⟨hx, hb, hml, hown, hts⟩ hM ⟨va_cnB n hts (lw_meth k4) rfl r1 r2 (hK.2.1 _ k1) (hts _ k3) hd ⟨r3, r4⟩, hts _ k2, trivial⟩ ⟨gW_blind G _ h, fun U hU hW => ⟨rfl, gW_at hK hs hh hU hW⟩⟩ rfl (by rw [List.length_map]; exact hn) hls rfl (lv_room hrest) hdg hf
/-- the receiver is an object of the class numbered ci -/
theorem recv_at {G : GG} {s : State} {H : Heap} {ci a : Nat} {fs : List PV} {q : vw_C} (hK : gK G s s.heap) (hh : gH G h H) (e : h.2.2 a = .inr (.inr (ci, fs))) (hc : vwCl[ci]? = some q) : ∃ cell : Cell, H[gad G a]? = some cell ∧ cell.vm.isStatics = false ∧ s.vm.findClass q.1 = some cell.cls := by
  obtain ⟨r1, r2⟩ := gH_obj hh e (vwCl_lt hc)
  have he : (gwl G h)[a - 7]? = some (gad G a, .inr (ci, fs.map (gcv G))) := by rw [gwl_get r1 r2, e]; rfl
  exact va_recv hK.1 hh.2.2.1 hc he
theorem cal_V (hX : Ok X cc nL own mn ret d) {idx n ci a : Nat} {C : String} {T : u_T} {N : Nat} {fs : List PV} {y : MethodName} {cY : ByteArray} {nY : Nat} {rY : Option FieldType} {av : List PV} (hT : GoodIn lw_all (wsV own idx C y (ws_ y cY nY rY))) (hd : y.cls = C ∧ y.cls ≠ "java/lang/invoke/MethodHandle" ∧ y.cls ≠ "java/lang/invoke/VarHandle" ∧ (parseMethodDescriptor y.desc).map (fun d => d.parameters.length) = some n) (hn : av.length = n) (hc : vwCl[ci]? = some (C, T, N)) (e : h.2.2 a = .inr (.inr (ci, fs))) (hdg : decode cc pc = .ok (.invokevirtual idx, 3)) : Cal X nL pc y cY nY rY (.inr (some a) :: av) h := by
  obtain ⟨p, l, e, R, s, m, args, below, meth, c, Q, G, n0, s0, N, SL⟩ := X
  obtain ⟨hx, hb, hml, hown, hlk, hts, hK, hr, hB, hdp, hc1, hc2, hmn⟩ := hX
  intro rm mc ms Qc H locs cells slots ls rest r1 r2 r3 r4 hM hh hs hls hrest hf
  exact va_runV (C := C) (As := av.map (gcv G)) (b := gad G a) ⟨hx, hb, hml, hown, hts⟩ hM (cwV n hts hT rfl r1 r2 hd ⟨r3, r4⟩) ⟨gW_blind G _ h, recv_at hK hh (by assumption) hc, fun U hU hW => ⟨rfl, gW_at hK hs hh hU hW⟩⟩ rfl (by rw [List.length_map]; exact hn) hls (by simp [gcv, va_rf]) (lv_room hrest) hdg hf
theorem cal_VN (hX : Ok X cc nL own mn ret d) {idx n ci a : Nat} {C host : String} {T : u_T} {N : Nat} {fs : List PV} {y : MethodName} {cY : ByteArray} {nY : Nat} {rY : Option FieldType} {av : List PV} (k1 : Cond.methodLinkNest own idx y host ∈ lw_nst) (k2 : Cond.instanceMethod y ∈ lw_all) (k3 : Cond.initialized y.cls ∈ lw_all) (k4 : Cond.code y cY nY rY ∈ lw_all) (k5 : Cond.selects C y y ∈ lw_all) (hd : y.cls ≠ "java/lang/invoke/MethodHandle" ∧ y.cls ≠ "java/lang/invoke/VarHandle" ∧ (parseMethodDescriptor y.desc).map (fun d => d.parameters.length) = some n) (hn : av.length = n) (hc : vwCl[ci]? = some (C, T, N)) (e : h.2.2 a = .inr (.inr (ci, fs))) (hdg : decode cc pc = .ok (.invokevirtual idx, 3)) : Cal X nL pc y cY nY rY (.inr (some a) :: av) h := by
  obtain ⟨p, l, e, R, s, m, args, below, meth, c, Q, G, n0, s0, N, SL⟩ := X
  obtain ⟨hx, hb, hml, hown, hlk, hts, hK, hr, hB, hdp, hc1, hc2, hmn⟩ := hX
  intro rm mc ms Qc H locs cells slots ls rest r1 r2 r3 r4 hM hh hs hls hrest hf
  exact va_runVN (C := C) (As := av.map (gcv G)) (b := gad G a) ⟨hx, hb, hml, hown, hts⟩ hM ⟨va_cnB n hts (lw_meth k4) rfl r1 r2 (hK.2.1 _ k1) (hts _ k3) hd ⟨r3, r4⟩, hts _ k2, hts _ k5⟩ ⟨gW_blind G _ h, recv_at hK hh (by assumption) hc, fun U hU hW => ⟨rfl, gW_at hK hs hh hU hW⟩⟩ rfl (by rw [List.length_map]; exact hn) hls (by simp [gcv, va_rf]) (lv_room hrest) hdg hf
theorem cal_I (hX : Ok X cc nL own mn ret d) {idx n a : Nat} {y : MethodName} {cY : ByteArray} {nY : Nat} {av : List PV} (k1 : Cond.methodLink own idx y ∈ lw_all) (k2 : Cond.instanceMethod y ∈ lw_all) (k3 : Cond.initialized y.cls ∈ lw_all) (k4 : Cond.code y cY nY none ∈ lw_all) (hnm : y.name = "<init>") (hd : y.cls ≠ "java/lang/invoke/MethodHandle" ∧ y.cls ≠ "java/lang/invoke/VarHandle" ∧ (parseMethodDescriptor y.desc).map (fun d => d.parameters.length) = some n) (hn : av.length = n) (hdg : decode cc pc = .ok (.invokespecial idx, 3)) : Cal X nL pc y cY nY none (.inr (some a) :: av) h := by
  obtain ⟨p, l, e, R, s, m, args, below, meth, c, Q, G, n0, s0, N, SL⟩ := X
  obtain ⟨hx, hb, hml, hown, hlk, hts, hK, hr, hB, hdp, hc1, hc2, hmn⟩ := hX
  intro rm mc ms Qc H locs cells slots ls rest r1 r2 r3 r4 hM hh hs hls hrest hf
  exact va_runI (As := av.map (gcv G)) (b := gad G a) ⟨hx, hb, hml, hown, hts⟩ hM (cwI n hts (lw_meth k4) rfl r1 r2 (hts _ k3) (hts _ k1) (hts _ k2) hnm hd ⟨r3, r4⟩) ⟨gW_blind G _ h, fun U hU hW => ⟨rfl, gW_at hK hs hh hU hW⟩⟩ rfl (by rw [List.length_map]; exact hn) hls (by simp [gcv, va_rf]) (lv_room hrest) hdg hf
theorem cal_IN (hX : Ok X cc nL own mn ret d) {idx n a : Nat} {host : String} {y : MethodName} {cY : ByteArray} {nY : Nat} {av : List PV} (k1 : Cond.methodLinkNest own idx y host ∈ lw_nst) (k2 : Cond.instanceMethod y ∈ lw_all) (k3 : Cond.initialized y.cls ∈ lw_all) (k4 : Cond.code y cY nY none ∈ lw_all) (hnm : y.name = "<init>") (hd : y.cls ≠ "java/lang/invoke/MethodHandle" ∧ y.cls ≠ "java/lang/invoke/VarHandle" ∧ (parseMethodDescriptor y.desc).map (fun d => d.parameters.length) = some n) (hn : av.length = n) (hdg : decode cc pc = .ok (.invokespecial idx, 3)) : Cal X nL pc y cY nY none (.inr (some a) :: av) h := by
  obtain ⟨p, l, e, R, s, m, args, below, meth, c, Q, G, n0, s0, N, SL⟩ := X
  obtain ⟨hx, hb, hml, hown, hlk, hts, hK, hr, hB, hdp, hc1, hc2, hmn⟩ := hX
  intro rm mc ms Qc H locs cells slots ls rest r1 r2 r3 r4 hM hh hs hls hrest hf
  exact va_runIN (As := av.map (gcv G)) (b := gad G a) ⟨hx, hb, hml, hown, hts⟩ hM ⟨va_cnB n hts (lw_meth k4) rfl r1 r2 (hK.2.1 _ k1) (hts _ k3) hd ⟨r3, r4⟩, hnm, hts _ k2⟩ ⟨gW_blind G _ h, fun U hU hW => ⟨rfl, gW_at hK hs hh hU hW⟩⟩ rfl (by rw [List.length_map]; exact hn) hls (by simp [gcv, va_rf]) (lv_room hrest) hdg hf
end RowsN
