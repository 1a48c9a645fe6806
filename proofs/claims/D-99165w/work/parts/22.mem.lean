/-! FIELDS, ARRAYS, NEW CELLS -/
set_option maxRecDepth 100000
def fget (cs : List Nat) (k : Nat) (r : Option Nat) (h : PH) : Option PV := match r with
  | none => none
  | some a => match h.2.2 a with
    | .inr (.inr (c, fs)) => if c ∈ cs then fs[k]? else none
    | _ => none
def gfi (cs : List Nat) (k : Nat) (r : Option Nat) (h : PH) : Option Int32 := match fget cs k r h with
  | some (.inl x) => some x
  | _ => none
def gfr (cs : List Nat) (k : Nat) (r : Option Nat) (h : PH) : Option (Option Nat) := match fget cs k r h with
  | some (.inr x) => some x
  | _ => none
def pf (cs : List Nat) (k : Nat) (r : Option Nat) (v : PV) (h : PH) : Option PH := match r with
  | none => none
  | some a => match h.2.2 a with
    | .inr (.inr (c, fs)) => if c ∈ cs ∧ k < fs.length then some (h.1, h.2.1, hup h.2.2 a (.inr (.inr (c, fs.set k v)))) else none
    | _ => none
def pfz (cs : List Nat) (k : Nat) (r : Option Nat) (x : Int32) (h : PH) : Option PH := if x = 0 ∨ x = 1 then pf cs k r (.inl x) h else none
def ald (t : Nat) (r : Option Nat) (i : Int32) (h : PH) : Option Int32 := match r with
  | none => none
  | some a => match h.2.2 a with
    | .inl (t', n, f) => if t' = t ∧ ¬ (i < 0 ∨ n ≤ i.toNatClampNeg) then some (f i.toNatClampNeg) else none
    | _ => none
def ast (t : Nat) (r : Option Nat) (i : Int32) (x : Int32) (h : PH) : Option PH := match r with
  | none => none
  | some a => match h.2.2 a with
    | .inl (t', n, f) => if t' = t ∧ 7 ≤ a ∧ ¬ (i < 0 ∨ n ≤ i.toNatClampNeg) then some (h.1, h.2.1, hup h.2.2 a (.inl (t', n, upd f i.toNatClampNeg x))) else none
    | _ => none
def aldr (t : Nat) (r : Option Nat) (i : Int32) (h : PH) : Option (Option Nat) := match r with
  | none => none
  | some a => match h.2.2 a with
    | .inr (.inl (t', n, f)) => if t' = t ∧ ¬ (i < 0 ∨ n ≤ i.toNatClampNeg) then some (f i.toNatClampNeg) else none
    | _ => none
def okc (t : Nat) : List Nat := match t with
  | 2 => [3]
  | 3 => [7, 8, 9]
  | 4 => [10, 11, 12]
  | _ => []
def isC (cs : List Nat) (r : Option Nat) (h : PH) : Bool := match r with
  | none => false
  | some a => match h.2.2 a with
    | .inr (.inr (c, _)) => decide (c ∈ cs)
    | _ => false
def astr (t : Nat) (r : Option Nat) (i : Int32) (v : Option Nat) (h : PH) : Option PH := match r with
  | none => none
  | some a => match h.2.2 a with
    | .inr (.inl (t', n, f)) => if t' = t ∧ ¬ (i < 0 ∨ n ≤ i.toNatClampNeg) ∧ (v = none ∨ isC (okc t) v h = true) then some (h.1, h.2.1, hup h.2.2 a (.inr (.inl (t', n, va_up f i.toNatClampNeg v)))) else none
    | _ => none
def alen (t : Nat) (r : Option Nat) (h : PH) : Option Int32 := match r with
  | none => none
  | some a => match h.2.2 a with
    | .inl (t', n, _) => if t' = t then some (Int32.ofNat n) else none
    | _ => none
def alenr (t : Nat) (r : Option Nat) (h : PH) : Option Int32 := match r with
  | none => none
  | some a => match h.2.2 a with
    | .inr (.inl (t', n, _)) => if t' = t then some (Int32.ofNat n) else none
    | _ => none
def nw (c : Nat) (fs : List PV) (h : PH) : Option PH := some (h.1 + 1, h.2.1 + fs.length, hup h.2.2 h.1 (.inr (.inr (c, fs))))
def nwa (t n : Nat) (h : PH) : Option PH := some (h.1 + 1, h.2.1 + n, hup h.2.2 h.1 (.inl (t, n, fun _ => 0)))
def nwr (t n : Nat) (h : PH) : Option PH := some (h.1 + 1, h.2.1 + n, hup h.2.2 h.1 (.inr (.inl (t, n, fun _ => none))))
/-! what the tables say of a field's link, on an object of the class numbered c -/
def FL (own : String) (idx c k : Nat) : Prop := ∃ (C : String) (T : u_T) (N : Nat), vwCl[c]? = some (C, T, N) ∧ (∀ w ∈ u_ws C T N, w ∈ lw_all) ∧ k < N ∧ (Cond.fieldLink own idx (T k).1 (T k).2.1 (T k).2.2.1 ∈ lw_all ∨ ∃ host, Cond.fieldLinkNest own idx (T k).1 (T k).2.1 (T k).2.2.1 host ∈ lw_nst)
def Apt (c N : Nat) : Prop := ∀ (G : GG) (s : State) (args : Array Value), (∀ w ∈ lw_all, w.before args s = true) → va_K G.1 vwCl (gty G) s → ∀ x y, x < N → y < N → x ≠ y → G.1.2 c x ≠ G.1.2 c y
def FP (own : String) (idx c k : Nat) (ty : FieldType) : Prop := ∃ (C : String) (T : u_T) (N : Nat), vwCl[c]? = some (C, T, N) ∧ (∀ w ∈ u_ws C T N, w ∈ lw_all) ∧ k < N ∧ Apt c N ∧ (T k).2.2.2 = false ∧ parseFieldDescriptor (T k).2.2.1 = some ty ∧ (Cond.fieldLink own idx (T k).1 (T k).2.1 (T k).2.2.1 ∈ lw_all ∨ ∃ host, Cond.fieldLinkNest own idx (T k).1 (T k).2.1 (T k).2.2.1 host ∈ lw_nst)
def FPF (own : String) (idx c k : Nat) (ty : FieldType) : Prop := ∃ (C : String) (T : u_T) (N : Nat), vwCl[c]? = some (C, T, N) ∧ (∀ w ∈ u_ws C T N, w ∈ lw_all) ∧ k < N ∧ Apt c N ∧ (T k).2.2.2 = true ∧ (T k).1 = own ∧ parseFieldDescriptor (T k).2.2.1 = some ty ∧ Cond.fieldLink own idx (T k).1 (T k).2.1 (T k).2.2.1 ∈ lw_all
theorem apt_of {c N : Nat} {C : String} {T : u_T} (hc : vwCl[c]? = some (C, T, N)) (hin : ∀ w ∈ u_ws C T N, w ∈ lw_all) (ty : Nat → FieldType) (hty : ∀ k, k < N → parseFieldDescriptor (T k).2.2.1 = some (ty k)) (hnm : ∀ a, a < N → ∀ b, b < N → a ≠ b → (T a).2.1 ≠ (T b).2.1) : Apt c N := fun _ _ _ hts hK => va_apart (own := C) hts hin ty hty hnm hK hc
theorem vwCl_lt {c : Nat} {q : vw_C} (h : vwCl[c]? = some q) : c < 15 := (List.getElem?_eq_some_iff.mp h).1
def okT (ty : FieldType) (v : PV) : Prop := ∀ G : GG, narrow ty (gcv G v) = gcv G v ∧ fits ty (gcv G v) = true
theorem okT_i (x : Int32) : okT .int (.inl x) := fun _ => ⟨rfl, rfl⟩
theorem okT_z {x : Int32} (h : x = 0 ∨ x = 1) : okT .boolean (.inl x) := by
  intro G
  rcases h with rfl | rfl
  · exact ⟨(by decide : narrow FieldType.boolean (.int 0) = .int 0), rfl⟩
  · exact ⟨(by decide : narrow FieldType.boolean (.int 1) = .int 1), rfl⟩
theorem okT_o (C : String) (r : Option Nat) : okT (.object C) (.inr r) := by
  intro G
  cases r
  · exact ⟨rfl, rfl⟩
  · exact ⟨rfl, rfl⟩
theorem okT_a (t : FieldType) (r : Option Nat) : okT (.array t) (.inr r) := by
  intro G
  cases r
  · exact ⟨rfl, rfl⟩
  · exact ⟨rfl, rfl⟩
section RowsM
variable {X : CT} {cc : ByteArray} {nL : Nat} {own mn : String} {ret : Option FieldType} {d : Nat} {τ : Type} {pc : Nat} {lv : List (Option PV)} {st : List PV} {h : PH} {sz : τ → Nat × Nat} {K : τ → Prop}
theorem wt_get (hX : Ok X cc nL own mn ret d) {idx c k a : Nat} {fs : List PV} {v : PV} (fl : FL own idx c k) (e : h.2.2 a = .inr (.inr (c, fs))) (hv : fs[k]? = some v) (hdg : decode cc pc = .ok (.getfield idx, 3)) (w : Wt X (pc + 3) lv (v :: st) h) : Wt X pc lv (.inr (some a) :: st) h := by
  obtain ⟨p, l, e', R, s, m, args, below, meth, c', Q, G, n0, s0, N, SL⟩ := X
  obtain ⟨hx, hb, hml, hown, hlk, hts, hK, hr, hB, hdp, hc1, hc2, hmn⟩ := hX
  intro q1 q2 H locs ls hh hs hl
  obtain ⟨C, T, N', hc, hin, hk, hlink⟩ := fl
  obtain ⟨r1, r2⟩ := gH_obj hh e (vwCl_lt hc)
  have he : (gwl G h)[a - 7]? = some (gad G a, .inr (c, fs.map (gcv G))) := by rw [gwl_get r1 r2, e]; rfl
  have hv' : (fs.map (gcv G))[k]? = some (gcv G v) := by rw [List.getElem?_map, hv]; rfl
  rcases hlink with hlink | ⟨host, hlink⟩
  · exact va_get hx hb hts hin hown hK.1 hh.2.2.1 (a - 7) he hc k hk (hts _ hlink) (fun _ h9 => h9) hv' hdg (w q1 q2 H locs ls hh hs hl)
  · exact va_getN hx hb hts hin hown hK.1 hh.2.2.1 (a - 7) he hc k hk (va_Nw.use rfl (hK.2.1 _ hlink)) (fun _ h9 => h9) hv' hdg (w q1 q2 H locs ls hh hs hl)
theorem fget_some {cs : List Nat} {k : Nat} {r : Option Nat} {v : PV} (e : fget cs k r h = some v) : ∃ a c fs, r = some a ∧ h.2.2 a = .inr (.inr (c, fs)) ∧ c ∈ cs ∧ fs[k]? = some v := by
  cases r with
  | none => cases e
  | some a =>
    unfold fget at e
    dsimp only at e
    split at e
    · rename_i c fs hc
      split at e
      · rename_i hm
        exact ⟨a, c, fs, rfl, hc, hm, e⟩
      · cases e
    · cases e
theorem im_gi {idx k : Nat} {cs : List Nat} {r : Option Nat} {g : Int32 → Option τ} (fl : ∀ c ∈ cs, FL own idx c k) (hdg : decode cc pc = .ok (.getfield idx, 3)) (kk : ∀ x, Im X (cc, nL, own, mn, ret, d) (pc + 3) lv (.inl x :: st) h (g x) sz K) : Im X (cc, nL, own, mn, ret, d) pc lv (.inr r :: st) h ((gfi cs k r h).bind g) sz K := by
  refine Im.bind0 (st' := fun x => .inl x :: st) (fun x hx hX w => ?_) kk
  unfold gfi at hx
  split at hx
  · rename_i y hy
    cases hx
    obtain ⟨a, c, fs, rfl, e, hm, hv⟩ := fget_some hy
    exact wt_get hX (fl c hm) e hv hdg w
  · cases hx
theorem im_gr {idx k : Nat} {cs : List Nat} {r : Option Nat} {g : Option Nat → Option τ} (fl : ∀ c ∈ cs, FL own idx c k) (hdg : decode cc pc = .ok (.getfield idx, 3)) (kk : ∀ x, Im X (cc, nL, own, mn, ret, d) (pc + 3) lv (.inr x :: st) h (g x) sz K) : Im X (cc, nL, own, mn, ret, d) pc lv (.inr r :: st) h ((gfr cs k r h).bind g) sz K := by
  refine Im.bind0 (st' := fun x => .inr x :: st) (fun x hx hX w => ?_) kk
  unfold gfr at hx
  split at hx
  · rename_i y hy
    cases hx
    obtain ⟨a, c, fs, rfl, e, hm, hv⟩ := fget_some hy
    exact wt_get hX (fl c hm) e hv hdg w
  · cases hx
theorem pf_some {cs : List Nat} {k : Nat} {r : Option Nat} {v : PV} {h' : PH} (e : pf cs k r v h = some h') : ∃ a c fs, r = some a ∧ h.2.2 a = .inr (.inr (c, fs)) ∧ c ∈ cs ∧ k < fs.length ∧ h' = (h.1, h.2.1, hup h.2.2 a (.inr (.inr (c, fs.set k v)))) := by
  cases r with
  | none => cases e
  | some a =>
    unfold pf at e
    dsimp only at e
    split at e
    · rename_i c fs hc
      split at e
      · rename_i hm
        cases e
        exact ⟨a, c, fs, rfl, hc, hm.1, hm.2, rfl⟩
      · cases e
    · cases e
theorem wt_put (hX : Ok X cc nL own mn ret d) {idx c k a : Nat} {fs : List PV} {v : PV} {ty : FieldType} (fl : FP own idx c k ty) (ho : okT ty v) (e : h.2.2 a = .inr (.inr (c, fs))) (hl0 : k < fs.length) (hdg : decode cc pc = .ok (.putfield idx, 3)) (w : Wt X (pc + 3) lv st (h.1, h.2.1, hup h.2.2 a (.inr (.inr (c, fs.set k v))))) : Wt X pc lv (v :: .inr (some a) :: st) h := by
  obtain ⟨p, l, e', R, s, m, args, below, meth, c', Q, G, n0, s0, N, SL⟩ := X
  obtain ⟨hx, hb, hml, hown, hlk, hts, hK, hr, hB, hdp, hc1, hc2, hmn⟩ := hX
  intro q1 q2 H locs ls hh hs hl
  obtain ⟨C, T, N', hc, hin, hk, hapt, hfin, hd, hlink⟩ := fl
  obtain ⟨r1, r2⟩ := gH_obj hh e (vwCl_lt hc)
  have he : (gwl G h)[a - 7]? = some (gad G a, .inr (c, fs.map (gcv G))) := by rw [gwl_get r1 r2, e]; rfl
  have hap := hapt G s args hts hK.1
  obtain ⟨hn, hfit⟩ := ho G
  have hP := hh.2.2.1
  have hD := gD_ok G h
  obtain ⟨r, h1, cell, z1, z2, z3, z4⟩ := hP (a - 7) _ he
  have hr : r = (C, T, N') := Option.some.inj (h1.symm.trans hc)
  subst hr
  obtain ⟨hS, hfc, kC, hkC, hkind⟩ := hK.1.1 c _ hc
  obtain ⟨cf, kf, fi, f, hi, hsl⟩ := hS k hk
  have hlay := hts _ (hin _ (u_in_lay hk))
  unfold u_lay at hlay
  rw [if_neg (by rw [hfin]; decide)] at hlay
  have hst := (u_facts hfc hkC (u_lays hts hin hk) hi).1
  have h6 := u_store hfc hkC hkind hlay hi hd hn hfit
  have fin : ∀ H' : Heap, H'[gad G a]? = some (cell.setSlot f.slot (gcv G v)) → H'.size = H.size → (∀ q, q ≠ gad G a → H'[q]? = H[q]?) → W p l e' R s m args below meth c' H' (locs ++ [⟨gad G a, f.slot⟩]) (h.1 - n0) (h.2.1 - s0) Q (F0 m (pc + 3) ls (st.map (gcv G))) := by
    intro H' e1 e2 e3
    rw [hsl] at e1 ⊢
    refine w q1 q2 H' _ ls (gH_set hh r1 r2 e2 ?_) (hs.put e2 e3 (hD.2 _ _ he)) hl
    have hset : gcw G (.inr (.inr (c, fs.set k v))) = .inr (c, (fs.map (gcv G)).set k (gcv G v)) := by
      show Sum.inr (c, (fs.set k v).map (gcv G)) = _
      rw [List.map_set]
    rw [hset]
    exact hP.set hD he ⟨_, hc, t_OB.to (V := updV (vp_V (fs.map (gcv G))) k (gcv G v)) ⟨_, e1, z2, z3, t_set z4 hap hk (gcv G v)⟩ (fun j _ => vp_updV_set (by rw [List.length_map]; exact hl0) (gcv G v) j)⟩ e3
  rcases hlink with hlink | ⟨host, hlink⟩
  · exact W.putK hx hb (f := f) ⟨hown, hts _ hlink, ⟨_, _, _, hi⟩, hst⟩ (by rw [z2]; exact h6) z1 z3 (by rw [hsl]; exact k2_hasslot (z4 k hk)) rfl rfl hdg fin
  · exact va_WputK hx hb (f := f) hown (va_Nw.use rfl (hK.2.1 _ hlink)) hi hst (by rw [z2]; exact h6) z1 z3 (by rw [hsl]; exact k2_hasslot (z4 k hk)) rfl rfl hdg fin
theorem wt_putF (hX : Ok X cc nL own "<init>" ret d) {idx c k a : Nat} {fs : List PV} {v : PV} {ty : FieldType} (fl : FPF own idx c k ty) (ho : okT ty v) (e : h.2.2 a = .inr (.inr (c, fs))) (hl0 : k < fs.length) (hdg : decode cc pc = .ok (.putfield idx, 3)) (w : Wt X (pc + 3) lv st (h.1, h.2.1, hup h.2.2 a (.inr (.inr (c, fs.set k v))))) : Wt X pc lv (v :: .inr (some a) :: st) h := by
  obtain ⟨p, l, e', R, s, m, args, below, meth, c', Q, G, n0, s0, N, SL⟩ := X
  obtain ⟨hx, hb, hml, hown, hlk, hts, hK, hr, hB, hdp, hc1, hc2, hmn⟩ := hX
  intro q1 q2 H locs ls hh hs hl
  obtain ⟨C, T, N', hc, hin, hk, hapt, hfin, hdecl, hd, hlink⟩ := fl
  obtain ⟨r1, r2⟩ := gH_obj hh e (vwCl_lt hc)
  have he : (gwl G h)[a - 7]? = some (gad G a, .inr (c, fs.map (gcv G))) := by rw [gwl_get r1 r2, e]; rfl
  have hap := hapt G s args hts hK.1
  obtain ⟨hn, hfit⟩ := ho G
  have hP := hh.2.2.1
  have hD := gD_ok G h
  obtain ⟨r, h1, cell, z1, z2, z3, z4⟩ := hP (a - 7) _ he
  have hr : r = (C, T, N') := Option.some.inj (h1.symm.trans hc)
  subst hr
  obtain ⟨hS, hfc, kC, hkC, hkind⟩ := hK.1.1 c _ hc
  obtain ⟨cf, kf, fi, f, hi, hsl⟩ := hS k hk
  have hlay := hts _ (hin _ (u_in_lay hk))
  unfold u_lay at hlay
  rw [if_pos hfin] at hlay
  have hst := (u_facts hfc hkC (u_lays hts hin hk) hi).1
  have hcf : m.cls = cf := by
    obtain ⟨_, _, c'', _, _, _, -, -, hf', -, -, -, hown2, -⟩ := Cond.laysFinal_spec hlay
    have e1 : c'' = cf := by have := hi.symm.trans hf'; simp at this; exact this.1.symm
    rw [hdecl] at hown2
    rw [← e1]; exact Option.some.inj (hown.symm.trans hown2)
  have h6 := u_fits hfc hkC hkind (Or.inr hlay) hi hd hn hfit
  have fin : ∀ H' : Heap, H'[gad G a]? = some (cell.setSlot f.slot (gcv G v)) → H'.size = H.size → (∀ q, q ≠ gad G a → H'[q]? = H[q]?) → W p l e' R s m args below meth c' H' (locs ++ [⟨gad G a, f.slot⟩]) (h.1 - n0) (h.2.1 - s0) Q (F0 m (pc + 3) ls (st.map (gcv G))) := by
    intro H' e1 e2 e3
    rw [hsl] at e1 ⊢
    refine w q1 q2 H' _ ls (gH_set hh r1 r2 e2 ?_) (hs.put e2 e3 (hD.2 _ _ he)) hl
    have hset : gcw G (.inr (.inr (c, fs.set k v))) = .inr (c, (fs.map (gcv G)).set k (gcv G v)) := by
      show Sum.inr (c, (fs.set k v).map (gcv G)) = _
      rw [List.map_set]
    rw [hset]
    exact hP.set hD he ⟨_, hc, t_OB.to (V := updV (vp_V (fs.map (gcv G))) k (gcv G v)) ⟨_, e1, z2, z3, t_set z4 hap hk (gcv G v)⟩ (fun j _ => vp_updV_set (by rw [List.length_map]; exact hl0) (gcv G v) j)⟩ e3
  exact W.putFinK hx hb hown (hts _ hlink) hi hst hcf hmn (by rw [z2]; exact h6) z1 z3 (by rw [hsl]; exact k2_hasslot (z4 k hk)) rfl rfl hdg fin
theorem im_pf {idx k : Nat} {cs : List Nat} {r : Option Nat} {v : PV} {ty : FieldType} {g : PH → Option τ} (fl : ∀ c ∈ cs, FP own idx c k ty) (ho : okT ty v) (hdg : decode cc pc = .ok (.putfield idx, 3)) (kk : ∀ h', Im X (cc, nL, own, mn, ret, d) (pc + 3) lv st h' (g h') sz K) : Im X (cc, nL, own, mn, ret, d) pc lv (v :: .inr r :: st) h ((pf cs k r v h).bind g) sz K := by
  refine Im.bind (st' := fun _ => st) (h' := fun h' => h') (fun h' e => ?_) (fun h' e hX _ _ w => ?_) kk
  · obtain ⟨a, c, fs, -, -, -, -, rfl⟩ := pf_some e
    exact ⟨Nat.le_refl _, Nat.le_refl _⟩
  · obtain ⟨a, c, fs, rfl, e1, hm, hl, rfl⟩ := pf_some e
    exact wt_put hX (fl c hm) ho e1 hl hdg w
theorem im_pfF {idx k : Nat} {cs : List Nat} {r : Option Nat} {v : PV} {ty : FieldType} {g : PH → Option τ} (fl : ∀ c ∈ cs, FPF own idx c k ty) (ho : okT ty v) (hdg : decode cc pc = .ok (.putfield idx, 3)) (kk : ∀ h', Im X (cc, nL, own, "<init>", ret, d) (pc + 3) lv st h' (g h') sz K) : Im X (cc, nL, own, "<init>", ret, d) pc lv (v :: .inr r :: st) h ((pf cs k r v h).bind g) sz K := by
  refine Im.bind (st' := fun _ => st) (h' := fun h' => h') (fun h' e => ?_) (fun h' e hX _ _ w => ?_) kk
  · obtain ⟨a, c, fs, -, -, -, -, rfl⟩ := pf_some e
    exact ⟨Nat.le_refl _, Nat.le_refl _⟩
  · obtain ⟨a, c, fs, rfl, e1, hm, hl, rfl⟩ := pf_some e
    exact wt_putF hX (fl c hm) ho e1 hl hdg w
theorem im_pfz {idx k : Nat} {cs : List Nat} {r : Option Nat} {x : Int32} {g : PH → Option τ} (fl : ∀ c ∈ cs, FP own idx c k .boolean) (hdg : decode cc pc = .ok (.putfield idx, 3)) (kk : ∀ h', Im X (cc, nL, own, mn, ret, d) (pc + 3) lv st h' (g h') sz K) : Im X (cc, nL, own, mn, ret, d) pc lv (.inl x :: .inr r :: st) h ((pfz cs k r x h).bind g) sz K := by
  unfold pfz
  by_cases hx : x = 0 ∨ x = 1
  · rw [if_pos hx]
    exact im_pf fl (okT_z hx) hdg kk
  · rw [if_neg hx]
    exact Im.none
theorem gH_arr {G : GG} {H : Heap} (w : gH G h H) {a t n : Nat} {f : Nat → Int32} (e : h.2.2 a = .inl (t, n, f)) : a < h.1 := gH_lt w (by rw [e]; simp [pNil])
theorem ald_some {t : Nat} {r : Option Nat} {i : Int32} {x : Int32} (e : ald t r i h = some x) : ∃ a n f, r = some a ∧ h.2.2 a = .inl (t, n, f) ∧ vp_in i n ∧ x = f i.toNatClampNeg := by
  cases r with
  | none => cases e
  | some a =>
    unfold ald at e
    dsimp only at e
    split at e
    · rename_i t' n f hc
      split at e
      · rename_i hm
        cases e
        obtain ⟨rfl, h2⟩ := hm
        exact ⟨a, n, f, rfl, hc, h2, rfl⟩
      · cases e
    · cases e
theorem im_iald {r : Option Nat} {i : Int32} {g : Int32 → Option τ} (hdg : decode cc pc = .ok (.iaload, 1)) (kk : ∀ x, Im X (cc, nL, own, mn, ret, d) (pc + 1) lv (.inl x :: st) h (g x) sz K) : Im X (cc, nL, own, mn, ret, d) pc lv (.inl i :: .inr r :: st) h ((ald 0 r i h).bind g) sz K := by
  refine Im.bind0 (st' := fun x => .inl x :: st) (fun x hx hX w => ?_) kk
  obtain ⟨a, n, f, rfl, e, hin, rfl⟩ := ald_some hx
  clear hx
  obtain ⟨p, l, e', R, s, m, args, below, meth, c', Q, G, n0, s0, N, SL⟩ := X
  obtain ⟨hx, hb, hml, hown, hlk, hts, hK, hr, hB, hdp, hc1, hc2, hmn⟩ := hX
  intro q1 q2 H locs ls hh hs hl
  have w' := w q1 q2 H locs ls hh hs hl
  rcases Nat.lt_or_ge a 7 with q | q
  · have ho := gH_old hh q
    rw [e] at ho
    obtain ⟨-, -, -, ⟨t0, t1, t2⟩, -⟩ := hK
    match a, q, ho with
    | 0, _, ho => cases ho; exact va_ti hx hb t0 hs hin rfl hdg w'
    | 1, _, ho => cases ho; exact va_ti hx hb t1 hs hin rfl hdg w'
    | 2, _, ho => cases ho; exact va_ti hx hb t2 hs hin rfl hdg w'
    | 3, _, ho => simp [oldc] at ho
    | 4, _, ho => simp [oldc] at ho
    | 5, _, ho => simp [oldc] at ho
    | 6, _, ho => simp [oldc] at ho
  · have r2 := gH_arr hh e
    have he : (gwl G h)[a - 7]? = some (gad G a, .inl (G.2.1 0, n, .inl f)) := by rw [gwl_get q r2, e]; rfl
    exact va_iald hx hb hK.1 hh.2.2.1 (a - 7) 0 he rfl hin hdg w'
theorem im_bald {r : Option Nat} {i : Int32} {g : Int32 → Option τ} (hdg : decode cc pc = .ok (.baload, 1)) (kk : ∀ x, Im X (cc, nL, own, mn, ret, d) (pc + 1) lv (.inl x :: st) h (g x) sz K) : Im X (cc, nL, own, mn, ret, d) pc lv (.inl i :: .inr r :: st) h ((ald 1 r i h).bind g) sz K := by
  refine Im.bind0 (st' := fun x => .inl x :: st) (fun x hx hX w => ?_) kk
  obtain ⟨a, n, f, rfl, e, hin, rfl⟩ := ald_some hx
  clear hx
  obtain ⟨p, l, e', R, s, m, args, below, meth, c', Q, G, n0, s0, N, SL⟩ := X
  obtain ⟨hx, hb, hml, hown, hlk, hts, hK, hr, hB, hdp, hc1, hc2, hmn⟩ := hX
  intro q1 q2 H locs ls hh hs hl
  have w' := w q1 q2 H locs ls hh hs hl
  rcases Nat.lt_or_ge a 7 with q | q
  · have ho := gH_old hh q
    rw [e] at ho
    obtain ⟨-, -, -, -, -, s0, -⟩ := hK
    match a, q, ho with
    | 0, _, ho => simp [oldc] at ho
    | 1, _, ho => simp [oldc] at ho
    | 2, _, ho => simp [oldc] at ho
    | 3, _, ho => simp [oldc] at ho
    | 4, _, ho => cases ho; exact va_tb hx hb (s0.1 0 (by decide)).2.2.2 hs hin rfl hdg w'
    | 5, _, ho => simp [oldc] at ho
    | 6, _, ho => cases ho; exact va_tb hx hb (s0.1 1 (by decide)).2.2.2 hs hin rfl hdg w'
  · have r2 := gH_arr hh e
    have he : (gwl G h)[a - 7]? = some (gad G a, .inl (G.2.1 1, n, .inl f)) := by rw [gwl_get q r2, e]; rfl
    exact va_bald hx hb hK.1 hh.2.2.1 (a - 7) 1 he rfl hin hdg w'
theorem ast_some {t : Nat} {r : Option Nat} {i : Int32} {x : Int32} {h' : PH} (e : ast t r i x h = some h') : ∃ a n f, r = some a ∧ h.2.2 a = .inl (t, n, f) ∧ 7 ≤ a ∧ vp_in i n ∧ h' = (h.1, h.2.1, hup h.2.2 a (.inl (t, n, upd f i.toNatClampNeg x))) := by
  cases r with
  | none => cases e
  | some a =>
    unfold ast at e
    dsimp only at e
    split at e
    · rename_i t' n f hc
      split at e
      · rename_i hm
        cases e
        obtain ⟨rfl, h1, h2⟩ := hm
        exact ⟨a, n, f, rfl, hc, h1, h2, rfl⟩
      · cases e
    · cases e
theorem im_iast {r : Option Nat} {i x : Int32} {g : PH → Option τ} (hdg : decode cc pc = .ok (.iastore, 1)) (kk : ∀ h', Im X (cc, nL, own, mn, ret, d) (pc + 1) lv st h' (g h') sz K) : Im X (cc, nL, own, mn, ret, d) pc lv (.inl x :: .inl i :: .inr r :: st) h ((ast 0 r i x h).bind g) sz K := by
  refine Im.bind (st' := fun _ => st) (h' := fun h' => h') (fun h' e => ?_) (fun h' e hX _ _ w => ?_) kk
  · obtain ⟨a, n, f, -, -, -, -, rfl⟩ := ast_some e
    exact ⟨Nat.le_refl _, Nat.le_refl _⟩
  · obtain ⟨a, n, f, rfl, e1, r1, hin, rfl⟩ := ast_some e
    obtain ⟨p, l, e', R, s, m, args, below, meth, c', Q, G, n0, s0, N, SL⟩ := X
    obtain ⟨hx, hb, hml, hown, hlk, hts, hK, hr, hB, hdp, hc1, hc2, hmn⟩ := hX
    intro q1 q2 H locs ls hh hs hl
    have r2 := gH_arr hh e1
    have he : (gwl G h)[a - 7]? = some (gad G a, .inl (G.2.1 0, n, .inl f)) := by rw [gwl_get r1 r2, e1]; rfl
    have hP := hh.2.2.1
    have hD := gD_ok G h
    refine W.iast hx hb (hP (a - 7) _ he) ((hK.1.2 0 _ rfl).1 n (fun j => .int (f j))) (fun q => by cases q) (by show ¬ (i < 0 ∨ (arrV _ _ _).slots.size ≤ _); rw [arrV_size]; exact hin) rfl rfl hdg fun H1 e z oq => ?_
    refine w q1 q2 H1 _ ls (gH_set hh r1 r2 z (hP.set hD he ?_ oq)) (hs.put z oq (hD.2 (a - 7) _ he)) hl
    show H1[gad G a]? = some (vp_cell _ _)
    rw [e]
    rw [vp_cell_i, vp_cell_i, arrV_store]
    congr 2
    funext q
    by_cases hq : q = i.toNatClampNeg
    · subst hq
      simp [updV, upd]
    · simp [updV, upd, hq]
theorem im_bast {r : Option Nat} {i x : Int32} {g : PH → Option τ} (hdg : decode cc pc = .ok (.bastore, 1)) (kk : ∀ h', Im X (cc, nL, own, mn, ret, d) (pc + 1) lv st h' (g h') sz K) : Im X (cc, nL, own, mn, ret, d) pc lv (.inl x :: .inl i :: .inr r :: st) h ((ast 1 r i x.toInt8.toInt32 h).bind g) sz K := by
  refine Im.bind (st' := fun _ => st) (h' := fun h' => h') (fun h' e => ?_) (fun h' e hX _ _ w => ?_) kk
  · obtain ⟨a, n, f, -, -, -, -, rfl⟩ := ast_some e
    exact ⟨Nat.le_refl _, Nat.le_refl _⟩
  · obtain ⟨a, n, f, rfl, e1, r1, hin, rfl⟩ := ast_some e
    obtain ⟨p, l, e', R, s, m, args, below, meth, c', Q, G, n0, s0, N, SL⟩ := X
    obtain ⟨hx, hb, hml, hown, hlk, hts, hK, hr, hB, hdp, hc1, hc2, hmn⟩ := hX
    intro q1 q2 H locs ls hh hs hl
    have r2 := gH_arr hh e1
    have he : (gwl G h)[a - 7]? = some (gad G a, .inl (G.2.1 1, n, .inl f)) := by rw [gwl_get r1 r2, e1]; rfl
    have hP := hh.2.2.1
    have hD := gD_ok G h
    refine W.bast hx hb (hP (a - 7) _ he) ((hK.1.2 1 _ rfl).1 n (fun j => .int (f j))) (fun q => by cases q) (by show ¬ (i < 0 ∨ (arrV _ _ _).slots.size ≤ _); rw [arrV_size]; exact hin) rfl rfl hdg fun H1 e z oq => ?_
    refine w q1 q2 H1 _ ls (gH_set hh r1 r2 z (hP.set hD he ?_ oq)) (hs.put z oq (hD.2 (a - 7) _ he)) hl
    show H1[gad G a]? = some (vp_cell _ _)
    rw [e]
    rw [vp_cell_i, vp_cell_i, arrV_store]
    congr 2
    funext q
    by_cases hq : q = i.toNatClampNeg
    · subst hq
      simp [updV, upd, narrow]
    · simp [updV, upd, hq]
theorem aldr_some {t : Nat} {r : Option Nat} {i : Int32} {x : Option Nat} (e : aldr t r i h = some x) : ∃ a n f, r = some a ∧ h.2.2 a = .inr (.inl (t, n, f)) ∧ vp_in i n ∧ x = f i.toNatClampNeg := by
  cases r with
  | none => cases e
  | some a =>
    unfold aldr at e
    dsimp only at e
    split at e
    · rename_i t' n f hc
      split at e
      · rename_i hm
        cases e
        obtain ⟨rfl, h2⟩ := hm
        exact ⟨a, n, f, rfl, hc, h2, rfl⟩
      · cases e
    · cases e
def gtC (t : Nat) : String := match t with
  | 2 => "TalkingPlots$Person"
  | 3 => "TalkingPlots$Sum"
  | _ => "TalkingPlots$Condition"
theorem gty_at (G : GG) {t : Nat} (h2 : 2 ≤ t) (h4 : t ≤ 4) : (gty G)[t]? = some (G.2.1 t, .object (gtC t)) := by
  match t, h2, h4 with
  | 2, _, _ => rfl
  | 3, _, _ => rfl
  | 4, _, _ => rfl
theorem im_aald {t : Nat} (h2 : 2 ≤ t) (h4 : t ≤ 4) {r : Option Nat} {i : Int32} {g : Option Nat → Option τ} (hdg : decode cc pc = .ok (.aaload, 1)) (kk : ∀ x, Im X (cc, nL, own, mn, ret, d) (pc + 1) lv (.inr x :: st) h (g x) sz K) : Im X (cc, nL, own, mn, ret, d) pc lv (.inl i :: .inr r :: st) h ((aldr t r i h).bind g) sz K := by
  refine Im.bind0 (st' := fun x => .inr x :: st) (fun x hx hX w => ?_) kk
  obtain ⟨a, n, f, rfl, e, hin, rfl⟩ := aldr_some hx
  clear hx
  obtain ⟨p, l, e', R, s, m, args, below, meth, c', Q, G, n0, s0, N, SL⟩ := X
  obtain ⟨hx, hb, hml, hown, hlk, hts, hK, hr, hB, hdp, hc1, hc2, hmn⟩ := hX
  intro q1 q2 H locs ls hh hs hl
  have w' := w q1 q2 H locs ls hh hs hl
  obtain ⟨r1, r2⟩ := gH_refs hh e
  have he : (gwl G h)[a - 7]? = some (gad G a, .inl (G.2.1 t, n, .inr (.inr (.inr (.inr fun i => (f i).map (gad G)))))) := by rw [gwl_get r1 r2, e]; rfl
  exact va_aldq hx hb hK.1 hh.2.2.1 (a - 7) t he (gty_at G h2 h4) hin hdg w'
theorem astr_some {t : Nat} {r : Option Nat} {i : Int32} {v : Option Nat} {h' : PH} (e : astr t r i v h = some h') : ∃ a n f, r = some a ∧ h.2.2 a = .inr (.inl (t, n, f)) ∧ vp_in i n ∧ (v = none ∨ isC (okc t) v h = true) ∧ h' = (h.1, h.2.1, hup h.2.2 a (.inr (.inl (t, n, va_up f i.toNatClampNeg v)))) := by
  cases r with
  | none => cases e
  | some a =>
    unfold astr at e
    dsimp only at e
    split at e
    · rename_i t' n f hc
      split at e
      · rename_i hm
        cases e
        obtain ⟨rfl, h1, h2⟩ := hm
        exact ⟨a, n, f, rfl, hc, h1, h2, rfl⟩
      · cases e
    · cases e
theorem isC_some {cs : List Nat} {r : Option Nat} (e : isC cs r h = true) : ∃ a c fs, r = some a ∧ h.2.2 a = .inr (.inr (c, fs)) ∧ c ∈ cs := by
  cases r with
  | none => cases e
  | some a =>
    unfold isC at e
    dsimp only at e
    split at e
    · rename_i c fs hc
      exact ⟨a, c, fs, rfl, hc, of_decide_eq_true e⟩
    · cases e
/-- an element's class may be put into the array -/
def CA (c t : Nat) : Prop := ∃ r : vw_C, vwCl[c]? = some r ∧ (r.1 = gtC t ∨ Cond.castable r.1 (gtC t) ∈ lw_nst)
theorem ca_all {t c : Nat} (h2 : 2 ≤ t) (h4 : t ≤ 4) (hc : c ∈ okc t) : CA c t := by
  match t, h2, h4 with
  | 2, _, _ =>
    simp only [okc, List.mem_cons, List.not_mem_nil, or_false] at hc
    subst hc
    exact ⟨_, rfl, Or.inl rfl⟩
  | 3, _, _ =>
    simp only [okc, List.mem_cons, List.not_mem_nil, or_false] at hc
    rcases hc with rfl | rfl | rfl
    · exact ⟨_, rfl, Or.inr (lw_n q1733 rfl)⟩
    · exact ⟨_, rfl, Or.inr (lw_n q1734 rfl)⟩
    · exact ⟨_, rfl, Or.inr (lw_n q1735 rfl)⟩
  | 4, _, _ =>
    simp only [okc, List.mem_cons, List.not_mem_nil, or_false] at hc
    rcases hc with rfl | rfl | rfl
    · exact ⟨_, rfl, Or.inr (lw_n q1736 rfl)⟩
    · exact ⟨_, rfl, Or.inr (lw_n q1737 rfl)⟩
    · exact ⟨_, rfl, Or.inr (lw_n q1738 rfl)⟩
theorem im_aast {t : Nat} (h2 : 2 ≤ t) (h4 : t ≤ 4) {r v : Option Nat} {i : Int32} {g : PH → Option τ} (hdg : decode cc pc = .ok (.aastore, 1)) (kk : ∀ h', Im X (cc, nL, own, mn, ret, d) (pc + 1) lv st h' (g h') sz K) : Im X (cc, nL, own, mn, ret, d) pc lv (.inr v :: .inl i :: .inr r :: st) h ((astr t r i v h).bind g) sz K := by
  refine Im.bind (st' := fun _ => st) (h' := fun h' => h') (fun h' e => ?_) (fun h' e hX _ _ w => ?_) kk
  · obtain ⟨a, n, f, -, -, -, -, rfl⟩ := astr_some e
    exact ⟨Nat.le_refl _, Nat.le_refl _⟩
  · obtain ⟨a, n, f, rfl, e1, hin, hv, rfl⟩ := astr_some e
    obtain ⟨p, l, e', R, s, m, args, below, meth, c', Q, G, n0, s0, N, SL⟩ := X
    obtain ⟨hx, hb, hml, hown, hlk, hts, hK, hr, hB, hdp, hc1, hc2, hmn⟩ := hX
    intro q1 q2 H locs ls hh hs hl
    obtain ⟨r1, r2⟩ := gH_refs hh e1
    have he : (gwl G h)[a - 7]? = some (gad G a, .inl (G.2.1 t, n, .inr (.inr (.inr (.inr fun i => (f i).map (gad G)))))) := by rw [gwl_get r1 r2, e1]; rfl
    have hP := hh.2.2.1
    have hD := gD_ok G h
    have hlt : i.toNatClampNeg < n := Nat.not_le.mp fun q => hin (Or.inr q)
    have h0 : ¬ i < 0 := fun q => hin (Or.inl q)
    have fin : ∀ H' : Heap, H'[gad G a]? = some ((vp_cell (G.2.1 t) (n, .inr (.inr (.inr (.inr fun i => (f i).map (gad G)))))).setSlot i.toNatClampNeg (va_rf (v.map (gad G)))) → H'.size = H.size → (∀ q, q ≠ gad G a → H'[q]? = H[q]?) → W p l e' R s m args below meth c' H' (locs ++ [⟨gad G a, i.toNatClampNeg⟩]) (h.1 - n0) (h.2.1 - s0) Q (F0 m (pc + 1) ls (st.map (gcv G))) := by
      intro H1 e z oq
      refine w q1 q2 H1 _ ls (gH_set hh r1 r2 z (hP.set hD he ?_ oq)) (hs.put z oq (hD.2 (a - 7) _ he)) hl
      show H1[gad G a]? = some (vp_cell _ _)
      rw [e]
      rw [vp_cell_q, vp_cell_q, arrV_store]
      congr 2
      funext q
      by_cases hq : q = i.toNatClampNeg
      · subst hq
        simp [updV, va_up]
      · simp [updV, va_up, hq]
    rcases hv with rfl | hv
    · exact va_WaastN hx hb (hP (a - 7) _ he) ((hK.1.2 t _ (gty_at G h2 h4)).1 n (fun j => va_rf ((f j).map (gad G)))) (fun q => by cases q) (by show ¬ (i < 0 ∨ (arrV _ _ _).slots.size ≤ _); rw [arrV_size]; exact hin) rfl rfl hdg fin
    · obtain ⟨b, c, fs, rfl, eb, hm⟩ := isC_some hv
      obtain ⟨rr, hrr, hca⟩ := ca_all h2 h4 hm
      obtain ⟨b1, b2⟩ := gH_obj hh eb (vwCl_lt hrr)
      have heb : (gwl G h)[b - 7]? = some (gad G b, .inr (c, fs.map (gcv G))) := by rw [gwl_get b1 b2, eb]; rfl
      obtain ⟨r', hr', cellV, g1, g2, g3, -⟩ := hP (b - 7) _ heb
      have hcls := (hK.1.1 c rr hrr).2
      obtain ⟨kA, comp, k1, k2, k3, -⟩ := (hK.1.2 t _ (gty_at G h2 h4)).2
      obtain ⟨kC, hkC, -⟩ := hcls.2
      have hcomp : ∃ kcomp, s.vm.classes[comp]? = some kcomp ∧ s.vm.assignable (G.1.1 c) comp = true := by
        rcases hca with hca | hca
        · have : comp = G.1.1 c := Option.some.inj (k3.symm.trans (by rw [← hca]; exact hcls.1))
          subst this
          exact ⟨_, hkC, va_assign hcls⟩
        · obtain ⟨x1, x2, y1, y2, y3⟩ := Cond.castable_spec (hK.2.1 _ hca)
          cases hcls.1.symm.trans y1
          cases k3.symm.trans y2
          obtain ⟨kE, hkE, -⟩ := Vm.findClass_spec k3
          exact ⟨kE, hkE, y3⟩
      obtain ⟨kcomp, hkcomp, hasg⟩ := hcomp
      exact W.aast hx hb (hP (a - 7) _ he) (fun q h => by cases h) (fun h => by cases h) k1 k2 rfl hkcomp ⟨h0, by show _ < (arrV _ _ _).slots.size; rw [arrV_size]; exact hlt⟩ g1 (fun q h => by rw [g3] at h; cases h) (by rw [g2]; exact hkC) (by rw [g2]; exact hasg) rfl rfl hdg fin
theorem im_alen {t : Nat} (ht : t ≤ 1) {r : Option Nat} {g : Int32 → Option τ} (hdg : decode cc pc = .ok (.arraylength, 1)) (kk : ∀ x, Im X (cc, nL, own, mn, ret, d) (pc + 1) lv (.inl x :: st) h (g x) sz K) : Im X (cc, nL, own, mn, ret, d) pc lv (.inr r :: st) h ((alen t r h).bind g) sz K := by
  refine Im.bind0 (st' := fun x => .inl x :: st) (fun x hx hX w => ?_) kk
  cases r with
  | none => cases hx
  | some a =>
    unfold alen at hx
    dsimp only at hx
    split at hx
    · rename_i t' n f e
      split at hx
      · rename_i htt
        subst htt
        cases hx
        obtain ⟨p, l, e', R, s, m, args, below, meth, c', Q, G, n0, s0, N, SL⟩ := X
        obtain ⟨hx, hb, hml, hown, hlk, hts, hK, hr, hB, hdp, hc1, hc2, hmn⟩ := hX
        intro q1 q2 H locs ls hh hs hl
        have w' := w q1 q2 H locs ls hh hs hl
        rcases Nat.lt_or_ge a 7 with q | q
        · have ho := gH_old hh q
          rw [e] at ho
          obtain ⟨-, -, -, ⟨t0, t1, t2⟩, -, s0, -⟩ := hK
          match a, q, ho with
          | 0, _, ho => cases ho; exact va_tlen hx hb t0 hs rfl hdg w'
          | 1, _, ho => cases ho; exact va_tlen hx hb t1 hs rfl hdg w'
          | 2, _, ho => cases ho; exact va_tlen hx hb t2 hs rfl hdg w'
          | 3, _, ho => simp [oldc] at ho
          | 4, _, ho => cases ho; exact va_tlen hx hb (s0.1 0 (by decide)).2.2.2 hs rfl hdg w'
          | 5, _, ho => simp [oldc] at ho
          | 6, _, ho => cases ho; exact va_tlen hx hb (s0.1 1 (by decide)).2.2.2 hs rfl hdg w'
        · have r2 := gH_arr hh e
          have he : (gwl G h)[a - 7]? = some (gad G a, .inl (G.2.1 t', n, .inl f)) := by rw [gwl_get q r2, e]; rfl
          rcases (show t' = 0 ∨ t' = 1 by omega) with rfl | rfl
          · exact va_alen hx hb hK.1 hh.2.2.1 (a - 7) 0 he rfl rfl hdg w'
          · exact va_alen hx hb hK.1 hh.2.2.1 (a - 7) 1 he rfl rfl hdg w'
      · cases hx
    · cases hx
theorem im_alenr {t : Nat} (h2 : 2 ≤ t) (h4 : t ≤ 4) {r : Option Nat} {g : Int32 → Option τ} (hdg : decode cc pc = .ok (.arraylength, 1)) (kk : ∀ x, Im X (cc, nL, own, mn, ret, d) (pc + 1) lv (.inl x :: st) h (g x) sz K) : Im X (cc, nL, own, mn, ret, d) pc lv (.inr r :: st) h ((alenr t r h).bind g) sz K := by
  refine Im.bind0 (st' := fun x => .inl x :: st) (fun x hx hX w => ?_) kk
  cases r with
  | none => cases hx
  | some a =>
    unfold alenr at hx
    dsimp only at hx
    split at hx
    · rename_i t' n f e
      split at hx
      · rename_i htt
        subst htt
        cases hx
        obtain ⟨p, l, e', R, s, m, args, below, meth, c', Q, G, n0, s0, N, SL⟩ := X
        obtain ⟨hx, hb, hml, hown, hlk, hts, hK, hr, hB, hdp, hc1, hc2, hmn⟩ := hX
        intro q1 q2 H locs ls hh hs hl
        have w' := w q1 q2 H locs ls hh hs hl
        obtain ⟨r1, r2⟩ := gH_refs hh e
        have he : (gwl G h)[a - 7]? = some (gad G a, .inl (G.2.1 t', n, .inr (.inr (.inr (.inr fun i => (f i).map (gad G)))))) := by rw [gwl_get r1 r2, e]; rfl
        exact va_alen hx hb hK.1 hh.2.2.1 (a - 7) t' he (gty_at G h2 h4) rfl hdg w'
      · cases hx
    · cases hx
def NW (own : String) (idx c : Nat) (fs : List PV) : Prop := ∃ (C : String) (T : u_T) (ty : Nat → FieldType), vwCl[c]? = some (C, T, fs.length) ∧ (∀ w ∈ u_ws C T fs.length, w ∈ lw_all) ∧ (∀ k, k < fs.length → parseFieldDescriptor (T k).2.2.1 = some (ty k)) ∧ Cond.classLink own idx C ∈ lw_all ∧ Cond.instantiable C fs.length ∈ lw_all ∧ Cond.initialized C ∈ lw_all ∧ ∀ (G : GG) (j : Nat), j < fs.length → defaultValue (ty j) = vp_V (fs.map (gcv G)) j
theorem im_new {idx c : Nat} {fs : List PV} {g : PH → Option τ} (hnw : NW own idx c fs) (hdg : decode cc pc = .ok (.new idx, 3)) (kk : ∀ h', Im X (cc, nL, own, mn, ret, d) (pc + 3) lv (.inr (some h.1) :: st) h' (g h') sz K) : Im X (cc, nL, own, mn, ret, d) pc lv st h ((nw c fs h).bind g) sz K := by
  refine Im.bind (st' := fun _ => .inr (some h.1) :: st) (h' := fun h' => h') (fun h' e => ?_) (fun h' e hX y1 y2 w => ?_) kk
  · cases e
    exact ⟨Nat.le_succ _, Nat.le_add_right _ _⟩
  · cases e
    obtain ⟨p, l, e', R, s, m, args, below, meth, c', Q, G, n0, s0, N, SL⟩ := X
    obtain ⟨hx, hb, hml, hown, hlk, hts, hK, hr, hB, hdp, hc1, hc2, hmn⟩ := hX
    obtain ⟨C, T, ty, hc, hin, hty, k1, k2, k3, hfs⟩ := hnw
    intro q1 q2 H locs ls hh hs hl
    have y1' : h.1 + 1 ≤ N := y1
    have y2' : h.2.1 + fs.length ≤ SL := y2
    have hKn := hK.1.1 c _ hc
    have hP := hh.2.2.1
    have hsz := hh.2.1
    have h7 := hh.1
    refine W.newcK hx hb hown (hts _ k1) (hts _ k2) (hts _ k3) rfl hdg (by omega) (by omega) hKn.2.1 rfl fun H1 kC hkC e1 z1 o1 => ?_
    have hk : ∀ (k : Nat) (x : Nat × va_E), (gwl G h)[k]? = some x → H1[x.1]? = H[x.1]? := fun k x hx => o1 x.1 ((hP k x hx).lt)
    have w' := w (by show n0 ≤ h.1 + 1; omega) (by show s0 ≤ h.2.1 + fs.length; omega) H1 locs ls (gH_push hh z1 ((hP.kept hk).app (fun k x hx => by
      have hz : k < 1 := (List.getElem?_eq_some_iff.mp hx).1
      rw [show k = 0 by omega] at hx
      cases hx
      rw [← hsz]
      exact ⟨_, hc, (u_born ty hts hin hKn hkC e1 hty).to (hfs G)⟩))) ⟨Nat.le_trans hs.1 (by omega), fun x h1 h2 => (o1 x (Nat.lt_of_lt_of_le h1 hs.1)).trans (hs.2.1 x h1 h2), hs.2.2⟩ hl
    have ea : gcv G (.inr (some h.1)) = .ref H.size := by
      show Value.ref (gad G h.1) = _
      unfold gad
      rw [if_neg (by omega), hsz]
    have e2 : h.1 - n0 + 1 = h.1 + 1 - n0 := by omega
    have e3 : h.2.1 - s0 + fs.length = h.2.1 + fs.length - s0 := by omega
    rw [e2, e3]
    rw [List.map_cons, ea] at w'
    exact w'
theorem im_newa {t n : Nat} {N' : Int32} {at' : ArrayType} {g : PH → Option τ} (ht : (t = 0 ∧ at' = .int) ∨ (t = 1 ∧ at' = .byte)) (hn : ¬ N' < 0) (hN : N'.toNatClampNeg = n) (hby : n ≤ 100000) (hdg : decode cc pc = .ok (.newarray at', 2)) (kk : ∀ h', Im X (cc, nL, own, mn, ret, d) (pc + 2) lv (.inr (some h.1) :: st) h' (g h') sz K) : Im X (cc, nL, own, mn, ret, d) pc lv (.inl N' :: st) h ((nwa t n h).bind g) sz K := by
  refine Im.bind (st' := fun _ => .inr (some h.1) :: st) (h' := fun h' => h') (fun h' e => ?_) (fun h' e hX y1 y2 w => ?_) kk
  · cases e
    exact ⟨Nat.le_succ _, Nat.le_add_right _ _⟩
  · cases e
    obtain ⟨p, l, e', R, s, m, args, below, meth, c', Q, G, n0, s0, N, SL⟩ := X
    obtain ⟨hx, hb, hml, hown, hlk, hts, hK, hr, hB, hdp, hc1, hc2, hmn⟩ := hX
    intro q1 q2 H locs ls hh hs hl
    have y1' : h.1 + 1 ≤ N := y1
    have y2' : h.2.1 + n ≤ SL := y2
    have hP := hh.2.2.1
    have hsz := hh.2.1
    have h7 := hh.1
    have ea : gcv G (.inr (some h.1)) = .ref H.size := by
      show Value.ref (gad G h.1) = _
      unfold gad
      rw [if_neg (by omega), hsz]
    have e2 : h.1 - n0 + 1 = h.1 + 1 - n0 := by omega
    have e3 : h.2.1 - s0 + n = h.2.1 + n - s0 := by omega
    have fin : ∀ (H1 : Heap) (cA : ClassId), cA = G.2.1 t → H1[H.size]? = some (vp_cell cA (n, .inl (fun _ => 0))) → H1.size = H.size + 1 → (∀ q, q < H.size → H1[q]? = H[q]?) → W p l e' R s m args below meth c' H1 locs (h.1 - n0 + 1) (h.2.1 - s0 + n) Q (F0 m (pc + 2) ls (.ref H.size :: st.map (gcv G))) := by
      intro H1 cA hcA e1 z1 o1
      subst hcA
      have hk : ∀ (k : Nat) (x : Nat × va_E), (gwl G h)[k]? = some x → H1[x.1]? = H[x.1]? := fun k x hx => o1 x.1 ((hP k x hx).lt)
      have w' := w (by show n0 ≤ h.1 + 1; omega) (by show s0 ≤ h.2.1 + n; omega) H1 locs ls (gH_push hh z1 ((hP.kept hk).app (fun k x hx => by
        have hz : k < 1 := (List.getElem?_eq_some_iff.mp hx).1
        rw [show k = 0 by omega] at hx
        cases hx
        rw [← hsz]
        exact e1))) ⟨Nat.le_trans hs.1 (by omega), fun x h1 h2 => (o1 x (Nat.lt_of_lt_of_le h1 hs.1)).trans (hs.2.1 x h1 h2), hs.2.2⟩ hl
      rw [e2, e3]
      rw [List.map_cons, ea] at w'
      exact w'
    rcases ht with ⟨rfl, rfl⟩ | ⟨rfl, rfl⟩
    · refine va_newaK hx hb (atype := .int) (hts _ q271) rfl hdg rfl hn hN (by show n * 4 ≤ _; omega) (by omega) (by omega) rfl fun H1 cA e1 z1 o1 hAr hNm => ?_
      exact fin H1 cA (Option.some.inj (hNm.symm.trans (hK.1.2 0 _ rfl).2)) e1 z1 o1
    · refine va_newaK hx hb (atype := .byte) (hts _ q270) rfl hdg rfl hn hN (by show n * 1 ≤ _; omega) (by omega) (by omega) rfl fun H1 cA e1 z1 o1 hAr hNm => ?_
      exact fin H1 cA (Option.some.inj (hNm.symm.trans (hK.1.2 1 _ rfl).2)) e1 z1 o1
end RowsM
