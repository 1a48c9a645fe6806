/-! CALLS IN A WALK; INHERITED AND ABSTRACT METHODS; MATH; SWITCHES -/
set_option maxRecDepth 100000
def bd2 {α β γ : Type} (o : Option (α × β)) (g : α → β → Option γ) : Option γ := o.bind fun q => g q.1 q.2
theorem bd2_some {α β γ : Type} (a : α) (b : β) (g : α → β → Option γ) : bd2 (some (a, b)) g = g a b := rfl
theorem bd2_none {α β γ : Type} (g : α → β → Option γ) : bd2 none g = none := rfl
section RowsC
variable {X : CT} {cc : ByteArray} {nL : Nat} {own mn : String} {ret : Option FieldType} {d : Nat} {τ : Type} {pc : Nat} {lv : List (Option PV)} {st stk : List PV} {h : PH} {f : Option τ} {sz : τ → Nat × Nat} {K : τ → Prop}
theorem cal_U (hX : Ok X cc nL own mn ret d) {idx n ci a : Nat} {C owner : String} {T : u_T} {N : Nat} {fs : List PV} {x y : MethodName} {cY : ByteArray} {nY : Nat} {rY : Option FieldType} {av : List PV} (k1 : Cond.methodLink own idx x ∈ lw_all) (k2 : Cond.sameMethod x.cls owner x.name x.desc ∈ lw_all) (k3 : Cond.selects C x y ∈ lw_all) (k4 : Cond.instanceMethod y ∈ lw_all) (k5 : Cond.initialized y.cls ∈ lw_all) (k6 : Cond.code y cY nY rY ∈ lw_all) (hyx : y = ⟨owner, x.name, x.desc⟩) (hd : owner ≠ "java/lang/invoke/MethodHandle" ∧ owner ≠ "java/lang/invoke/VarHandle" ∧ (parseMethodDescriptor x.desc).map (fun d => d.parameters.length) = some n) (hn : av.length = n) (hc : vwCl[ci]? = some (C, T, N)) (e : h.2.2 a = .inr (.inr (ci, fs))) (hdg : decode cc pc = .ok (.invokevirtual idx, 3)) : Cal X nL pc y cY nY rY (.inr (some a) :: av) h := by
  obtain ⟨p, l, e, R, s, m, args, below, meth, c, Q, G, n0, s0, N, SL⟩ := X
  obtain ⟨hx, hb, hml, hown, hlk, hts, hK, hr, hB, hdp, hc1, hc2, hmn⟩ := hX
  intro rm mc ms Qc H locs cells slots ls rest r1 r2 r3 r4 hM hh hs hls hrest hf
  have hT : GoodIn lw_all (va_wsU own idx C owner x y (ws_ y cY nY rY)) := by
    refine lw_app ?_ (lw_meth k6)
    intro w hw
    simp only [List.mem_cons, List.not_mem_nil, or_false] at hw
    rcases hw with e | e | e | e | e
    · rw [e]; exact k1
    · rw [e]; exact k2
    · rw [e]; exact k3
    · rw [e]; exact k4
    · rw [e]; exact k5
  exact va_runU (C := C) (As := av.map (gcv G)) (b := gad G a) ⟨hx, hb, hml, hown, hts⟩ hM (va_cwU n hts hT rfl r1 r2 hyx hd ⟨r3, r4⟩) ⟨gW_blind G _ h, recv_at hK hh (by assumption) hc, fun U hU hW => ⟨rfl, gW_at hK hs hh hU hW⟩⟩ rfl (by rw [List.length_map]; exact hn) hls (by simp [gcv, va_rf]) (lv_room hrest) hdg hf
theorem cal_A (hX : Ok X cc nL own mn ret d) {idx n ci a : Nat} {C owner : String} {T : u_T} {N : Nat} {fs : List PV} {x y : MethodName} {cY : ByteArray} {nY : Nat} {rY : Option FieldType} {av : List PV} (k1 : Cond.methodLink own idx x ∈ lw_all) (k2 : Cond.sameMethod x.cls owner x.name x.desc ∈ lw_all) (k3 : Cond.selects C x y ∈ lw_all) (k4 : Cond.instanceMethod y ∈ lw_all) (k5 : Cond.initialized y.cls ∈ lw_all) (k6 : Cond.code y cY nY rY ∈ lw_all) (hz : Cond.declares ⟨owner, x.name, x.desc⟩ ∈ lw_nst) (hd : owner ≠ "java/lang/invoke/MethodHandle" ∧ owner ≠ "java/lang/invoke/VarHandle" ∧ (parseMethodDescriptor x.desc).map (fun d => d.parameters.length) = some n) (hn : av.length = n) (hc : vwCl[ci]? = some (C, T, N)) (e : h.2.2 a = .inr (.inr (ci, fs))) (hdg : decode cc pc = .ok (.invokevirtual idx, 3)) : Cal X nL pc y cY nY rY (.inr (some a) :: av) h := by
  obtain ⟨p, l, e, R, s, m, args, below, meth, c, Q, G, n0, s0, N, SL⟩ := X
  obtain ⟨hx, hb, hml, hown, hlk, hts, hK, hr, hB, hdp, hc1, hc2, hmn⟩ := hX
  intro rm mc ms Qc H locs cells slots ls rest r1 r2 r3 r4 hM hh hs hls hrest hf
  have hT : GoodIn lw_all (va_wsU own idx C owner x y (ws_ y cY nY rY)) := by
    refine lw_app ?_ (lw_meth k6)
    intro w hw
    simp only [List.mem_cons, List.not_mem_nil, or_false] at hw
    rcases hw with e | e | e | e | e
    · rw [e]; exact k1
    · rw [e]; exact k2
    · rw [e]; exact k3
    · rw [e]; exact k4
    · rw [e]; exact k5
  exact va_runU (C := C) (As := av.map (gcv G)) (b := gad G a) ⟨hx, hb, hml, hown, hts⟩ hM (va_cwA n hts hT rfl r1 r2 (hK.2.1 _ hz) hd ⟨r3, r4⟩) ⟨gW_blind G _ h, recv_at hK hh (by assumption) hc, fun U hU hW => ⟨rfl, gW_at hK hs hh hU hW⟩⟩ rfl (by rw [List.length_map]; exact hn) hls (by simp [gcv, va_rf]) (lv_room hrest) hdg hf
/-- a call on a constant String -/
theorem cal_VS (hX : Ok X cc nL own mn ret d) {idx n a : Nat} {fs : List PV} {y : MethodName} {cY : ByteArray} {nY : Nat} {rY : Option FieldType} {av : List PV} (hT : GoodIn lw_all (wsV own idx "java/lang/String" y (ws_ y cY nY rY))) (hd : y.cls = "java/lang/String" ∧ y.cls ≠ "java/lang/invoke/MethodHandle" ∧ y.cls ≠ "java/lang/invoke/VarHandle" ∧ (parseMethodDescriptor y.desc).map (fun d => d.parameters.length) = some n) (hn : av.length = n) (e : h.2.2 a = .inr (.inr (15, fs))) (hdg : decode cc pc = .ok (.invokevirtual idx, 3)) : Cal X nL pc y cY nY rY (.inr (some a) :: av) h := by
  obtain ⟨p, l, e', R, s, m, args, below, meth, c, Q, G, n0, s0, N, SL⟩ := X
  obtain ⟨hx, hb, hml, hown, hlk, hts, hK, hr, hB, hdp, hc1, hc2, hmn⟩ := hX
  intro rm mc ms Qc H locs cells slots ls rest r1 r2 r3 r4 hM hh hs hls hrest hf
  have hrec : ∃ cell : Cell, H[gad G a]? = some cell ∧ cell.vm.isStatics = false ∧ s.vm.findClass "java/lang/String" = some cell.cls := by
    rcases gH_str hh e with ⟨rfl, -⟩ | ⟨rfl, -⟩
    · exact vk_recv (i := 0) hK.2.2.2.2.2.1 (by decide) hs
    · exact vk_recv (i := 1) hK.2.2.2.2.2.1 (by decide) hs
  exact va_runV (C := "java/lang/String") (As := av.map (gcv G)) (b := gad G a) ⟨hx, hb, hml, hown, hts⟩ hM (cwV n hts hT rfl r1 r2 hd ⟨r3, r4⟩) ⟨gW_blind G _ h, hrec, fun U hU hW => ⟨rfl, gW_at hK hs hh hU hW⟩⟩ rfl (by rw [List.length_map]; exact hn) hls (by simp [gcv, va_rf]) (lv_room hrest) hdg hf
theorem im_cI {y : MethodName} {cY : ByteArray} {nY d' : Nat} {rY : Option FieldType} {av : List PV} {o : Option (Int32 × PH)} {g : Int32 → PH → Option τ} (hcal : ∀ r h', o = some (r, h') → Ok X cc nL own mn ret d → Cal X nL pc y cY nY rY av h) (hsp : ∀ r h', o = some (r, h') → SpI y cY nY rY d' av h r h') (hd : d' + 1 ≤ d) (hnY : nY ≤ 41) (hst : st.length ≤ 8) (hs : av.reverse ++ st = stk) (kk : ∀ r h', Im X (cc, nL, own, mn, ret, d) (pc + 3) lv (.inl r :: st) h' (g r h') sz K) : Im X (cc, nL, own, mn, ret, d) pc lv stk h (bd2 o g) sz K := by
  subst hs
  refine Im.bind (st' := fun q => .inl q.1 :: st) (h' := fun q => q.2) (fun q e => (hsp q.1 q.2 e).1 X) (fun q e hX y1 y2 w => ?_) (fun q => kk q.1 q.2)
  obtain ⟨r, h'⟩ := q
  have cal := hcal r h' e hX
  obtain ⟨hs1, hM⟩ := hsp r h' e
  have hs1 := hs1 X
  obtain ⟨p, l, e', R, s, m, args, below, meth, c, Q, G, n0, s0, N, SL⟩ := X
  obtain ⟨hx, hb, hml, hown, hlk, hts, hK, hr, hB, hdp, hc1, hc2, hmn⟩ := hX
  have hdp1 : d ≤ R.frames := hdp.1
  have hdp2 : 60 * d ≤ R.locals := hdp.2
  have hml' : c.maxLocals = nL := hml
  have y1' : h'.1 ≤ N := y1
  have y2' : h'.2.1 ≤ SL := y2
  intro q1 q2 H locs ls hh hs hl
  have run := cal _ (h'.1 - h.1) (h'.2.1 - h.2.1) _ H locs (h.1 - n0) (h.2.1 - s0) ls (st.map (gcv G)) rfl rfl (by show d' + 1 ≤ _; omega) (by show 8 + (nY + 11) + 60 * d' ≤ _; omega) (hM l G) hh hs (hl.1.trans hml') (by rw [gcv_sum]; exact hst) ⟨by omega, by omega⟩
  rw [List.map_append, List.map_reverse]
  refine va_calli run hs (fun _ _ z => z) (fun _ z => z) (fun r' u t H1 locs1 ht hvm hp hB hz hk hS1 => ?_)
  have hB' : gH G h' t.heap := hB
  rw [ht] at hB'
  cases (show r' = r from hp)
  have w' := w (by show n0 ≤ h'.1; omega) (by show s0 ≤ h'.2.1; omega) H1 locs1 ls hB' hS1 hl
  have e2 : h.1 - n0 + (h'.1 - h.1) = h'.1 - n0 := by omega
  have e3 : h.2.1 - s0 + (h'.2.1 - h.2.1) = h'.2.1 - s0 := by omega
  rw [e2, e3]
  exact w'
theorem im_cP {y : MethodName} {cY : ByteArray} {nY d' : Nat} {rY : Option FieldType} {av : List PV} {o : Option Int32} {g : Int32 → Option τ} (hcal : ∀ r, o = some r → Ok X cc nL own mn ret d → Cal X nL pc y cY nY rY av h) (hsp : ∀ r, o = some r → SpI y cY nY rY d' av h r h) (hd : d' + 1 ≤ d) (hnY : nY ≤ 41) (hst : st.length ≤ 8) (hs : av.reverse ++ st = stk) (kk : ∀ r, Im X (cc, nL, own, mn, ret, d) (pc + 3) lv (.inl r :: st) h (g r) sz K) : Im X (cc, nL, own, mn, ret, d) pc lv stk h (o.bind g) sz K := by
  subst hs
  refine Im.bind (st' := fun r => .inl r :: st) (h' := fun _ => h) (fun _ _ => ⟨Nat.le_refl _, Nat.le_refl _⟩) (fun r e hX y1 y2 w => ?_) (fun r => kk r)
  have cal := hcal r e hX
  obtain ⟨hs1, hM⟩ := hsp r e
  obtain ⟨p, l, e', R, s, m, args, below, meth, c, Q, G, n0, s0, N, SL⟩ := X
  obtain ⟨hx, hb, hml, hown, hlk, hts, hK, hr, hB, hdp, hc1, hc2, hmn⟩ := hX
  have hdp1 : d ≤ R.frames := hdp.1
  have hdp2 : 60 * d ≤ R.locals := hdp.2
  have hml' : c.maxLocals = nL := hml
  have y1' : h.1 ≤ N := y1
  have y2' : h.2.1 ≤ SL := y2
  intro q1 q2 H locs ls hh hs hl
  have run := cal _ (h.1 - h.1) (h.2.1 - h.2.1) _ H locs (h.1 - n0) (h.2.1 - s0) ls (st.map (gcv G)) rfl rfl (by show d' + 1 ≤ _; omega) (by show 8 + (nY + 11) + 60 * d' ≤ _; omega) (hM l G) hh hs (hl.1.trans hml') (by rw [gcv_sum]; exact hst) ⟨by omega, by omega⟩
  rw [List.map_append, List.map_reverse]
  refine va_calli run hs (fun _ _ z => z) (fun _ z => z) (fun r' u t H1 locs1 ht hvm hp hB hz hk hS1 => ?_)
  have hB' : gH G h t.heap := hB
  rw [ht] at hB'
  cases (show r' = r from hp)
  have w' := w q1 q2 H1 locs1 ls hB' hS1 hl
  have e2 : h.1 - n0 + (h.1 - h.1) = h.1 - n0 := by omega
  have e3 : h.2.1 - s0 + (h.2.1 - h.2.1) = h.2.1 - s0 := by omega
  rw [e2, e3]
  exact w'
theorem im_cV {y : MethodName} {cY : ByteArray} {nY d' : Nat} {rY : Option FieldType} {av : List PV} {o : Option PH} {g : PH → Option τ} (hcal : ∀ h', o = some h' → Ok X cc nL own mn ret d → Cal X nL pc y cY nY rY av h) (hsp : ∀ h', o = some h' → SpV y cY nY rY d' av h h') (hd : d' + 1 ≤ d) (hnY : nY ≤ 41) (hst : st.length ≤ 8) (hs : av.reverse ++ st = stk) (kk : ∀ h', Im X (cc, nL, own, mn, ret, d) (pc + 3) lv st h' (g h') sz K) : Im X (cc, nL, own, mn, ret, d) pc lv stk h (o.bind g) sz K := by
  subst hs
  refine Im.bind (st' := fun _ => st) (h' := fun q => q) (fun q e => (hsp q e).1 X) (fun h' e hX y1 y2 w => ?_) (fun q => kk q)
  have cal := hcal h' e hX
  obtain ⟨hs1, hM⟩ := hsp h' e
  have hs1 := hs1 X
  obtain ⟨p, l, e', R, s, m, args, below, meth, c, Q, G, n0, s0, N, SL⟩ := X
  obtain ⟨hx, hb, hml, hown, hlk, hts, hK, hr, hB, hdp, hc1, hc2, hmn⟩ := hX
  have hdp1 : d ≤ R.frames := hdp.1
  have hdp2 : 60 * d ≤ R.locals := hdp.2
  have hml' : c.maxLocals = nL := hml
  have y1' : h'.1 ≤ N := y1
  have y2' : h'.2.1 ≤ SL := y2
  intro q1 q2 H locs ls hh hs hl
  have run := cal _ (h'.1 - h.1) (h'.2.1 - h.2.1) _ H locs (h.1 - n0) (h.2.1 - s0) ls (st.map (gcv G)) rfl rfl (by show d' + 1 ≤ _; omega) (by show 8 + (nY + 11) + 60 * d' ≤ _; omega) (hM l G) hh hs (hl.1.trans hml') (by rw [gcv_sum]; exact hst) ⟨by omega, by omega⟩
  rw [List.map_append, List.map_reverse]
  refine va_callv run hs (fun _ _ z => z) (fun _ z => z) (fun u t H1 locs1 ht hvm hp hB hz hk hS1 => ?_)
  have hB' : gH G h' t.heap := hB
  rw [ht] at hB'
  have w' := w (by show n0 ≤ h'.1; omega) (by show s0 ≤ h'.2.1; omega) H1 locs1 ls hB' hS1 hl
  have e2 : h.1 - n0 + (h'.1 - h.1) = h'.1 - n0 := by omega
  have e3 : h.2.1 - s0 + (h'.2.1 - h.2.1) = h'.2.1 - s0 := by omega
  rw [e2, e3]
  exact w'
theorem im_cR {y : MethodName} {cY : ByteArray} {nY d' : Nat} {rY : Option FieldType} {av : List PV} {o : Option (Option Nat × PH)} {g : Option Nat → PH → Option τ} (hcal : ∀ r h', o = some (r, h') → Ok X cc nL own mn ret d → Cal X nL pc y cY nY rY av h) (hsp : ∀ r h', o = some (r, h') → SpR y cY nY rY d' av h r h') (hd : d' + 1 ≤ d) (hnY : nY ≤ 41) (hst : st.length ≤ 8) (hs : av.reverse ++ st = stk) (kk : ∀ r h', Im X (cc, nL, own, mn, ret, d) (pc + 3) lv (.inr r :: st) h' (g r h') sz K) : Im X (cc, nL, own, mn, ret, d) pc lv stk h (bd2 o g) sz K := by
  subst hs
  refine Im.bind (st' := fun q => .inr q.1 :: st) (h' := fun q => q.2) (fun q e => (hsp q.1 q.2 e).1 X) (fun q e hX y1 y2 w => ?_) (fun q => kk q.1 q.2)
  obtain ⟨r, h'⟩ := q
  have cal := hcal r h' e hX
  obtain ⟨hs1, hM⟩ := hsp r h' e
  have hs1 := hs1 X
  obtain ⟨p, l, e', R, s, m, args, below, meth, c, Q, G, n0, s0, N, SL⟩ := X
  obtain ⟨hx, hb, hml, hown, hlk, hts, hK, hr, hB, hdp, hc1, hc2, hmn⟩ := hX
  have hdp1 : d ≤ R.frames := hdp.1
  have hdp2 : 60 * d ≤ R.locals := hdp.2
  have hml' : c.maxLocals = nL := hml
  have y1' : h'.1 ≤ N := y1
  have y2' : h'.2.1 ≤ SL := y2
  intro q1 q2 H locs ls hh hs hl
  have run := cal _ (h'.1 - h.1) (h'.2.1 - h.2.1) _ H locs (h.1 - n0) (h.2.1 - s0) ls (st.map (gcv G)) rfl rfl (by show d' + 1 ≤ _; omega) (by show 8 + (nY + 11) + 60 * d' ≤ _; omega) (hM l G) hh hs (hl.1.trans hml') (by rw [gcv_sum]; exact hst) ⟨by omega, by omega⟩
  rw [List.map_append, List.map_reverse]
  refine va_callq run hs (fun _ _ z => z) (fun _ z => z) (fun r' u t H1 locs1 ht hvm hp hB hz hk hS1 => ?_)
  have hB' : gH G h' t.heap := hB
  rw [ht] at hB'
  cases (show r' = r.map (gad G) from hp)
  have w' := w (by show n0 ≤ h'.1; omega) (by show s0 ≤ h'.2.1; omega) H1 locs1 ls hB' hS1 hl
  have e2 : h.1 - n0 + (h'.1 - h.1) = h'.1 - n0 := by omega
  have e3 : h.2.1 - s0 + (h'.2.1 - h.2.1) = h'.2.1 - s0 := by omega
  rw [e2, e3]
  exact w'
/-! switches: the function goes case by case -/
def SwI (X : CT) (Y : MT) (lv : List (Option PV)) (st : List PV) (h : PH) (sz : τ → Nat × Nat) (K : τ → Prop) (x : Int32) : List (Int32 × Nat) → Nat → Option τ → Prop
  | [], dt, f => Im X Y dt lv st h f sz K
  | (k, t) :: ks, dt, f => ∃ f1 f2, f = (if x = k then f1 else f2) ∧ Im X Y t lv st h f1 sz K ∧ SwI X Y lv st h sz K x ks dt f2
theorem im_swI {Y : MT} {x : Int32} : ∀ (ks : List (Int32 × Nat)) (dt : Nat) (f : Option τ) {pc : Nat}, (OkM X Y → (∀ q ∈ ks, x = q.1 → (∀ q' ∈ ks, x = q'.1 → q'.2 = q.2) → Wt X q.2 lv st h → Wt X pc lv (.inl x :: st) h)) → (OkM X Y → (∀ q ∈ ks, x ≠ q.1) → Wt X dt lv st h → Wt X pc lv (.inl x :: st) h) → (∀ q ∈ ks, ∀ q' ∈ ks, q.1 = q'.1 → q.2 = q'.2) → SwI X Y lv st h sz K x ks dt f → Im X Y pc lv (.inl x :: st) h f sz K
  | [], dt, f, pc, _, hd, _, hs => Im.step (fun o w => hd o (fun q hq => by cases hq) w) hs
  | (k, t) :: ks, dt, f, pc, hk, hd, hu, hs => by
    obtain ⟨f1, f2, rfl, h1, h2⟩ := hs
    by_cases hx : x = k
    · rw [if_pos hx]
      refine Im.step (fun o w => hk o (k, t) List.mem_cons_self hx (fun q' hq' e => ?_) w) h1
      exact hu q' hq' (k, t) List.mem_cons_self (e.symm.trans hx)
    · rw [if_neg hx]
      refine im_swI ks dt f2 (fun o q hq e e2 w => hk o q (List.mem_cons_of_mem _ hq) e (fun q' hq' e' => ?_) w) (fun o hn w => hd o (fun q hq => ?_) w) (fun q hq q' hq' => hu q (List.mem_cons_of_mem _ hq) q' (List.mem_cons_of_mem _ hq')) h2
      · rcases List.mem_cons.mp hq' with rfl | hq'
        · exact absurd e' hx
        · exact e2 q' hq' e'
      · rcases List.mem_cons.mp hq with rfl | hq
        · exact hx
        · exact hn q hq
def chkT (pc : Nat) (dflt lo hi : Int) (offs : Array Int) (ks : List (Int32 × Nat)) (dt : Nat) : Bool :=
  decide (lo + offs.size = hi + 1) && decide ((pc : Int) + dflt = dt) && (List.range offs.size).all (fun i => match ks.find? (fun q => q.1 == Int32.ofInt (lo + i)) with
    | some q => decide (offs[i]?.map (fun o => (pc : Int) + o) = some (q.2 : Int))
    | none => decide (offs[i]?.map (fun o => (pc : Int) + o) = some (dt : Int))) && ks.all (fun q => decide (lo ≤ q.1.toInt) && decide (q.1.toInt ≤ hi)) && ks.all (fun q => ks.all fun q' => !(q.1 == q'.1) || q.2 == q'.2)
theorem im_tsw {dflt lo hi : Int} {offs : Array Int} {len dt : Nat} {x : Int32} (ks : List (Int32 × Nat)) (hdg : decode cc pc = .ok (.tableswitch dflt lo hi offs, len)) (hchk : chkT pc dflt lo hi offs ks dt = true) (hs : SwI X (cc, nL, own, mn, ret, d) lv st h sz K x ks dt f) : Im X (cc, nL, own, mn, ret, d) pc lv (.inl x :: st) h f sz K := by
  unfold chkT at hchk
  simp only [Bool.and_eq_true, decide_eq_true_eq, List.all_eq_true, List.mem_range] at hchk
  obtain ⟨⟨⟨⟨c1, c2⟩, c3⟩, c4⟩, c5⟩ := hchk
  have hu : ∀ q ∈ ks, ∀ q' ∈ ks, q.1 = q'.1 → q.2 = q'.2 := by
    intro q hq q' hq' e
    have := c5 q hq q' hq'
    simp only [Bool.or_eq_true, Bool.not_eq_true', beq_eq_false_iff_ne, beq_iff_eq] at this
    rcases this with z | z
    · exact absurd e z
    · exact z
  have inr : ∀ (hlo : ¬ x.toInt < lo) (hhi : ¬ hi < x.toInt), (x.toInt - lo).toNat < offs.size ∧ Int32.ofInt (lo + ((x.toInt - lo).toNat : Nat)) = x := by
    intro hlo hhi
    refine ⟨by omega, ?_⟩
    rw [show lo + ((x.toInt - lo).toNat : Int) = x.toInt by omega, Int32.ofInt_toInt]
  refine im_swI ks dt f (fun hX q hq e e2 w => ?_) (fun hX hn w => ?_) hu hs
  · obtain ⟨b1, b2⟩ := c4 q hq
    have hlo : ¬ x.toInt < lo := by rw [e]; omega
    have hhi : ¬ hi < x.toInt := by rw [e]; omega
    obtain ⟨i1, i2⟩ := inr hlo hhi
    have h3 := c3 _ i1
    rw [i2] at h3
    cases hf : ks.find? (fun q => q.1 == x) with
    | none => exact absurd (List.find?_eq_none.mp hf q hq) (by simp [e])
    | some q' =>
      rw [hf] at h3
      have m1 := List.mem_of_find?_eq_some hf
      have m2 : q'.1 = x := by have := List.find?_some hf; simpa using this
      have m3 := e2 q' m1 m2.symm
      simp only [decide_eq_true_eq] at h3
      cases ho : offs[(x.toInt - lo).toNat]? with
      | none => rw [ho] at h3; cases h3
      | some o =>
        rw [ho] at h3
        have h4 : (pc : Int) + o = (q'.2 : Int) := Option.some.inj h3
        rw [m3] at h4
        obtain ⟨p, l, e', R, s, m, args, below, meth, c, Q, G, n0, s0, N, SL⟩ := X
        obtain ⟨hx, hb, hml, hown, hlk, hts, hK, hr, hB, hdp, hc1, hc2, hmn⟩ := hX
        intro q1 q2 H locs ls hh hs hl
        exact lv_tableIn hx hb hdg hlo hhi ho h4 (w q1 q2 H locs ls hh hs hl)
  · by_cases hlo : x.toInt < lo
    · obtain ⟨p, l, e', R, s, m, args, below, meth, c, Q, G, n0, s0, N, SL⟩ := X
      obtain ⟨hx, hb, hml, hown, hlk, hts, hK, hr, hB, hdp, hc1, hc2, hmn⟩ := hX
      intro q1 q2 H locs ls hh hs hl
      exact lv_tableOut hx hb hdg (Or.inl hlo) c2 (w q1 q2 H locs ls hh hs hl)
    · by_cases hhi : hi < x.toInt
      · obtain ⟨p, l, e', R, s, m, args, below, meth, c, Q, G, n0, s0, N, SL⟩ := X
        obtain ⟨hx, hb, hml, hown, hlk, hts, hK, hr, hB, hdp, hc1, hc2, hmn⟩ := hX
        intro q1 q2 H locs ls hh hs hl
        exact lv_tableOut hx hb hdg (Or.inr hhi) c2 (w q1 q2 H locs ls hh hs hl)
      · obtain ⟨i1, i2⟩ := inr hlo hhi
        have h3 := c3 _ i1
        rw [i2] at h3
        cases hf : ks.find? (fun q => q.1 == x) with
        | some q' =>
          have m1 := List.mem_of_find?_eq_some hf
          have m2 : q'.1 = x := by have := List.find?_some hf; simpa using this
          exact absurd m2.symm (hn q' m1)
        | none =>
          rw [hf] at h3
          simp only [decide_eq_true_eq] at h3
          cases ho : offs[(x.toInt - lo).toNat]? with
          | none => rw [ho] at h3; cases h3
          | some o =>
            rw [ho] at h3
            have h4 : (pc : Int) + o = (dt : Int) := Option.some.inj h3
            obtain ⟨p, l, e', R, s, m, args, below, meth, c, Q, G, n0, s0, N, SL⟩ := X
            obtain ⟨hx, hb, hml, hown, hlk, hts, hK, hr, hB, hdp, hc1, hc2, hmn⟩ := hX
            intro q1 q2 H locs ls hh hs hl
            exact lv_tableIn hx hb hdg hlo hhi ho h4 (w q1 q2 H locs ls hh hs hl)
def chkL (pc : Nat) (dflt : Int) (ps : List (Int × Int)) (ks : List (Int32 × Nat)) (dt : Nat) : Bool :=
  decide ((pc : Int) + dflt = dt) && decide (ps.map (fun q => (q.1, (pc : Int) + q.2)) = ks.map (fun q => (q.1.toInt, (q.2 : Int)))) && (ps.zip (ps.drop 1)).all (fun (a, next) => a.1 < next.1)
theorem lsw_off {pc : Nat} {dflt : Int} {dt : Nat} {x : Int32} (hd : (pc : Int) + dflt = dt) : ∀ (ps : List (Int × Int)) (ks : List (Int32 × Nat)), ps.map (fun q => (q.1, (pc : Int) + q.2)) = ks.map (fun q => (q.1.toInt, (q.2 : Int))) → (∃ q ∈ ks, x = q.1 ∧ (pc : Int) + Op.lookupswitch.offset ps dflt x.toInt = (q.2 : Int)) ∨ ((∀ q ∈ ks, x ≠ q.1) ∧ (pc : Int) + Op.lookupswitch.offset ps dflt x.toInt = (dt : Int))
  | [], [], _ => Or.inr ⟨fun q hq => (by cases hq), hd⟩
  | [], _ :: _, h => by cases h
  | _ :: _, [], h => by cases h
  | (a, o) :: ps, (k, t) :: ks, h => by
    simp only [List.map_cons, List.cons.injEq, Prod.mk.injEq] at h
    obtain ⟨⟨h1, h2⟩, h3⟩ := h
    rw [Op.lookupswitch.offset_cons]
    by_cases e : a = x.toInt
    · rw [if_pos e]
      refine Or.inl ⟨(k, t), List.mem_cons_self, ?_, h2⟩
      apply Int32.toInt_inj.mp
      rw [← e, h1]
    · rw [if_neg e]
      rcases lsw_off hd ps ks h3 with ⟨q, m, e1, e2⟩ | ⟨n, e2⟩
      · exact Or.inl ⟨q, List.mem_cons_of_mem _ m, e1, e2⟩
      · refine Or.inr ⟨fun q hq => ?_, e2⟩
        rcases List.mem_cons.mp hq with rfl | hq
        · intro z
          exact e (by rw [z]; exact h1)
        · exact n q hq
theorem im_lsw {dflt : Int} {ps : Array (Int × Int)} {len dt : Nat} {x : Int32} (ks : List (Int32 × Nat)) (hdg : decode cc pc = .ok (.lookupswitch dflt ps, len)) (hchk : chkL pc dflt ps.toList ks dt = true) (hu : ∀ q ∈ ks, ∀ q' ∈ ks, q.1 = q'.1 → q.2 = q'.2) (hs : SwI X (cc, nL, own, mn, ret, d) lv st h sz K x ks dt f) : Im X (cc, nL, own, mn, ret, d) pc lv (.inl x :: st) h f sz K := by
  unfold chkL at hchk
  rw [Bool.and_eq_true, Bool.and_eq_true, decide_eq_true_eq, decide_eq_true_eq] at hchk
  obtain ⟨⟨c1, c2⟩, c3⟩ := hchk
  refine im_swI ks dt f (fun hX q hq e e2 w => ?_) (fun hX hn w => ?_) hu hs
  · rcases lsw_off (x := x) c1 ps.toList ks c2 with ⟨q', m, e1, e3⟩ | ⟨n, -⟩
    · have e4 : q'.2 = q.2 := e2 q' m e1
      rw [e4] at e3
      obtain ⟨p, l, e', R, s, m, args, below, meth, c, Q, G, n0, s0, N, SL⟩ := X
      obtain ⟨hx, hb, hml, hown, hlk, hts, hK, hr, hB, hdp, hc1, hc2, hmn⟩ := hX
      intro q1 q2 H locs ls hh hs hl
      exact lv_lookup hx hb hdg c3 rfl e3 (w q1 q2 H locs ls hh hs hl)
    · exact absurd e (n q hq)
  · rcases lsw_off (x := x) c1 ps.toList ks c2 with ⟨q', m, e1, e3⟩ | ⟨n, e3⟩
    · exact absurd e1 (hn q' m)
    · obtain ⟨p, l, e', R, s, m, args, below, meth, c, Q, G, n0, s0, N, SL⟩ := X
      obtain ⟨hx, hb, hml, hown, hlk, hts, hK, hr, hB, hdp, hc1, hc2, hmn⟩ := hX
      intro q1 q2 H locs ls hh hs hl
      exact lv_lookup hx hb hdg c3 rfl e3 (w q1 q2 H locs ls hh hs hl)
end RowsC
