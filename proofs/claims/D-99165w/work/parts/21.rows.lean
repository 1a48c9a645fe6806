/-! A ROW AN OPCODE -/
set_option maxRecDepth 100000
section RowsA
variable {X : CT} {cc : ByteArray} {nL : Nat} {own mn : String} {ret : Option FieldType} {d : Nat} {τ : Type} {pc : Nat} {lv : List (Option PV)} {st : List PV} {h : PH} {f f1 f2 : Option τ} {sz : τ → Nat × Nat} {K : τ → Prop}
theorem im_iconst {n : Int} {v : Int32} (hdg : decode cc pc = .ok (.iconst n, 1)) (hv : Int32.ofInt n = v) (k : Im X (cc, nL, own, mn, ret, d) (pc + 1) lv (.inl v :: st) h f sz K) : Im X (cc, nL, own, mn, ret, d) pc lv st h f sz K := by
  refine Im.step (fun hX w => ?_) k
  obtain ⟨p, l, e, R, s, m, args, below, meth, c, Q, G, n0, s0, N, SL⟩ := X
  obtain ⟨hx, hb, hml, hown, hlk, hts, hK, hr, hB, hdp, hc1, hc2, hmn⟩ := hX
  intro a b H locs ls hh hs hl
  exact lv_iconst hx hb hdg hv (w a b H locs ls hh hs hl)
theorem im_bipush {n : Int} {v : Int32} (hdg : decode cc pc = .ok (.bipush n, 2)) (hv : (Int8.ofInt n).toInt32 = v) (k : Im X (cc, nL, own, mn, ret, d) (pc + 2) lv (.inl v :: st) h f sz K) : Im X (cc, nL, own, mn, ret, d) pc lv st h f sz K := by
  refine Im.step (fun hX w => ?_) k
  obtain ⟨p, l, e, R, s, m, args, below, meth, c, Q, G, n0, s0, N, SL⟩ := X
  obtain ⟨hx, hb, hml, hown, hlk, hts, hK, hr, hB, hdp, hc1, hc2, hmn⟩ := hX
  intro a b H locs ls hh hs hl
  exact lv_bipush hx hb hdg hv (w a b H locs ls hh hs hl)
theorem im_sipush {n : Int} {v : Int32} (hdg : decode cc pc = .ok (.sipush n, 3)) (hv : (Int16.ofInt n).toInt32 = v) (k : Im X (cc, nL, own, mn, ret, d) (pc + 3) lv (.inl v :: st) h f sz K) : Im X (cc, nL, own, mn, ret, d) pc lv st h f sz K := by
  refine Im.step (fun hX w => ?_) k
  obtain ⟨p, l, e, R, s, m, args, below, meth, c, Q, G, n0, s0, N, SL⟩ := X
  obtain ⟨hx, hb, hml, hown, hlk, hts, hK, hr, hB, hdp, hc1, hc2, hmn⟩ := hX
  intro a b H locs ls hh hs hl
  exact lv_sipush hx hb hdg hv (w a b H locs ls hh hs hl)
theorem im_ldc {i : Nat} {v : Int32} (q : Cond.constant own i v ∈ lw_all) (hdg : decode cc pc = .ok (.ldc i, 2)) (k : Im X (cc, nL, own, mn, ret, d) (pc + 2) lv (.inl v :: st) h f sz K) : Im X (cc, nL, own, mn, ret, d) pc lv st h f sz K := by
  refine Im.step (fun hX w => ?_) k
  obtain ⟨p, l, e, R, s, m, args, below, meth, c, Q, G, n0, s0, N, SL⟩ := X
  obtain ⟨hx, hb, hml, hown, hlk, hts, hK, hr, hB, hdp, hc1, hc2, hmn⟩ := hX
  intro a b H locs ls hh hs hl
  exact lv_ldc hx hb hown (hts _ q) hdg (w a b H locs ls hh hs hl)
theorem im_ldcw {i : Nat} {v : Int32} (q : Cond.constant own i v ∈ lw_all) (hdg : decode cc pc = .ok (.ldc_w i, 3)) (k : Im X (cc, nL, own, mn, ret, d) (pc + 3) lv (.inl v :: st) h f sz K) : Im X (cc, nL, own, mn, ret, d) pc lv st h f sz K := by
  refine Im.step (fun hX w => ?_) k
  obtain ⟨p, l, e, R, s, m, args, below, meth, c, Q, G, n0, s0, N, SL⟩ := X
  obtain ⟨hx, hb, hml, hown, hlk, hts, hK, hr, hB, hdp, hc1, hc2, hmn⟩ := hX
  intro a b H locs ls hh hs hl
  exact lv_ldcw hx hb hown (hts _ q) hdg (w a b H locs ls hh hs hl)
theorem im_iload_n {k0 : Fin 4} {i : Nat} {x : Int32} (hdg : decode cc pc = .ok (.iload_n k0, 1)) (hi : (k0 : Nat) = i) (hv : lv[i]? = some (some (.inl x))) (k : Im X (cc, nL, own, mn, ret, d) (pc + 1) lv (.inl x :: st) h f sz K) : Im X (cc, nL, own, mn, ret, d) pc lv st h f sz K := by
  refine Im.step (fun hX w => ?_) k
  obtain ⟨p, l, e, R, s, m, args, below, meth, c, Q, G, n0, s0, N, SL⟩ := X
  obtain ⟨hx, hb, hml, hown, hlk, hts, hK, hr, hB, hdp, hc1, hc2, hmn⟩ := hX
  intro a b H locs ls hh hs hl
  exact lv_iload_n hx hb hdg hi (hl.2.2 _ _ hv) (w a b H locs ls hh hs hl)
theorem im_iload {i : Nat} {x : Int32} (hdg : decode cc pc = .ok (.iload i, 2)) (hv : lv[i]? = some (some (.inl x))) (k : Im X (cc, nL, own, mn, ret, d) (pc + 2) lv (.inl x :: st) h f sz K) : Im X (cc, nL, own, mn, ret, d) pc lv st h f sz K := by
  refine Im.step (fun hX w => ?_) k
  obtain ⟨p, l, e, R, s, m, args, below, meth, c, Q, G, n0, s0, N, SL⟩ := X
  obtain ⟨hx, hb, hml, hown, hlk, hts, hK, hr, hB, hdp, hc1, hc2, hmn⟩ := hX
  intro a b H locs ls hh hs hl
  exact lv_iload hx hb hdg (hl.2.2 _ _ hv) (w a b H locs ls hh hs hl)
theorem im_aload_n {k0 : Fin 4} {i : Nat} {x : Option Nat} (hdg : decode cc pc = .ok (.aload_n k0, 1)) (hi : (k0 : Nat) = i) (hv : lv[i]? = some (some (.inr x))) (k : Im X (cc, nL, own, mn, ret, d) (pc + 1) lv (.inr x :: st) h f sz K) : Im X (cc, nL, own, mn, ret, d) pc lv st h f sz K := by
  refine Im.step (fun hX w => ?_) k
  obtain ⟨p, l, e, R, s, m, args, below, meth, c, Q, G, n0, s0, N, SL⟩ := X
  obtain ⟨hx, hb, hml, hown, hlk, hts, hK, hr, hB, hdp, hc1, hc2, hmn⟩ := hX
  intro a b H locs ls hh hs hl
  have hq := hl.2.2 _ _ hv
  have w' := w a b H locs ls hh hs hl
  cases x with
  | none => exact lv_aload_nN hx hb hdg hi hq w'
  | some y => exact lv_aload_n hx hb hdg hi hq w'
theorem im_aload {i : Nat} {x : Option Nat} (hdg : decode cc pc = .ok (.aload i, 2)) (hv : lv[i]? = some (some (.inr x))) (k : Im X (cc, nL, own, mn, ret, d) (pc + 2) lv (.inr x :: st) h f sz K) : Im X (cc, nL, own, mn, ret, d) pc lv st h f sz K := by
  refine Im.step (fun hX w => ?_) k
  obtain ⟨p, l, e, R, s, m, args, below, meth, c, Q, G, n0, s0, N, SL⟩ := X
  obtain ⟨hx, hb, hml, hown, hlk, hts, hK, hr, hB, hdp, hc1, hc2, hmn⟩ := hX
  intro a b H locs ls hh hs hl
  have hq := hl.2.2 _ _ hv
  have w' := w a b H locs ls hh hs hl
  cases x with
  | none => exact lv_aloadN hx hb hdg hq w'
  | some y => exact lv_aload hx hb hdg hq w'
theorem im_istore_n {k0 : Fin 4} {i : Nat} {x : Int32} {lv' : List (Option PV)} (hdg : decode cc pc = .ok (.istore_n k0, 1)) (hi : (k0 : Nat) = i) (hn : i < nL) (hl' : lv.set i (some (.inl x)) = lv') (k : Im X (cc, nL, own, mn, ret, d) (pc + 1) lv' st h f sz K) : Im X (cc, nL, own, mn, ret, d) pc lv (.inl x :: st) h f sz K := by
  refine Im.step (fun hX w => ?_) k
  obtain ⟨p, l, e, R, s, m, args, below, meth, c, Q, G, n0, s0, N, SL⟩ := X
  obtain ⟨hx, hb, hml, hown, hlk, hts, hK, hr, hB, hdp, hc1, hc2, hmn⟩ := hX
  intro a b H locs ls hh hs hl
  exact lv_istore_n hx hb hdg hi hl.has (by rw [hml]; exact hn) rfl (fun ls' h' => w a b H locs ls' hh hs (by rw [← hl']; exact lvO.set (v := .inl x) h'))
theorem im_istore {i : Nat} {x : Int32} {lv' : List (Option PV)} (hdg : decode cc pc = .ok (.istore i, 2)) (hn : i < nL) (hl' : lv.set i (some (.inl x)) = lv') (k : Im X (cc, nL, own, mn, ret, d) (pc + 2) lv' st h f sz K) : Im X (cc, nL, own, mn, ret, d) pc lv (.inl x :: st) h f sz K := by
  refine Im.step (fun hX w => ?_) k
  obtain ⟨p, l, e, R, s, m, args, below, meth, c, Q, G, n0, s0, N, SL⟩ := X
  obtain ⟨hx, hb, hml, hown, hlk, hts, hK, hr, hB, hdp, hc1, hc2, hmn⟩ := hX
  intro a b H locs ls hh hs hl
  exact lv_istore hx hb hdg hl.has (by rw [hml]; exact hn) rfl (fun ls' h' => w a b H locs ls' hh hs (by rw [← hl']; exact lvO.set (v := .inl x) h'))
theorem im_astore_n {k0 : Fin 4} {i : Nat} {x : Option Nat} {lv' : List (Option PV)} (hdg : decode cc pc = .ok (.astore_n k0, 1)) (hi : (k0 : Nat) = i) (hn : i < nL) (hl' : lv.set i (some (.inr x)) = lv') (k : Im X (cc, nL, own, mn, ret, d) (pc + 1) lv' st h f sz K) : Im X (cc, nL, own, mn, ret, d) pc lv (.inr x :: st) h f sz K := by
  refine Im.step (fun hX w => ?_) k
  obtain ⟨p, l, e, R, s, m, args, below, meth, c, Q, G, n0, s0, N, SL⟩ := X
  obtain ⟨hx, hb, hml, hown, hlk, hts, hK, hr, hB, hdp, hc1, hc2, hmn⟩ := hX
  intro a b H locs ls hh hs hl
  cases x with
  | none => exact lv_astore_nN hx hb hdg hi hl.has (by rw [hml]; exact hn) rfl (fun ls' h' => w a b H locs ls' hh hs (by rw [← hl']; exact lvO.set (v := .inr none) h'))
  | some y => exact lv_astore_n hx hb hdg hi hl.has (by rw [hml]; exact hn) rfl (fun ls' h' => w a b H locs ls' hh hs (by rw [← hl']; exact lvO.set (v := .inr (some y)) h'))
theorem im_astore {i : Nat} {x : Option Nat} {lv' : List (Option PV)} (hdg : decode cc pc = .ok (.astore i, 2)) (hn : i < nL) (hl' : lv.set i (some (.inr x)) = lv') (k : Im X (cc, nL, own, mn, ret, d) (pc + 2) lv' st h f sz K) : Im X (cc, nL, own, mn, ret, d) pc lv (.inr x :: st) h f sz K := by
  refine Im.step (fun hX w => ?_) k
  obtain ⟨p, l, e, R, s, m, args, below, meth, c, Q, G, n0, s0, N, SL⟩ := X
  obtain ⟨hx, hb, hml, hown, hlk, hts, hK, hr, hB, hdp, hc1, hc2, hmn⟩ := hX
  intro a b H locs ls hh hs hl
  cases x with
  | none => exact lv_astoreN hx hb hdg hl.has (by rw [hml]; exact hn) rfl (fun ls' h' => w a b H locs ls' hh hs (by rw [← hl']; exact lvO.set (v := .inr none) h'))
  | some y => exact lv_astore hx hb hdg hl.has (by rw [hml]; exact hn) rfl (fun ls' h' => w a b H locs ls' hh hs (by rw [← hl']; exact lvO.set (v := .inr (some y)) h'))
theorem im_iinc {i : Nat} {n : Int} {x v : Int32} {lv' : List (Option PV)} (hdg : decode cc pc = .ok (.iinc i n, 3)) (hv0 : lv[i]? = some (some (.inl x))) (hv : x + Int32.ofInt n = v) (hn : i < nL) (hl' : lv.set i (some (.inl v)) = lv') (k : Im X (cc, nL, own, mn, ret, d) (pc + 3) lv' st h f sz K) : Im X (cc, nL, own, mn, ret, d) pc lv st h f sz K := by
  refine Im.step (fun hX w => ?_) k
  obtain ⟨p, l, e, R, s, m, args, below, meth, c, Q, G, n0, s0, N, SL⟩ := X
  obtain ⟨hx, hb, hml, hown, hlk, hts, hK, hr, hB, hdp, hc1, hc2, hmn⟩ := hX
  intro a b H locs ls hh hs hl
  obtain ⟨j, hj⟩ := List.getElem?_of_mem (lvL_mem (G := G) hv0)
  exact lv_iinc (k := j) hx hb hdg hl.has hj hv (by rw [hml]; exact hn) rfl (fun ls' h' => w a b H locs ls' hh hs (by rw [← hl']; exact lvO.set (v := .inl v) h'))
theorem im_dup {v : PV} (hdg : decode cc pc = .ok (.dup, 1)) (k : Im X (cc, nL, own, mn, ret, d) (pc + 1) lv (v :: v :: st) h f sz K) : Im X (cc, nL, own, mn, ret, d) pc lv (v :: st) h f sz K := by
  refine Im.step (fun hX w => ?_) k
  obtain ⟨p, l, e, R, s, m, args, below, meth, c, Q, G, n0, s0, N, SL⟩ := X
  obtain ⟨hx, hb, hml, hown, hlk, hts, hK, hr, hB, hdp, hc1, hc2, hmn⟩ := hX
  intro a b H locs ls hh hs hl
  exact lv_dup hx hb hdg (gcv_cat G v) (w a b H locs ls hh hs hl)
theorem im_pop {v : PV} (hdg : decode cc pc = .ok (.pop, 1)) (k : Im X (cc, nL, own, mn, ret, d) (pc + 1) lv st h f sz K) : Im X (cc, nL, own, mn, ret, d) pc lv (v :: st) h f sz K := by
  refine Im.step (fun hX w => ?_) k
  obtain ⟨p, l, e, R, s, m, args, below, meth, c, Q, G, n0, s0, N, SL⟩ := X
  obtain ⟨hx, hb, hml, hown, hlk, hts, hK, hr, hB, hdp, hc1, hc2, hmn⟩ := hX
  intro a b H locs ls hh hs hl
  exact lv_pop hx hb hdg (gcv_cat G v) (w a b H locs ls hh hs hl)
theorem im_null (hdg : decode cc pc = .ok (.aconst_null, 1)) (k : Im X (cc, nL, own, mn, ret, d) (pc + 1) lv (.inr none :: st) h f sz K) : Im X (cc, nL, own, mn, ret, d) pc lv st h f sz K := by
  refine Im.step (fun hX w => ?_) k
  obtain ⟨p, l, e, R, s, m, args, below, meth, c, Q, G, n0, s0, N, SL⟩ := X
  obtain ⟨hx, hb, hml, hown, hlk, hts, hK, hr, hB, hdp, hc1, hc2, hmn⟩ := hX
  intro a b H locs ls hh hs hl
  exact lv_null hx hb hdg (w a b H locs ls hh hs hl)
theorem im_dup_x1 {v u : PV} (hdg : decode cc pc = .ok (.dup_x1, 1)) (k : Im X (cc, nL, own, mn, ret, d) (pc + 1) lv (v :: u :: v :: st) h f sz K) : Im X (cc, nL, own, mn, ret, d) pc lv (v :: u :: st) h f sz K := by
  refine Im.step (fun hX w => ?_) k
  obtain ⟨p, l, e, R, s, m, args, below, meth, c, Q, G, n0, s0, N, SL⟩ := X
  obtain ⟨hx, hb, hml, hown, hlk, hts, hK, hr, hB, hdp, hc1, hc2, hmn⟩ := hX
  intro a b H locs ls hh hs hl
  exact lv_dup_x1 hx hb hdg (gcv_cat G v) (gcv_cat G u) (w a b H locs ls hh hs hl)
theorem im_iadd {x y : Int32} (hdg : decode cc pc = .ok (.iadd, 1)) (k : Im X (cc, nL, own, mn, ret, d) (pc + 1) lv (.inl (x + y) :: st) h f sz K) : Im X (cc, nL, own, mn, ret, d) pc lv (.inl y :: .inl x :: st) h f sz K := by
  refine Im.step (fun hX w => ?_) k
  obtain ⟨p, l, e, R, s, m, args, below, meth, c, Q, G, n0, s0, N, SL⟩ := X
  obtain ⟨hx, hb, hml, hown, hlk, hts, hK, hr, hB, hdp, hc1, hc2, hmn⟩ := hX
  intro a b H locs ls hh hs hl
  exact lv_iadd hx hb hdg (w a b H locs ls hh hs hl)
theorem im_isub {x y : Int32} (hdg : decode cc pc = .ok (.isub, 1)) (k : Im X (cc, nL, own, mn, ret, d) (pc + 1) lv (.inl (x - y) :: st) h f sz K) : Im X (cc, nL, own, mn, ret, d) pc lv (.inl y :: .inl x :: st) h f sz K := by
  refine Im.step (fun hX w => ?_) k
  obtain ⟨p, l, e, R, s, m, args, below, meth, c, Q, G, n0, s0, N, SL⟩ := X
  obtain ⟨hx, hb, hml, hown, hlk, hts, hK, hr, hB, hdp, hc1, hc2, hmn⟩ := hX
  intro a b H locs ls hh hs hl
  exact lv_isub hx hb hdg (w a b H locs ls hh hs hl)
theorem im_imul {x y : Int32} (hdg : decode cc pc = .ok (.imul, 1)) (k : Im X (cc, nL, own, mn, ret, d) (pc + 1) lv (.inl (x * y) :: st) h f sz K) : Im X (cc, nL, own, mn, ret, d) pc lv (.inl y :: .inl x :: st) h f sz K := by
  refine Im.step (fun hX w => ?_) k
  obtain ⟨p, l, e, R, s, m, args, below, meth, c, Q, G, n0, s0, N, SL⟩ := X
  obtain ⟨hx, hb, hml, hown, hlk, hts, hK, hr, hB, hdp, hc1, hc2, hmn⟩ := hX
  intro a b H locs ls hh hs hl
  exact lv_imul hx hb hdg (w a b H locs ls hh hs hl)
theorem im_iand {x y : Int32} (hdg : decode cc pc = .ok (.iand, 1)) (k : Im X (cc, nL, own, mn, ret, d) (pc + 1) lv (.inl (x &&& y) :: st) h f sz K) : Im X (cc, nL, own, mn, ret, d) pc lv (.inl y :: .inl x :: st) h f sz K := by
  refine Im.step (fun hX w => ?_) k
  obtain ⟨p, l, e, R, s, m, args, below, meth, c, Q, G, n0, s0, N, SL⟩ := X
  obtain ⟨hx, hb, hml, hown, hlk, hts, hK, hr, hB, hdp, hc1, hc2, hmn⟩ := hX
  intro a b H locs ls hh hs hl
  exact lv_iand hx hb hdg (w a b H locs ls hh hs hl)
theorem im_ior {x y : Int32} (hdg : decode cc pc = .ok (.ior, 1)) (k : Im X (cc, nL, own, mn, ret, d) (pc + 1) lv (.inl (x ||| y) :: st) h f sz K) : Im X (cc, nL, own, mn, ret, d) pc lv (.inl y :: .inl x :: st) h f sz K := by
  refine Im.step (fun hX w => ?_) k
  obtain ⟨p, l, e, R, s, m, args, below, meth, c, Q, G, n0, s0, N, SL⟩ := X
  obtain ⟨hx, hb, hml, hown, hlk, hts, hK, hr, hB, hdp, hc1, hc2, hmn⟩ := hX
  intro a b H locs ls hh hs hl
  exact lv_ior hx hb hdg (w a b H locs ls hh hs hl)
theorem im_ixor {x y : Int32} (hdg : decode cc pc = .ok (.ixor, 1)) (k : Im X (cc, nL, own, mn, ret, d) (pc + 1) lv (.inl (x ^^^ y) :: st) h f sz K) : Im X (cc, nL, own, mn, ret, d) pc lv (.inl y :: .inl x :: st) h f sz K := by
  refine Im.step (fun hX w => ?_) k
  obtain ⟨p, l, e, R, s, m, args, below, meth, c, Q, G, n0, s0, N, SL⟩ := X
  obtain ⟨hx, hb, hml, hown, hlk, hts, hK, hr, hB, hdp, hc1, hc2, hmn⟩ := hX
  intro a b H locs ls hh hs hl
  exact lv_ixor hx hb hdg (w a b H locs ls hh hs hl)
theorem im_ishl {x y : Int32} (hdg : decode cc pc = .ok (.ishl, 1)) (k : Im X (cc, nL, own, mn, ret, d) (pc + 1) lv (.inl (x <<< (y &&& 31)) :: st) h f sz K) : Im X (cc, nL, own, mn, ret, d) pc lv (.inl y :: .inl x :: st) h f sz K := by
  refine Im.step (fun hX w => ?_) k
  obtain ⟨p, l, e, R, s, m, args, below, meth, c, Q, G, n0, s0, N, SL⟩ := X
  obtain ⟨hx, hb, hml, hown, hlk, hts, hK, hr, hB, hdp, hc1, hc2, hmn⟩ := hX
  intro a b H locs ls hh hs hl
  exact lv_ishl hx hb hdg (w a b H locs ls hh hs hl)
theorem im_ishr {x y : Int32} (hdg : decode cc pc = .ok (.ishr, 1)) (k : Im X (cc, nL, own, mn, ret, d) (pc + 1) lv (.inl (x >>> (y &&& 31)) :: st) h f sz K) : Im X (cc, nL, own, mn, ret, d) pc lv (.inl y :: .inl x :: st) h f sz K := by
  refine Im.step (fun hX w => ?_) k
  obtain ⟨p, l, e, R, s, m, args, below, meth, c, Q, G, n0, s0, N, SL⟩ := X
  obtain ⟨hx, hb, hml, hown, hlk, hts, hK, hr, hB, hdp, hc1, hc2, hmn⟩ := hX
  intro a b H locs ls hh hs hl
  exact lv_ishr hx hb hdg (w a b H locs ls hh hs hl)
def ius (x y : Int32) : Int32 := (x.toUInt32 >>> (y.toUInt32 &&& Int32.toUInt32 31)).toInt32
def irm (x y : Int32) : Int32 := x - x / y * y
theorem im_iushr {x y : Int32} (hdg : decode cc pc = .ok (.iushr, 1)) (k : Im X (cc, nL, own, mn, ret, d) (pc + 1) lv (.inl (ius x y) :: st) h f sz K) : Im X (cc, nL, own, mn, ret, d) pc lv (.inl y :: .inl x :: st) h f sz K := by
  refine Im.step (fun hX w => ?_) k
  obtain ⟨p, l, e, R, s, m, args, below, meth, c, Q, G, n0, s0, N, SL⟩ := X
  obtain ⟨hx, hb, hml, hown, hlk, hts, hK, hr, hB, hdp, hc1, hc2, hmn⟩ := hX
  intro a b H locs ls hh hs hl
  exact lv_iushr hx hb hdg rfl (w a b H locs ls hh hs hl)
theorem im_ineg {x : Int32} (hdg : decode cc pc = .ok (.ineg, 1)) (k : Im X (cc, nL, own, mn, ret, d) (pc + 1) lv (.inl (-x) :: st) h f sz K) : Im X (cc, nL, own, mn, ret, d) pc lv (.inl x :: st) h f sz K := by
  refine Im.step (fun hX w => ?_) k
  obtain ⟨p, l, e, R, s, m, args, below, meth, c, Q, G, n0, s0, N, SL⟩ := X
  obtain ⟨hx, hb, hml, hown, hlk, hts, hK, hr, hB, hdp, hc1, hc2, hmn⟩ := hX
  intro a b H locs ls hh hs hl
  exact lv_ineg hx hb hdg (w a b H locs ls hh hs hl)
theorem im_i2b {x : Int32} (hdg : decode cc pc = .ok (.i2b, 1)) (k : Im X (cc, nL, own, mn, ret, d) (pc + 1) lv (.inl x.toInt8.toInt32 :: st) h f sz K) : Im X (cc, nL, own, mn, ret, d) pc lv (.inl x :: st) h f sz K := by
  refine Im.step (fun hX w => ?_) k
  obtain ⟨p, l, e, R, s, m, args, below, meth, c, Q, G, n0, s0, N, SL⟩ := X
  obtain ⟨hx, hb, hml, hown, hlk, hts, hK, hr, hB, hdp, hc1, hc2, hmn⟩ := hX
  intro a b H locs ls hh hs hl
  exact lv_i2b hx hb hdg rfl (w a b H locs ls hh hs hl)
theorem im_idivC {x y : Int32} (hne : ¬ y = 0) (hdg : decode cc pc = .ok (.idiv, 1)) (k : Im X (cc, nL, own, mn, ret, d) (pc + 1) lv (.inl (x / y) :: st) h f sz K) : Im X (cc, nL, own, mn, ret, d) pc lv (.inl y :: .inl x :: st) h f sz K := by
  refine Im.step (fun hX w => ?_) k
  obtain ⟨p, l, e, R, s, m, args, below, meth, c, Q, G, n0, s0, N, SL⟩ := X
  obtain ⟨hx, hb, hml, hown, hlk, hts, hK, hr, hB, hdp, hc1, hc2, hmn⟩ := hX
  intro a b H locs ls hh hs hl
  exact lv_idiv hx hb hdg hne (w a b H locs ls hh hs hl)
theorem im_idiv {x y : Int32} (hdg : decode cc pc = .ok (.idiv, 1)) (k : Im X (cc, nL, own, mn, ret, d) (pc + 1) lv (.inl (x / y) :: st) h f sz K) : Im X (cc, nL, own, mn, ret, d) pc lv (.inl y :: .inl x :: st) h (if y = 0 then none else f) sz K := by
  by_cases hy : y = 0
  · rw [if_pos hy]; exact Im.none
  · rw [if_neg hy]; exact im_idivC hy hdg k
theorem im_iremC {x y : Int32} (hne : ¬ y = 0) (hdg : decode cc pc = .ok (.irem, 1)) (k : Im X (cc, nL, own, mn, ret, d) (pc + 1) lv (.inl (irm x y) :: st) h f sz K) : Im X (cc, nL, own, mn, ret, d) pc lv (.inl y :: .inl x :: st) h f sz K := by
  refine Im.step (fun hX w => ?_) k
  obtain ⟨p, l, e, R, s, m, args, below, meth, c, Q, G, n0, s0, N, SL⟩ := X
  obtain ⟨hx, hb, hml, hown, hlk, hts, hK, hr, hB, hdp, hc1, hc2, hmn⟩ := hX
  intro a b H locs ls hh hs hl
  exact lv_irem hx hb hdg hne (w a b H locs ls hh hs hl)
theorem im_irem {x y : Int32} (hdg : decode cc pc = .ok (.irem, 1)) (k : Im X (cc, nL, own, mn, ret, d) (pc + 1) lv (.inl (irm x y) :: st) h f sz K) : Im X (cc, nL, own, mn, ret, d) pc lv (.inl y :: .inl x :: st) h (if y = 0 then none else f) sz K := by
  by_cases hy : y = 0
  · rw [if_pos hy]; exact Im.none
  · rw [if_neg hy]; exact im_iremC hy hdg k
theorem im_goto {off : Int} {tgt : Nat} (hdg : decode cc pc = .ok (.goto off, 3)) (ht : (pc : Int) + off = (tgt : Int)) (k : Im X (cc, nL, own, mn, ret, d) tgt lv st h f sz K) : Im X (cc, nL, own, mn, ret, d) pc lv st h f sz K := by
  refine Im.step (fun hX w => ?_) k
  obtain ⟨p, l, e, R, s, m, args, below, meth, c, Q, G, n0, s0, N, SL⟩ := X
  obtain ⟨hx, hb, hml, hown, hlk, hts, hK, hr, hB, hdp, hc1, hc2, hmn⟩ := hX
  intro a b H locs ls hh hs hl
  exact lv_goto hx hb hdg ht (w a b H locs ls hh hs hl)
theorem im_if_eq {x : Int32} {off : Int} {tgt : Nat} (hdg : decode cc pc = .ok (.ifCond .eq off, 3)) (ht : (pc : Int) + off = (tgt : Int)) (k1 : Im X (cc, nL, own, mn, ret, d) tgt lv st h f1 sz K) (k2 : Im X (cc, nL, own, mn, ret, d) (pc + 3) lv st h f2 sz K) : Im X (cc, nL, own, mn, ret, d) pc lv (.inl x :: st) h (if x = 0 then f1 else f2) sz K := by
  refine Im.ite (fun hX w1 w2 => ?_) k1 k2
  obtain ⟨p, l, e, R, s, m, args, below, meth, c, Q, G, n0, s0, N, SL⟩ := X
  obtain ⟨hx, hb, hml, hown, hlk, hts, hK, hr, hB, hdp, hc1, hc2, hmn⟩ := hX
  intro a b H locs ls hh hs hl
  exact lv_if_eq hx hb hdg ht (fun q => w1 q a b H locs ls hh hs hl) (fun q => w2 q a b H locs ls hh hs hl)
theorem im_icmp_eq {x y : Int32} {off : Int} {tgt : Nat} (hdg : decode cc pc = .ok (.if_icmp .eq off, 3)) (ht : (pc : Int) + off = (tgt : Int)) (k1 : Im X (cc, nL, own, mn, ret, d) tgt lv st h f1 sz K) (k2 : Im X (cc, nL, own, mn, ret, d) (pc + 3) lv st h f2 sz K) : Im X (cc, nL, own, mn, ret, d) pc lv (.inl y :: .inl x :: st) h (if x = y then f1 else f2) sz K := by
  refine Im.ite (fun hX w1 w2 => ?_) k1 k2
  obtain ⟨p, l, e, R, s, m, args, below, meth, c, Q, G, n0, s0, N, SL⟩ := X
  obtain ⟨hx, hb, hml, hown, hlk, hts, hK, hr, hB, hdp, hc1, hc2, hmn⟩ := hX
  intro a b H locs ls hh hs hl
  exact lv_icmp_eq hx hb hdg ht (fun q => w1 q a b H locs ls hh hs hl) (fun q => w2 q a b H locs ls hh hs hl)
theorem im_if_ne {x : Int32} {off : Int} {tgt : Nat} (hdg : decode cc pc = .ok (.ifCond .ne off, 3)) (ht : (pc : Int) + off = (tgt : Int)) (k1 : Im X (cc, nL, own, mn, ret, d) tgt lv st h f1 sz K) (k2 : Im X (cc, nL, own, mn, ret, d) (pc + 3) lv st h f2 sz K) : Im X (cc, nL, own, mn, ret, d) pc lv (.inl x :: st) h (if x = 0 then f2 else f1) sz K := by
  refine Im.ite (fun hX w2 w1 => ?_) k2 k1
  obtain ⟨p, l, e, R, s, m, args, below, meth, c, Q, G, n0, s0, N, SL⟩ := X
  obtain ⟨hx, hb, hml, hown, hlk, hts, hK, hr, hB, hdp, hc1, hc2, hmn⟩ := hX
  intro a b H locs ls hh hs hl
  exact lv_if_ne hx hb hdg ht (fun q => w1 q a b H locs ls hh hs hl) (fun q => w2 q a b H locs ls hh hs hl)
theorem im_icmp_ne {x y : Int32} {off : Int} {tgt : Nat} (hdg : decode cc pc = .ok (.if_icmp .ne off, 3)) (ht : (pc : Int) + off = (tgt : Int)) (k1 : Im X (cc, nL, own, mn, ret, d) tgt lv st h f1 sz K) (k2 : Im X (cc, nL, own, mn, ret, d) (pc + 3) lv st h f2 sz K) : Im X (cc, nL, own, mn, ret, d) pc lv (.inl y :: .inl x :: st) h (if x = y then f2 else f1) sz K := by
  refine Im.ite (fun hX w2 w1 => ?_) k2 k1
  obtain ⟨p, l, e, R, s, m, args, below, meth, c, Q, G, n0, s0, N, SL⟩ := X
  obtain ⟨hx, hb, hml, hown, hlk, hts, hK, hr, hB, hdp, hc1, hc2, hmn⟩ := hX
  intro a b H locs ls hh hs hl
  exact lv_icmp_ne hx hb hdg ht (fun q => w1 q a b H locs ls hh hs hl) (fun q => w2 q a b H locs ls hh hs hl)
theorem im_if_lt {x : Int32} {off : Int} {tgt : Nat} (hdg : decode cc pc = .ok (.ifCond .lt off, 3)) (ht : (pc : Int) + off = (tgt : Int)) (k1 : Im X (cc, nL, own, mn, ret, d) tgt lv st h f1 sz K) (k2 : Im X (cc, nL, own, mn, ret, d) (pc + 3) lv st h f2 sz K) : Im X (cc, nL, own, mn, ret, d) pc lv (.inl x :: st) h (if x < 0 then f1 else f2) sz K := by
  refine Im.ite (fun hX w1 w2 => ?_) k1 k2
  obtain ⟨p, l, e, R, s, m, args, below, meth, c, Q, G, n0, s0, N, SL⟩ := X
  obtain ⟨hx, hb, hml, hown, hlk, hts, hK, hr, hB, hdp, hc1, hc2, hmn⟩ := hX
  intro a b H locs ls hh hs hl
  exact lv_if_lt hx hb hdg ht (fun q => w1 q a b H locs ls hh hs hl) (fun q => w2 q a b H locs ls hh hs hl)
theorem im_icmp_lt {x y : Int32} {off : Int} {tgt : Nat} (hdg : decode cc pc = .ok (.if_icmp .lt off, 3)) (ht : (pc : Int) + off = (tgt : Int)) (k1 : Im X (cc, nL, own, mn, ret, d) tgt lv st h f1 sz K) (k2 : Im X (cc, nL, own, mn, ret, d) (pc + 3) lv st h f2 sz K) : Im X (cc, nL, own, mn, ret, d) pc lv (.inl y :: .inl x :: st) h (if x < y then f1 else f2) sz K := by
  refine Im.ite (fun hX w1 w2 => ?_) k1 k2
  obtain ⟨p, l, e, R, s, m, args, below, meth, c, Q, G, n0, s0, N, SL⟩ := X
  obtain ⟨hx, hb, hml, hown, hlk, hts, hK, hr, hB, hdp, hc1, hc2, hmn⟩ := hX
  intro a b H locs ls hh hs hl
  exact lv_icmp_lt hx hb hdg ht (fun q => w1 q a b H locs ls hh hs hl) (fun q => w2 q a b H locs ls hh hs hl)
theorem im_if_ge {x : Int32} {off : Int} {tgt : Nat} (hdg : decode cc pc = .ok (.ifCond .ge off, 3)) (ht : (pc : Int) + off = (tgt : Int)) (k1 : Im X (cc, nL, own, mn, ret, d) tgt lv st h f1 sz K) (k2 : Im X (cc, nL, own, mn, ret, d) (pc + 3) lv st h f2 sz K) : Im X (cc, nL, own, mn, ret, d) pc lv (.inl x :: st) h (if 0 ≤ x then f1 else f2) sz K := by
  refine Im.ite (fun hX w1 w2 => ?_) k1 k2
  obtain ⟨p, l, e, R, s, m, args, below, meth, c, Q, G, n0, s0, N, SL⟩ := X
  obtain ⟨hx, hb, hml, hown, hlk, hts, hK, hr, hB, hdp, hc1, hc2, hmn⟩ := hX
  intro a b H locs ls hh hs hl
  exact lv_if_ge hx hb hdg ht (fun q => w1 q a b H locs ls hh hs hl) (fun q => w2 q a b H locs ls hh hs hl)
theorem im_icmp_ge {x y : Int32} {off : Int} {tgt : Nat} (hdg : decode cc pc = .ok (.if_icmp .ge off, 3)) (ht : (pc : Int) + off = (tgt : Int)) (k1 : Im X (cc, nL, own, mn, ret, d) tgt lv st h f1 sz K) (k2 : Im X (cc, nL, own, mn, ret, d) (pc + 3) lv st h f2 sz K) : Im X (cc, nL, own, mn, ret, d) pc lv (.inl y :: .inl x :: st) h (if y ≤ x then f1 else f2) sz K := by
  refine Im.ite (fun hX w1 w2 => ?_) k1 k2
  obtain ⟨p, l, e, R, s, m, args, below, meth, c, Q, G, n0, s0, N, SL⟩ := X
  obtain ⟨hx, hb, hml, hown, hlk, hts, hK, hr, hB, hdp, hc1, hc2, hmn⟩ := hX
  intro a b H locs ls hh hs hl
  exact lv_icmp_ge hx hb hdg ht (fun q => w1 q a b H locs ls hh hs hl) (fun q => w2 q a b H locs ls hh hs hl)
theorem im_if_gt {x : Int32} {off : Int} {tgt : Nat} (hdg : decode cc pc = .ok (.ifCond .gt off, 3)) (ht : (pc : Int) + off = (tgt : Int)) (k1 : Im X (cc, nL, own, mn, ret, d) tgt lv st h f1 sz K) (k2 : Im X (cc, nL, own, mn, ret, d) (pc + 3) lv st h f2 sz K) : Im X (cc, nL, own, mn, ret, d) pc lv (.inl x :: st) h (if 0 < x then f1 else f2) sz K := by
  refine Im.ite (fun hX w1 w2 => ?_) k1 k2
  obtain ⟨p, l, e, R, s, m, args, below, meth, c, Q, G, n0, s0, N, SL⟩ := X
  obtain ⟨hx, hb, hml, hown, hlk, hts, hK, hr, hB, hdp, hc1, hc2, hmn⟩ := hX
  intro a b H locs ls hh hs hl
  exact lv_if_gt hx hb hdg ht (fun q => w1 q a b H locs ls hh hs hl) (fun q => w2 q a b H locs ls hh hs hl)
theorem im_icmp_gt {x y : Int32} {off : Int} {tgt : Nat} (hdg : decode cc pc = .ok (.if_icmp .gt off, 3)) (ht : (pc : Int) + off = (tgt : Int)) (k1 : Im X (cc, nL, own, mn, ret, d) tgt lv st h f1 sz K) (k2 : Im X (cc, nL, own, mn, ret, d) (pc + 3) lv st h f2 sz K) : Im X (cc, nL, own, mn, ret, d) pc lv (.inl y :: .inl x :: st) h (if y < x then f1 else f2) sz K := by
  refine Im.ite (fun hX w1 w2 => ?_) k1 k2
  obtain ⟨p, l, e, R, s, m, args, below, meth, c, Q, G, n0, s0, N, SL⟩ := X
  obtain ⟨hx, hb, hml, hown, hlk, hts, hK, hr, hB, hdp, hc1, hc2, hmn⟩ := hX
  intro a b H locs ls hh hs hl
  exact lv_icmp_gt hx hb hdg ht (fun q => w1 q a b H locs ls hh hs hl) (fun q => w2 q a b H locs ls hh hs hl)
theorem im_if_le {x : Int32} {off : Int} {tgt : Nat} (hdg : decode cc pc = .ok (.ifCond .le off, 3)) (ht : (pc : Int) + off = (tgt : Int)) (k1 : Im X (cc, nL, own, mn, ret, d) tgt lv st h f1 sz K) (k2 : Im X (cc, nL, own, mn, ret, d) (pc + 3) lv st h f2 sz K) : Im X (cc, nL, own, mn, ret, d) pc lv (.inl x :: st) h (if x ≤ 0 then f1 else f2) sz K := by
  refine Im.ite (fun hX w1 w2 => ?_) k1 k2
  obtain ⟨p, l, e, R, s, m, args, below, meth, c, Q, G, n0, s0, N, SL⟩ := X
  obtain ⟨hx, hb, hml, hown, hlk, hts, hK, hr, hB, hdp, hc1, hc2, hmn⟩ := hX
  intro a b H locs ls hh hs hl
  exact lv_if_le hx hb hdg ht (fun q => w1 q a b H locs ls hh hs hl) (fun q => w2 q a b H locs ls hh hs hl)
theorem im_icmp_le {x y : Int32} {off : Int} {tgt : Nat} (hdg : decode cc pc = .ok (.if_icmp .le off, 3)) (ht : (pc : Int) + off = (tgt : Int)) (k1 : Im X (cc, nL, own, mn, ret, d) tgt lv st h f1 sz K) (k2 : Im X (cc, nL, own, mn, ret, d) (pc + 3) lv st h f2 sz K) : Im X (cc, nL, own, mn, ret, d) pc lv (.inl y :: .inl x :: st) h (if x ≤ y then f1 else f2) sz K := by
  refine Im.ite (fun hX w1 w2 => ?_) k1 k2
  obtain ⟨p, l, e, R, s, m, args, below, meth, c, Q, G, n0, s0, N, SL⟩ := X
  obtain ⟨hx, hb, hml, hown, hlk, hts, hK, hr, hB, hdp, hc1, hc2, hmn⟩ := hX
  intro a b H locs ls hh hs hl
  exact lv_icmp_le hx hb hdg ht (fun q => w1 q a b H locs ls hh hs hl) (fun q => w2 q a b H locs ls hh hs hl)
/-- null or not: the function goes by cases -/
def nul {α : Type} (r : Option Nat) (a : α) (b : α) : α := match r with
  | none => a
  | some _ => b
theorem im_ifnull {r : Option Nat} {off : Int} {tgt : Nat} (hdg : decode cc pc = .ok (.ifnull off, 3)) (ht : (pc : Int) + off = (tgt : Int)) (k1 : Im X (cc, nL, own, mn, ret, d) tgt lv st h f1 sz K) (k2 : Im X (cc, nL, own, mn, ret, d) (pc + 3) lv st h f2 sz K) : Im X (cc, nL, own, mn, ret, d) pc lv (.inr r :: st) h (nul r f1 f2) sz K := by
  cases r with
  | none =>
    refine Im.step (fun hX w => ?_) k1
    obtain ⟨p, l, e, R, s, m, args, below, meth, c, Q, G, n0, s0, N, SL⟩ := X
    obtain ⟨hx, hb, hml, hown, hlk, hts, hK, hr, hB, hdp, hc1, hc2, hmn⟩ := hX
    intro a b H locs ls hh hs hl
    exact lv_ifnullN hx hb hdg ht (w a b H locs ls hh hs hl)
  | some y =>
    refine Im.step (fun hX w => ?_) k2
    obtain ⟨p, l, e, R, s, m, args, below, meth, c, Q, G, n0, s0, N, SL⟩ := X
    obtain ⟨hx, hb, hml, hown, hlk, hts, hK, hr, hB, hdp, hc1, hc2, hmn⟩ := hX
    intro a b H locs ls hh hs hl
    exact lv_ifnull hx hb hdg (w a b H locs ls hh hs hl)
theorem im_ifnonnull {r : Option Nat} {off : Int} {tgt : Nat} (hdg : decode cc pc = .ok (.ifnonnull off, 3)) (ht : (pc : Int) + off = (tgt : Int)) (k1 : Im X (cc, nL, own, mn, ret, d) tgt lv st h f1 sz K) (k2 : Im X (cc, nL, own, mn, ret, d) (pc + 3) lv st h f2 sz K) : Im X (cc, nL, own, mn, ret, d) pc lv (.inr r :: st) h (nul r f2 f1) sz K := by
  cases r with
  | none =>
    refine Im.step (fun hX w => ?_) k2
    obtain ⟨p, l, e, R, s, m, args, below, meth, c, Q, G, n0, s0, N, SL⟩ := X
    obtain ⟨hx, hb, hml, hown, hlk, hts, hK, hr, hB, hdp, hc1, hc2, hmn⟩ := hX
    intro a b H locs ls hh hs hl
    exact lv_ifnonnullN hx hb hdg (w a b H locs ls hh hs hl)
  | some y =>
    refine Im.step (fun hX w => ?_) k1
    obtain ⟨p, l, e, R, s, m, args, below, meth, c, Q, G, n0, s0, N, SL⟩ := X
    obtain ⟨hx, hb, hml, hown, hlk, hts, hK, hr, hB, hdp, hc1, hc2, hmn⟩ := hX
    intro a b H locs ls hh hs hl
    exact lv_ifnonnull hx hb hdg ht (w a b H locs ls hh hs hl)
end RowsA
