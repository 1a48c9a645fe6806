/-! SMALL THINGS THAT THE PRINTED WALKS USE -/
set_option maxRecDepth 100000
def grd {α : Type} (c : Bool) (o : Option α) : Option α := if c = true then o else none
theorem grd_some {α : Type} {c : Bool} {o : Option α} {x : α} (e : grd c o = some x) : c = true ∧ o = some x := by
  unfold grd at e
  split at e
  · rename_i hc; exact ⟨hc, e⟩
  · cases e
theorem grd_t {α : Type} {c : Bool} {o : Option α} (h : c = true) : grd c o = o := by unfold grd; rw [if_pos h]
def bok (v : Int32) : Option Int32 := if narrow .byte (.int v) = .int v then some v else none
section RowsD
variable {X : CT} {Y : MT} {τ : Type} {pc : Nat} {lv : List (Option PV)} {st : List PV} {h : PH} {sz : τ → Nat × Nat} {K : τ → Prop}
theorem im_let {e : Int32} {g : Int32 → Option τ} (k : ∀ x, Im X Y pc lv (.inl x :: st) h (g x) sz K) : Im X Y pc lv (.inl e :: st) h ((some e).bind g) sz K := k e
theorem im_zok {v : Int32} {g : Int32 → Option τ} (k : ∀ x, (x = 0 ∨ x = 1) → Im X Y pc lv (.inl x :: st) h (g x) sz K) : Im X Y pc lv (.inl v :: st) h ((zok v).bind g) sz K := by
  unfold zok
  by_cases hv : v = 0 ∨ v = 1
  · rw [if_pos hv]; exact k v hv
  · rw [if_neg hv]; exact Im.none
theorem im_bok {v : Int32} {g : Int32 → Option τ} (k : ∀ x, narrow .byte (.int x) = .int x → Im X Y pc lv (.inl x :: st) h (g x) sz K) : Im X Y pc lv (.inl v :: st) h ((bok v).bind g) sz K := by
  unfold bok
  by_cases hv : narrow .byte (.int v) = .int v
  · rw [if_pos hv]; exact k v hv
  · rw [if_neg hv]; exact Im.none
end RowsD
/-! two fields of one name (this$0 of a scribe and of the class over it): their slots are apart, since they are declared by different classes -/
theorem fF_class {s : State} {cls name desc : String} {c i : Nat} {k : Class} {f : Field} (h : s.fieldFound? cls name desc = some (c, k, i, f)) : s.vm.classes[c]? = some k := by
  simp only [State.fieldFound?, Option.bind_eq_bind, Option.bind_eq_some_iff, Option.pure_def, Option.some.injEq, Prod.mk.injEq] at h
  obtain ⟨_, _, _, _, ⟨c', i'⟩, _, k', hk, f', _, rfl, rfl, rfl, rfl⟩ := h
  exact hk
theorem lays_owner {args : Array Value} {s : State} {C O f d : String} {cC cf fi : Nat} {kf : Class} {fd : Field} (hfc : s.vm.findClass C = some cC) (h : (Cond.laysFinal C O f d).before args s = true) (hi : s.fieldFound? O f d = some (cf, kf, fi, fd)) : ∃ dd, Jmm.declares? s.vm fd.slot (cC + 1) cC = some dd ∧ dd.1.name = O := by
  obtain ⟨c, k, c', k', i, x, r1, -, r3, -, -, -, r7, -, dd, q1, q2, -⟩ := Cond.laysFinal_spec h
  cases hfc.symm.trans r1
  have e := hi.symm.trans r3
  simp only [Option.some.injEq, Prod.mk.injEq] at e
  obtain ⟨rfl, rfl, rfl, rfl⟩ := e
  obtain ⟨k2, z1, z2⟩ := Vm.findClass_spec r7
  cases z1.symm.trans (fF_class hi)
  exact ⟨dd, q1, q2.trans z2⟩
theorem apt_two {c N : Nat} {C : String} {T : u_T} (i j : Nat) (hc : vwCl[c]? = some (C, T, N)) (hin : ∀ w ∈ u_ws C T N, w ∈ lw_all) (ty : Nat → FieldType) (hty : ∀ k, k < N → parseFieldDescriptor (T k).2.2.1 = some (ty k)) (hi : i < N) (hj : j < N) (fi : (T i).2.2.2 = true) (fj : (T j).2.2.2 = true) (ho : (T i).1 ≠ (T j).1) (hnm : ∀ a, a < N → ∀ b, b < N → (a = b ∨ (a = i ∧ b = j) ∨ (a = j ∧ b = i)) ∨ (T a).2.1 ≠ (T b).2.1) : Apt c N := by
  intro G s args hts hK
  obtain ⟨hS, hfc, -⟩ := hK.1 c _ hc
  have key : G.1.2 c i ≠ G.1.2 c j := by
    obtain ⟨_, _, _, fa, hia, ea⟩ := hS i hi
    obtain ⟨_, _, _, fb, hib, eb⟩ := hS j hj
    have l1 := hts _ (hin _ (u_in_lay hi))
    have l2 := hts _ (hin _ (u_in_lay hj))
    unfold u_lay at l1 l2
    rw [if_pos fi] at l1
    rw [if_pos fj] at l2
    obtain ⟨d1, p1, p2⟩ := lays_owner hfc l1 hia
    obtain ⟨d2, p3, p4⟩ := lays_owner hfc l2 hib
    intro e
    rw [← ea, ← eb] at e
    rw [e] at p1
    cases p1.symm.trans p3
    exact ho (p2.symm.trans p4)
  intro x y hx hy hne
  by_cases e1 : x = i ∧ y = j
  · rw [e1.1, e1.2]; exact key
  · by_cases e2 : x = j ∧ y = i
    · rw [e2.1, e2.2]; exact fun q => key q.symm
    · obtain ⟨_, _, _, fa, hia, ea⟩ := hS x hx
      obtain ⟨_, _, _, fb, hib, eb⟩ := hS y hy
      rw [← ea, ← eb]
      refine u_apart (u_lays hts hin hx) (u_lays hts hin hy) hia hib ?_
      rw [(State.fieldFound?_type hia (hty x hx)).1, (State.fieldFound?_type hib (hty y hy)).1]
      rcases hnm x hx y hy with (q | q | q) | q
      · exact absurd q hne
      · exact absurd q e1
      · exact absurd q e2
      · exact q
theorem apt_X17 : Apt 13 6 := apt_two 4 5 rfl in_X17 tyX17 tyX17_ok (by decide) (by decide) rfl rfl (by decide) (by decide +kernel)
theorem apt_X18 : Apt 14 9 := apt_two 4 8 rfl in_X18 tyX18 tyX18_ok (by decide) (by decide) rfl rfl (by decide) (by decide +kernel)
