set_option maxRecDepth 100000
theorem nw_X0_160 : NW RX0 160 14 [.inl 0, .inl 0, .inl 0, .inl 0, .inr none, .inr none, .inr none, .inr none, .inr none] := ⟨RX18, TX18, tyX18, rfl, in_X18, tyX18_ok, q785, q786, q130, fun G j hj => by
  have hj : j < 9 := hj
  match j, hj with
  | 0, _ => rfl
  | 1, _ => rfl
  | 2, _ => rfl
  | 3, _ => rfl
  | 4, _ => rfl
  | 5, _ => rfl
  | 6, _ => rfl
  | 7, _ => rfl
  | 8, _ => rfl⟩
theorem cl_X0_162 {X : CT} {cc : ByteArray} {nL : Nat} {mn : String} {ret : Option FieldType} {d d0 : Nat} {τ : Type} {pc : Nat} {lv : List (Option PV)} {st : List PV} {h : PH} {sz : τ → Nat × Nat} {K : τ → Prop} {f : Option Nat → Option Nat → Int32 → PH → Option (PH)} (HR : IM_X18_init f d0) {a0 : Option Nat} {a1 : Option Nat} {a2 : Int32} {g : PH → Option τ} (hd : d0 + 1 ≤ d) (hdg : decode cc pc = .ok (.invokespecial 162, 3)) (hst : st.length ≤ 8) (kk : ∀ h', Im X (cc, nL, RX0, mn, ret, d) (pc + 3) lv st h' (g h') sz K) : Im X (cc, nL, RX0, mn, ret, d) pc lv (.inl a2 :: .inr a1 :: .inr a0 :: st) h ((f a0 a1 a2 h).bind g) sz K := by
  refine im_cV (y := yX18_init) (cY := cX18_init) (nY := 3) (rY := none) (d' := d0) (av := [.inr a0, .inr a1, .inl a2]) (fun h' e hX => ?_) (fun h' e => (HR _ _ _ _ _ e).2) hd (by decide) hst rfl kk
  obtain ⟨a, c, fs, rfl, ec, hm⟩ := isC_some (HR _ _ _ _ _ e).1
  exact cal_I (n := 2) hX q787 q788 q130 q789 rfl (by decide +kernel) rfl hdg

theorem cl_X0_163 {X : CT} {cc : ByteArray} {nL : Nat} {mn : String} {ret : Option FieldType} {d d0 : Nat} {τ : Type} {pc : Nat} {lv : List (Option PV)} {st : List PV} {h : PH} {sz : τ → Nat × Nat} {K : τ → Prop} {f : Option Nat → PH → Option (Int32 × PH)} (HR : IM_X16_read f d0) {a0 : Option Nat} {g : Int32 → PH → Option τ} (hd : d0 + 1 ≤ d) (hdg : decode cc pc = .ok (.invokevirtual 163, 3)) (hst : st.length ≤ 8) (kk : ∀ r h', Im X (cc, nL, RX0, mn, ret, d) (pc + 3) lv (.inl r :: st) h' (g r h') sz K) : Im X (cc, nL, RX0, mn, ret, d) pc lv (.inr a0 :: st) h (bd2 (grd (isC [14] a0 h) (f a0 h)) g) sz K := by
  refine im_cI (y := yX16_read) (cY := cX16_read) (nY := 2) (rY := (some .int)) (d' := d0) (av := [.inr a0]) (fun r h' e hX => ?_) (fun r h' e => (HR _ _ _ _ (grd_some e).2).2) hd (by decide) hst rfl kk
  obtain ⟨a, c, fs, rfl, ec, hm⟩ := isC_some (grd_some e).1
  simp only [List.mem_cons, List.not_mem_nil, or_false] at hm
  subst hm
  exact cal_U (n := 0) hX q812 q813 q814 q670 q128 q671 rfl (by decide +kernel) rfl rfl ec hdg

theorem fp_X0_164 : ∀ c ∈ [0], FP RX0 164 c 11 .int := List.forall_mem_cons.mpr ⟨⟨RX0, TX0, 20, rfl, in_X0, by decide, apt_X0, rfl, by decide +kernel, Or.inl q288⟩, fun _ h => absurd h List.not_mem_nil⟩
theorem fl_X0_78 : ∀ c ∈ [0], FL RX0 78 c 8 := List.forall_mem_cons.mpr ⟨⟨RX0, TX0, 20, rfl, in_X0, by decide, Or.inl q285⟩, fun _ h => absurd h List.not_mem_nil⟩
theorem fl_X0_167 : ∀ c ∈ [14], FL RX0 167 c 5 := List.forall_mem_cons.mpr ⟨⟨RX18, TX18, 9, rfl, in_X18, by decide, Or.inr ⟨_, lw_n q792 rfl⟩⟩, fun _ h => absurd h List.not_mem_nil⟩
theorem fl_X0_81 : ∀ c ∈ [0], FL RX0 81 c 9 := List.forall_mem_cons.mpr ⟨⟨RX0, TX0, 20, rfl, in_X0, by decide, Or.inl q286⟩, fun _ h => absurd h List.not_mem_nil⟩
theorem fl_X0_170 : ∀ c ∈ [14], FL RX0 170 c 6 := List.forall_mem_cons.mpr ⟨⟨RX18, TX18, 9, rfl, in_X18, by decide, Or.inr ⟨_, lw_n q794 rfl⟩⟩, fun _ h => absurd h List.not_mem_nil⟩
theorem fl_X0_84 : ∀ c ∈ [0], FL RX0 84 c 10 := List.forall_mem_cons.mpr ⟨⟨RX0, TX0, 20, rfl, in_X0, by decide, Or.inl q287⟩, fun _ h => absurd h List.not_mem_nil⟩
theorem fl_X0_173 : ∀ c ∈ [14], FL RX0 173 c 7 := List.forall_mem_cons.mpr ⟨⟨RX18, TX18, 9, rfl, in_X18, by decide, Or.inr ⟨_, lw_n q796 rfl⟩⟩, fun _ h => absurd h List.not_mem_nil⟩
def IM_X0_wishes (f : Option Nat → Int32 → PH → Option (Int32 × PH)) (d : Nat) : Prop := ∀ (a0 : Option Nat) (a1 : Int32) (h : PH) (r : Int32) (h' : PH), f a0 a1 h = some (r, h') → isC [0] a0 h = true ∧ SpI yX0_wishes cX0_wishes 5 (some .int) d [.inr a0, .inl a1] h r h'
noncomputable def tp_wishes_b54 (v0 : Option Nat) (v2 : Option Nat) (v3 : Int32) (v4 : Int32) (h : PH) : Option ((Int32 × PH) ⊕ (Int32 × PH)) :=
  (if v3 ≤ v4 then
  some (.inr ((v3, h)))
  else
  (gfr [0] 8 v0 h).bind fun r51 =>
  (gfr [14] 5 v2 h).bind fun r52 =>
  (ald 0 r52 v4 h).bind fun x53 =>
  (ast 0 r51 v4 x53 h).bind fun h54 =>
  (gfr [0] 9 v0 h54).bind fun r55 =>
  (gfr [14] 6 v2 h54).bind fun r56 =>
  (ald 0 r56 v4 h54).bind fun x57 =>
  (ast 0 r55 v4 x57 h54).bind fun h58 =>
  (gfr [0] 10 v0 h58).bind fun r59 =>
  (gfr [14] 7 v2 h58).bind fun r60 =>
  (ald 0 r60 v4 h58).bind fun x61 =>
  (ast 0 r59 v4 x61 h58).bind fun h62 =>
  some (.inl ((v4 + 1), h62)))
noncomputable def tp_wishes_L54 (v0 : Option Nat) (v2 : Option Nat) (v3 : Int32) (v4 : Int32) (h : PH) : Option (Int32 × PH) :=
  iter (fun s : Int32 × PH => tp_wishes_b54 v0 v2 v3 s.1 s.2) (v4, h)
theorem tp_wishes_b54_ok (X : CT) (v0 : Option Nat) (v2 : Option Nat) (v3 : Int32) (v4 : Int32) (h : PH) : Im X (cX0_wishes, 5, RX0, "wishes", (some .int), 8) 54 [some (.inr v0), none, some (.inr v2), some (.inl v3), some (.inl v4)] [] h (tp_wishes_b54 v0 v2 v3 v4 h) (ez (fun s : Int32 × PH => s.2) szI) (ek X 54 (fun s : Int32 × PH => [some (.inr v0), none, some (.inr v2), some (.inl v3), some (.inl s.1)]) (fun s : Int32 × PH => s.2) (kI X)) := by
  unfold tp_wishes_b54
  refine im_iload (pc := 54) dX0_wishes_54 rfl ?_
  refine im_iload_n (pc := 56) dX0_wishes_56 rfl rfl ?_
  refine im_icmp_ge (pc := 57) (tgt := 108) dX0_wishes_57 (by decide) ?_ ?_
  · refine im_iload_n (pc := 108) dX0_wishes_108 rfl rfl ?_
    exact Im.outS (im_iret (pc := 109) dX0_wishes_109)
  · refine im_aload_n (pc := 60) dX0_wishes_60 rfl rfl ?_
    refine im_gr (pc := 61) fl_X0_78 dX0_wishes_61 fun r51 => ?_
    refine im_iload (pc := 64) dX0_wishes_64 rfl ?_
    refine im_aload_n (pc := 66) dX0_wishes_66 rfl rfl ?_
    refine im_gr (pc := 67) fl_X0_167 dX0_wishes_67 fun r52 => ?_
    refine im_iload (pc := 70) dX0_wishes_70 rfl ?_
    refine im_iald (pc := 72) dX0_wishes_72 fun x53 => ?_
    refine im_iast (pc := 73) dX0_wishes_73 fun h54 => ?_
    refine im_aload_n (pc := 74) dX0_wishes_74 rfl rfl ?_
    refine im_gr (pc := 75) fl_X0_81 dX0_wishes_75 fun r55 => ?_
    refine im_iload (pc := 78) dX0_wishes_78 rfl ?_
    refine im_aload_n (pc := 80) dX0_wishes_80 rfl rfl ?_
    refine im_gr (pc := 81) fl_X0_170 dX0_wishes_81 fun r56 => ?_
    refine im_iload (pc := 84) dX0_wishes_84 rfl ?_
    refine im_iald (pc := 86) dX0_wishes_86 fun x57 => ?_
    refine im_iast (pc := 87) dX0_wishes_87 fun h58 => ?_
    refine im_aload_n (pc := 88) dX0_wishes_88 rfl rfl ?_
    refine im_gr (pc := 89) fl_X0_84 dX0_wishes_89 fun r59 => ?_
    refine im_iload (pc := 92) dX0_wishes_92 rfl ?_
    refine im_aload_n (pc := 94) dX0_wishes_94 rfl rfl ?_
    refine im_gr (pc := 95) fl_X0_173 dX0_wishes_95 fun r60 => ?_
    refine im_iload (pc := 98) dX0_wishes_98 rfl ?_
    refine im_iald (pc := 100) dX0_wishes_100 fun x61 => ?_
    refine im_iast (pc := 101) dX0_wishes_101 fun h62 => ?_
    refine im_iinc (pc := 102) (v := (v4 + 1)) (lv' := [some (.inr v0), none, some (.inr v2), some (.inl v3), some (.inl (v4 + 1))]) dX0_wishes_102 rfl rfl (by decide) rfl ?_
    refine im_goto (pc := 105) (tgt := 54) dX0_wishes_105 (by decide) ?_
    exact Im.back [true, false, true, true, true] rfl rfl
theorem tp_wishes_L54_ok (X : CT) (v0 : Option Nat) (v2 : Option Nat) (v3 : Int32) (v4 : Int32) (h : PH) : Im X (cX0_wishes, 5, RX0, "wishes", (some .int), 8) 54 [some (.inr v0), none, some (.inr v2), some (.inl v3), some (.inl v4)] [] h (tp_wishes_L54 v0 v2 v3 v4 h) szI (kI X) := by
  unfold tp_wishes_L54
  exact Im.iter (lv := (fun s : Int32 × PH => [some (.inr v0), none, some (.inr v2), some (.inl v3), some (.inl s.1)])) (hp := (fun s : Int32 × PH => s.2)) (fun s => tp_wishes_b54_ok X v0 v2 v3 s.1 s.2) _ rfl rfl
noncomputable def tp_wishes_0 (v0 : Option Nat) (v1 : Int32) (h : PH) : Option (Int32 × PH) :=
  (tp_within v1 1 120 h).bind fun x51 =>
  (if x51 = 0 then
  some (((-1), h))
  else
  (gfi [0] 6 v0 h).bind fun x52 =>
  (if v1 ≤ x52 then
  (pf [0] 6 v0 (.inl 0) h).bind fun h53 =>
  (nw 14 [.inl 0, .inl 0, .inl 0, .inl 0, .inr none, .inr none, .inr none, .inr none, .inr none] h53).bind fun h54 =>
  (wa_init (some h53.1) v0 v1 h54).bind fun h55 =>
  bd2 (grd (isC [14] (some h53.1) h55) (sc_read (some h53.1) h55)) fun x57 h56 =>
  (if 0 ≤ x57 then
  (pf [0] 11 v0 (.inl x57) h56).bind fun h58 =>
  tp_wishes_L54 v0 (some h53.1) x57 0 h58
  else
  some ((x57, h56)))
  else
  some (((-1), h))))
theorem tp_wishes_0_ok (X : CT) (v0 : Option Nat) (v1 : Int32) (h : PH) : Im X (cX0_wishes, 5, RX0, "wishes", (some .int), 8) 0 [some (.inr v0), some (.inl v1), none, none, none] [] h (tp_wishes_0 v0 v1 h) szI (kI X) := by
  unfold tp_wishes_0
  refine im_iload_n (pc := 0) dX0_wishes_0 rfl rfl ?_
  refine im_iconst (pc := 1) (v := 1) dX0_wishes_1 (by decide) ?_
  refine im_bipush (pc := 2) (v := 120) dX0_wishes_2 (by decide) ?_
  refine cl_X0_120 tp_within_im (pc := 4) (by decide) dX0_wishes_4 (Nat.le_of_ble_eq_true rfl) fun x51 => ?_
  refine im_if_eq (pc := 7) (tgt := 18) dX0_wishes_7 (by decide) ?_ ?_
  · refine im_iconst (pc := 18) (v := (-1)) dX0_wishes_18 (by decide) ?_
    exact im_iret (pc := 19) dX0_wishes_19
  · refine im_iload_n (pc := 10) dX0_wishes_10 rfl rfl ?_
    refine im_aload_n (pc := 11) dX0_wishes_11 rfl rfl ?_
    refine im_gi (pc := 12) fl_X0_133 dX0_wishes_12 fun x52 => ?_
    refine im_icmp_le (pc := 15) (tgt := 20) dX0_wishes_15 (by decide) ?_ ?_
    · refine im_aload_n (pc := 20) dX0_wishes_20 rfl rfl ?_
      refine im_iconst (pc := 21) (v := 0) dX0_wishes_21 (by decide) ?_
      refine im_pf (pc := 22) fp_X0_133 (okT_i _) dX0_wishes_22 fun h53 => ?_
      refine im_new (pc := 25) nw_X0_160 dX0_wishes_25 fun h54 => ?_
      refine im_dup (pc := 28) dX0_wishes_28 ?_
      refine im_aload_n (pc := 29) dX0_wishes_29 rfl rfl ?_
      refine im_iload_n (pc := 30) dX0_wishes_30 rfl rfl ?_
      refine cl_X0_162 wa_init_im (pc := 31) (by decide) dX0_wishes_31 (Nat.le_of_ble_eq_true rfl) fun h55 => ?_
      refine im_astore_n (pc := 34) (lv' := [some (.inr v0), some (.inl v1), some (.inr (some h53.1)), none, none]) dX0_wishes_34 rfl (by decide) rfl ?_
      refine im_aload_n (pc := 35) dX0_wishes_35 rfl rfl ?_
      refine cl_X0_163 sc_read_im (pc := 36) (by decide) dX0_wishes_36 (Nat.le_of_ble_eq_true rfl) fun x57 h56 => ?_
      refine im_istore_n (pc := 39) (lv' := [some (.inr v0), some (.inl v1), some (.inr (some h53.1)), some (.inl x57), none]) dX0_wishes_39 rfl (by decide) rfl ?_
      refine im_iload_n (pc := 40) dX0_wishes_40 rfl rfl ?_
      refine im_if_ge (pc := 41) (tgt := 46) dX0_wishes_41 (by decide) ?_ ?_
      · refine im_aload_n (pc := 46) dX0_wishes_46 rfl rfl ?_
        refine im_iload_n (pc := 47) dX0_wishes_47 rfl rfl ?_
        refine im_pf (pc := 48) fp_X0_164 (okT_i _) dX0_wishes_48 fun h58 => ?_
        refine im_iconst (pc := 51) (v := 0) dX0_wishes_51 (by decide) ?_
        refine im_istore (pc := 52) (lv' := [some (.inr v0), some (.inl v1), some (.inr (some h53.1)), some (.inl x57), some (.inl 0)]) dX0_wishes_52 (by decide) rfl ?_
        exact Im.drop [true, false, true, true, true] rfl (tp_wishes_L54_ok X v0 (some h53.1) x57 0 h58)
      · refine im_iload_n (pc := 44) dX0_wishes_44 rfl rfl ?_
        exact im_iret (pc := 45) dX0_wishes_45
    · refine im_iconst (pc := 18) (v := (-1)) dX0_wishes_18 (by decide) ?_
      exact im_iret (pc := 19) dX0_wishes_19
noncomputable def tp_wishes (a0 : Option Nat) (a1 : Int32) (h : PH) : Option (Int32 × PH) := grd (isC [0] a0 h) (tp_wishes_0 a0 a1 h)
theorem tp_wishes_im : IM_X0_wishes tp_wishes 8 := by
  intro a0 a1 h r h' e
  obtain ⟨e1, e2⟩ := grd_some e
  exact ⟨e1, SpI.of (k := 3) (plainFor_of_name (by decide)) rfl (fun X => Im.drop [true, true, false, false, false] rfl (tp_wishes_0_ok X a0 a1 h)) e2⟩
def IM_X0_next (f : Int32 → Int32 → PH → Option (Int32)) (d : Nat) : Prop := ∀ (a0 : Int32) (a1 : Int32) (h : PH) (r : Int32), f a0 a1 h = some r → SpI yX0_next cX0_next 4 (some .int) d [.inl a0, .inl a1] h r h
noncomputable def tp_next_0 (v0 : Int32) (v1 : Int32) (h : PH) : Option (Int32) :=
  (ald 0 (some 0) v1 h).bind fun x51 =>
  (ald 0 (some 1) v1 h).bind fun x52 =>
  (tp_in ((irm v0 10) + x51) 10 h).bind fun x53 =>
  (if x53 = 0 then
  some ((-1))
  else
  (tp_in ((v0 / 10) + x52) 6 h).bind fun x54 =>
  (if x54 = 0 then
  some ((-1))
  else
  some (((10 * ((v0 / 10) + x52)) + ((irm v0 10) + x51)))))
theorem tp_next_0_ok (X : CT) (v0 : Int32) (v1 : Int32) (h : PH) : Im X (cX0_next, 4, RX0, "next", (some .int), 2) 0 [some (.inl v0), some (.inl v1), none, none] [] h (tp_next_0 v0 v1 h) (szP h) (kP X h) := by
  unfold tp_next_0
  refine im_iload_n (pc := 0) dX0_next_0 rfl rfl ?_
  refine im_bipush (pc := 1) (v := 10) dX0_next_1 (by decide) ?_
  refine im_iremC (pc := 3) (by decide) dX0_next_3 ?_
  refine im_getsOver (pc := 4) q841 dX0_next_4 ?_
  refine im_iload_n (pc := 7) dX0_next_7 rfl rfl ?_
  refine im_iald (pc := 8) dX0_next_8 fun x51 => ?_
  refine im_iadd (pc := 9) dX0_next_9 ?_
  refine im_istore_n (pc := 10) (lv' := [some (.inl v0), some (.inl v1), some (.inl ((irm v0 10) + x51)), none]) dX0_next_10 rfl (by decide) rfl ?_
  refine im_iload_n (pc := 11) dX0_next_11 rfl rfl ?_
  refine im_bipush (pc := 12) (v := 10) dX0_next_12 (by decide) ?_
  refine im_idivC (pc := 14) (by decide) dX0_next_14 ?_
  refine im_getsDown (pc := 15) q843 dX0_next_15 ?_
  refine im_iload_n (pc := 18) dX0_next_18 rfl rfl ?_
  refine im_iald (pc := 19) dX0_next_19 fun x52 => ?_
  refine im_iadd (pc := 20) dX0_next_20 ?_
  refine im_istore_n (pc := 21) (lv' := [some (.inl v0), some (.inl v1), some (.inl ((irm v0 10) + x51)), some (.inl ((v0 / 10) + x52))]) dX0_next_21 rfl (by decide) rfl ?_
  refine im_iload_n (pc := 22) dX0_next_22 rfl rfl ?_
  refine im_bipush (pc := 23) (v := 10) dX0_next_23 (by decide) ?_
  refine cl_X0_25 tp_in_im (pc := 25) (by decide) dX0_next_25 (Nat.le_of_ble_eq_true rfl) fun x53 => ?_
  refine im_if_eq (pc := 28) (tgt := 49) dX0_next_28 (by decide) ?_ ?_
  · refine im_iconst (pc := 49) (v := (-1)) dX0_next_49 (by decide) ?_
    exact im_iretP (pc := 50) dX0_next_50
  · refine im_iload_n (pc := 31) dX0_next_31 rfl rfl ?_
    refine im_bipush (pc := 32) (v := 6) dX0_next_32 (by decide) ?_
    refine cl_X0_25 tp_in_im (pc := 34) (by decide) dX0_next_34 (Nat.le_of_ble_eq_true rfl) fun x54 => ?_
    refine im_if_eq (pc := 37) (tgt := 49) dX0_next_37 (by decide) ?_ ?_
    · refine im_iconst (pc := 49) (v := (-1)) dX0_next_49 (by decide) ?_
      exact im_iretP (pc := 50) dX0_next_50
    · refine im_bipush (pc := 40) (v := 10) dX0_next_40 (by decide) ?_
      refine im_iload_n (pc := 42) dX0_next_42 rfl rfl ?_
      refine im_imul (pc := 43) dX0_next_43 ?_
      refine im_iload_n (pc := 44) dX0_next_44 rfl rfl ?_
      refine im_iadd (pc := 45) dX0_next_45 ?_
      refine im_goto (pc := 46) (tgt := 50) dX0_next_46 (by decide) ?_
      exact im_iretP (pc := 50) dX0_next_50
noncomputable def tp_next (a0 : Int32) (a1 : Int32) (h : PH) : Option (Int32) := tp_next_0 a0 a1 h
theorem tp_next_im : IM_X0_next tp_next 2 := by
  intro a0 a1 h r e
  exact SpI.ofP (k := 2) (plainFor_of_name (by decide)) rfl (fun X => Im.drop [true, true, false, false] rfl (tp_next_0_ok X a0 a1 h)) e
theorem cl_X0_29 {X : CT} {cc : ByteArray} {nL : Nat} {mn : String} {ret : Option FieldType} {d d0 : Nat} {τ : Type} {pc : Nat} {lv : List (Option PV)} {st : List PV} {h : PH} {sz : τ → Nat × Nat} {K : τ → Prop} {f : Int32 → Int32 → PH → Option (Int32)} (HR : IM_X0_next f d0) {a0 : Int32} {a1 : Int32} {g : Int32 → Option τ} (hd : d0 + 1 ≤ d) (hdg : decode cc pc = .ok (.invokestatic 29, 3)) (hst : st.length ≤ 8) (kk : ∀ r, Im X (cc, nL, RX0, mn, ret, d) (pc + 3) lv (.inl r :: st) h (g r) sz K) : Im X (cc, nL, RX0, mn, ret, d) pc lv (.inl a1 :: .inl a0 :: st) h ((f a0 a1 h).bind g) sz K := by
  refine im_cP (y := yX0_next) (cY := cX0_next) (nY := 4) (rY := (some .int)) (d' := d0) (av := [.inl a0, .inl a1]) (fun r e hX => ?_) (fun r e => HR _ _ _ _ e) hd (by decide) hst rfl kk
  exact cal_S (n := 2) hX (lw_S q838 q839 q106 q840) (by decide +kernel) rfl hdg

def IM_X0_areNext (f : Int32 → Int32 → PH → Option (Int32)) (d : Nat) : Prop := ∀ (a0 : Int32) (a1 : Int32) (h : PH) (r : Int32), f a0 a1 h = some r → SpI yX0_areNext cX0_areNext 3 (some .boolean) d [.inl a0, .inl a1] h r h
noncomputable def tp_areNext_b2 (v0 : Int32) (v1 : Int32) (v2 : Int32) (h : PH) : Option ((Int32) ⊕ (Int32)) :=
  (if 4 ≤ v2 then
  some (.inr 0)
  else
  (tp_next v0 v2 h).bind fun x51 =>
  (if x51 = v1 then
  some (.inr 1)
  else
  some (.inl (v2 + 1))))
noncomputable def tp_areNext_L2 (v0 : Int32) (v1 : Int32) (v2 : Int32) (h : PH) : Option (Int32) :=
  iter (fun s : Int32 => tp_areNext_b2 v0 v1 s h) v2
theorem tp_areNext_b2_ok (X : CT) (v0 : Int32) (v1 : Int32) (v2 : Int32) (h : PH) : Im X (cX0_areNext, 3, RX0, "areNext", (some .boolean), 3) 2 [some (.inl v0), some (.inl v1), some (.inl v2)] [] h (tp_areNext_b2 v0 v1 v2 h) (ez (fun s : Int32 => h) (szP h)) (ek X 2 (fun s : Int32 => [some (.inl v0), some (.inl v1), some (.inl s)]) (fun s : Int32 => h) (kP X h)) := by
  unfold tp_areNext_b2
  refine im_iload_n (pc := 2) dX0_areNext_2 rfl rfl ?_
  refine im_iconst (pc := 3) (v := 4) dX0_areNext_3 (by decide) ?_
  refine im_icmp_ge (pc := 4) (tgt := 24) dX0_areNext_4 (by decide) ?_ ?_
  · refine im_iconst (pc := 24) (v := 0) dX0_areNext_24 (by decide) ?_
    exact Im.outS (im_zretTP (pc := 25) (nar_z (Or.inl rfl)) dX0_areNext_25)
  · refine im_iload_n (pc := 7) dX0_areNext_7 rfl rfl ?_
    refine im_iload_n (pc := 8) dX0_areNext_8 rfl rfl ?_
    refine cl_X0_29 tp_next_im (pc := 9) (by decide) dX0_areNext_9 (Nat.le_of_ble_eq_true rfl) fun x51 => ?_
    refine im_iload_n (pc := 12) dX0_areNext_12 rfl rfl ?_
    refine im_icmp_ne (pc := 13) (tgt := 18) dX0_areNext_13 (by decide) ?_ ?_
    · refine im_iinc (pc := 18) (v := (v2 + 1)) (lv' := [some (.inl v0), some (.inl v1), some (.inl (v2 + 1))]) dX0_areNext_18 rfl rfl (by decide) rfl ?_
      refine im_goto (pc := 21) (tgt := 2) dX0_areNext_21 (by decide) ?_
      exact Im.back [true, true, true] rfl rfl
    · refine im_iconst (pc := 16) (v := 1) dX0_areNext_16 (by decide) ?_
      exact Im.outS (im_zretTP (pc := 17) (nar_z (Or.inr rfl)) dX0_areNext_17)
theorem tp_areNext_L2_ok (X : CT) (v0 : Int32) (v1 : Int32) (v2 : Int32) (h : PH) : Im X (cX0_areNext, 3, RX0, "areNext", (some .boolean), 3) 2 [some (.inl v0), some (.inl v1), some (.inl v2)] [] h (tp_areNext_L2 v0 v1 v2 h) (szP h) (kP X h) := by
  unfold tp_areNext_L2
  exact Im.iter (lv := (fun s : Int32 => [some (.inl v0), some (.inl v1), some (.inl s)])) (hp := (fun s : Int32 => h)) (fun s => tp_areNext_b2_ok X v0 v1 s h) _ rfl rfl
noncomputable def tp_areNext_0 (v0 : Int32) (v1 : Int32) (h : PH) : Option (Int32) :=
  tp_areNext_L2 v0 v1 0 h
theorem tp_areNext_0_ok (X : CT) (v0 : Int32) (v1 : Int32) (h : PH) : Im X (cX0_areNext, 3, RX0, "areNext", (some .boolean), 3) 0 [some (.inl v0), some (.inl v1), none] [] h (tp_areNext_0 v0 v1 h) (szP h) (kP X h) := by
  unfold tp_areNext_0
  refine im_iconst (pc := 0) (v := 0) dX0_areNext_0 (by decide) ?_
  refine im_istore_n (pc := 1) (lv' := [some (.inl v0), some (.inl v1), some (.inl 0)]) dX0_areNext_1 rfl (by decide) rfl ?_
  exact Im.drop [true, true, true] rfl (tp_areNext_L2_ok X v0 v1 0 h)
noncomputable def tp_areNext (a0 : Int32) (a1 : Int32) (h : PH) : Option (Int32) := tp_areNext_0 a0 a1 h
theorem tp_areNext_im : IM_X0_areNext tp_areNext 3 := by
  intro a0 a1 h r e
  exact SpI.ofP (k := 1) (plainFor_of_name (by decide)) rfl (fun X => Im.drop [true, true, false] rfl (tp_areNext_0_ok X a0 a1 h)) e
theorem cl_X3_40 {X : CT} {cc : ByteArray} {nL : Nat} {mn : String} {ret : Option FieldType} {d d0 : Nat} {τ : Type} {pc : Nat} {lv : List (Option PV)} {st : List PV} {h : PH} {sz : τ → Nat × Nat} {K : τ → Prop} {f : Int32 → Int32 → PH → Option (Int32)} (HR : IM_X0_areNext f d0) {a0 : Int32} {a1 : Int32} {g : Int32 → Option τ} (hd : d0 + 1 ≤ d) (hdg : decode cc pc = .ok (.invokestatic 40, 3)) (hst : st.length ≤ 8) (kk : ∀ r, Im X (cc, nL, RX3, mn, ret, d) (pc + 3) lv (.inl r :: st) h (g r) sz K) : Im X (cc, nL, RX3, mn, ret, d) pc lv (.inl a1 :: .inl a0 :: st) h ((f a0 a1 h).bind g) sz K := by
  refine im_cP (y := yX0_areNext) (cY := cX0_areNext) (nY := 3) (rY := (some .boolean)) (d' := d0) (av := [.inl a0, .inl a1]) (fun r e hX => ?_) (fun r e => HR _ _ _ _ e) hd (by decide) hst rfl kk
  exact cal_SN (n := 2) hX (lw_n q835 rfl) q836 q106 q837 (by decide +kernel) rfl hdg

def IM_X3_around (f : Option Nat → Int32 → PH → Option (Int32)) (d : Nat) : Prop := ∀ (a0 : Option Nat) (a1 : Int32) (h : PH) (r : Int32), f a0 a1 h = some r → isC [2] a0 h = true ∧ SpI yX3_around cX3_around 4 (some .int) d [.inr a0, .inl a1] h r h
noncomputable def yd_around_b4 (v0 : Option Nat) (v1 : Int32) (v2 : Int32) (v3 : Int32) (h : PH) : Option ((Int32 × Int32) ⊕ (Int32)) :=
  (if 16 ≤ v3 then
  some (.inr v2)
  else
  (gfr [2] 0 v0 h).bind fun r51 =>
  (aldr 2 r51 v3 h).bind fun r52 =>
  (pe_isLaid r52 h).bind fun x53 =>
  (if x53 = 0 then
  some (.inl ((v2 ||| 0), (v3 + 1)))
  else
  (gfr [2] 0 v0 h).bind fun r54 =>
  (aldr 2 r54 v3 h).bind fun r55 =>
  (gfi [3] 2 r55 h).bind fun x56 =>
  (tp_areNext v1 x56 h).bind fun x57 =>
  (if x57 = 0 then
  some (.inl ((v2 ||| 0), (v3 + 1)))
  else
  some (.inl ((v2 ||| ((1 : Int32) <<< (v3 &&& 31))), (v3 + 1))))))
noncomputable def yd_around_L4 (v0 : Option Nat) (v1 : Int32) (v2 : Int32) (v3 : Int32) (h : PH) : Option (Int32) :=
  iter (fun s : Int32 × Int32 => yd_around_b4 v0 v1 s.1 s.2 h) (v2, v3)
theorem yd_around_b4_ok (X : CT) (v0 : Option Nat) (v1 : Int32) (v2 : Int32) (v3 : Int32) (h : PH) : Im X (cX3_around, 4, RX3, "around", (some .int), 4) 4 [some (.inr v0), some (.inl v1), some (.inl v2), some (.inl v3)] [] h (yd_around_b4 v0 v1 v2 v3 h) (ez (fun s : Int32 × Int32 => h) (szP h)) (ek X 4 (fun s : Int32 × Int32 => [some (.inr v0), some (.inl v1), some (.inl s.1), some (.inl s.2)]) (fun s : Int32 × Int32 => h) (kP X h)) := by
  unfold yd_around_b4
  refine im_iload_n (pc := 4) dX3_around_4 rfl rfl ?_
  refine im_bipush (pc := 5) (v := 16) dX3_around_5 (by decide) ?_
  refine im_icmp_ge (pc := 7) (tgt := 54) dX3_around_7 (by decide) ?_ ?_
  · refine im_iload_n (pc := 54) dX3_around_54 rfl rfl ?_
    exact Im.outS (im_iretP (pc := 55) dX3_around_55)
  · refine im_iload_n (pc := 10) dX3_around_10 rfl rfl ?_
    refine im_aload_n (pc := 11) dX3_around_11 rfl rfl ?_
    refine im_gr (pc := 12) fl_X3_17 dX3_around_12 fun r51 => ?_
    refine im_iload_n (pc := 15) dX3_around_15 rfl rfl ?_
    refine im_aald (pc := 16) (t := 2) (by decide) (by decide) dX3_around_16 fun r52 => ?_
    refine cl_X3_33 pe_isLaid_im (pc := 17) (by decide) dX3_around_17 (Nat.le_of_ble_eq_true rfl) fun x53 => ?_
    refine im_if_eq (pc := 20) (tgt := 45) dX3_around_20 (by decide) ?_ ?_
    · refine im_iconst (pc := 45) (v := 0) dX3_around_45 (by decide) ?_
      refine im_ior (pc := 46) dX3_around_46 ?_
      refine im_istore_n (pc := 47) (lv' := [some (.inr v0), some (.inl v1), some (.inl (v2 ||| 0)), some (.inl v3)]) dX3_around_47 rfl (by decide) rfl ?_
      refine im_iinc (pc := 48) (v := (v3 + 1)) (lv' := [some (.inr v0), some (.inl v1), some (.inl (v2 ||| 0)), some (.inl (v3 + 1))]) dX3_around_48 rfl rfl (by decide) rfl ?_
      refine im_goto (pc := 51) (tgt := 4) dX3_around_51 (by decide) ?_
      exact Im.back [true, true, true, true] rfl rfl
    · refine im_iload_n (pc := 23) dX3_around_23 rfl rfl ?_
      refine im_aload_n (pc := 24) dX3_around_24 rfl rfl ?_
      refine im_gr (pc := 25) fl_X3_17 dX3_around_25 fun r54 => ?_
      refine im_iload_n (pc := 28) dX3_around_28 rfl rfl ?_
      refine im_aald (pc := 29) (t := 2) (by decide) (by decide) dX3_around_29 fun r55 => ?_
      refine im_gi (pc := 30) fl_X3_37 dX3_around_30 fun x56 => ?_
      refine cl_X3_40 tp_areNext_im (pc := 33) (by decide) dX3_around_33 (Nat.le_of_ble_eq_true rfl) fun x57 => ?_
      refine im_if_eq (pc := 36) (tgt := 45) dX3_around_36 (by decide) ?_ ?_
      · refine im_iconst (pc := 45) (v := 0) dX3_around_45 (by decide) ?_
        refine im_ior (pc := 46) dX3_around_46 ?_
        refine im_istore_n (pc := 47) (lv' := [some (.inr v0), some (.inl v1), some (.inl (v2 ||| 0)), some (.inl v3)]) dX3_around_47 rfl (by decide) rfl ?_
        refine im_iinc (pc := 48) (v := (v3 + 1)) (lv' := [some (.inr v0), some (.inl v1), some (.inl (v2 ||| 0)), some (.inl (v3 + 1))]) dX3_around_48 rfl rfl (by decide) rfl ?_
        refine im_goto (pc := 51) (tgt := 4) dX3_around_51 (by decide) ?_
        exact Im.back [true, true, true, true] rfl rfl
      · refine im_iconst (pc := 39) (v := 1) dX3_around_39 (by decide) ?_
        refine im_iload_n (pc := 40) dX3_around_40 rfl rfl ?_
        refine im_ishl (pc := 41) dX3_around_41 ?_
        refine im_goto (pc := 42) (tgt := 46) dX3_around_42 (by decide) ?_
        refine im_ior (pc := 46) dX3_around_46 ?_
        refine im_istore_n (pc := 47) (lv' := [some (.inr v0), some (.inl v1), some (.inl (v2 ||| ((1 : Int32) <<< (v3 &&& 31)))), some (.inl v3)]) dX3_around_47 rfl (by decide) rfl ?_
        refine im_iinc (pc := 48) (v := (v3 + 1)) (lv' := [some (.inr v0), some (.inl v1), some (.inl (v2 ||| ((1 : Int32) <<< (v3 &&& 31)))), some (.inl (v3 + 1))]) dX3_around_48 rfl rfl (by decide) rfl ?_
        refine im_goto (pc := 51) (tgt := 4) dX3_around_51 (by decide) ?_
        exact Im.back [true, true, true, true] rfl rfl
theorem yd_around_L4_ok (X : CT) (v0 : Option Nat) (v1 : Int32) (v2 : Int32) (v3 : Int32) (h : PH) : Im X (cX3_around, 4, RX3, "around", (some .int), 4) 4 [some (.inr v0), some (.inl v1), some (.inl v2), some (.inl v3)] [] h (yd_around_L4 v0 v1 v2 v3 h) (szP h) (kP X h) := by
  unfold yd_around_L4
  exact Im.iter (lv := (fun s : Int32 × Int32 => [some (.inr v0), some (.inl v1), some (.inl s.1), some (.inl s.2)])) (hp := (fun s : Int32 × Int32 => h)) (fun s => yd_around_b4_ok X v0 v1 s.1 s.2 h) _ rfl rfl
noncomputable def yd_around_0 (v0 : Option Nat) (v1 : Int32) (h : PH) : Option (Int32) :=
  yd_around_L4 v0 v1 0 0 h
theorem yd_around_0_ok (X : CT) (v0 : Option Nat) (v1 : Int32) (h : PH) : Im X (cX3_around, 4, RX3, "around", (some .int), 4) 0 [some (.inr v0), some (.inl v1), none, none] [] h (yd_around_0 v0 v1 h) (szP h) (kP X h) := by
  unfold yd_around_0
  refine im_iconst (pc := 0) (v := 0) dX3_around_0 (by decide) ?_
  refine im_istore_n (pc := 1) (lv' := [some (.inr v0), some (.inl v1), some (.inl 0), none]) dX3_around_1 rfl (by decide) rfl ?_
  refine im_iconst (pc := 2) (v := 0) dX3_around_2 (by decide) ?_
  refine im_istore_n (pc := 3) (lv' := [some (.inr v0), some (.inl v1), some (.inl 0), some (.inl 0)]) dX3_around_3 rfl (by decide) rfl ?_
  exact Im.drop [true, true, true, true] rfl (yd_around_L4_ok X v0 v1 0 0 h)
noncomputable def yd_around (a0 : Option Nat) (a1 : Int32) (h : PH) : Option (Int32) := grd (isC [2] a0 h) (yd_around_0 a0 a1 h)
theorem yd_around_im : IM_X3_around yd_around 4 := by
  intro a0 a1 h r e
  obtain ⟨e1, e2⟩ := grd_some e
  exact ⟨e1, SpI.ofP (k := 2) (plainFor_of_name (by decide)) rfl (fun X => Im.drop [true, true, false, false] rfl (yd_around_0_ok X a0 a1 h)) e2⟩
theorem cl_X3_44 {X : CT} {cc : ByteArray} {nL : Nat} {mn : String} {ret : Option FieldType} {d d0 : Nat} {τ : Type} {pc : Nat} {lv : List (Option PV)} {st : List PV} {h : PH} {sz : τ → Nat × Nat} {K : τ → Prop} {f : Option Nat → Int32 → PH → Option (Int32)} (HR : IM_X3_around f d0) {a0 : Option Nat} {a1 : Int32} {g : Int32 → Option τ} (hd : d0 + 1 ≤ d) (hdg : decode cc pc = .ok (.invokevirtual 44, 3)) (hst : st.length ≤ 8) (kk : ∀ r, Im X (cc, nL, RX3, mn, ret, d) (pc + 3) lv (.inl r :: st) h (g r) sz K) : Im X (cc, nL, RX3, mn, ret, d) pc lv (.inl a1 :: .inr a0 :: st) h ((f a0 a1 h).bind g) sz K := by
  refine im_cP (y := yX3_around) (cY := cX3_around) (nY := 4) (rY := (some .int)) (d' := d0) (av := [.inr a0, .inl a1]) (fun r e hX => ?_) (fun r e => (HR _ _ _ _ e).2) hd (by decide) hst rfl kk
  obtain ⟨a, c, fs, rfl, ec, hm⟩ := isC_some (HR _ _ _ _ e).1
  cases List.mem_singleton.mp hm
  exact cal_V (n := 1) hX (lw_V q831 q832 q833 q109 q834) (by decide +kernel) rfl rfl ec hdg

def IM_X3_beside (f : Option Nat → Int32 → PH → Option (Int32)) (d : Nat) : Prop := ∀ (a0 : Option Nat) (a1 : Int32) (h : PH) (r : Int32), f a0 a1 h = some r → isC [2] a0 h = true ∧ SpI yX3_beside cX3_beside 2 (some .int) d [.inr a0, .inl a1] h r h
noncomputable def yd_beside_0 (v0 : Option Nat) (v1 : Int32) (h : PH) : Option (Int32) :=
  (gfr [2] 0 v0 h).bind fun r51 =>
  (aldr 2 r51 v1 h).bind fun r52 =>
  (pe_isLaid r52 h).bind fun x53 =>
  (if x53 = 0 then
  some (0)
  else
  (gfr [2] 0 v0 h).bind fun r54 =>
  (aldr 2 r54 v1 h).bind fun r55 =>
  (gfi [3] 2 r55 h).bind fun x56 =>
  (yd_around v0 x56 h).bind fun x57 =>
  some (x57))
theorem yd_beside_0_ok (X : CT) (v0 : Option Nat) (v1 : Int32) (h : PH) : Im X (cX3_beside, 2, RX3, "beside", (some .int), 5) 0 [some (.inr v0), some (.inl v1)] [] h (yd_beside_0 v0 v1 h) (szP h) (kP X h) := by
  unfold yd_beside_0
  refine im_aload_n (pc := 0) dX3_beside_0 rfl rfl ?_
  refine im_gr (pc := 1) fl_X3_17 dX3_beside_1 fun r51 => ?_
  refine im_iload_n (pc := 4) dX3_beside_4 rfl rfl ?_
  refine im_aald (pc := 5) (t := 2) (by decide) (by decide) dX3_beside_5 fun r52 => ?_
  refine cl_X3_33 pe_isLaid_im (pc := 6) (by decide) dX3_beside_6 (Nat.le_of_ble_eq_true rfl) fun x53 => ?_
  refine im_if_eq (pc := 9) (tgt := 28) dX3_beside_9 (by decide) ?_ ?_
  · refine im_iconst (pc := 28) (v := 0) dX3_beside_28 (by decide) ?_
    exact im_iretP (pc := 29) dX3_beside_29
  · refine im_aload_n (pc := 12) dX3_beside_12 rfl rfl ?_
    refine im_aload_n (pc := 13) dX3_beside_13 rfl rfl ?_
    refine im_gr (pc := 14) fl_X3_17 dX3_beside_14 fun r54 => ?_
    refine im_iload_n (pc := 17) dX3_beside_17 rfl rfl ?_
    refine im_aald (pc := 18) (t := 2) (by decide) (by decide) dX3_beside_18 fun r55 => ?_
    refine im_gi (pc := 19) fl_X3_37 dX3_beside_19 fun x56 => ?_
    refine cl_X3_44 yd_around_im (pc := 22) (by decide) dX3_beside_22 (Nat.le_of_ble_eq_true rfl) fun x57 => ?_
    refine im_goto (pc := 25) (tgt := 29) dX3_beside_25 (by decide) ?_
    exact im_iretP (pc := 29) dX3_beside_29
noncomputable def yd_beside (a0 : Option Nat) (a1 : Int32) (h : PH) : Option (Int32) := grd (isC [2] a0 h) (yd_beside_0 a0 a1 h)
theorem yd_beside_im : IM_X3_beside yd_beside 5 := by
  intro a0 a1 h r e
  obtain ⟨e1, e2⟩ := grd_some e
  exact ⟨e1, SpI.ofP (k := 0) (plainFor_of_name (by decide)) rfl (fun X => Im.drop [true, true] rfl (yd_beside_0_ok X a0 a1 h)) e2⟩
def IM_J6_bitCount (f : Int32 → PH → Option (Int32)) (d : Nat) : Prop := ∀ (a0 : Int32) (h : PH) (r : Int32), f a0 h = some r → SpI yJ6_bitCount cJ6_bitCount 1 (some .int) d [.inl a0] h r h
noncomputable def jI_bitCount_0 (v0 : Int32) (h : PH) : Option (Int32) :=
  (some (((v0 - ((ius v0 1) &&& 1431655765)) &&& 858993459) + ((ius (v0 - ((ius v0 1) &&& 1431655765)) 2) &&& 858993459))).bind fun x51 =>
  (some (((x51 + (ius x51 4)) &&& 252645135) + (ius ((x51 + (ius x51 4)) &&& 252645135) 8))).bind fun x52 =>
  some (((x52 + (ius x52 16)) &&& 63))
theorem jI_bitCount_0_ok (X : CT) (v0 : Int32) (h : PH) : Im X (cJ6_bitCount, 1, RJ6, "bitCount", (some .int), 1) 0 [some (.inl v0)] [] h (jI_bitCount_0 v0 h) (szP h) (kP X h) := by
  unfold jI_bitCount_0
  refine im_iload_n (pc := 0) dJ6_bitCount_0 rfl rfl ?_
  refine im_iload_n (pc := 1) dJ6_bitCount_1 rfl rfl ?_
  refine im_iconst (pc := 2) (v := 1) dJ6_bitCount_2 (by decide) ?_
  refine im_iushr (pc := 3) dJ6_bitCount_3 ?_
  refine im_ldcw (pc := 4) q848 dJ6_bitCount_4 ?_
  refine im_iand (pc := 7) dJ6_bitCount_7 ?_
  refine im_isub (pc := 8) dJ6_bitCount_8 ?_
  refine im_istore_n (pc := 9) (lv' := [some (.inl (v0 - ((ius v0 1) &&& 1431655765)))]) dJ6_bitCount_9 rfl (by decide) rfl ?_
  refine im_iload_n (pc := 10) dJ6_bitCount_10 rfl rfl ?_
  refine im_ldcw (pc := 11) q849 dJ6_bitCount_11 ?_
  refine im_iand (pc := 14) dJ6_bitCount_14 ?_
  refine im_iload_n (pc := 15) dJ6_bitCount_15 rfl rfl ?_
  refine im_iconst (pc := 16) (v := 2) dJ6_bitCount_16 (by decide) ?_
  refine im_iushr (pc := 17) dJ6_bitCount_17 ?_
  refine im_ldcw (pc := 18) q849 dJ6_bitCount_18 ?_
  refine im_iand (pc := 21) dJ6_bitCount_21 ?_
  refine im_iadd (pc := 22) dJ6_bitCount_22 ?_
  refine im_let fun x51 => ?_
  refine im_istore_n (pc := 23) (lv' := [some (.inl x51)]) dJ6_bitCount_23 rfl (by decide) rfl ?_
  refine im_iload_n (pc := 24) dJ6_bitCount_24 rfl rfl ?_
  refine im_iload_n (pc := 25) dJ6_bitCount_25 rfl rfl ?_
  refine im_iconst (pc := 26) (v := 4) dJ6_bitCount_26 (by decide) ?_
  refine im_iushr (pc := 27) dJ6_bitCount_27 ?_
  refine im_iadd (pc := 28) dJ6_bitCount_28 ?_
  refine im_ldcw (pc := 29) q850 dJ6_bitCount_29 ?_
  refine im_iand (pc := 32) dJ6_bitCount_32 ?_
  refine im_istore_n (pc := 33) (lv' := [some (.inl ((x51 + (ius x51 4)) &&& 252645135))]) dJ6_bitCount_33 rfl (by decide) rfl ?_
  refine im_iload_n (pc := 34) dJ6_bitCount_34 rfl rfl ?_
  refine im_iload_n (pc := 35) dJ6_bitCount_35 rfl rfl ?_
  refine im_bipush (pc := 36) (v := 8) dJ6_bitCount_36 (by decide) ?_
  refine im_iushr (pc := 38) dJ6_bitCount_38 ?_
  refine im_iadd (pc := 39) dJ6_bitCount_39 ?_
  refine im_let fun x52 => ?_
  refine im_istore_n (pc := 40) (lv' := [some (.inl x52)]) dJ6_bitCount_40 rfl (by decide) rfl ?_
  refine im_iload_n (pc := 41) dJ6_bitCount_41 rfl rfl ?_
  refine im_iload_n (pc := 42) dJ6_bitCount_42 rfl rfl ?_
  refine im_bipush (pc := 43) (v := 16) dJ6_bitCount_43 (by decide) ?_
  refine im_iushr (pc := 45) dJ6_bitCount_45 ?_
  refine im_iadd (pc := 46) dJ6_bitCount_46 ?_
  refine im_istore_n (pc := 47) (lv' := [some (.inl (x52 + (ius x52 16)))]) dJ6_bitCount_47 rfl (by decide) rfl ?_
  refine im_iload_n (pc := 48) dJ6_bitCount_48 rfl rfl ?_
  refine im_bipush (pc := 49) (v := 63) dJ6_bitCount_49 (by decide) ?_
  refine im_iand (pc := 51) dJ6_bitCount_51 ?_
  exact im_iretP (pc := 52) dJ6_bitCount_52
noncomputable def jI_bitCount (a0 : Int32) (h : PH) : Option (Int32) := jI_bitCount_0 a0 h
theorem jI_bitCount_im : IM_J6_bitCount jI_bitCount 1 := by
  intro a0 h r e
  exact SpI.ofP (k := 0) (plainFor_of_name (by decide)) rfl (fun X => Im.drop [true] rfl (jI_bitCount_0_ok X a0 h)) e
theorem apt_X2 : Apt 1 9 := apt_of rfl in_X2 tyX2 tyX2_ok nmX2
theorem fp_X2_9 : ∀ c ∈ [1], FP RX2 9 c 1 .int := List.forall_mem_cons.mpr ⟨⟨RX2, TX2, 9, rfl, in_X2, by decide, apt_X2, rfl, by decide +kernel, Or.inl q149⟩, fun _ h => absurd h List.not_mem_nil⟩
theorem fp_X2_15 : ∀ c ∈ [1], FP RX2 15 c 2 .int := List.forall_mem_cons.mpr ⟨⟨RX2, TX2, 9, rfl, in_X2, by decide, apt_X2, rfl, by decide +kernel, Or.inl q150⟩, fun _ h => absurd h List.not_mem_nil⟩
theorem fp_X2_18 : ∀ c ∈ [1], FP RX2 18 c 3 .int := List.forall_mem_cons.mpr ⟨⟨RX2, TX2, 9, rfl, in_X2, by decide, apt_X2, rfl, by decide +kernel, Or.inl q151⟩, fun _ h => absurd h List.not_mem_nil⟩
theorem fp_X2_21 : ∀ c ∈ [1], FP RX2 21 c 4 .int := List.forall_mem_cons.mpr ⟨⟨RX2, TX2, 9, rfl, in_X2, by decide, apt_X2, rfl, by decide +kernel, Or.inl q152⟩, fun _ h => absurd h List.not_mem_nil⟩
theorem fp_X2_24 : ∀ c ∈ [1], FP RX2 24 c 5 .int := List.forall_mem_cons.mpr ⟨⟨RX2, TX2, 9, rfl, in_X2, by decide, apt_X2, rfl, by decide +kernel, Or.inl q153⟩, fun _ h => absurd h List.not_mem_nil⟩
theorem fp_X2_27 : ∀ c ∈ [1], FP RX2 27 c 6 .int := List.forall_mem_cons.mpr ⟨⟨RX2, TX2, 9, rfl, in_X2, by decide, apt_X2, rfl, by decide +kernel, Or.inl q154⟩, fun _ h => absurd h List.not_mem_nil⟩
theorem fp_X2_30 : ∀ c ∈ [1], FP RX2 30 c 7 .int := List.forall_mem_cons.mpr ⟨⟨RX2, TX2, 9, rfl, in_X2, by decide, apt_X2, rfl, by decide +kernel, Or.inl q155⟩, fun _ h => absurd h List.not_mem_nil⟩
theorem fp_X2_33 : ∀ c ∈ [1], FP RX2 33 c 8 .int := List.forall_mem_cons.mpr ⟨⟨RX2, TX2, 9, rfl, in_X2, by decide, apt_X2, rfl, by decide +kernel, Or.inl q156⟩, fun _ h => absurd h List.not_mem_nil⟩
def IM_X2_of (f : Option Nat → Int32 → Int32 → Int32 → Int32 → PH → Option (Option Nat × PH)) (d : Nat) : Prop := ∀ (a0 : Option Nat) (a1 : Int32) (a2 : Int32) (a3 : Int32) (a4 : Int32) (h : PH) (r : Option Nat) (h' : PH), f a0 a1 a2 a3 a4 h = some (r, h') → isC [1] a0 h = true ∧ SpR yX2_of cX2_of 5 (some (.object "TalkingPlots$Moment")) d [.inr a0, .inl a1, .inl a2, .inl a3, .inl a4] h r h'
noncomputable def mt_of_0 (v0 : Option Nat) (v1 : Int32) (v2 : Int32) (v3 : Int32) (v4 : Int32) (h : PH) : Option (Option Nat × PH) :=
  (pf [1] 1 v0 (.inl v1) h).bind fun h51 =>
  (pf [1] 2 v0 (.inl 0) h51).bind fun h52 =>
  (pf [1] 3 v0 (.inl 0) h52).bind fun h53 =>
  (pf [1] 4 v0 (.inl 0) h53).bind fun h54 =>
  (pf [1] 5 v0 (.inl v2) h54).bind fun h55 =>
  (pf [1] 6 v0 (.inl 0) h55).bind fun h56 =>
  (pf [1] 7 v0 (.inl v3) h56).bind fun h57 =>
  (pf [1] 8 v0 (.inl (irm v4 100)) h57).bind fun h58 =>
  some ((v0, h58))
theorem mt_of_0_ok (X : CT) (v0 : Option Nat) (v1 : Int32) (v2 : Int32) (v3 : Int32) (v4 : Int32) (h : PH) : Im X (cX2_of, 5, RX2, "of", (some (.object "TalkingPlots$Moment")), 1) 0 [some (.inr v0), some (.inl v1), some (.inl v2), some (.inl v3), some (.inl v4)] [] h (mt_of_0 v0 v1 v2 v3 v4 h) szI (kR X) := by
  unfold mt_of_0
  refine im_aload_n (pc := 0) dX2_of_0 rfl rfl ?_
  refine im_iload_n (pc := 1) dX2_of_1 rfl rfl ?_
  refine im_pf (pc := 2) fp_X2_9 (okT_i _) dX2_of_2 fun h51 => ?_
  refine im_aload_n (pc := 5) dX2_of_5 rfl rfl ?_
  refine im_iconst (pc := 6) (v := 0) dX2_of_6 (by decide) ?_
  refine im_pf (pc := 7) fp_X2_15 (okT_i _) dX2_of_7 fun h52 => ?_
  refine im_aload_n (pc := 10) dX2_of_10 rfl rfl ?_
  refine im_iconst (pc := 11) (v := 0) dX2_of_11 (by decide) ?_
  refine im_pf (pc := 12) fp_X2_18 (okT_i _) dX2_of_12 fun h53 => ?_
  refine im_aload_n (pc := 15) dX2_of_15 rfl rfl ?_
  refine im_iconst (pc := 16) (v := 0) dX2_of_16 (by decide) ?_
  refine im_pf (pc := 17) fp_X2_21 (okT_i _) dX2_of_17 fun h54 => ?_
  refine im_aload_n (pc := 20) dX2_of_20 rfl rfl ?_
  refine im_iload_n (pc := 21) dX2_of_21 rfl rfl ?_
  refine im_pf (pc := 22) fp_X2_24 (okT_i _) dX2_of_22 fun h55 => ?_
  refine im_aload_n (pc := 25) dX2_of_25 rfl rfl ?_
  refine im_iconst (pc := 26) (v := 0) dX2_of_26 (by decide) ?_
  refine im_pf (pc := 27) fp_X2_27 (okT_i _) dX2_of_27 fun h56 => ?_
  refine im_aload_n (pc := 30) dX2_of_30 rfl rfl ?_
  refine im_iload_n (pc := 31) dX2_of_31 rfl rfl ?_
  refine im_pf (pc := 32) fp_X2_30 (okT_i _) dX2_of_32 fun h57 => ?_
  refine im_aload_n (pc := 35) dX2_of_35 rfl rfl ?_
  refine im_iload (pc := 36) dX2_of_36 rfl ?_
  refine im_bipush (pc := 38) (v := 100) dX2_of_38 (by decide) ?_
  refine im_iremC (pc := 40) (by decide) dX2_of_40 ?_
  refine im_pf (pc := 41) fp_X2_33 (okT_i _) dX2_of_41 fun h58 => ?_
  refine im_aload_n (pc := 44) dX2_of_44 rfl rfl ?_
  exact im_aret (pc := 45) dX2_of_45
noncomputable def mt_of (a0 : Option Nat) (a1 : Int32) (a2 : Int32) (a3 : Int32) (a4 : Int32) (h : PH) : Option (Option Nat × PH) := grd (isC [1] a0 h) (mt_of_0 a0 a1 a2 a3 a4 h)
theorem mt_of_im : IM_X2_of mt_of 1 := by
  intro a0 a1 a2 a3 a4 h r h' e
  obtain ⟨e1, e2⟩ := grd_some e
  exact ⟨e1, SpR.of (k := 0) (plainFor_of_name (by decide)) rfl (fun X => Im.drop [true, true, true, true, true] rfl (mt_of_0_ok X a0 a1 a2 a3 a4 h)) e2⟩
theorem fl_X13_13 : ∀ c ∈ [10], FL RX13 13 c 1 := List.forall_mem_cons.mpr ⟨⟨RX13, TX13, 3, rfl, in_X13, by decide, Or.inl q616⟩, fun _ h => absurd h List.not_mem_nil⟩
theorem fl_X13_7 : ∀ c ∈ [10], FL RX13 7 c 0 := List.forall_mem_cons.mpr ⟨⟨RX13, TX13, 3, rfl, in_X13, by decide, Or.inl q615⟩, fun _ h => absurd h List.not_mem_nil⟩
def IM_co_holds (f : Option Nat → Option Nat → PH → Option (Int32 × PH)) (d : Nat) : Prop := ∀ (a0 : Option Nat) (a1 : Option Nat) (h : PH) (r : Int32) (h' : PH), f a0 a1 h = some (r, h') → (isC [10] a0 h = true ∧ ∃ d1, d1 ≤ d ∧ SpI yX13_holds cX13_holds 4 (some .int) d1 [.inr a0, .inr a1] h r h') ∨ (isC [11] a0 h = true ∧ ∃ d1, d1 ≤ d ∧ SpI yX14_holds cX14_holds 3 (some .int) d1 [.inr a0, .inr a1] h r h') ∨ (isC [12] a0 h = true ∧ ∃ d1, d1 ≤ d ∧ SpI yX15_holds cX15_holds 5 (some .int) d1 [.inr a0, .inr a1] h r h')
theorem cl_X13_17 {X : CT} {cc : ByteArray} {nL : Nat} {mn : String} {ret : Option FieldType} {d d0 : Nat} {τ : Type} {pc : Nat} {lv : List (Option PV)} {st : List PV} {h : PH} {sz : τ → Nat × Nat} {K : τ → Prop} {f : Option Nat → Option Nat → PH → Option (Int32 × PH)} (HR : IM_co_holds f d0) {a0 : Option Nat} {a1 : Option Nat} {g : Int32 → PH → Option τ} (hd : d0 + 1 ≤ d) (hdg : decode cc pc = .ok (.invokevirtual 17, 3)) (hst : st.length ≤ 8) (kk : ∀ r h', Im X (cc, nL, RX13, mn, ret, d) (pc + 3) lv (.inl r :: st) h' (g r h') sz K) : Im X (cc, nL, RX13, mn, ret, d) pc lv (.inr a1 :: .inr a0 :: st) h (bd2 (f a0 a1 h) g) sz K := by
  cases eo : f a0 a1 h with
  | none => exact Im.none
  | some res =>
    obtain ⟨r, h'⟩ := res
    rw [← eo]
    rcases HR _ _ _ _ _  eo with ⟨hc, d1, hd1, hsp⟩ | ⟨hc, d1, hd1, hsp⟩ | ⟨hc, d1, hd1, hsp⟩
    · refine im_cI (y := yX13_holds) (cY := cX13_holds) (nY := 4) (rY := (some .int)) (d' := d1) (av := [.inr a0, .inr a1]) (fun r h' e hX => ?_) (fun r h' e => by rw [eo] at e; cases e; exact hsp) (by omega) (by decide) hst rfl kk
      obtain ⟨a, c, fs, rfl, ec, hm⟩ := isC_some hc
      cases List.mem_singleton.mp hm
      exact cal_A (n := 1) hX q893 q861 q894 q891 q125 q892 (lw_n q860 rfl) (by decide +kernel) rfl rfl ec hdg
    · refine im_cI (y := yX14_holds) (cY := cX14_holds) (nY := 3) (rY := (some .int)) (d' := d1) (av := [.inr a0, .inr a1]) (fun r h' e hX => ?_) (fun r h' e => by rw [eo] at e; cases e; exact hsp) (by omega) (by decide) hst rfl kk
      obtain ⟨a, c, fs, rfl, ec, hm⟩ := isC_some hc
      cases List.mem_singleton.mp hm
      exact cal_A (n := 1) hX q893 q861 q887 q888 q126 q889 (lw_n q860 rfl) (by decide +kernel) rfl rfl ec hdg
    · refine im_cI (y := yX15_holds) (cY := cX15_holds) (nY := 5) (rY := (some .int)) (d' := d1) (av := [.inr a0, .inr a1]) (fun r h' e hX => ?_) (fun r h' e => by rw [eo] at e; cases e; exact hsp) (by omega) (by decide) hst rfl kk
      obtain ⟨a, c, fs, rfl, ec, hm⟩ := isC_some hc
      cases List.mem_singleton.mp hm
      exact cal_A (n := 1) hX q893 q861 q862 q863 q127 q864 (lw_n q860 rfl) (by decide +kernel) rfl rfl ec hdg

theorem fl_X13_21 : ∀ c ∈ [10], FL RX13 21 c 2 := List.forall_mem_cons.mpr ⟨⟨RX13, TX13, 3, rfl, in_X13, by decide, Or.inl q617⟩, fun _ h => absurd h List.not_mem_nil⟩
def IM_X13_holds (f : Option Nat → Option Nat → PH → Option (Int32 × PH)) (d : Nat) : Prop := ∀ (a0 : Option Nat) (a1 : Option Nat) (h : PH) (r : Int32) (h' : PH), f a0 a1 h = some (r, h') → isC [10] a0 h = true ∧ SpI yX13_holds cX13_holds 4 (some .int) d [.inr a0, .inr a1] h r h'
noncomputable def so_holds_b2 (rec : Option Nat → Option Nat → PH → Option (Int32 × PH)) (v0 : Option Nat) (v1 : Option Nat) (v2 : Option Nat) (h : PH) : Option ((Option Nat × PH) ⊕ (Int32 × PH)) :=
  nul v2
  ((gfi [10] 1 v0 h).bind fun x51 =>
  some (.inr (((1 - x51), h))))
  ((gfr [10] 0 v2 h).bind fun r52 =>
  bd2 (rec r52 v1 h) fun x54 h53 =>
  (if x54 = 2 then
  some (.inr ((x54, h53)))
  else
  (gfi [10] 1 v0 h53).bind fun x55 =>
  (if x54 = x55 then
  some (.inr ((x54, h53)))
  else
  (gfr [10] 2 v2 h53).bind fun r56 =>
  some (.inl (r56, h53)))))
noncomputable def so_holds_L2 (rec : Option Nat → Option Nat → PH → Option (Int32 × PH)) (v0 : Option Nat) (v1 : Option Nat) (v2 : Option Nat) (h : PH) : Option (Int32 × PH) :=
  iter (fun s : Option Nat × PH => so_holds_b2 rec v0 v1 s.1 s.2) (v2, h)
theorem so_holds_b2_ok (X : CT) {rec : Option Nat → Option Nat → PH → Option (Int32 × PH)} {d0 d : Nat} (HR : IM_co_holds rec d0) (hd0 : 60 ≤ d0) (hd : d0 + 1 ≤ d) (v0 : Option Nat) (v1 : Option Nat) (v2 : Option Nat) (h : PH) : Im X (cX13_holds, 4, RX13, "holds", (some .int), d) 2 [some (.inr v0), some (.inr v1), some (.inr v2), none] [] h (so_holds_b2 rec v0 v1 v2 h) (ez (fun s : Option Nat × PH => s.2) szI) (ek X 2 (fun s : Option Nat × PH => [some (.inr v0), some (.inr v1), some (.inr s.1), none]) (fun s : Option Nat × PH => s.2) (kI X)) := by
  unfold so_holds_b2
  refine im_aload_n (pc := 2) dX13_holds_2 rfl rfl ?_
  refine im_ifnull (pc := 3) (tgt := 38) dX13_holds_3 (by decide) ?_ ?_
  · refine im_iconst (pc := 38) (v := 1) dX13_holds_38 (by decide) ?_
    refine im_aload_n (pc := 39) dX13_holds_39 rfl rfl ?_
    refine im_gi (pc := 40) fl_X13_13 dX13_holds_40 fun x51 => ?_
    refine im_isub (pc := 43) dX13_holds_43 ?_
    exact Im.outS (im_iret (pc := 44) dX13_holds_44)
  · refine im_aload_n (pc := 6) dX13_holds_6 rfl rfl ?_
    refine im_gr (pc := 7) fl_X13_7 dX13_holds_7 fun r52 => ?_
    refine im_aload_n (pc := 10) dX13_holds_10 rfl rfl ?_
    refine cl_X13_17 HR (pc := 11) (by omega) dX13_holds_11 (Nat.le_of_ble_eq_true rfl) fun x54 h53 => ?_
    refine im_istore_n (pc := 14) (lv' := [some (.inr v0), some (.inr v1), some (.inr v2), some (.inl x54)]) dX13_holds_14 rfl (by decide) rfl ?_
    refine im_iload_n (pc := 15) dX13_holds_15 rfl rfl ?_
    refine im_iconst (pc := 16) (v := 2) dX13_holds_16 (by decide) ?_
    refine im_icmp_eq (pc := 17) (tgt := 28) dX13_holds_17 (by decide) ?_ ?_
    · refine im_iload_n (pc := 28) dX13_holds_28 rfl rfl ?_
      exact Im.outS (im_iret (pc := 29) dX13_holds_29)
    · refine im_iload_n (pc := 20) dX13_holds_20 rfl rfl ?_
      refine im_aload_n (pc := 21) dX13_holds_21 rfl rfl ?_
      refine im_gi (pc := 22) fl_X13_13 dX13_holds_22 fun x55 => ?_
      refine im_icmp_ne (pc := 25) (tgt := 30) dX13_holds_25 (by decide) ?_ ?_
      · refine im_aload_n (pc := 30) dX13_holds_30 rfl rfl ?_
        refine im_gr (pc := 31) fl_X13_21 dX13_holds_31 fun r56 => ?_
        refine im_astore_n (pc := 34) (lv' := [some (.inr v0), some (.inr v1), some (.inr r56), some (.inl x54)]) dX13_holds_34 rfl (by decide) rfl ?_
        refine im_goto (pc := 35) (tgt := 2) dX13_holds_35 (by decide) ?_
        exact Im.back [true, true, true, false] rfl rfl
      · refine im_iload_n (pc := 28) dX13_holds_28 rfl rfl ?_
        exact Im.outS (im_iret (pc := 29) dX13_holds_29)
theorem so_holds_L2_ok (X : CT) {rec : Option Nat → Option Nat → PH → Option (Int32 × PH)} {d0 d : Nat} (HR : IM_co_holds rec d0) (hd0 : 60 ≤ d0) (hd : d0 + 1 ≤ d) (v0 : Option Nat) (v1 : Option Nat) (v2 : Option Nat) (h : PH) : Im X (cX13_holds, 4, RX13, "holds", (some .int), d) 2 [some (.inr v0), some (.inr v1), some (.inr v2), none] [] h (so_holds_L2 rec v0 v1 v2 h) szI (kI X) := by
  unfold so_holds_L2
  exact Im.iter (lv := (fun s : Option Nat × PH => [some (.inr v0), some (.inr v1), some (.inr s.1), none])) (hp := (fun s : Option Nat × PH => s.2)) (fun s => so_holds_b2_ok X HR hd0 hd v0 v1 s.1 s.2) _ rfl rfl
noncomputable def so_holds_0 (rec : Option Nat → Option Nat → PH → Option (Int32 × PH)) (v0 : Option Nat) (v1 : Option Nat) (h : PH) : Option (Int32 × PH) :=
  so_holds_L2 rec v0 v1 v0 h
theorem so_holds_0_ok (X : CT) {rec : Option Nat → Option Nat → PH → Option (Int32 × PH)} {d0 d : Nat} (HR : IM_co_holds rec d0) (hd0 : 60 ≤ d0) (hd : d0 + 1 ≤ d) (v0 : Option Nat) (v1 : Option Nat) (h : PH) : Im X (cX13_holds, 4, RX13, "holds", (some .int), d) 0 [some (.inr v0), some (.inr v1), none, none] [] h (so_holds_0 rec v0 v1 h) szI (kI X) := by
  unfold so_holds_0
  refine im_aload_n (pc := 0) dX13_holds_0 rfl rfl ?_
  refine im_astore_n (pc := 1) (lv' := [some (.inr v0), some (.inr v1), some (.inr v0), none]) dX13_holds_1 rfl (by decide) rfl ?_
  exact Im.drop [true, true, true, false] rfl (so_holds_L2_ok X HR hd0 hd v0 v1 v0 h)
noncomputable def so_holds (rec : Option Nat → Option Nat → PH → Option (Int32 × PH)) (a0 : Option Nat) (a1 : Option Nat) (h : PH) : Option (Int32 × PH) := grd (isC [10] a0 h) (so_holds_0 rec a0 a1 h)
theorem so_holds_im {rec : Option Nat → Option Nat → PH → Option (Int32 × PH)} {d0 : Nat} (HR : IM_co_holds rec d0) (hd0 : 60 ≤ d0) : IM_X13_holds (so_holds rec) (d0 + 1) := by
  intro a0 a1 h r h' e
  obtain ⟨e1, e2⟩ := grd_some e
  exact ⟨e1, SpI.of (k := 2) (plainFor_of_name (by decide)) rfl (fun X => Im.drop [true, true, false, false] rfl (so_holds_0_ok X HR hd0 (Nat.le_refl _) a0 a1 h)) e2⟩
theorem fl_X14_7 : ∀ c ∈ [11], FL RX14 7 c 0 := List.forall_mem_cons.mpr ⟨⟨RX14, TX14, 1, rfl, in_X14, by decide, Or.inl q591⟩, fun _ h => absurd h List.not_mem_nil⟩
theorem cl_X14_13 {X : CT} {cc : ByteArray} {nL : Nat} {mn : String} {ret : Option FieldType} {d d0 : Nat} {τ : Type} {pc : Nat} {lv : List (Option PV)} {st : List PV} {h : PH} {sz : τ → Nat × Nat} {K : τ → Prop} {f : Option Nat → Option Nat → PH → Option (Int32 × PH)} (HR : IM_co_holds f d0) {a0 : Option Nat} {a1 : Option Nat} {g : Int32 → PH → Option τ} (hd : d0 + 1 ≤ d) (hdg : decode cc pc = .ok (.invokevirtual 13, 3)) (hst : st.length ≤ 8) (kk : ∀ r h', Im X (cc, nL, RX14, mn, ret, d) (pc + 3) lv (.inl r :: st) h' (g r h') sz K) : Im X (cc, nL, RX14, mn, ret, d) pc lv (.inr a1 :: .inr a0 :: st) h (bd2 (f a0 a1 h) g) sz K := by
  cases eo : f a0 a1 h with
  | none => exact Im.none
  | some res =>
    obtain ⟨r, h'⟩ := res
    rw [← eo]
    rcases HR _ _ _ _ _  eo with ⟨hc, d1, hd1, hsp⟩ | ⟨hc, d1, hd1, hsp⟩ | ⟨hc, d1, hd1, hsp⟩
    · refine im_cI (y := yX13_holds) (cY := cX13_holds) (nY := 4) (rY := (some .int)) (d' := d1) (av := [.inr a0, .inr a1]) (fun r h' e hX => ?_) (fun r h' e => by rw [eo] at e; cases e; exact hsp) (by omega) (by decide) hst rfl kk
      obtain ⟨a, c, fs, rfl, ec, hm⟩ := isC_some hc
      cases List.mem_singleton.mp hm
      exact cal_A (n := 1) hX q890 q861 q894 q891 q125 q892 (lw_n q860 rfl) (by decide +kernel) rfl rfl ec hdg
    · refine im_cI (y := yX14_holds) (cY := cX14_holds) (nY := 3) (rY := (some .int)) (d' := d1) (av := [.inr a0, .inr a1]) (fun r h' e hX => ?_) (fun r h' e => by rw [eo] at e; cases e; exact hsp) (by omega) (by decide) hst rfl kk
      obtain ⟨a, c, fs, rfl, ec, hm⟩ := isC_some hc
      cases List.mem_singleton.mp hm
      exact cal_A (n := 1) hX q890 q861 q887 q888 q126 q889 (lw_n q860 rfl) (by decide +kernel) rfl rfl ec hdg
    · refine im_cI (y := yX15_holds) (cY := cX15_holds) (nY := 5) (rY := (some .int)) (d' := d1) (av := [.inr a0, .inr a1]) (fun r h' e hX => ?_) (fun r h' e => by rw [eo] at e; cases e; exact hsp) (by omega) (by decide) hst rfl kk
      obtain ⟨a, c, fs, rfl, ec, hm⟩ := isC_some hc
      cases List.mem_singleton.mp hm
      exact cal_A (n := 1) hX q890 q861 q862 q863 q127 q864 (lw_n q860 rfl) (by decide +kernel) rfl rfl ec hdg

def IM_X14_holds (f : Option Nat → Option Nat → PH → Option (Int32 × PH)) (d : Nat) : Prop := ∀ (a0 : Option Nat) (a1 : Option Nat) (h : PH) (r : Int32) (h' : PH), f a0 a1 h = some (r, h') → isC [11] a0 h = true ∧ SpI yX14_holds cX14_holds 3 (some .int) d [.inr a0, .inr a1] h r h'
noncomputable def no_holds_0 (rec : Option Nat → Option Nat → PH → Option (Int32 × PH)) (v0 : Option Nat) (v1 : Option Nat) (h : PH) : Option (Int32 × PH) :=
  (gfr [11] 0 v0 h).bind fun r51 =>
  bd2 (rec r51 v1 h) fun x53 h52 =>
  (if x53 = 2 then
  some ((2, h52))
  else
  some (((1 - x53), h52)))
theorem no_holds_0_ok (X : CT) {rec : Option Nat → Option Nat → PH → Option (Int32 × PH)} {d0 d : Nat} (HR : IM_co_holds rec d0) (hd0 : 60 ≤ d0) (hd : d0 + 1 ≤ d) (v0 : Option Nat) (v1 : Option Nat) (h : PH) : Im X (cX14_holds, 3, RX14, "holds", (some .int), d) 0 [some (.inr v0), some (.inr v1), none] [] h (no_holds_0 rec v0 v1 h) szI (kI X) := by
  unfold no_holds_0
  refine im_aload_n (pc := 0) dX14_holds_0 rfl rfl ?_
  refine im_gr (pc := 1) fl_X14_7 dX14_holds_1 fun r51 => ?_
  refine im_aload_n (pc := 4) dX14_holds_4 rfl rfl ?_
  refine cl_X14_13 HR (pc := 5) (by omega) dX14_holds_5 (Nat.le_of_ble_eq_true rfl) fun x53 h52 => ?_
  refine im_istore_n (pc := 8) (lv' := [some (.inr v0), some (.inr v1), some (.inl x53)]) dX14_holds_8 rfl (by decide) rfl ?_
  refine im_iload_n (pc := 9) dX14_holds_9 rfl rfl ?_
  refine im_iconst (pc := 10) (v := 2) dX14_holds_10 (by decide) ?_
  refine im_icmp_ne (pc := 11) (tgt := 18) dX14_holds_11 (by decide) ?_ ?_
  · refine im_iconst (pc := 18) (v := 1) dX14_holds_18 (by decide) ?_
    refine im_iload_n (pc := 19) dX14_holds_19 rfl rfl ?_
    refine im_isub (pc := 20) dX14_holds_20 ?_
    exact im_iret (pc := 21) dX14_holds_21
  · refine im_iconst (pc := 14) (v := 2) dX14_holds_14 (by decide) ?_
    refine im_goto (pc := 15) (tgt := 21) dX14_holds_15 (by decide) ?_
    exact im_iret (pc := 21) dX14_holds_21
noncomputable def no_holds (rec : Option Nat → Option Nat → PH → Option (Int32 × PH)) (a0 : Option Nat) (a1 : Option Nat) (h : PH) : Option (Int32 × PH) := grd (isC [11] a0 h) (no_holds_0 rec a0 a1 h)
theorem no_holds_im {rec : Option Nat → Option Nat → PH → Option (Int32 × PH)} {d0 : Nat} (HR : IM_co_holds rec d0) (hd0 : 60 ≤ d0) : IM_X14_holds (no_holds rec) (d0 + 1) := by
  intro a0 a1 h r h' e
  obtain ⟨e1, e2⟩ := grd_some e
  exact ⟨e1, SpI.of (k := 1) (plainFor_of_name (by decide)) rfl (fun X => Im.drop [true, true, false] rfl (no_holds_0_ok X HR hd0 (Nat.le_refl _) a0 a1 h)) e2⟩
theorem fp_X9_17 : ∀ c ∈ [1], FP RX9 17 c 0 .boolean := List.forall_mem_cons.mpr ⟨⟨RX2, TX2, 9, rfl, in_X2, by decide, apt_X2, rfl, by decide +kernel, Or.inr ⟨_, lw_n q158 rfl⟩⟩, fun _ h => absurd h List.not_mem_nil⟩
def IM_X9_worked (f : Int32 → Int32 → Int32 → Option Nat → PH → Option (Int32 × PH)) (d : Nat) : Prop := ∀ (a0 : Int32) (a1 : Int32) (a2 : Int32) (a3 : Option Nat) (h : PH) (r : Int32) (h' : PH), f a0 a1 a2 a3 h = some (r, h') → SpI yX9_worked cX9_worked 4 (some .int) d [.inl a0, .inl a1, .inl a2, .inr a3] h r h'
noncomputable def ro_worked_53 (v0 : Int32) (v1 : Int32) (v2 : Int32) (h : PH) : Option (Int32 × PH) :=
  (if v2 = 0 then
  some ((0, h))
  else
  (if v0 = 47 then
  if v2 = 0 then none else
  some (((v1 / v2), h))
  else
  if v2 = 0 then none else
  some (((irm v1 v2), h))))
theorem ro_worked_53_ok (X : CT) (v0 : Int32) (v1 : Int32) (v2 : Int32) (h : PH) : Im X (cX9_worked, 4, RX9, "worked", (some .int), 1) 53 [some (.inl v0), some (.inl v1), some (.inl v2), none] [] h (ro_worked_53 v0 v1 v2 h) szI (kI X) := by
  unfold ro_worked_53
  refine im_iload_n (pc := 53) dX9_worked_53 rfl rfl ?_
  refine im_if_ne (pc := 54) (tgt := 61) dX9_worked_54 (by decide) ?_ ?_
  · refine im_iload_n (pc := 61) dX9_worked_61 rfl rfl ?_
    refine im_bipush (pc := 62) (v := 47) dX9_worked_62 (by decide) ?_
    refine im_icmp_ne (pc := 64) (tgt := 73) dX9_worked_64 (by decide) ?_ ?_
    · refine im_iload_n (pc := 73) dX9_worked_73 rfl rfl ?_
      refine im_iload_n (pc := 74) dX9_worked_74 rfl rfl ?_
      refine im_irem (pc := 75) dX9_worked_75 ?_
      exact im_iret (pc := 76) dX9_worked_76
    · refine im_iload_n (pc := 67) dX9_worked_67 rfl rfl ?_
      refine im_iload_n (pc := 68) dX9_worked_68 rfl rfl ?_
      refine im_idiv (pc := 69) dX9_worked_69 ?_
      refine im_goto (pc := 70) (tgt := 76) dX9_worked_70 (by decide) ?_
      exact im_iret (pc := 76) dX9_worked_76
  · refine im_iconst (pc := 57) (v := 0) dX9_worked_57 (by decide) ?_
    refine im_goto (pc := 58) (tgt := 76) dX9_worked_58 (by decide) ?_
    exact im_iret (pc := 76) dX9_worked_76
noncomputable def ro_worked_0 (v0 : Int32) (v1 : Int32) (v2 : Int32) (v3 : Option Nat) (h : PH) : Option (Int32 × PH) :=
  (if v0 = 42 then
  some (((v1 * v2), h))
  else
  (if v0 = 43 then
  some (((v1 + v2), h))
  else
  (if v0 = 45 then
  some (((v1 - v2), h))
  else
  (if v2 = 0 then
  (pf [1] 0 v3 (.inl 1) h).bind fun h51 =>
  ro_worked_53 v0 v1 v2 h51
  else
  ro_worked_53 v0 v1 v2 h))))
theorem ro_worked_0_ok (X : CT) (v0 : Int32) (v1 : Int32) (v2 : Int32) (v3 : Option Nat) (h : PH) : Im X (cX9_worked, 4, RX9, "worked", (some .int), 1) 0 [some (.inl v0), some (.inl v1), some (.inl v2), some (.inr v3)] [] h (ro_worked_0 v0 v1 v2 v3 h) szI (kI X) := by
  unfold ro_worked_0
  refine im_iload_n (pc := 0) dX9_worked_0 rfl rfl ?_
  refine im_tsw (pc := 1) (dt := 44) [(42, 40), (43, 32), (45, 36)] dX9_worked_1 (by decide) ⟨_, _, rfl, ?_, ⟨_, _, rfl, ?_, ⟨_, _, rfl, ?_, ?_⟩⟩⟩
  · refine im_iload_n (pc := 40) dX9_worked_40 rfl rfl ?_
    refine im_iload_n (pc := 41) dX9_worked_41 rfl rfl ?_
    refine im_imul (pc := 42) dX9_worked_42 ?_
    exact im_iret (pc := 43) dX9_worked_43
  · refine im_iload_n (pc := 32) dX9_worked_32 rfl rfl ?_
    refine im_iload_n (pc := 33) dX9_worked_33 rfl rfl ?_
    refine im_iadd (pc := 34) dX9_worked_34 ?_
    exact im_iret (pc := 35) dX9_worked_35
  · refine im_iload_n (pc := 36) dX9_worked_36 rfl rfl ?_
    refine im_iload_n (pc := 37) dX9_worked_37 rfl rfl ?_
    refine im_isub (pc := 38) dX9_worked_38 ?_
    exact im_iret (pc := 39) dX9_worked_39
  · refine im_iload_n (pc := 44) dX9_worked_44 rfl rfl ?_
    refine im_if_ne (pc := 45) (tgt := 53) dX9_worked_45 (by decide) ?_ ?_
    · exact Im.drop [true, true, true, false] rfl (ro_worked_53_ok X v0 v1 v2 h)
    · refine im_aload_n (pc := 48) dX9_worked_48 rfl rfl ?_
      refine im_iconst (pc := 49) (v := 1) dX9_worked_49 (by decide) ?_
      refine im_pf (pc := 50) fp_X9_17 (okT_z (Or.inr rfl)) dX9_worked_50 fun h51 => ?_
      exact Im.drop [true, true, true, false] rfl (ro_worked_53_ok X v0 v1 v2 h51)
noncomputable def ro_worked (a0 : Int32) (a1 : Int32) (a2 : Int32) (a3 : Option Nat) (h : PH) : Option (Int32 × PH) := ro_worked_0 a0 a1 a2 a3 h
theorem ro_worked_im : IM_X9_worked ro_worked 1 := by
  intro a0 a1 a2 a3 h r h' e
  exact SpI.of (k := 0) (plainFor_of_name (by decide)) rfl (fun X => Im.drop [true, true, true, true] rfl (ro_worked_0_ok X a0 a1 a2 a3 h)) e
theorem fl_X9_13 : ∀ c ∈ [7], FL RX9 13 c 1 := List.forall_mem_cons.mpr ⟨⟨RX9, TX9, 3, rfl, in_X9, by decide, Or.inl q558⟩, fun _ h => absurd h List.not_mem_nil⟩
def IM_su_worth (f : Option Nat → Option Nat → PH → Option (Int32 × PH)) (d : Nat) : Prop := ∀ (a0 : Option Nat) (a1 : Option Nat) (h : PH) (r : Int32) (h' : PH), f a0 a1 h = some (r, h') → (isC [7] a0 h = true ∧ ∃ d1, d1 ≤ d ∧ SpI yX9_worth cX9_worth 4 (some .int) d1 [.inr a0, .inr a1] h r h') ∨ (isC [8] a0 h = true ∧ ∃ d1, d1 ≤ d ∧ SpI yX10_worth cX10_worth 2 (some .int) d1 [.inr a0, .inr a1] h r h') ∨ (isC [9] a0 h = true ∧ ∃ d1, d1 ≤ d ∧ SpI yX11_worth cX11_worth 2 (some .int) d1 [.inr a0, .inr a1] h r h')
theorem cl_X9_23 {X : CT} {cc : ByteArray} {nL : Nat} {mn : String} {ret : Option FieldType} {d d0 : Nat} {τ : Type} {pc : Nat} {lv : List (Option PV)} {st : List PV} {h : PH} {sz : τ → Nat × Nat} {K : τ → Prop} {f : Option Nat → Option Nat → PH → Option (Int32 × PH)} (HR : IM_su_worth f d0) {a0 : Option Nat} {a1 : Option Nat} {g : Int32 → PH → Option τ} (hd : d0 + 1 ≤ d) (hdg : decode cc pc = .ok (.invokevirtual 23, 3)) (hst : st.length ≤ 8) (kk : ∀ r h', Im X (cc, nL, RX9, mn, ret, d) (pc + 3) lv (.inl r :: st) h' (g r h') sz K) : Im X (cc, nL, RX9, mn, ret, d) pc lv (.inr a1 :: .inr a0 :: st) h (bd2 (f a0 a1 h) g) sz K := by
  cases eo : f a0 a1 h with
  | none => exact Im.none
  | some res =>
    obtain ⟨r, h'⟩ := res
    rw [← eo]
    rcases HR _ _ _ _ _  eo with ⟨hc, d1, hd1, hsp⟩ | ⟨hc, d1, hd1, hsp⟩ | ⟨hc, d1, hd1, hsp⟩
    · refine im_cI (y := yX9_worth) (cY := cX9_worth) (nY := 4) (rY := (some .int)) (d' := d1) (av := [.inr a0, .inr a1]) (fun r h' e hX => ?_) (fun r h' e => by rw [eo] at e; cases e; exact hsp) (by omega) (by decide) hst rfl kk
      obtain ⟨a, c, fs, rfl, ec, hm⟩ := isC_some hc
      cases List.mem_singleton.mp hm
      exact cal_A (n := 1) hX q883 q867 q880 q881 q121 q882 (lw_n q866 rfl) (by decide +kernel) rfl rfl ec hdg
    · refine im_cI (y := yX10_worth) (cY := cX10_worth) (nY := 2) (rY := (some .int)) (d' := d1) (av := [.inr a0, .inr a1]) (fun r h' e hX => ?_) (fun r h' e => by rw [eo] at e; cases e; exact hsp) (by omega) (by decide) hst rfl kk
      obtain ⟨a, c, fs, rfl, ec, hm⟩ := isC_some hc
      cases List.mem_singleton.mp hm
      exact cal_A (n := 1) hX q883 q867 q877 q878 q122 q879 (lw_n q866 rfl) (by decide +kernel) rfl rfl ec hdg
    · refine im_cI (y := yX11_worth) (cY := cX11_worth) (nY := 2) (rY := (some .int)) (d' := d1) (av := [.inr a0, .inr a1]) (fun r h' e hX => ?_) (fun r h' e => by rw [eo] at e; cases e; exact hsp) (by omega) (by decide) hst rfl kk
      obtain ⟨a, c, fs, rfl, ec, hm⟩ := isC_some hc
      cases List.mem_singleton.mp hm
      exact cal_A (n := 1) hX q883 q867 q868 q869 q123 q870 (lw_n q866 rfl) (by decide +kernel) rfl rfl ec hdg

theorem fl_X9_27 : ∀ c ∈ [7], FL RX9 27 c 2 := List.forall_mem_cons.mpr ⟨⟨RX9, TX9, 3, rfl, in_X9, by decide, Or.inl q559⟩, fun _ h => absurd h List.not_mem_nil⟩
theorem fl_X9_7 : ∀ c ∈ [7], FL RX9 7 c 0 := List.forall_mem_cons.mpr ⟨⟨RX9, TX9, 3, rfl, in_X9, by decide, Or.inl q557⟩, fun _ h => absurd h List.not_mem_nil⟩
theorem cl_X9_31 {X : CT} {cc : ByteArray} {nL : Nat} {mn : String} {ret : Option FieldType} {d d0 : Nat} {τ : Type} {pc : Nat} {lv : List (Option PV)} {st : List PV} {h : PH} {sz : τ → Nat × Nat} {K : τ → Prop} {f : Int32 → Int32 → Int32 → Option Nat → PH → Option (Int32 × PH)} (HR : IM_X9_worked f d0) {a0 : Int32} {a1 : Int32} {a2 : Int32} {a3 : Option Nat} {g : Int32 → PH → Option τ} (hd : d0 + 1 ≤ d) (hdg : decode cc pc = .ok (.invokestatic 31, 3)) (hst : st.length ≤ 8) (kk : ∀ r h', Im X (cc, nL, RX9, mn, ret, d) (pc + 3) lv (.inl r :: st) h' (g r h') sz K) : Im X (cc, nL, RX9, mn, ret, d) pc lv (.inr a3 :: .inl a2 :: .inl a1 :: .inl a0 :: st) h (bd2 (f a0 a1 a2 a3 h) g) sz K := by
  refine im_cI (y := yX9_worked) (cY := cX9_worked) (nY := 4) (rY := (some .int)) (d' := d0) (av := [.inl a0, .inl a1, .inl a2, .inr a3]) (fun r h' e hX => ?_) (fun r h' e => HR _ _ _ _ _ _ _ e) hd (by decide) hst rfl kk
  exact cal_S (n := 4) hX (lw_S q884 q885 q121 q886) (by decide +kernel) rfl hdg

def IM_X9_worth (f : Option Nat → Option Nat → PH → Option (Int32 × PH)) (d : Nat) : Prop := ∀ (a0 : Option Nat) (a1 : Option Nat) (h : PH) (r : Int32) (h' : PH), f a0 a1 h = some (r, h') → isC [7] a0 h = true ∧ SpI yX9_worth cX9_worth 4 (some .int) d [.inr a0, .inr a1] h r h'
noncomputable def ro_worth_b14 (rec : Option Nat → Option Nat → PH → Option (Int32 × PH)) (v1 : Option Nat) (v2 : Int32) (v3 : Option Nat) (h : PH) : Option ((Int32 × Option Nat × PH) ⊕ (Int32 × PH)) :=
  nul v3
  (some (.inr ((v2, h))))
  ((gfi [7] 0 v3 h).bind fun x51 =>
  (gfr [7] 1 v3 h).bind fun r52 =>
  bd2 (rec r52 v1 h) fun x54 h53 =>
  bd2 (ro_worked x51 v2 x54 v1 h53) fun x56 h55 =>
  (gfr [7] 2 v3 h55).bind fun r57 =>
  some (.inl (x56, r57, h55)))
noncomputable def ro_worth_L14 (rec : Option Nat → Option Nat → PH → Option (Int32 × PH)) (v1 : Option Nat) (v2 : Int32) (v3 : Option Nat) (h : PH) : Option (Int32 × PH) :=
  iter (fun s : Int32 × Option Nat × PH => ro_worth_b14 rec v1 s.1 s.2.1 s.2.2) (v2, v3, h)
theorem ro_worth_b14_ok (X : CT) {rec : Option Nat → Option Nat → PH → Option (Int32 × PH)} {d0 d : Nat} (HR : IM_su_worth rec d0) (hd0 : 20 ≤ d0) (hd : d0 + 1 ≤ d) (v1 : Option Nat) (v2 : Int32) (v3 : Option Nat) (h : PH) : Im X (cX9_worth, 4, RX9, "worth", (some .int), d) 14 [none, some (.inr v1), some (.inl v2), some (.inr v3)] [] h (ro_worth_b14 rec v1 v2 v3 h) (ez (fun s : Int32 × Option Nat × PH => s.2.2) szI) (ek X 14 (fun s : Int32 × Option Nat × PH => [none, some (.inr v1), some (.inl s.1), some (.inr s.2.1)]) (fun s : Int32 × Option Nat × PH => s.2.2) (kI X)) := by
  unfold ro_worth_b14
  refine im_aload_n (pc := 14) dX9_worth_14 rfl rfl ?_
  refine im_ifnull (pc := 15) (tgt := 44) dX9_worth_15 (by decide) ?_ ?_
  · refine im_iload_n (pc := 44) dX9_worth_44 rfl rfl ?_
    exact Im.outS (im_iret (pc := 45) dX9_worth_45)
  · refine im_aload_n (pc := 18) dX9_worth_18 rfl rfl ?_
    refine im_gi (pc := 19) fl_X9_7 dX9_worth_19 fun x51 => ?_
    refine im_iload_n (pc := 22) dX9_worth_22 rfl rfl ?_
    refine im_aload_n (pc := 23) dX9_worth_23 rfl rfl ?_
    refine im_gr (pc := 24) fl_X9_13 dX9_worth_24 fun r52 => ?_
    refine im_aload_n (pc := 27) dX9_worth_27 rfl rfl ?_
    refine cl_X9_23 HR (pc := 28) (by omega) dX9_worth_28 (Nat.le_of_ble_eq_true rfl) fun x54 h53 => ?_
    refine im_aload_n (pc := 31) dX9_worth_31 rfl rfl ?_
    refine cl_X9_31 ro_worked_im (pc := 32) (by omega) dX9_worth_32 (Nat.le_of_ble_eq_true rfl) fun x56 h55 => ?_
    refine im_istore_n (pc := 35) (lv' := [none, some (.inr v1), some (.inl x56), some (.inr v3)]) dX9_worth_35 rfl (by decide) rfl ?_
    refine im_aload_n (pc := 36) dX9_worth_36 rfl rfl ?_
    refine im_gr (pc := 37) fl_X9_27 dX9_worth_37 fun r57 => ?_
    refine im_astore_n (pc := 40) (lv' := [none, some (.inr v1), some (.inl x56), some (.inr r57)]) dX9_worth_40 rfl (by decide) rfl ?_
    refine im_goto (pc := 41) (tgt := 14) dX9_worth_41 (by decide) ?_
    exact Im.back [false, true, true, true] rfl rfl
theorem ro_worth_L14_ok (X : CT) {rec : Option Nat → Option Nat → PH → Option (Int32 × PH)} {d0 d : Nat} (HR : IM_su_worth rec d0) (hd0 : 20 ≤ d0) (hd : d0 + 1 ≤ d) (v1 : Option Nat) (v2 : Int32) (v3 : Option Nat) (h : PH) : Im X (cX9_worth, 4, RX9, "worth", (some .int), d) 14 [none, some (.inr v1), some (.inl v2), some (.inr v3)] [] h (ro_worth_L14 rec v1 v2 v3 h) szI (kI X) := by
  unfold ro_worth_L14
  exact Im.iter (lv := (fun s : Int32 × Option Nat × PH => [none, some (.inr v1), some (.inl s.1), some (.inr s.2.1)])) (hp := (fun s : Int32 × Option Nat × PH => s.2.2)) (fun s => ro_worth_b14_ok X HR hd0 hd v1 s.1 s.2.1 s.2.2) _ rfl rfl
noncomputable def ro_worth_0 (rec : Option Nat → Option Nat → PH → Option (Int32 × PH)) (v0 : Option Nat) (v1 : Option Nat) (h : PH) : Option (Int32 × PH) :=
  (gfr [7] 1 v0 h).bind fun r51 =>
  bd2 (rec r51 v1 h) fun x53 h52 =>
  (gfr [7] 2 v0 h52).bind fun r54 =>
  ro_worth_L14 rec v1 x53 r54 h52
theorem ro_worth_0_ok (X : CT) {rec : Option Nat → Option Nat → PH → Option (Int32 × PH)} {d0 d : Nat} (HR : IM_su_worth rec d0) (hd0 : 20 ≤ d0) (hd : d0 + 1 ≤ d) (v0 : Option Nat) (v1 : Option Nat) (h : PH) : Im X (cX9_worth, 4, RX9, "worth", (some .int), d) 0 [some (.inr v0), some (.inr v1), none, none] [] h (ro_worth_0 rec v0 v1 h) szI (kI X) := by
  unfold ro_worth_0
  refine im_aload_n (pc := 0) dX9_worth_0 rfl rfl ?_
  refine im_gr (pc := 1) fl_X9_13 dX9_worth_1 fun r51 => ?_
  refine im_aload_n (pc := 4) dX9_worth_4 rfl rfl ?_
  refine cl_X9_23 HR (pc := 5) (by omega) dX9_worth_5 (Nat.le_of_ble_eq_true rfl) fun x53 h52 => ?_
  refine im_istore_n (pc := 8) (lv' := [some (.inr v0), some (.inr v1), some (.inl x53), none]) dX9_worth_8 rfl (by decide) rfl ?_
  refine im_aload_n (pc := 9) dX9_worth_9 rfl rfl ?_
  refine im_gr (pc := 10) fl_X9_27 dX9_worth_10 fun r54 => ?_
  refine im_astore_n (pc := 13) (lv' := [some (.inr v0), some (.inr v1), some (.inl x53), some (.inr r54)]) dX9_worth_13 rfl (by decide) rfl ?_
  exact Im.drop [false, true, true, true] rfl (ro_worth_L14_ok X HR hd0 hd v1 x53 r54 h52)
noncomputable def ro_worth (rec : Option Nat → Option Nat → PH → Option (Int32 × PH)) (a0 : Option Nat) (a1 : Option Nat) (h : PH) : Option (Int32 × PH) := grd (isC [7] a0 h) (ro_worth_0 rec a0 a1 h)
theorem ro_worth_im {rec : Option Nat → Option Nat → PH → Option (Int32 × PH)} {d0 : Nat} (HR : IM_su_worth rec d0) (hd0 : 20 ≤ d0) : IM_X9_worth (ro_worth rec) (d0 + 1) := by
  intro a0 a1 h r h' e
  obtain ⟨e1, e2⟩ := grd_some e
  exact ⟨e1, SpI.of (k := 2) (plainFor_of_name (by decide)) rfl (fun X => Im.drop [true, true, false, false] rfl (ro_worth_0_ok X HR hd0 (Nat.le_refl _) a0 a1 h)) e2⟩
theorem fl_X10_7 : ∀ c ∈ [8], FL RX10 7 c 0 := List.forall_mem_cons.mpr ⟨⟨RX10, TX10, 1, rfl, in_X10, by decide, Or.inl q538⟩, fun _ h => absurd h List.not_mem_nil⟩
def IM_X10_worth (f : Option Nat → Option Nat → PH → Option (Int32)) (d : Nat) : Prop := ∀ (a0 : Option Nat) (a1 : Option Nat) (h : PH) (r : Int32), f a0 a1 h = some r → isC [8] a0 h = true ∧ SpI yX10_worth cX10_worth 2 (some .int) d [.inr a0, .inr a1] h r h
noncomputable def nu_worth_0 (v0 : Option Nat) (h : PH) : Option (Int32) :=
  (gfi [8] 0 v0 h).bind fun x51 =>
  some (x51)
theorem nu_worth_0_ok (X : CT) (v0 : Option Nat) (h : PH) : Im X (cX10_worth, 2, RX10, "worth", (some .int), 1) 0 [some (.inr v0), none] [] h (nu_worth_0 v0 h) (szP h) (kP X h) := by
  unfold nu_worth_0
  refine im_aload_n (pc := 0) dX10_worth_0 rfl rfl ?_
  refine im_gi (pc := 1) fl_X10_7 dX10_worth_1 fun x51 => ?_
  exact im_iretP (pc := 4) dX10_worth_4
noncomputable def nu_worth (a0 : Option Nat) (a1 : Option Nat) (h : PH) : Option (Int32) := grd (isC [8] a0 h) (nu_worth_0 a0 h)
theorem nu_worth_im : IM_X10_worth nu_worth 1 := by
  intro a0 a1 h r e
  obtain ⟨e1, e2⟩ := grd_some e
  exact ⟨e1, SpI.ofP (k := 0) (plainFor_of_name (by decide)) rfl (fun X => Im.drop [true, false] rfl (nu_worth_0_ok X a0 h)) e2⟩
theorem fl_X2_33 : ∀ c ∈ [1], FL RX2 33 c 8 := List.forall_mem_cons.mpr ⟨⟨RX2, TX2, 9, rfl, in_X2, by decide, Or.inl q156⟩, fun _ h => absurd h List.not_mem_nil⟩
theorem fl_X2_15 : ∀ c ∈ [1], FL RX2 15 c 2 := List.forall_mem_cons.mpr ⟨⟨RX2, TX2, 9, rfl, in_X2, by decide, Or.inl q150⟩, fun _ h => absurd h List.not_mem_nil⟩
theorem fl_X2_24 : ∀ c ∈ [1], FL RX2 24 c 5 := List.forall_mem_cons.mpr ⟨⟨RX2, TX2, 9, rfl, in_X2, by decide, Or.inl q153⟩, fun _ h => absurd h List.not_mem_nil⟩
theorem fl_X2_30 : ∀ c ∈ [1], FL RX2 30 c 7 := List.forall_mem_cons.mpr ⟨⟨RX2, TX2, 9, rfl, in_X2, by decide, Or.inl q155⟩, fun _ h => absurd h List.not_mem_nil⟩
theorem fl_X2_27 : ∀ c ∈ [1], FL RX2 27 c 6 := List.forall_mem_cons.mpr ⟨⟨RX2, TX2, 9, rfl, in_X2, by decide, Or.inl q154⟩, fun _ h => absurd h List.not_mem_nil⟩
theorem fl_X2_9 : ∀ c ∈ [1], FL RX2 9 c 1 := List.forall_mem_cons.mpr ⟨⟨RX2, TX2, 9, rfl, in_X2, by decide, Or.inl q149⟩, fun _ h => absurd h List.not_mem_nil⟩
theorem fl_X2_18 : ∀ c ∈ [1], FL RX2 18 c 3 := List.forall_mem_cons.mpr ⟨⟨RX2, TX2, 9, rfl, in_X2, by decide, Or.inl q151⟩, fun _ h => absurd h List.not_mem_nil⟩
theorem fl_X2_21 : ∀ c ∈ [1], FL RX2 21 c 4 := List.forall_mem_cons.mpr ⟨⟨RX2, TX2, 9, rfl, in_X2, by decide, Or.inl q152⟩, fun _ h => absurd h List.not_mem_nil⟩
def IM_X2_value (f : Option Nat → Int32 → PH → Option (Int32)) (d : Nat) : Prop := ∀ (a0 : Option Nat) (a1 : Int32) (h : PH) (r : Int32), f a0 a1 h = some r → isC [1] a0 h = true ∧ SpI yX2_value cX2_value 2 (some .int) d [.inr a0, .inl a1] h r h
noncomputable def mt_value_0 (v0 : Option Nat) (v1 : Int32) (h : PH) : Option (Int32) :=
  (if v1 = 107 then
  (gfi [1] 2 v0 h).bind fun x52 =>
  some (x52)
  else
  (if v1 = 109 then
  (gfi [1] 5 v0 h).bind fun x53 =>
  some (x53)
  else
  (if v1 = 110 then
  (gfi [1] 7 v0 h).bind fun x54 =>
  some (x54)
  else
  (if v1 = 111 then
  (gfi [1] 6 v0 h).bind fun x55 =>
  some (x55)
  else
  (if v1 = 112 then
  (gfi [1] 1 v0 h).bind fun x56 =>
  some (x56)
  else
  (if v1 = 115 then
  (gfi [1] 3 v0 h).bind fun x57 =>
  some (x57)
  else
  (if v1 = 117 then
  (gfi [1] 4 v0 h).bind fun x58 =>
  some (x58)
  else
  (gfi [1] 8 v0 h).bind fun x51 =>
  some (x51))))))))
theorem mt_value_0_ok (X : CT) (v0 : Option Nat) (v1 : Int32) (h : PH) : Im X (cX2_value, 2, RX2, "value", (some .int), 1) 0 [some (.inr v0), some (.inl v1)] [] h (mt_value_0 v0 v1 h) (szP h) (kP X h) := by
  unfold mt_value_0
  refine im_iload_n (pc := 0) dX2_value_0 rfl rfl ?_
  refine im_tsw (pc := 1) (dt := 95) [(107, 65), (109, 80), (110, 90), (111, 85), (112, 60), (115, 70), (117, 75)] dX2_value_1 (by decide) ⟨_, _, rfl, ?_, ⟨_, _, rfl, ?_, ⟨_, _, rfl, ?_, ⟨_, _, rfl, ?_, ⟨_, _, rfl, ?_, ⟨_, _, rfl, ?_, ⟨_, _, rfl, ?_, ?_⟩⟩⟩⟩⟩⟩⟩
  · refine im_aload_n (pc := 65) dX2_value_65 rfl rfl ?_
    refine im_gi (pc := 66) fl_X2_15 dX2_value_66 fun x52 => ?_
    exact im_iretP (pc := 69) dX2_value_69
  · refine im_aload_n (pc := 80) dX2_value_80 rfl rfl ?_
    refine im_gi (pc := 81) fl_X2_24 dX2_value_81 fun x53 => ?_
    exact im_iretP (pc := 84) dX2_value_84
  · refine im_aload_n (pc := 90) dX2_value_90 rfl rfl ?_
    refine im_gi (pc := 91) fl_X2_30 dX2_value_91 fun x54 => ?_
    exact im_iretP (pc := 94) dX2_value_94
  · refine im_aload_n (pc := 85) dX2_value_85 rfl rfl ?_
    refine im_gi (pc := 86) fl_X2_27 dX2_value_86 fun x55 => ?_
    exact im_iretP (pc := 89) dX2_value_89
  · refine im_aload_n (pc := 60) dX2_value_60 rfl rfl ?_
    refine im_gi (pc := 61) fl_X2_9 dX2_value_61 fun x56 => ?_
    exact im_iretP (pc := 64) dX2_value_64
  · refine im_aload_n (pc := 70) dX2_value_70 rfl rfl ?_
    refine im_gi (pc := 71) fl_X2_18 dX2_value_71 fun x57 => ?_
    exact im_iretP (pc := 74) dX2_value_74
  · refine im_aload_n (pc := 75) dX2_value_75 rfl rfl ?_
    refine im_gi (pc := 76) fl_X2_21 dX2_value_76 fun x58 => ?_
    exact im_iretP (pc := 79) dX2_value_79
  · refine im_aload_n (pc := 95) dX2_value_95 rfl rfl ?_
    refine im_gi (pc := 96) fl_X2_33 dX2_value_96 fun x51 => ?_
    exact im_iretP (pc := 99) dX2_value_99
noncomputable def mt_value (a0 : Option Nat) (a1 : Int32) (h : PH) : Option (Int32) := grd (isC [1] a0 h) (mt_value_0 a0 a1 h)
theorem mt_value_im : IM_X2_value mt_value 1 := by
  intro a0 a1 h r e
  obtain ⟨e1, e2⟩ := grd_some e
  exact ⟨e1, SpI.ofP (k := 0) (plainFor_of_name (by decide)) rfl (fun X => Im.drop [true, true] rfl (mt_value_0_ok X a0 a1 h)) e2⟩
theorem fl_X11_7 : ∀ c ∈ [9], FL RX11 7 c 0 := List.forall_mem_cons.mpr ⟨⟨RX11, TX11, 1, rfl, in_X11, by decide, Or.inl q549⟩, fun _ h => absurd h List.not_mem_nil⟩
theorem cl_X11_13 {X : CT} {cc : ByteArray} {nL : Nat} {mn : String} {ret : Option FieldType} {d d0 : Nat} {τ : Type} {pc : Nat} {lv : List (Option PV)} {st : List PV} {h : PH} {sz : τ → Nat × Nat} {K : τ → Prop} {f : Option Nat → Int32 → PH → Option (Int32)} (HR : IM_X2_value f d0) {a0 : Option Nat} {a1 : Int32} {g : Int32 → Option τ} (hd : d0 + 1 ≤ d) (hdg : decode cc pc = .ok (.invokevirtual 13, 3)) (hst : st.length ≤ 8) (kk : ∀ r, Im X (cc, nL, RX11, mn, ret, d) (pc + 3) lv (.inl r :: st) h (g r) sz K) : Im X (cc, nL, RX11, mn, ret, d) pc lv (.inl a1 :: .inr a0 :: st) h ((f a0 a1 h).bind g) sz K := by
  refine im_cP (y := yX2_value) (cY := cX2_value) (nY := 2) (rY := (some .int)) (d' := d0) (av := [.inr a0, .inl a1]) (fun r e hX => ?_) (fun r e => (HR _ _ _ _ e).2) hd (by decide) hst rfl kk
  obtain ⟨a, c, fs, rfl, ec, hm⟩ := isC_some (HR _ _ _ _ e).1
  cases List.mem_singleton.mp hm
  exact cal_A (n := 1) hX q871 q873 q874 q875 q108 q876 (lw_n q872 rfl) (by decide +kernel) rfl rfl ec hdg

def IM_X11_worth (f : Option Nat → Option Nat → PH → Option (Int32)) (d : Nat) : Prop := ∀ (a0 : Option Nat) (a1 : Option Nat) (h : PH) (r : Int32), f a0 a1 h = some r → isC [9] a0 h = true ∧ SpI yX11_worth cX11_worth 2 (some .int) d [.inr a0, .inr a1] h r h
noncomputable def le_worth_0 (v0 : Option Nat) (v1 : Option Nat) (h : PH) : Option (Int32) :=
  (gfi [9] 0 v0 h).bind fun x51 =>
  (mt_value v1 x51 h).bind fun x52 =>
  some (x52)
theorem le_worth_0_ok (X : CT) (v0 : Option Nat) (v1 : Option Nat) (h : PH) : Im X (cX11_worth, 2, RX11, "worth", (some .int), 2) 0 [some (.inr v0), some (.inr v1)] [] h (le_worth_0 v0 v1 h) (szP h) (kP X h) := by
  unfold le_worth_0
  refine im_aload_n (pc := 0) dX11_worth_0 rfl rfl ?_
  refine im_aload_n (pc := 1) dX11_worth_1 rfl rfl ?_
  refine im_gi (pc := 2) fl_X11_7 dX11_worth_2 fun x51 => ?_
  refine cl_X11_13 mt_value_im (pc := 5) (by decide) dX11_worth_5 (Nat.le_of_ble_eq_true rfl) fun x52 => ?_
  exact im_iretP (pc := 8) dX11_worth_8
noncomputable def le_worth (a0 : Option Nat) (a1 : Option Nat) (h : PH) : Option (Int32) := grd (isC [9] a0 h) (le_worth_0 a0 a1 h)
theorem le_worth_im : IM_X11_worth le_worth 2 := by
  intro a0 a1 h r e
  obtain ⟨e1, e2⟩ := grd_some e
  exact ⟨e1, SpI.ofP (k := 0) (plainFor_of_name (by decide)) rfl (fun X => Im.drop [true, true] rfl (le_worth_0_ok X a0 a1 h)) e2⟩
noncomputable def su_worth : Nat → Option Nat → Option Nat → PH → Option (Int32 × PH)
  | 0 => fun _ _ _ => none
  | n + 1 => fun a0 a1 h => if isC [7] a0 h = true then ro_worth (su_worth n) a0 a1 h else if isC [8] a0 h = true then (nu_worth a0 a1 h).map fun r => (r, h) else if isC [9] a0 h = true then (le_worth a0 a1 h).map fun r => (r, h) else none
theorem su_worth_im : ∀ n : Nat, IM_su_worth (su_worth n) (20 + n)
  | 0 => by
    intro a0 a1 h r h' e
    cases e
  | n + 1 => by
    intro a0 a1 h r h' e
    unfold su_worth at e
    split at e
    · rename_i hc
      have := ro_worth_im (su_worth_im n) (by omega) _ _ _ _ _ e
      exact Or.inl ⟨hc, _, by omega, this.2⟩
    · skip
      split at e
      · rename_i hc
        obtain ⟨x, hx, hp⟩ := Option.map_eq_some_iff.mp e
        cases hp
        exact Or.inr (Or.inl ⟨hc, _, by omega, (nu_worth_im _ _ _ _ hx).2⟩)
      · skip
        split at e
        · rename_i hc
          obtain ⟨x, hx, hp⟩ := Option.map_eq_some_iff.mp e
          cases hp
          exact Or.inr (Or.inr ⟨hc, _, by omega, (le_worth_im _ _ _ _ hx).2⟩)
        · cases e
theorem fp_X15_20 : ∀ c ∈ [1], FP RX15 20 c 0 .boolean := List.forall_mem_cons.mpr ⟨⟨RX2, TX2, 9, rfl, in_X2, by decide, apt_X2, rfl, by decide +kernel, Or.inr ⟨_, lw_n q157 rfl⟩⟩, fun _ h => absurd h List.not_mem_nil⟩
theorem fl_X15_7 : ∀ c ∈ [12], FL RX15 7 c 0 := List.forall_mem_cons.mpr ⟨⟨RX15, TX15, 3, rfl, in_X15, by decide, Or.inl q601⟩, fun _ h => absurd h List.not_mem_nil⟩
theorem cl_X15_26 {X : CT} {cc : ByteArray} {nL : Nat} {mn : String} {ret : Option FieldType} {d d0 : Nat} {τ : Type} {pc : Nat} {lv : List (Option PV)} {st : List PV} {h : PH} {sz : τ → Nat × Nat} {K : τ → Prop} {f : Option Nat → Option Nat → PH → Option (Int32 × PH)} (HR : IM_su_worth f d0) {a0 : Option Nat} {a1 : Option Nat} {g : Int32 → PH → Option τ} (hd : d0 + 1 ≤ d) (hdg : decode cc pc = .ok (.invokevirtual 26, 3)) (hst : st.length ≤ 8) (kk : ∀ r h', Im X (cc, nL, RX15, mn, ret, d) (pc + 3) lv (.inl r :: st) h' (g r h') sz K) : Im X (cc, nL, RX15, mn, ret, d) pc lv (.inr a1 :: .inr a0 :: st) h (bd2 (f a0 a1 h) g) sz K := by
  cases eo : f a0 a1 h with
  | none => exact Im.none
  | some res =>
    obtain ⟨r, h'⟩ := res
    rw [← eo]
    rcases HR _ _ _ _ _  eo with ⟨hc, d1, hd1, hsp⟩ | ⟨hc, d1, hd1, hsp⟩ | ⟨hc, d1, hd1, hsp⟩
    · refine im_cI (y := yX9_worth) (cY := cX9_worth) (nY := 4) (rY := (some .int)) (d' := d1) (av := [.inr a0, .inr a1]) (fun r h' e hX => ?_) (fun r h' e => by rw [eo] at e; cases e; exact hsp) (by omega) (by decide) hst rfl kk
      obtain ⟨a, c, fs, rfl, ec, hm⟩ := isC_some hc
      cases List.mem_singleton.mp hm
      exact cal_A (n := 1) hX q865 q867 q880 q881 q121 q882 (lw_n q866 rfl) (by decide +kernel) rfl rfl ec hdg
    · refine im_cI (y := yX10_worth) (cY := cX10_worth) (nY := 2) (rY := (some .int)) (d' := d1) (av := [.inr a0, .inr a1]) (fun r h' e hX => ?_) (fun r h' e => by rw [eo] at e; cases e; exact hsp) (by omega) (by decide) hst rfl kk
      obtain ⟨a, c, fs, rfl, ec, hm⟩ := isC_some hc
      cases List.mem_singleton.mp hm
      exact cal_A (n := 1) hX q865 q867 q877 q878 q122 q879 (lw_n q866 rfl) (by decide +kernel) rfl rfl ec hdg
    · refine im_cI (y := yX11_worth) (cY := cX11_worth) (nY := 2) (rY := (some .int)) (d' := d1) (av := [.inr a0, .inr a1]) (fun r h' e hX => ?_) (fun r h' e => by rw [eo] at e; cases e; exact hsp) (by omega) (by decide) hst rfl kk
      obtain ⟨a, c, fs, rfl, ec, hm⟩ := isC_some hc
      cases List.mem_singleton.mp hm
      exact cal_A (n := 1) hX q865 q867 q868 q869 q123 q870 (lw_n q866 rfl) (by decide +kernel) rfl rfl ec hdg

theorem fl_X15_17 : ∀ c ∈ [12], FL RX15 17 c 1 := List.forall_mem_cons.mpr ⟨⟨RX15, TX15, 3, rfl, in_X15, by decide, Or.inl q602⟩, fun _ h => absurd h List.not_mem_nil⟩
theorem fl_X15_13 : ∀ c ∈ [12], FL RX15 13 c 2 := List.forall_mem_cons.mpr ⟨⟨RX15, TX15, 3, rfl, in_X15, by decide, Or.inl q603⟩, fun _ h => absurd h List.not_mem_nil⟩
theorem fl_X15_20 : ∀ c ∈ [1], FL RX15 20 c 0 := List.forall_mem_cons.mpr ⟨⟨RX2, TX2, 9, rfl, in_X2, by decide, Or.inr ⟨_, lw_n q157 rfl⟩⟩, fun _ h => absurd h List.not_mem_nil⟩
def IM_X15_holds (f : Option Nat → Option Nat → PH → Option (Int32 × PH)) (d : Nat) : Prop := ∀ (a0 : Option Nat) (a1 : Option Nat) (h : PH) (r : Int32) (h' : PH), f a0 a1 h = some (r, h') → isC [12] a0 h = true ∧ SpI yX15_holds cX15_holds 5 (some .int) d [.inr a0, .inr a1] h r h'
noncomputable def cp_holds_77 (v1 : Option Nat) (s0 : Int32) (h : PH) : Option (Int32 × PH) :=
  (gfi [1] 0 v1 h).bind fun x51 =>
  (if x51 = 0 then
  (if s0 = 0 then
  some ((0, h))
  else
  some ((1, h)))
  else
  some ((2, h)))
theorem cp_holds_77_ok (X : CT) (v1 : Option Nat) (s0 : Int32) (h : PH) : Im X (cX15_holds, 5, RX15, "holds", (some .int), 51) 77 [none, some (.inr v1), none, none, none] [.inl s0] h (cp_holds_77 v1 s0 h) szI (kI X) := by
  unfold cp_holds_77
  refine im_istore (pc := 77) (lv' := [none, some (.inr v1), none, none, some (.inl s0)]) dX15_holds_77 (by decide) rfl ?_
  refine im_aload_n (pc := 79) dX15_holds_79 rfl rfl ?_
  refine im_gi (pc := 80) fl_X15_20 dX15_holds_80 fun x51 => ?_
  refine im_if_eq (pc := 83) (tgt := 90) dX15_holds_83 (by decide) ?_ ?_
  · refine im_iload (pc := 90) dX15_holds_90 rfl ?_
    refine im_if_eq (pc := 92) (tgt := 99) dX15_holds_92 (by decide) ?_ ?_
    · refine im_iconst (pc := 99) (v := 0) dX15_holds_99 (by decide) ?_
      exact im_iret (pc := 100) dX15_holds_100
    · refine im_iconst (pc := 95) (v := 1) dX15_holds_95 (by decide) ?_
      refine im_goto (pc := 96) (tgt := 100) dX15_holds_96 (by decide) ?_
      exact im_iret (pc := 100) dX15_holds_100
  · refine im_iconst (pc := 86) (v := 2) dX15_holds_86 (by decide) ?_
    refine im_goto (pc := 87) (tgt := 100) dX15_holds_87 (by decide) ?_
    exact im_iret (pc := 100) dX15_holds_100
noncomputable def cp_holds_0 (v0 : Option Nat) (v1 : Option Nat) (h : PH) : Option (Int32 × PH) :=
  (pf [1] 0 v1 (.inl 0) h).bind fun h51 =>
  (gfr [12] 0 v0 h51).bind fun r52 =>
  bd2 (su_worth 30 r52 v1 h51) fun x54 h53 =>
  (gfr [12] 1 v0 h53).bind fun r55 =>
  bd2 (su_worth 30 r55 v1 h53) fun x57 h56 =>
  (gfi [12] 2 v0 h56).bind fun x58 =>
  (if x58 = 60 then
  (if x57 ≤ x54 then
  cp_holds_77 v1 0 h56
  else
  cp_holds_77 v1 1 h56)
  else
  (gfi [12] 2 v0 h56).bind fun x59 =>
  (if x59 = 62 then
  (if x54 ≤ x57 then
  cp_holds_77 v1 0 h56
  else
  cp_holds_77 v1 1 h56)
  else
  (if x54 = x57 then
  cp_holds_77 v1 1 h56
  else
  cp_holds_77 v1 0 h56)))
theorem cp_holds_0_ok (X : CT) (v0 : Option Nat) (v1 : Option Nat) (h : PH) : Im X (cX15_holds, 5, RX15, "holds", (some .int), 51) 0 [some (.inr v0), some (.inr v1), none, none, none] [] h (cp_holds_0 v0 v1 h) szI (kI X) := by
  unfold cp_holds_0
  refine im_aload_n (pc := 0) dX15_holds_0 rfl rfl ?_
  refine im_iconst (pc := 1) (v := 0) dX15_holds_1 (by decide) ?_
  refine im_pf (pc := 2) fp_X15_20 (okT_z (Or.inl rfl)) dX15_holds_2 fun h51 => ?_
  refine im_aload_n (pc := 5) dX15_holds_5 rfl rfl ?_
  refine im_gr (pc := 6) fl_X15_7 dX15_holds_6 fun r52 => ?_
  refine im_aload_n (pc := 9) dX15_holds_9 rfl rfl ?_
  refine cl_X15_26 (su_worth_im 30) (pc := 10) (by decide) dX15_holds_10 (Nat.le_of_ble_eq_true rfl) fun x54 h53 => ?_
  refine im_istore_n (pc := 13) (lv' := [some (.inr v0), some (.inr v1), some (.inl x54), none, none]) dX15_holds_13 rfl (by decide) rfl ?_
  refine im_aload_n (pc := 14) dX15_holds_14 rfl rfl ?_
  refine im_gr (pc := 15) fl_X15_17 dX15_holds_15 fun r55 => ?_
  refine im_aload_n (pc := 18) dX15_holds_18 rfl rfl ?_
  refine cl_X15_26 (su_worth_im 30) (pc := 19) (by decide) dX15_holds_19 (Nat.le_of_ble_eq_true rfl) fun x57 h56 => ?_
  refine im_istore_n (pc := 22) (lv' := [some (.inr v0), some (.inr v1), some (.inl x54), some (.inl x57), none]) dX15_holds_22 rfl (by decide) rfl ?_
  refine im_aload_n (pc := 23) dX15_holds_23 rfl rfl ?_
  refine im_gi (pc := 24) fl_X15_13 dX15_holds_24 fun x58 => ?_
  refine im_bipush (pc := 27) (v := 60) dX15_holds_27 (by decide) ?_
  refine im_icmp_ne (pc := 29) (tgt := 45) dX15_holds_29 (by decide) ?_ ?_
  · refine im_aload_n (pc := 45) dX15_holds_45 rfl rfl ?_
    refine im_gi (pc := 46) fl_X15_13 dX15_holds_46 fun x59 => ?_
    refine im_bipush (pc := 49) (v := 62) dX15_holds_49 (by decide) ?_
    refine im_icmp_ne (pc := 51) (tgt := 67) dX15_holds_51 (by decide) ?_ ?_
    · refine im_iload_n (pc := 67) dX15_holds_67 rfl rfl ?_
      refine im_iload_n (pc := 68) dX15_holds_68 rfl rfl ?_
      refine im_icmp_ne (pc := 69) (tgt := 76) dX15_holds_69 (by decide) ?_ ?_
      · refine im_iconst (pc := 76) (v := 0) dX15_holds_76 (by decide) ?_
        exact Im.drop [false, true, false, false, false] rfl (cp_holds_77_ok X v1 0 h56)
      · refine im_iconst (pc := 72) (v := 1) dX15_holds_72 (by decide) ?_
        refine im_goto (pc := 73) (tgt := 77) dX15_holds_73 (by decide) ?_
        exact Im.drop [false, true, false, false, false] rfl (cp_holds_77_ok X v1 1 h56)
    · refine im_iload_n (pc := 54) dX15_holds_54 rfl rfl ?_
      refine im_iload_n (pc := 55) dX15_holds_55 rfl rfl ?_
      refine im_icmp_le (pc := 56) (tgt := 63) dX15_holds_56 (by decide) ?_ ?_
      · refine im_iconst (pc := 63) (v := 0) dX15_holds_63 (by decide) ?_
        refine im_goto (pc := 64) (tgt := 77) dX15_holds_64 (by decide) ?_
        exact Im.drop [false, true, false, false, false] rfl (cp_holds_77_ok X v1 0 h56)
      · refine im_iconst (pc := 59) (v := 1) dX15_holds_59 (by decide) ?_
        refine im_goto (pc := 60) (tgt := 77) dX15_holds_60 (by decide) ?_
        exact Im.drop [false, true, false, false, false] rfl (cp_holds_77_ok X v1 1 h56)
  · refine im_iload_n (pc := 32) dX15_holds_32 rfl rfl ?_
    refine im_iload_n (pc := 33) dX15_holds_33 rfl rfl ?_
    refine im_icmp_ge (pc := 34) (tgt := 41) dX15_holds_34 (by decide) ?_ ?_
    · refine im_iconst (pc := 41) (v := 0) dX15_holds_41 (by decide) ?_
      refine im_goto (pc := 42) (tgt := 77) dX15_holds_42 (by decide) ?_
      exact Im.drop [false, true, false, false, false] rfl (cp_holds_77_ok X v1 0 h56)
    · refine im_iconst (pc := 37) (v := 1) dX15_holds_37 (by decide) ?_
      refine im_goto (pc := 38) (tgt := 77) dX15_holds_38 (by decide) ?_
      exact Im.drop [false, true, false, false, false] rfl (cp_holds_77_ok X v1 1 h56)
noncomputable def cp_holds (a0 : Option Nat) (a1 : Option Nat) (h : PH) : Option (Int32 × PH) := grd (isC [12] a0 h) (cp_holds_0 a0 a1 h)
theorem cp_holds_im : IM_X15_holds cp_holds 51 := by
  intro a0 a1 h r h' e
  obtain ⟨e1, e2⟩ := grd_some e
  exact ⟨e1, SpI.of (k := 3) (plainFor_of_name (by decide)) rfl (fun X => Im.drop [true, true, false, false, false] rfl (cp_holds_0_ok X a0 a1 h)) e2⟩
noncomputable def co_holds : Nat → Option Nat → Option Nat → PH → Option (Int32 × PH)
  | 0 => fun _ _ _ => none
  | n + 1 => fun a0 a1 h => if isC [10] a0 h = true then so_holds (co_holds n) a0 a1 h else if isC [11] a0 h = true then no_holds (co_holds n) a0 a1 h else if isC [12] a0 h = true then cp_holds a0 a1 h else none
theorem co_holds_im : ∀ n : Nat, IM_co_holds (co_holds n) (60 + n)
  | 0 => by
    intro a0 a1 h r h' e
    cases e
  | n + 1 => by
    intro a0 a1 h r h' e
    unfold co_holds at e
    split at e
    · rename_i hc
      have := so_holds_im (co_holds_im n) (by omega) _ _ _ _ _ e
      exact Or.inl ⟨hc, _, by omega, this.2⟩
    · skip
      split at e
      · rename_i hc
        have := no_holds_im (co_holds_im n) (by omega) _ _ _ _ _ e
        exact Or.inr (Or.inl ⟨hc, _, by omega, this.2⟩)
      · skip
        split at e
        · rename_i hc
          exact Or.inr (Or.inr ⟨hc, _, by omega, (cp_holds_im _ _ _ _ _ e).2⟩)
        · cases e
theorem fl_X5_27 : ∀ c ∈ [4], FL RX5 27 c 3 := List.forall_mem_cons.mpr ⟨⟨RX5, TX5, 4, rfl, in_X5, by decide, Or.inl q258⟩, fun _ h => absurd h List.not_mem_nil⟩
theorem fl_X5_9 : ∀ c ∈ [4], FL RX5 9 c 0 := List.forall_mem_cons.mpr ⟨⟨RX5, TX5, 4, rfl, in_X5, by decide, Or.inl q252⟩, fun _ h => absurd h List.not_mem_nil⟩
theorem fl_X5_23 : ∀ c ∈ [4], FL RX5 23 c 2 := List.forall_mem_cons.mpr ⟨⟨RX5, TX5, 4, rfl, in_X5, by decide, Or.inl q256⟩, fun _ h => absurd h List.not_mem_nil⟩
theorem cl_X5_31 {X : CT} {cc : ByteArray} {nL : Nat} {mn : String} {ret : Option FieldType} {d d0 : Nat} {τ : Type} {pc : Nat} {lv : List (Option PV)} {st : List PV} {h : PH} {sz : τ → Nat × Nat} {K : τ → Prop} {f : Option Nat → Option Nat → PH → Option (Int32 × PH)} (HR : IM_co_holds f d0) {a0 : Option Nat} {a1 : Option Nat} {g : Int32 → PH → Option τ} (hd : d0 + 1 ≤ d) (hdg : decode cc pc = .ok (.invokevirtual 31, 3)) (hst : st.length ≤ 8) (kk : ∀ r h', Im X (cc, nL, RX5, mn, ret, d) (pc + 3) lv (.inl r :: st) h' (g r h') sz K) : Im X (cc, nL, RX5, mn, ret, d) pc lv (.inr a1 :: .inr a0 :: st) h (bd2 (f a0 a1 h) g) sz K := by
  cases eo : f a0 a1 h with
  | none => exact Im.none
  | some res =>
    obtain ⟨r, h'⟩ := res
    rw [← eo]
    rcases HR _ _ _ _ _  eo with ⟨hc, d1, hd1, hsp⟩ | ⟨hc, d1, hd1, hsp⟩ | ⟨hc, d1, hd1, hsp⟩
    · refine im_cI (y := yX13_holds) (cY := cX13_holds) (nY := 4) (rY := (some .int)) (d' := d1) (av := [.inr a0, .inr a1]) (fun r h' e hX => ?_) (fun r h' e => by rw [eo] at e; cases e; exact hsp) (by omega) (by decide) hst rfl kk
      obtain ⟨a, c, fs, rfl, ec, hm⟩ := isC_some hc
      cases List.mem_singleton.mp hm
      exact cal_A (n := 1) hX q859 q861 q894 q891 q125 q892 (lw_n q860 rfl) (by decide +kernel) rfl rfl ec hdg
    · refine im_cI (y := yX14_holds) (cY := cX14_holds) (nY := 3) (rY := (some .int)) (d' := d1) (av := [.inr a0, .inr a1]) (fun r h' e hX => ?_) (fun r h' e => by rw [eo] at e; cases e; exact hsp) (by omega) (by decide) hst rfl kk
      obtain ⟨a, c, fs, rfl, ec, hm⟩ := isC_some hc
      cases List.mem_singleton.mp hm
      exact cal_A (n := 1) hX q859 q861 q887 q888 q126 q889 (lw_n q860 rfl) (by decide +kernel) rfl rfl ec hdg
    · refine im_cI (y := yX15_holds) (cY := cX15_holds) (nY := 5) (rY := (some .int)) (d' := d1) (av := [.inr a0, .inr a1]) (fun r h' e hX => ?_) (fun r h' e => by rw [eo] at e; cases e; exact hsp) (by omega) (by decide) hst rfl kk
      obtain ⟨a, c, fs, rfl, ec, hm⟩ := isC_some hc
      cases List.mem_singleton.mp hm
      exact cal_A (n := 1) hX q859 q861 q862 q863 q127 q864 (lw_n q860 rfl) (by decide +kernel) rfl rfl ec hdg

def IM_X5_says (f : Option Nat → Int32 → Option Nat → PH → Option (Int32 × PH)) (d : Nat) : Prop := ∀ (a0 : Option Nat) (a1 : Int32) (a2 : Option Nat) (h : PH) (r : Int32) (h' : PH), f a0 a1 a2 h = some (r, h') → isC [4] a0 h = true ∧ SpI yX5_says cX5_says 4 (some .boolean) d [.inr a0, .inl a1, .inr a2] h r h'
noncomputable def tx_says_b2 (v0 : Option Nat) (v1 : Int32) (v2 : Option Nat) (v3 : Int32) (h : PH) : Option ((Int32 × PH) ⊕ (Int32 × PH)) :=
  (gfi [4] 3 v0 h).bind fun x51 =>
  (if x51 ≤ v3 then
  some (.inr ((0, h)))
  else
  (gfr [4] 0 v0 h).bind fun r52 =>
  (ald 0 r52 v3 h).bind fun x53 =>
  (if x53 = v1 then
  (gfr [4] 2 v0 h).bind fun r54 =>
  (aldr 4 r54 v3 h).bind fun r55 =>
  bd2 (co_holds 30 r55 v2 h) fun x57 h56 =>
  (if x57 = 1 then
  some (.inr ((1, h56)))
  else
  some (.inl ((v3 + 1), h56)))
  else
  some (.inl ((v3 + 1), h))))
noncomputable def tx_says_L2 (v0 : Option Nat) (v1 : Int32) (v2 : Option Nat) (v3 : Int32) (h : PH) : Option (Int32 × PH) :=
  iter (fun s : Int32 × PH => tx_says_b2 v0 v1 v2 s.1 s.2) (v3, h)
theorem tx_says_b2_ok (X : CT) (v0 : Option Nat) (v1 : Int32) (v2 : Option Nat) (v3 : Int32) (h : PH) : Im X (cX5_says, 4, RX5, "says", (some .boolean), 91) 2 [some (.inr v0), some (.inl v1), some (.inr v2), some (.inl v3)] [] h (tx_says_b2 v0 v1 v2 v3 h) (ez (fun s : Int32 × PH => s.2) szI) (ek X 2 (fun s : Int32 × PH => [some (.inr v0), some (.inl v1), some (.inr v2), some (.inl s.1)]) (fun s : Int32 × PH => s.2) (kI X)) := by
  unfold tx_says_b2
  refine im_iload_n (pc := 2) dX5_says_2 rfl rfl ?_
  refine im_aload_n (pc := 3) dX5_says_3 rfl rfl ?_
  refine im_gi (pc := 4) fl_X5_27 dX5_says_4 fun x51 => ?_
  refine im_icmp_ge (pc := 7) (tgt := 42) dX5_says_7 (by decide) ?_ ?_
  · refine im_iconst (pc := 42) (v := 0) dX5_says_42 (by decide) ?_
    exact Im.outS (im_zretT (pc := 43) (nar_z (Or.inl rfl)) dX5_says_43)
  · refine im_aload_n (pc := 10) dX5_says_10 rfl rfl ?_
    refine im_gr (pc := 11) fl_X5_9 dX5_says_11 fun r52 => ?_
    refine im_iload_n (pc := 14) dX5_says_14 rfl rfl ?_
    refine im_iald (pc := 15) dX5_says_15 fun x53 => ?_
    refine im_iload_n (pc := 16) dX5_says_16 rfl rfl ?_
    refine im_icmp_ne (pc := 17) (tgt := 36) dX5_says_17 (by decide) ?_ ?_
    · refine im_iinc (pc := 36) (v := (v3 + 1)) (lv' := [some (.inr v0), some (.inl v1), some (.inr v2), some (.inl (v3 + 1))]) dX5_says_36 rfl rfl (by decide) rfl ?_
      refine im_goto (pc := 39) (tgt := 2) dX5_says_39 (by decide) ?_
      exact Im.back [true, true, true, true] rfl rfl
    · refine im_aload_n (pc := 20) dX5_says_20 rfl rfl ?_
      refine im_gr (pc := 21) fl_X5_23 dX5_says_21 fun r54 => ?_
      refine im_iload_n (pc := 24) dX5_says_24 rfl rfl ?_
      refine im_aald (pc := 25) (t := 4) (by decide) (by decide) dX5_says_25 fun r55 => ?_
      refine im_aload_n (pc := 26) dX5_says_26 rfl rfl ?_
      refine cl_X5_31 (co_holds_im 30) (pc := 27) (by decide) dX5_says_27 (Nat.le_of_ble_eq_true rfl) fun x57 h56 => ?_
      refine im_iconst (pc := 30) (v := 1) dX5_says_30 (by decide) ?_
      refine im_icmp_ne (pc := 31) (tgt := 36) dX5_says_31 (by decide) ?_ ?_
      · refine im_iinc (pc := 36) (v := (v3 + 1)) (lv' := [some (.inr v0), some (.inl v1), some (.inr v2), some (.inl (v3 + 1))]) dX5_says_36 rfl rfl (by decide) rfl ?_
        refine im_goto (pc := 39) (tgt := 2) dX5_says_39 (by decide) ?_
        exact Im.back [true, true, true, true] rfl rfl
      · refine im_iconst (pc := 34) (v := 1) dX5_says_34 (by decide) ?_
        exact Im.outS (im_zretT (pc := 35) (nar_z (Or.inr rfl)) dX5_says_35)
theorem tx_says_L2_ok (X : CT) (v0 : Option Nat) (v1 : Int32) (v2 : Option Nat) (v3 : Int32) (h : PH) : Im X (cX5_says, 4, RX5, "says", (some .boolean), 91) 2 [some (.inr v0), some (.inl v1), some (.inr v2), some (.inl v3)] [] h (tx_says_L2 v0 v1 v2 v3 h) szI (kI X) := by
  unfold tx_says_L2
  exact Im.iter (lv := (fun s : Int32 × PH => [some (.inr v0), some (.inl v1), some (.inr v2), some (.inl s.1)])) (hp := (fun s : Int32 × PH => s.2)) (fun s => tx_says_b2_ok X v0 v1 v2 s.1 s.2) _ rfl rfl
noncomputable def tx_says_0 (v0 : Option Nat) (v1 : Int32) (v2 : Option Nat) (h : PH) : Option (Int32 × PH) :=
  tx_says_L2 v0 v1 v2 0 h
theorem tx_says_0_ok (X : CT) (v0 : Option Nat) (v1 : Int32) (v2 : Option Nat) (h : PH) : Im X (cX5_says, 4, RX5, "says", (some .boolean), 91) 0 [some (.inr v0), some (.inl v1), some (.inr v2), none] [] h (tx_says_0 v0 v1 v2 h) szI (kI X) := by
  unfold tx_says_0
  refine im_iconst (pc := 0) (v := 0) dX5_says_0 (by decide) ?_
  refine im_istore_n (pc := 1) (lv' := [some (.inr v0), some (.inl v1), some (.inr v2), some (.inl 0)]) dX5_says_1 rfl (by decide) rfl ?_
  exact Im.drop [true, true, true, true] rfl (tx_says_L2_ok X v0 v1 v2 0 h)
noncomputable def tx_says (a0 : Option Nat) (a1 : Int32) (a2 : Option Nat) (h : PH) : Option (Int32 × PH) := grd (isC [4] a0 h) (tx_says_0 a0 a1 a2 h)
theorem tx_says_im : IM_X5_says tx_says 91 := by
  intro a0 a1 a2 h r h' e
  obtain ⟨e1, e2⟩ := grd_some e
  exact ⟨e1, SpI.of (k := 1) (plainFor_of_name (by decide)) rfl (fun X => Im.drop [true, true, true, false] rfl (tx_says_0_ok X a0 a1 a2 h)) e2⟩
def IM_X0_has (f : Int32 → Int32 → PH → Option (Int32)) (d : Nat) : Prop := ∀ (a0 : Int32) (a1 : Int32) (h : PH) (r : Int32), f a0 a1 h = some r → SpI yX0_has cX0_has 2 (some .boolean) d [.inl a0, .inl a1] h r h
noncomputable def tp_has_0 (v0 : Int32) (v1 : Int32) (h : PH) : Option (Int32) :=
  (if ((v0 >>> (v1 &&& 31)) &&& 1) = 1 then
  some (1)
  else
  some (0))
theorem tp_has_0_ok (X : CT) (v0 : Int32) (v1 : Int32) (h : PH) : Im X (cX0_has, 2, RX0, "has", (some .boolean), 1) 0 [some (.inl v0), some (.inl v1)] [] h (tp_has_0 v0 v1 h) (szP h) (kP X h) := by
  unfold tp_has_0
  refine im_iload_n (pc := 0) dX0_has_0 rfl rfl ?_
  refine im_iload_n (pc := 1) dX0_has_1 rfl rfl ?_
  refine im_ishr (pc := 2) dX0_has_2 ?_
  refine im_iconst (pc := 3) (v := 1) dX0_has_3 (by decide) ?_
  refine im_iand (pc := 4) dX0_has_4 ?_
  refine im_iconst (pc := 5) (v := 1) dX0_has_5 (by decide) ?_
  refine im_icmp_ne (pc := 6) (tgt := 13) dX0_has_6 (by decide) ?_ ?_
  · refine im_iconst (pc := 13) (v := 0) dX0_has_13 (by decide) ?_
    exact im_zretTP (pc := 14) (nar_z (Or.inl rfl)) dX0_has_14
  · refine im_iconst (pc := 9) (v := 1) dX0_has_9 (by decide) ?_
    refine im_goto (pc := 10) (tgt := 14) dX0_has_10 (by decide) ?_
    exact im_zretTP (pc := 14) (nar_z (Or.inr rfl)) dX0_has_14
noncomputable def tp_has (a0 : Int32) (a1 : Int32) (h : PH) : Option (Int32) := tp_has_0 a0 a1 h
theorem tp_has_im : IM_X0_has tp_has 1 := by
  intro a0 a1 h r e
  exact SpI.ofP (k := 0) (plainFor_of_name (by decide)) rfl (fun X => Im.drop [true, true] rfl (tp_has_0_ok X a0 a1 h)) e
theorem cl_X4_25 {X : CT} {cc : ByteArray} {nL : Nat} {mn : String} {ret : Option FieldType} {d d0 : Nat} {τ : Type} {pc : Nat} {lv : List (Option PV)} {st : List PV} {h : PH} {sz : τ → Nat × Nat} {K : τ → Prop} {f : Int32 → PH → Option (Int32)} (HR : IM_J6_bitCount f d0) {a0 : Int32} {g : Int32 → Option τ} (hd : d0 + 1 ≤ d) (hdg : decode cc pc = .ok (.invokestatic 25, 3)) (hst : st.length ≤ 8) (kk : ∀ r, Im X (cc, nL, RX4, mn, ret, d) (pc + 3) lv (.inl r :: st) h (g r) sz K) : Im X (cc, nL, RX4, mn, ret, d) pc lv (.inl a0 :: st) h ((f a0 h).bind g) sz K := by
  refine im_cP (y := yJ6_bitCount) (cY := cJ6_bitCount) (nY := 1) (rY := (some .int)) (d' := d0) (av := [.inl a0]) (fun r e hX => ?_) (fun r e => HR _ _ _ e) hd (by decide) hst rfl kk
  exact cal_S (n := 1) hX (lw_S q910 q846 q131 q847) (by decide +kernel) rfl hdg

def IM_X4_shared (f : Option Nat → Option Nat → PH → Option (Int32)) (d : Nat) : Prop := ∀ (a0 : Option Nat) (a1 : Option Nat) (h : PH) (r : Int32), f a0 a1 h = some r → isC [3] a0 h = true ∧ SpI yX4_shared cX4_shared 2 (some .int) d [.inr a0, .inr a1] h r h
noncomputable def pe_shared_0 (v0 : Option Nat) (v1 : Option Nat) (h : PH) : Option (Int32) :=
  (gfi [3] 0 v0 h).bind fun x51 =>
  (gfi [3] 0 v1 h).bind fun x52 =>
  (jI_bitCount (x51 &&& x52) h).bind fun x53 =>
  some (x53)
theorem pe_shared_0_ok (X : CT) (v0 : Option Nat) (v1 : Option Nat) (h : PH) : Im X (cX4_shared, 2, RX4, "shared", (some .int), 2) 0 [some (.inr v0), some (.inr v1)] [] h (pe_shared_0 v0 v1 h) (szP h) (kP X h) := by
  unfold pe_shared_0
  refine im_aload_n (pc := 0) dX4_shared_0 rfl rfl ?_
  refine im_gi (pc := 1) fl_X4_15 dX4_shared_1 fun x51 => ?_
  refine im_aload_n (pc := 4) dX4_shared_4 rfl rfl ?_
  refine im_gi (pc := 5) fl_X4_15 dX4_shared_5 fun x52 => ?_
  refine im_iand (pc := 8) dX4_shared_8 ?_
  refine cl_X4_25 jI_bitCount_im (pc := 9) (by decide) dX4_shared_9 (Nat.le_of_ble_eq_true rfl) fun x53 => ?_
  exact im_iretP (pc := 12) dX4_shared_12
noncomputable def pe_shared (a0 : Option Nat) (a1 : Option Nat) (h : PH) : Option (Int32) := grd (isC [3] a0 h) (pe_shared_0 a0 a1 h)
theorem pe_shared_im : IM_X4_shared pe_shared 2 := by
  intro a0 a1 h r e
  obtain ⟨e1, e2⟩ := grd_some e
  exact ⟨e1, SpI.ofP (k := 0) (plainFor_of_name (by decide)) rfl (fun X => Im.drop [true, true] rfl (pe_shared_0_ok X a0 a1 h)) e2⟩
theorem cl_X2_36 {X : CT} {cc : ByteArray} {nL : Nat} {mn : String} {ret : Option FieldType} {d d0 : Nat} {τ : Type} {pc : Nat} {lv : List (Option PV)} {st : List PV} {h : PH} {sz : τ → Nat × Nat} {K : τ → Prop} {f : Option Nat → Option Nat → PH → Option (Int32)} (HR : IM_X4_shared f d0) {a0 : Option Nat} {a1 : Option Nat} {g : Int32 → Option τ} (hd : d0 + 1 ≤ d) (hdg : decode cc pc = .ok (.invokevirtual 36, 3)) (hst : st.length ≤ 8) (kk : ∀ r, Im X (cc, nL, RX2, mn, ret, d) (pc + 3) lv (.inl r :: st) h (g r) sz K) : Im X (cc, nL, RX2, mn, ret, d) pc lv (.inr a1 :: .inr a0 :: st) h ((f a0 a1 h).bind g) sz K := by
  refine im_cP (y := yX4_shared) (cY := cX4_shared) (nY := 2) (rY := (some .int)) (d' := d0) (av := [.inr a0, .inr a1]) (fun r e hX => ?_) (fun r e => (HR _ _ _ _ e).2) hd (by decide) hst rfl kk
  obtain ⟨a, c, fs, rfl, ec, hm⟩ := isC_some (HR _ _ _ _ e).1
  cases List.mem_singleton.mp hm
  exact cal_V (n := 1) hX (lw_V q906 q907 q908 q110 q909) (by decide +kernel) rfl rfl ec hdg

theorem fl_X2_41 : ∀ c ∈ [3], FL RX2 41 c 0 := List.forall_mem_cons.mpr ⟨⟨RX4, TX4, 4, rfl, in_X4, by decide, Or.inr ⟨_, lw_n q193 rfl⟩⟩, fun _ h => absurd h List.not_mem_nil⟩
theorem cl_X2_44 {X : CT} {cc : ByteArray} {nL : Nat} {mn : String} {ret : Option FieldType} {d d0 : Nat} {τ : Type} {pc : Nat} {lv : List (Option PV)} {st : List PV} {h : PH} {sz : τ → Nat × Nat} {K : τ → Prop} {f : Int32 → PH → Option (Int32)} (HR : IM_J6_bitCount f d0) {a0 : Int32} {g : Int32 → Option τ} (hd : d0 + 1 ≤ d) (hdg : decode cc pc = .ok (.invokestatic 44, 3)) (hst : st.length ≤ 8) (kk : ∀ r, Im X (cc, nL, RX2, mn, ret, d) (pc + 3) lv (.inl r :: st) h (g r) sz K) : Im X (cc, nL, RX2, mn, ret, d) pc lv (.inl a0 :: st) h ((f a0 h).bind g) sz K := by
  refine im_cP (y := yJ6_bitCount) (cY := cJ6_bitCount) (nY := 1) (rY := (some .int)) (d' := d0) (av := [.inl a0]) (fun r e hX => ?_) (fun r e => HR _ _ _ e) hd (by decide) hst rfl kk
  exact cal_S (n := 1) hX (lw_S q911 q846 q131 q847) (by decide +kernel) rfl hdg

theorem fl_X2_50 : ∀ c ∈ [3], FL RX2 50 c 1 := List.forall_mem_cons.mpr ⟨⟨RX4, TX4, 4, rfl, in_X4, by decide, Or.inr ⟨_, lw_n q198 rfl⟩⟩, fun _ h => absurd h List.not_mem_nil⟩
def IM_X2_with (f : Option Nat → Int32 → Option Nat → Option Nat → PH → Option (Option Nat × PH)) (d : Nat) : Prop := ∀ (a0 : Option Nat) (a1 : Int32) (a2 : Option Nat) (a3 : Option Nat) (h : PH) (r : Option Nat) (h' : PH), f a0 a1 a2 a3 h = some (r, h') → isC [1] a0 h = true ∧ SpR yX2_with cX2_with 4 (some (.object "TalkingPlots$Moment")) d [.inr a0, .inl a1, .inr a2, .inr a3] h r h'
noncomputable def mt_with_0 (v0 : Option Nat) (v1 : Int32) (v2 : Option Nat) (v3 : Option Nat) (h : PH) : Option (Option Nat × PH) :=
  (pf [1] 2 v0 (.inl v1) h).bind fun h51 =>
  (pe_shared v2 v3 h51).bind fun x52 =>
  (pf [1] 3 v0 (.inl x52) h51).bind fun h53 =>
  (gfi [3] 0 v3 h53).bind fun x54 =>
  (gfi [3] 0 v2 h53).bind fun x55 =>
  (jI_bitCount (x54 &&& (x55 ^^^ (-1))) h53).bind fun x56 =>
  (pf [1] 4 v0 (.inl x56) h53).bind fun h57 =>
  (gfi [3] 1 v3 h57).bind fun x58 =>
  (pf [1] 6 v0 (.inl x58) h57).bind fun h59 =>
  some ((v0, h59))
theorem mt_with_0_ok (X : CT) (v0 : Option Nat) (v1 : Int32) (v2 : Option Nat) (v3 : Option Nat) (h : PH) : Im X (cX2_with, 4, RX2, "with", (some (.object "TalkingPlots$Moment")), 3) 0 [some (.inr v0), some (.inl v1), some (.inr v2), some (.inr v3)] [] h (mt_with_0 v0 v1 v2 v3 h) szI (kR X) := by
  unfold mt_with_0
  refine im_aload_n (pc := 0) dX2_with_0 rfl rfl ?_
  refine im_iload_n (pc := 1) dX2_with_1 rfl rfl ?_
  refine im_pf (pc := 2) fp_X2_15 (okT_i _) dX2_with_2 fun h51 => ?_
  refine im_aload_n (pc := 5) dX2_with_5 rfl rfl ?_
  refine im_aload_n (pc := 6) dX2_with_6 rfl rfl ?_
  refine im_aload_n (pc := 7) dX2_with_7 rfl rfl ?_
  refine cl_X2_36 pe_shared_im (pc := 8) (by decide) dX2_with_8 (Nat.le_of_ble_eq_true rfl) fun x52 => ?_
  refine im_pf (pc := 11) fp_X2_18 (okT_i _) dX2_with_11 fun h53 => ?_
  refine im_aload_n (pc := 14) dX2_with_14 rfl rfl ?_
  refine im_aload_n (pc := 15) dX2_with_15 rfl rfl ?_
  refine im_gi (pc := 16) fl_X2_41 dX2_with_16 fun x54 => ?_
  refine im_aload_n (pc := 19) dX2_with_19 rfl rfl ?_
  refine im_gi (pc := 20) fl_X2_41 dX2_with_20 fun x55 => ?_
  refine im_iconst (pc := 23) (v := (-1)) dX2_with_23 (by decide) ?_
  refine im_ixor (pc := 24) dX2_with_24 ?_
  refine im_iand (pc := 25) dX2_with_25 ?_
  refine cl_X2_44 jI_bitCount_im (pc := 26) (by decide) dX2_with_26 (Nat.le_of_ble_eq_true rfl) fun x56 => ?_
  refine im_pf (pc := 29) fp_X2_21 (okT_i _) dX2_with_29 fun h57 => ?_
  refine im_aload_n (pc := 32) dX2_with_32 rfl rfl ?_
  refine im_aload_n (pc := 33) dX2_with_33 rfl rfl ?_
  refine im_gi (pc := 34) fl_X2_50 dX2_with_34 fun x58 => ?_
  refine im_pf (pc := 37) fp_X2_27 (okT_i _) dX2_with_37 fun h59 => ?_
  refine im_aload_n (pc := 40) dX2_with_40 rfl rfl ?_
  exact im_aret (pc := 41) dX2_with_41
noncomputable def mt_with (a0 : Option Nat) (a1 : Int32) (a2 : Option Nat) (a3 : Option Nat) (h : PH) : Option (Option Nat × PH) := grd (isC [1] a0 h) (mt_with_0 a0 a1 a2 a3 h)
theorem mt_with_im : IM_X2_with mt_with 3 := by
  intro a0 a1 a2 a3 h r h' e
  obtain ⟨e1, e2⟩ := grd_some e
  exact ⟨e1, SpR.of (k := 0) (plainFor_of_name (by decide)) rfl (fun X => Im.drop [true, true, true, true] rfl (mt_with_0_ok X a0 a1 a2 a3 h)) e2⟩
theorem fp_X8_7 : ∀ c ∈ [1], FP RX8 7 c 0 .boolean := List.forall_mem_cons.mpr ⟨⟨RX2, TX2, 9, rfl, in_X2, by decide, apt_X2, rfl, by decide +kernel, Or.inr ⟨_, lw_n q159 rfl⟩⟩, fun _ h => absurd h List.not_mem_nil⟩
theorem cl_X8_13 {X : CT} {cc : ByteArray} {nL : Nat} {mn : String} {ret : Option FieldType} {d d0 : Nat} {τ : Type} {pc : Nat} {lv : List (Option PV)} {st : List PV} {h : PH} {sz : τ → Nat × Nat} {K : τ → Prop} {f : Option Nat → Option Nat → PH → Option (Int32 × PH)} (HR : IM_su_worth f d0) {a0 : Option Nat} {a1 : Option Nat} {g : Int32 → PH → Option τ} (hd : d0 + 1 ≤ d) (hdg : decode cc pc = .ok (.invokevirtual 13, 3)) (hst : st.length ≤ 8) (kk : ∀ r h', Im X (cc, nL, RX8, mn, ret, d) (pc + 3) lv (.inl r :: st) h' (g r h') sz K) : Im X (cc, nL, RX8, mn, ret, d) pc lv (.inr a1 :: .inr a0 :: st) h (bd2 (f a0 a1 h) g) sz K := by
  cases eo : f a0 a1 h with
  | none => exact Im.none
  | some res =>
    obtain ⟨r, h'⟩ := res
    rw [← eo]
    rcases HR _ _ _ _ _  eo with ⟨hc, d1, hd1, hsp⟩ | ⟨hc, d1, hd1, hsp⟩ | ⟨hc, d1, hd1, hsp⟩
    · refine im_cI (y := yX9_worth) (cY := cX9_worth) (nY := 4) (rY := (some .int)) (d' := d1) (av := [.inr a0, .inr a1]) (fun r h' e hX => ?_) (fun r h' e => by rw [eo] at e; cases e; exact hsp) (by omega) (by decide) hst rfl kk
      obtain ⟨a, c, fs, rfl, ec, hm⟩ := isC_some hc
      cases List.mem_singleton.mp hm
      exact cal_A (n := 1) hX q927 q867 q880 q881 q121 q882 (lw_n q866 rfl) (by decide +kernel) rfl rfl ec hdg
    · refine im_cI (y := yX10_worth) (cY := cX10_worth) (nY := 2) (rY := (some .int)) (d' := d1) (av := [.inr a0, .inr a1]) (fun r h' e hX => ?_) (fun r h' e => by rw [eo] at e; cases e; exact hsp) (by omega) (by decide) hst rfl kk
      obtain ⟨a, c, fs, rfl, ec, hm⟩ := isC_some hc
      cases List.mem_singleton.mp hm
      exact cal_A (n := 1) hX q927 q867 q877 q878 q122 q879 (lw_n q866 rfl) (by decide +kernel) rfl rfl ec hdg
    · refine im_cI (y := yX11_worth) (cY := cX11_worth) (nY := 2) (rY := (some .int)) (d' := d1) (av := [.inr a0, .inr a1]) (fun r h' e hX => ?_) (fun r h' e => by rw [eo] at e; cases e; exact hsp) (by omega) (by decide) hst rfl kk
      obtain ⟨a, c, fs, rfl, ec, hm⟩ := isC_some hc
      cases List.mem_singleton.mp hm
      exact cal_A (n := 1) hX q927 q867 q868 q869 q123 q870 (lw_n q866 rfl) (by decide +kernel) rfl rfl ec hdg

theorem fl_X8_7 : ∀ c ∈ [1], FL RX8 7 c 0 := List.forall_mem_cons.mpr ⟨⟨RX2, TX2, 9, rfl, in_X2, by decide, Or.inr ⟨_, lw_n q159 rfl⟩⟩, fun _ h => absurd h List.not_mem_nil⟩
def IM_X8_told (f : Option Nat → Option Nat → PH → Option (Int32 × PH)) (d : Nat) : Prop := ∀ (a0 : Option Nat) (a1 : Option Nat) (h : PH) (r : Int32) (h' : PH), f a0 a1 h = some (r, h') → isC [7, 8, 9] a0 h = true ∧ SpI yX8_told cX8_told 3 (some .int) d [.inr a0, .inr a1] h r h'
noncomputable def su_told_0 (v0 : Option Nat) (v1 : Option Nat) (h : PH) : Option (Int32 × PH) :=
  (pf [1] 0 v1 (.inl 0) h).bind fun h51 =>
  bd2 (su_worth 30 v0 v1 h51) fun x53 h52 =>
  (gfi [1] 0 v1 h52).bind fun x54 =>
  (if x54 = 0 then
  some ((x53, h52))
  else
  some ((0, h52)))
theorem su_told_0_ok (X : CT) (v0 : Option Nat) (v1 : Option Nat) (h : PH) : Im X (cX8_told, 3, RX8, "told", (some .int), 51) 0 [some (.inr v0), some (.inr v1), none] [] h (su_told_0 v0 v1 h) szI (kI X) := by
  unfold su_told_0
  refine im_aload_n (pc := 0) dX8_told_0 rfl rfl ?_
  refine im_iconst (pc := 1) (v := 0) dX8_told_1 (by decide) ?_
  refine im_pf (pc := 2) fp_X8_7 (okT_z (Or.inl rfl)) dX8_told_2 fun h51 => ?_
  refine im_aload_n (pc := 5) dX8_told_5 rfl rfl ?_
  refine im_aload_n (pc := 6) dX8_told_6 rfl rfl ?_
  refine cl_X8_13 (su_worth_im 30) (pc := 7) (by decide) dX8_told_7 (Nat.le_of_ble_eq_true rfl) fun x53 h52 => ?_
  refine im_istore_n (pc := 10) (lv' := [some (.inr v0), some (.inr v1), some (.inl x53)]) dX8_told_10 rfl (by decide) rfl ?_
  refine im_aload_n (pc := 11) dX8_told_11 rfl rfl ?_
  refine im_gi (pc := 12) fl_X8_7 dX8_told_12 fun x54 => ?_
  refine im_if_eq (pc := 15) (tgt := 22) dX8_told_15 (by decide) ?_ ?_
  · refine im_iload_n (pc := 22) dX8_told_22 rfl rfl ?_
    exact im_iret (pc := 23) dX8_told_23
  · refine im_iconst (pc := 18) (v := 0) dX8_told_18 (by decide) ?_
    refine im_goto (pc := 19) (tgt := 23) dX8_told_19 (by decide) ?_
    exact im_iret (pc := 23) dX8_told_23
noncomputable def su_told (a0 : Option Nat) (a1 : Option Nat) (h : PH) : Option (Int32 × PH) := grd (isC [7, 8, 9] a0 h) (su_told_0 a0 a1 h)
theorem su_told_im : IM_X8_told su_told 51 := by
  intro a0 a1 h r h' e
  obtain ⟨e1, e2⟩ := grd_some e
  exact ⟨e1, SpI.of (k := 1) (plainFor_of_name (by decide)) rfl (fun X => Im.drop [true, true, false] rfl (su_told_0_ok X a0 a1 h)) e2⟩
theorem fl_X5_17 : ∀ c ∈ [4], FL RX5 17 c 1 := List.forall_mem_cons.mpr ⟨⟨RX5, TX5, 4, rfl, in_X5, by decide, Or.inl q254⟩, fun _ h => absurd h List.not_mem_nil⟩
theorem cl_X5_35 {X : CT} {cc : ByteArray} {nL : Nat} {mn : String} {ret : Option FieldType} {d d0 : Nat} {τ : Type} {pc : Nat} {lv : List (Option PV)} {st : List PV} {h : PH} {sz : τ → Nat × Nat} {K : τ → Prop} {f : Option Nat → Option Nat → PH → Option (Int32 × PH)} (HR : IM_X8_told f d0) {a0 : Option Nat} {a1 : Option Nat} {g : Int32 → PH → Option τ} (hd : d0 + 1 ≤ d) (hdg : decode cc pc = .ok (.invokevirtual 35, 3)) (hst : st.length ≤ 8) (kk : ∀ r h', Im X (cc, nL, RX5, mn, ret, d) (pc + 3) lv (.inl r :: st) h' (g r h') sz K) : Im X (cc, nL, RX5, mn, ret, d) pc lv (.inr a1 :: .inr a0 :: st) h (bd2 (f a0 a1 h) g) sz K := by
  refine im_cI (y := yX8_told) (cY := cX8_told) (nY := 3) (rY := (some .int)) (d' := d0) (av := [.inr a0, .inr a1]) (fun r h' e hX => ?_) (fun r h' e => (HR _ _ _ _ _ e).2) hd (by decide) hst rfl kk
  obtain ⟨a, c, fs, rfl, ec, hm⟩ := isC_some (HR _ _ _ _ _ e).1
  simp only [List.mem_cons, List.not_mem_nil, or_false] at hm
  rcases hm with rfl | rfl | rfl
  · exact cal_U (n := 1) hX q920 q922 q925 q921 q120 q926 rfl (by decide +kernel) rfl rfl ec hdg
  · exact cal_U (n := 1) hX q920 q922 q924 q921 q120 q926 rfl (by decide +kernel) rfl rfl ec hdg
  · exact cal_U (n := 1) hX q920 q922 q923 q921 q120 q926 rfl (by decide +kernel) rfl rfl ec hdg

def IM_X5_tells (f : Option Nat → Int32 → Option Nat → PH → Option (Int32 × PH)) (d : Nat) : Prop := ∀ (a0 : Option Nat) (a1 : Int32) (a2 : Option Nat) (h : PH) (r : Int32) (h' : PH), f a0 a1 a2 h = some (r, h') → isC [4] a0 h = true ∧ SpI yX5_tells cX5_tells 4 (some .int) d [.inr a0, .inl a1, .inr a2] h r h'
noncomputable def tx_tells_b2 (v0 : Option Nat) (v1 : Int32) (v2 : Option Nat) (v3 : Int32) (h : PH) : Option ((Int32 × PH) ⊕ (Int32 × PH)) :=
  (gfi [4] 3 v0 h).bind fun x51 =>
  (if x51 ≤ v3 then
  some (.inr ((0, h)))
  else
  (gfr [4] 0 v0 h).bind fun r52 =>
  (ald 0 r52 v3 h).bind fun x53 =>
  (if x53 = v1 then
  (gfr [4] 2 v0 h).bind fun r54 =>
  (aldr 4 r54 v3 h).bind fun r55 =>
  bd2 (co_holds 30 r55 v2 h) fun x57 h56 =>
  (if x57 = 1 then
  (gfr [4] 1 v0 h56).bind fun r58 =>
  (aldr 3 r58 v3 h56).bind fun r59 =>
  bd2 (su_told r59 v2 h56) fun x61 h60 =>
  some (.inr ((x61, h60)))
  else
  some (.inl ((v3 + 1), h56)))
  else
  some (.inl ((v3 + 1), h))))
noncomputable def tx_tells_L2 (v0 : Option Nat) (v1 : Int32) (v2 : Option Nat) (v3 : Int32) (h : PH) : Option (Int32 × PH) :=
  iter (fun s : Int32 × PH => tx_tells_b2 v0 v1 v2 s.1 s.2) (v3, h)
theorem tx_tells_b2_ok (X : CT) (v0 : Option Nat) (v1 : Int32) (v2 : Option Nat) (v3 : Int32) (h : PH) : Im X (cX5_tells, 4, RX5, "tells", (some .int), 91) 2 [some (.inr v0), some (.inl v1), some (.inr v2), some (.inl v3)] [] h (tx_tells_b2 v0 v1 v2 v3 h) (ez (fun s : Int32 × PH => s.2) szI) (ek X 2 (fun s : Int32 × PH => [some (.inr v0), some (.inl v1), some (.inr v2), some (.inl s.1)]) (fun s : Int32 × PH => s.2) (kI X)) := by
  unfold tx_tells_b2
  refine im_iload_n (pc := 2) dX5_tells_2 rfl rfl ?_
  refine im_aload_n (pc := 3) dX5_tells_3 rfl rfl ?_
  refine im_gi (pc := 4) fl_X5_27 dX5_tells_4 fun x51 => ?_
  refine im_icmp_ge (pc := 7) (tgt := 51) dX5_tells_7 (by decide) ?_ ?_
  · refine im_iconst (pc := 51) (v := 0) dX5_tells_51 (by decide) ?_
    exact Im.outS (im_iret (pc := 52) dX5_tells_52)
  · refine im_aload_n (pc := 10) dX5_tells_10 rfl rfl ?_
    refine im_gr (pc := 11) fl_X5_9 dX5_tells_11 fun r52 => ?_
    refine im_iload_n (pc := 14) dX5_tells_14 rfl rfl ?_
    refine im_iald (pc := 15) dX5_tells_15 fun x53 => ?_
    refine im_iload_n (pc := 16) dX5_tells_16 rfl rfl ?_
    refine im_icmp_ne (pc := 17) (tgt := 45) dX5_tells_17 (by decide) ?_ ?_
    · refine im_iinc (pc := 45) (v := (v3 + 1)) (lv' := [some (.inr v0), some (.inl v1), some (.inr v2), some (.inl (v3 + 1))]) dX5_tells_45 rfl rfl (by decide) rfl ?_
      refine im_goto (pc := 48) (tgt := 2) dX5_tells_48 (by decide) ?_
      exact Im.back [true, true, true, true] rfl rfl
    · refine im_aload_n (pc := 20) dX5_tells_20 rfl rfl ?_
      refine im_gr (pc := 21) fl_X5_23 dX5_tells_21 fun r54 => ?_
      refine im_iload_n (pc := 24) dX5_tells_24 rfl rfl ?_
      refine im_aald (pc := 25) (t := 4) (by decide) (by decide) dX5_tells_25 fun r55 => ?_
      refine im_aload_n (pc := 26) dX5_tells_26 rfl rfl ?_
      refine cl_X5_31 (co_holds_im 30) (pc := 27) (by decide) dX5_tells_27 (Nat.le_of_ble_eq_true rfl) fun x57 h56 => ?_
      refine im_iconst (pc := 30) (v := 1) dX5_tells_30 (by decide) ?_
      refine im_icmp_ne (pc := 31) (tgt := 45) dX5_tells_31 (by decide) ?_ ?_
      · refine im_iinc (pc := 45) (v := (v3 + 1)) (lv' := [some (.inr v0), some (.inl v1), some (.inr v2), some (.inl (v3 + 1))]) dX5_tells_45 rfl rfl (by decide) rfl ?_
        refine im_goto (pc := 48) (tgt := 2) dX5_tells_48 (by decide) ?_
        exact Im.back [true, true, true, true] rfl rfl
      · refine im_aload_n (pc := 34) dX5_tells_34 rfl rfl ?_
        refine im_gr (pc := 35) fl_X5_17 dX5_tells_35 fun r58 => ?_
        refine im_iload_n (pc := 38) dX5_tells_38 rfl rfl ?_
        refine im_aald (pc := 39) (t := 3) (by decide) (by decide) dX5_tells_39 fun r59 => ?_
        refine im_aload_n (pc := 40) dX5_tells_40 rfl rfl ?_
        refine cl_X5_35 su_told_im (pc := 41) (by decide) dX5_tells_41 (Nat.le_of_ble_eq_true rfl) fun x61 h60 => ?_
        exact Im.outS (im_iret (pc := 44) dX5_tells_44)
theorem tx_tells_L2_ok (X : CT) (v0 : Option Nat) (v1 : Int32) (v2 : Option Nat) (v3 : Int32) (h : PH) : Im X (cX5_tells, 4, RX5, "tells", (some .int), 91) 2 [some (.inr v0), some (.inl v1), some (.inr v2), some (.inl v3)] [] h (tx_tells_L2 v0 v1 v2 v3 h) szI (kI X) := by
  unfold tx_tells_L2
  exact Im.iter (lv := (fun s : Int32 × PH => [some (.inr v0), some (.inl v1), some (.inr v2), some (.inl s.1)])) (hp := (fun s : Int32 × PH => s.2)) (fun s => tx_tells_b2_ok X v0 v1 v2 s.1 s.2) _ rfl rfl
noncomputable def tx_tells_0 (v0 : Option Nat) (v1 : Int32) (v2 : Option Nat) (h : PH) : Option (Int32 × PH) :=
  tx_tells_L2 v0 v1 v2 0 h
theorem tx_tells_0_ok (X : CT) (v0 : Option Nat) (v1 : Int32) (v2 : Option Nat) (h : PH) : Im X (cX5_tells, 4, RX5, "tells", (some .int), 91) 0 [some (.inr v0), some (.inl v1), some (.inr v2), none] [] h (tx_tells_0 v0 v1 v2 h) szI (kI X) := by
  unfold tx_tells_0
  refine im_iconst (pc := 0) (v := 0) dX5_tells_0 (by decide) ?_
  refine im_istore_n (pc := 1) (lv' := [some (.inr v0), some (.inl v1), some (.inr v2), some (.inl 0)]) dX5_tells_1 rfl (by decide) rfl ?_
  exact Im.drop [true, true, true, true] rfl (tx_tells_L2_ok X v0 v1 v2 0 h)
noncomputable def tx_tells (a0 : Option Nat) (a1 : Int32) (a2 : Option Nat) (h : PH) : Option (Int32 × PH) := grd (isC [4] a0 h) (tx_tells_0 a0 a1 a2 h)
theorem tx_tells_im : IM_X5_tells tx_tells 91 := by
  intro a0 a1 a2 h r h' e
  obtain ⟨e1, e2⟩ := grd_some e
  exact ⟨e1, SpI.of (k := 1) (plainFor_of_name (by decide)) rfl (fun X => Im.drop [true, true, true, false] rfl (tx_tells_0_ok X a0 a1 a2 h)) e2⟩
theorem cl_X0_1 {X : CT} {cc : ByteArray} {nL : Nat} {mn : String} {ret : Option FieldType} {d d0 : Nat} {τ : Type} {pc : Nat} {lv : List (Option PV)} {st : List PV} {h : PH} {sz : τ → Nat × Nat} {K : τ → Prop} {f : Int32 → Int32 → PH → Option (Int32)} (HR : IM_J2_min f d0) {a0 : Int32} {a1 : Int32} {g : Int32 → Option τ} (hd : d0 + 1 ≤ d) (hdg : decode cc pc = .ok (.invokestatic 1, 3)) (hst : st.length ≤ 8) (kk : ∀ r, Im X (cc, nL, RX0, mn, ret, d) (pc + 3) lv (.inl r :: st) h (g r) sz K) : Im X (cc, nL, RX0, mn, ret, d) pc lv (.inl a1 :: .inl a0 :: st) h ((f a0 a1 h).bind g) sz K := by
  refine im_cP (y := yJ2_min) (cY := cJ2_min) (nY := 2) (rY := (some .int)) (d' := d0) (av := [.inl a0, .inl a1]) (fun r e hX => ?_) (fun r e => HR _ _ _ _ e) hd (by decide) hst rfl kk
  exact cal_S (n := 2) hX (lw_S q931 q441 q116 q442) (by decide +kernel) rfl hdg

theorem cl_X0_7 {X : CT} {cc : ByteArray} {nL : Nat} {mn : String} {ret : Option FieldType} {d d0 : Nat} {τ : Type} {pc : Nat} {lv : List (Option PV)} {st : List PV} {h : PH} {sz : τ → Nat × Nat} {K : τ → Prop} {f : Int32 → Int32 → PH → Option (Int32)} (HR : IM_J2_max f d0) {a0 : Int32} {a1 : Int32} {g : Int32 → Option τ} (hd : d0 + 1 ≤ d) (hdg : decode cc pc = .ok (.invokestatic 7, 3)) (hst : st.length ≤ 8) (kk : ∀ r, Im X (cc, nL, RX0, mn, ret, d) (pc + 3) lv (.inl r :: st) h (g r) sz K) : Im X (cc, nL, RX0, mn, ret, d) pc lv (.inl a1 :: .inl a0 :: st) h ((f a0 a1 h).bind g) sz K := by
  refine im_cP (y := yJ2_max) (cY := cJ2_max) (nY := 2) (rY := (some .int)) (d' := d0) (av := [.inl a0, .inl a1]) (fun r e hX => ?_) (fun r e => HR _ _ _ _ e) hd (by decide) hst rfl kk
  exact cal_S (n := 2) hX (lw_S q932 q438 q116 q439) (by decide +kernel) rfl hdg

def IM_X0_held (f : Int32 → Int32 → PH → Option (Int32)) (d : Nat) : Prop := ∀ (a0 : Int32) (a1 : Int32) (h : PH) (r : Int32), f a0 a1 h = some r → SpI yX0_held cX0_held 2 (some .int) d [.inl a0, .inl a1] h r h
noncomputable def tp_held_0 (v0 : Int32) (v1 : Int32) (h : PH) : Option (Int32) :=
  (jM_min v1 v0 h).bind fun x51 =>
  (jM_max 0 x51 h).bind fun x52 =>
  some (x52)
theorem tp_held_0_ok (X : CT) (v0 : Int32) (v1 : Int32) (h : PH) : Im X (cX0_held, 2, RX0, "held", (some .int), 2) 0 [some (.inl v0), some (.inl v1)] [] h (tp_held_0 v0 v1 h) (szP h) (kP X h) := by
  unfold tp_held_0
  refine im_iconst (pc := 0) (v := 0) dX0_held_0 (by decide) ?_
  refine im_iload_n (pc := 1) dX0_held_1 rfl rfl ?_
  refine im_iload_n (pc := 2) dX0_held_2 rfl rfl ?_
  refine cl_X0_1 jM_min_im (pc := 3) (by decide) dX0_held_3 (Nat.le_of_ble_eq_true rfl) fun x51 => ?_
  refine cl_X0_7 jM_max_im (pc := 6) (by decide) dX0_held_6 (Nat.le_of_ble_eq_true rfl) fun x52 => ?_
  exact im_iretP (pc := 9) dX0_held_9
noncomputable def tp_held (a0 : Int32) (a1 : Int32) (h : PH) : Option (Int32) := tp_held_0 a0 a1 h
theorem tp_held_im : IM_X0_held tp_held 2 := by
  intro a0 a1 h r e
  exact SpI.ofP (k := 0) (plainFor_of_name (by decide)) rfl (fun X => Im.drop [true, true] rfl (tp_held_0_ok X a0 a1 h)) e
theorem fl_X0_32 : ∀ c ∈ [0], FL RX0 32 c 5 := List.forall_mem_cons.mpr ⟨⟨RX0, TX0, 20, rfl, in_X0, by decide, Or.inl q281⟩, fun _ h => absurd h List.not_mem_nil⟩
theorem fl_X0_36 : ∀ c ∈ [0], FL RX0 36 c 0 := List.forall_mem_cons.mpr ⟨⟨RX0, TX0, 20, rfl, in_X0, by decide, Or.inl q272⟩, fun _ h => absurd h List.not_mem_nil⟩
theorem cl_X0_40 {X : CT} {cc : ByteArray} {nL : Nat} {mn : String} {ret : Option FieldType} {d d0 : Nat} {τ : Type} {pc : Nat} {lv : List (Option PV)} {st : List PV} {h : PH} {sz : τ → Nat × Nat} {K : τ → Prop} {f : Option Nat → Int32 → Option Nat → PH → Option (Int32 × PH)} (HR : IM_X5_tells f d0) {a0 : Option Nat} {a1 : Int32} {a2 : Option Nat} {g : Int32 → PH → Option τ} (hd : d0 + 1 ≤ d) (hdg : decode cc pc = .ok (.invokevirtual 40, 3)) (hst : st.length ≤ 8) (kk : ∀ r h', Im X (cc, nL, RX0, mn, ret, d) (pc + 3) lv (.inl r :: st) h' (g r h') sz K) : Im X (cc, nL, RX0, mn, ret, d) pc lv (.inr a2 :: .inl a1 :: .inr a0 :: st) h (bd2 (f a0 a1 a2 h) g) sz K := by
  refine im_cI (y := yX5_tells) (cY := cX5_tells) (nY := 4) (rY := (some .int)) (d' := d0) (av := [.inr a0, .inl a1, .inr a2]) (fun r h' e hX => ?_) (fun r h' e => (HR _ _ _ _ _ _ e).2) hd (by decide) hst rfl kk
  obtain ⟨a, c, fs, rfl, ec, hm⟩ := isC_some (HR _ _ _ _ _ _ e).1
  cases List.mem_singleton.mp hm
  exact cal_V (n := 2) hX (lw_V q916 q917 q918 q111 q919) (by decide +kernel) rfl rfl ec hdg

theorem cl_X0_46 {X : CT} {cc : ByteArray} {nL : Nat} {mn : String} {ret : Option FieldType} {d d0 : Nat} {τ : Type} {pc : Nat} {lv : List (Option PV)} {st : List PV} {h : PH} {sz : τ → Nat × Nat} {K : τ → Prop} {f : Int32 → Int32 → PH → Option (Int32)} (HR : IM_X0_held f d0) {a0 : Int32} {a1 : Int32} {g : Int32 → Option τ} (hd : d0 + 1 ≤ d) (hdg : decode cc pc = .ok (.invokestatic 46, 3)) (hst : st.length ≤ 8) (kk : ∀ r, Im X (cc, nL, RX0, mn, ret, d) (pc + 3) lv (.inl r :: st) h (g r) sz K) : Im X (cc, nL, RX0, mn, ret, d) pc lv (.inl a1 :: .inl a0 :: st) h ((f a0 a1 h).bind g) sz K := by
  refine im_cP (y := yX0_held) (cY := cX0_held) (nY := 2) (rY := (some .int)) (d' := d0) (av := [.inl a0, .inl a1]) (fun r e hX => ?_) (fun r e => HR _ _ _ _ e) hd (by decide) hst rfl kk
  exact cal_S (n := 2) hX (lw_S q928 q929 q106 q930) (by decide +kernel) rfl hdg

def IM_X0_tells (f : Option Nat → Int32 → Int32 → PH → Option (Int32 × PH)) (d : Nat) : Prop := ∀ (a0 : Option Nat) (a1 : Int32) (a2 : Int32) (h : PH) (r : Int32) (h' : PH), f a0 a1 a2 h = some (r, h') → isC [0] a0 h = true ∧ SpI yX0_tells cX0_tells 3 (some .int) d [.inr a0, .inl a1, .inl a2] h r h'
noncomputable def tp_tells_0 (v0 : Option Nat) (v1 : Int32) (v2 : Int32) (h : PH) : Option (Int32 × PH) :=
  (gfr [0] 5 v0 h).bind fun r51 =>
  (gfr [0] 0 v0 h).bind fun r52 =>
  bd2 (tx_tells r51 v1 r52 h) fun x54 h53 =>
  (tp_held x54 v2 h53).bind fun x55 =>
  some ((x55, h53))
theorem tp_tells_0_ok (X : CT) (v0 : Option Nat) (v1 : Int32) (v2 : Int32) (h : PH) : Im X (cX0_tells, 3, RX0, "tells", (some .int), 92) 0 [some (.inr v0), some (.inl v1), some (.inl v2)] [] h (tp_tells_0 v0 v1 v2 h) szI (kI X) := by
  unfold tp_tells_0
  refine im_aload_n (pc := 0) dX0_tells_0 rfl rfl ?_
  refine im_gr (pc := 1) fl_X0_32 dX0_tells_1 fun r51 => ?_
  refine im_iload_n (pc := 4) dX0_tells_4 rfl rfl ?_
  refine im_aload_n (pc := 5) dX0_tells_5 rfl rfl ?_
  refine im_gr (pc := 6) fl_X0_36 dX0_tells_6 fun r52 => ?_
  refine cl_X0_40 tx_tells_im (pc := 9) (by decide) dX0_tells_9 (Nat.le_of_ble_eq_true rfl) fun x54 h53 => ?_
  refine im_iload_n (pc := 12) dX0_tells_12 rfl rfl ?_
  refine cl_X0_46 tp_held_im (pc := 13) (by decide) dX0_tells_13 (Nat.le_of_ble_eq_true rfl) fun x55 => ?_
  exact im_iret (pc := 16) dX0_tells_16
noncomputable def tp_tells (a0 : Option Nat) (a1 : Int32) (a2 : Int32) (h : PH) : Option (Int32 × PH) := grd (isC [0] a0 h) (tp_tells_0 a0 a1 a2 h)
theorem tp_tells_im : IM_X0_tells tp_tells 92 := by
  intro a0 a1 a2 h r h' e
  obtain ⟨e1, e2⟩ := grd_some e
  exact ⟨e1, SpI.of (k := 0) (plainFor_of_name (by decide)) rfl (fun X => Im.drop [true, true, true] rfl (tp_tells_0_ok X a0 a1 a2 h)) e2⟩
