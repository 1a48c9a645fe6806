set_option maxRecDepth 100000
theorem fl_X16_17 : ∀ c ∈ [13, 14], FL RX16 17 c 1 := List.forall_mem_cons.mpr ⟨⟨RX17, TX17, 6, rfl, in_X17, by decide, Or.inl q649⟩, List.forall_mem_cons.mpr ⟨⟨RX18, TX18, 9, rfl, in_X18, by decide, Or.inl q649⟩, fun _ h => absurd h List.not_mem_nil⟩⟩
theorem fl_X16_13 : ∀ c ∈ [13, 14], FL RX16 13 c 0 := List.forall_mem_cons.mpr ⟨⟨RX17, TX17, 6, rfl, in_X17, by decide, Or.inl q648⟩, List.forall_mem_cons.mpr ⟨⟨RX18, TX18, 9, rfl, in_X18, by decide, Or.inl q648⟩, fun _ h => absurd h List.not_mem_nil⟩⟩
theorem fl_X16_1 : ∀ c ∈ [13, 14], FL RX16 1 c 4 := List.forall_mem_cons.mpr ⟨⟨RX17, TX17, 6, rfl, in_X17, by decide, Or.inl q652⟩, List.forall_mem_cons.mpr ⟨⟨RX18, TX18, 9, rfl, in_X18, by decide, Or.inl q652⟩, fun _ h => absurd h List.not_mem_nil⟩⟩
theorem fl_X16_20 : ∀ c ∈ [0], FL RX16 20 c 4 := List.forall_mem_cons.mpr ⟨⟨RX0, TX0, 20, rfl, in_X0, by decide, Or.inr ⟨_, lw_n q279 rfl⟩⟩, fun _ h => absurd h List.not_mem_nil⟩
def IM_X16_here (f : Option Nat → PH → Option (Int32)) (d : Nat) : Prop := ∀ (a0 : Option Nat) (h : PH) (r : Int32), f a0 h = some r → isC [13, 14] a0 h = true ∧ SpI yX16_here cX16_here 1 (some .int) d [.inr a0] h r h
noncomputable def sc_here_0 (v0 : Option Nat) (h : PH) : Option (Int32) :=
  (gfi [13, 14] 1 v0 h).bind fun x51 =>
  (gfi [13, 14] 0 v0 h).bind fun x52 =>
  (if x52 ≤ x51 then
  some (0)
  else
  (gfr [13, 14] 4 v0 h).bind fun r53 =>
  (gfr [0] 4 r53 h).bind fun r54 =>
  (gfi [13, 14] 1 v0 h).bind fun x55 =>
  (ald 1 r54 x55 h).bind fun x56 =>
  some ((x56 &&& 255)))
theorem sc_here_0_ok (X : CT) (v0 : Option Nat) (h : PH) : Im X (cX16_here, 1, RX16, "here", (some .int), 1) 0 [some (.inr v0)] [] h (sc_here_0 v0 h) (szP h) (kP X h) := by
  unfold sc_here_0
  refine im_aload_n (pc := 0) dX16_here_0 rfl rfl ?_
  refine im_gi (pc := 1) fl_X16_17 dX16_here_1 fun x51 => ?_
  refine im_aload_n (pc := 4) dX16_here_4 rfl rfl ?_
  refine im_gi (pc := 5) fl_X16_13 dX16_here_5 fun x52 => ?_
  refine im_icmp_ge (pc := 8) (tgt := 30) dX16_here_8 (by decide) ?_ ?_
  · refine im_iconst (pc := 30) (v := 0) dX16_here_30 (by decide) ?_
    exact im_iretP (pc := 31) dX16_here_31
  · refine im_aload_n (pc := 11) dX16_here_11 rfl rfl ?_
    refine im_gr (pc := 12) fl_X16_1 dX16_here_12 fun r53 => ?_
    refine im_gr (pc := 15) fl_X16_20 dX16_here_15 fun r54 => ?_
    refine im_aload_n (pc := 18) dX16_here_18 rfl rfl ?_
    refine im_gi (pc := 19) fl_X16_17 dX16_here_19 fun x55 => ?_
    refine im_bald (pc := 22) dX16_here_22 fun x56 => ?_
    refine im_sipush (pc := 23) (v := 255) dX16_here_23 (by decide) ?_
    refine im_iand (pc := 26) dX16_here_26 ?_
    refine im_goto (pc := 27) (tgt := 31) dX16_here_27 (by decide) ?_
    exact im_iretP (pc := 31) dX16_here_31
noncomputable def sc_here (a0 : Option Nat) (h : PH) : Option (Int32) := grd (isC [13, 14] a0 h) (sc_here_0 a0 h)
theorem sc_here_im : IM_X16_here sc_here 1 := by
  intro a0 h r e
  obtain ⟨e1, e2⟩ := grd_some e
  exact ⟨e1, SpI.ofP (k := 0) (plainFor_of_name (by decide)) rfl (fun X => Im.drop [true] rfl (sc_here_0_ok X a0 h)) e2⟩
theorem fp_X16_26 : ∀ c ∈ [13, 14], FP RX16 26 c 2 .int := List.forall_mem_cons.mpr ⟨⟨RX17, TX17, 6, rfl, in_X17, by decide, apt_X17, rfl, by decide +kernel, Or.inl q650⟩, List.forall_mem_cons.mpr ⟨⟨RX18, TX18, 9, rfl, in_X18, by decide, apt_X18, rfl, by decide +kernel, Or.inl q650⟩, fun _ h => absurd h List.not_mem_nil⟩⟩
theorem fp_X16_29 : ∀ c ∈ [13, 14], FP RX16 29 c 3 .int := List.forall_mem_cons.mpr ⟨⟨RX17, TX17, 6, rfl, in_X17, by decide, apt_X17, rfl, by decide +kernel, Or.inl q651⟩, List.forall_mem_cons.mpr ⟨⟨RX18, TX18, 9, rfl, in_X18, by decide, apt_X18, rfl, by decide +kernel, Or.inl q651⟩, fun _ h => absurd h List.not_mem_nil⟩⟩
def IM_X16_bad (f : Option Nat → Int32 → Int32 → PH → Option (PH)) (d : Nat) : Prop := ∀ (a0 : Option Nat) (a1 : Int32) (a2 : Int32) (h : PH) (h' : PH), f a0 a1 a2 h = some h' → isC [13, 14] a0 h = true ∧ SpV yX16_bad cX16_bad 3 none d [.inr a0, .inl a1, .inl a2] h h'
noncomputable def sc_bad_0 (v0 : Option Nat) (v1 : Int32) (v2 : Int32) (h : PH) : Option (PH) :=
  (gfi [13, 14] 2 v0 h).bind fun x51 =>
  (if x51 ≤ 0 then
  (pf [13, 14] 2 v0 (.inl v1) h).bind fun h52 =>
  (pf [13, 14] 3 v0 (.inl v2) h52).bind fun h53 =>
  some (h53)
  else
  some (h))
theorem sc_bad_0_ok (X : CT) (v0 : Option Nat) (v1 : Int32) (v2 : Int32) (h : PH) : Im X (cX16_bad, 3, RX16, "bad", none, 1) 0 [some (.inr v0), some (.inl v1), some (.inl v2)] [] h (sc_bad_0 v0 v1 v2 h) szV (kV X) := by
  unfold sc_bad_0
  refine im_aload_n (pc := 0) dX16_bad_0 rfl rfl ?_
  refine im_gi (pc := 1) fl_X16_26 dX16_bad_1 fun x51 => ?_
  refine im_if_le (pc := 4) (tgt := 8) dX16_bad_4 (by decide) ?_ ?_
  · refine im_aload_n (pc := 8) dX16_bad_8 rfl rfl ?_
    refine im_iload_n (pc := 9) dX16_bad_9 rfl rfl ?_
    refine im_pf (pc := 10) fp_X16_26 (okT_i _) dX16_bad_10 fun h52 => ?_
    refine im_aload_n (pc := 13) dX16_bad_13 rfl rfl ?_
    refine im_iload_n (pc := 14) dX16_bad_14 rfl rfl ?_
    refine im_pf (pc := 15) fp_X16_29 (okT_i _) dX16_bad_15 fun h53 => ?_
    exact im_vret (pc := 18) dX16_bad_18
  · exact im_vret (pc := 7) dX16_bad_7
noncomputable def sc_bad (a0 : Option Nat) (a1 : Int32) (a2 : Int32) (h : PH) : Option (PH) := grd (isC [13, 14] a0 h) (sc_bad_0 a0 a1 a2 h)
theorem sc_bad_im : IM_X16_bad sc_bad 1 := by
  intro a0 a1 a2 h h' e
  obtain ⟨e1, e2⟩ := grd_some e
  exact ⟨e1, SpV.of (k := 0) (plainFor_of_name (by decide)) rfl (fun X => Im.drop [true, true, true] rfl (sc_bad_0_ok X a0 a1 a2 h)) e2⟩
def IM_X16_place (f : Option Nat → PH → Option (Int32)) (d : Nat) : Prop := ∀ (a0 : Option Nat) (h : PH) (r : Int32), f a0 h = some r → isC [13, 14] a0 h = true ∧ SpI yX16_place cX16_place 1 (some .int) d [.inr a0] h r h
noncomputable def sc_place_0 (v0 : Option Nat) (h : PH) : Option (Int32) :=
  (gfi [13, 14] 1 v0 h).bind fun x51 =>
  some (x51)
theorem sc_place_0_ok (X : CT) (v0 : Option Nat) (h : PH) : Im X (cX16_place, 1, RX16, "place", (some .int), 1) 0 [some (.inr v0)] [] h (sc_place_0 v0 h) (szP h) (kP X h) := by
  unfold sc_place_0
  refine im_aload_n (pc := 0) dX16_place_0 rfl rfl ?_
  refine im_gi (pc := 1) fl_X16_17 dX16_place_1 fun x51 => ?_
  exact im_iretP (pc := 4) dX16_place_4
noncomputable def sc_place (a0 : Option Nat) (h : PH) : Option (Int32) := grd (isC [13, 14] a0 h) (sc_place_0 a0 h)
theorem sc_place_im : IM_X16_place sc_place 1 := by
  intro a0 h r e
  obtain ⟨e1, e2⟩ := grd_some e
  exact ⟨e1, SpI.ofP (k := 0) (plainFor_of_name (by decide)) rfl (fun X => Im.drop [true] rfl (sc_place_0_ok X a0 h)) e2⟩
theorem cl_X16_32 {X : CT} {cc : ByteArray} {nL : Nat} {mn : String} {ret : Option FieldType} {d d0 : Nat} {τ : Type} {pc : Nat} {lv : List (Option PV)} {st : List PV} {h : PH} {sz : τ → Nat × Nat} {K : τ → Prop} {f : Option Nat → PH → Option (Int32)} (HR : IM_X16_here f d0) {a0 : Option Nat} {g : Int32 → Option τ} (hd : d0 + 1 ≤ d) (hdg : decode cc pc = .ok (.invokevirtual 32, 3)) (hst : st.length ≤ 8) (kk : ∀ r, Im X (cc, nL, RX16, mn, ret, d) (pc + 3) lv (.inl r :: st) h (g r) sz K) : Im X (cc, nL, RX16, mn, ret, d) pc lv (.inr a0 :: st) h ((f a0 h).bind g) sz K := by
  refine im_cP (y := yX16_here) (cY := cX16_here) (nY := 1) (rY := (some .int)) (d' := d0) (av := [.inr a0]) (fun r e hX => ?_) (fun r e => (HR _ _ _ e).2) hd (by decide) hst rfl kk
  obtain ⟨a, c, fs, rfl, ec, hm⟩ := isC_some (HR _ _ _ e).1
  simp only [List.mem_cons, List.not_mem_nil, or_false] at hm
  rcases hm with rfl | rfl
  · exact cal_U (n := 0) hX q690 q692 q693 q691 q128 q695 rfl (by decide +kernel) rfl rfl ec hdg
  · exact cal_U (n := 0) hX q690 q692 q694 q691 q128 q695 rfl (by decide +kernel) rfl rfl ec hdg

def IM_X16_sees (f : Option Nat → Int32 → Int32 → PH → Option (Int32)) (d : Nat) : Prop := ∀ (a0 : Option Nat) (a1 : Int32) (a2 : Int32) (h : PH) (r : Int32), f a0 a1 a2 h = some r → isC [13, 14] a0 h = true ∧ SpI yX16_sees cX16_sees 3 (some .boolean) d [.inr a0, .inl a1, .inl a2] h r h
noncomputable def sc_sees_0 (v0 : Option Nat) (v1 : Int32) (v2 : Int32) (h : PH) : Option (Int32) :=
  (sc_here v0 h).bind fun x51 =>
  (if x51 < v1 then
  some (0)
  else
  (sc_here v0 h).bind fun x52 =>
  (if v2 < x52 then
  some (0)
  else
  some (1)))
theorem sc_sees_0_ok (X : CT) (v0 : Option Nat) (v1 : Int32) (v2 : Int32) (h : PH) : Im X (cX16_sees, 3, RX16, "sees", (some .boolean), 2) 0 [some (.inr v0), some (.inl v1), some (.inl v2)] [] h (sc_sees_0 v0 v1 v2 h) (szP h) (kP X h) := by
  unfold sc_sees_0
  refine im_aload_n (pc := 0) dX16_sees_0 rfl rfl ?_
  refine cl_X16_32 sc_here_im (pc := 1) (by decide) dX16_sees_1 (Nat.le_of_ble_eq_true rfl) fun x51 => ?_
  refine im_iload_n (pc := 4) dX16_sees_4 rfl rfl ?_
  refine im_icmp_lt (pc := 5) (tgt := 20) dX16_sees_5 (by decide) ?_ ?_
  · refine im_iconst (pc := 20) (v := 0) dX16_sees_20 (by decide) ?_
    exact im_zretTP (pc := 21) (nar_z (Or.inl rfl)) dX16_sees_21
  · refine im_aload_n (pc := 8) dX16_sees_8 rfl rfl ?_
    refine cl_X16_32 sc_here_im (pc := 9) (by decide) dX16_sees_9 (Nat.le_of_ble_eq_true rfl) fun x52 => ?_
    refine im_iload_n (pc := 12) dX16_sees_12 rfl rfl ?_
    refine im_icmp_gt (pc := 13) (tgt := 20) dX16_sees_13 (by decide) ?_ ?_
    · refine im_iconst (pc := 20) (v := 0) dX16_sees_20 (by decide) ?_
      exact im_zretTP (pc := 21) (nar_z (Or.inl rfl)) dX16_sees_21
    · refine im_iconst (pc := 16) (v := 1) dX16_sees_16 (by decide) ?_
      refine im_goto (pc := 17) (tgt := 21) dX16_sees_17 (by decide) ?_
      exact im_zretTP (pc := 21) (nar_z (Or.inr rfl)) dX16_sees_21
noncomputable def sc_sees (a0 : Option Nat) (a1 : Int32) (a2 : Int32) (h : PH) : Option (Int32) := grd (isC [13, 14] a0 h) (sc_sees_0 a0 a1 a2 h)
theorem sc_sees_im : IM_X16_sees sc_sees 2 := by
  intro a0 a1 a2 h r e
  obtain ⟨e1, e2⟩ := grd_some e
  exact ⟨e1, SpI.ofP (k := 0) (plainFor_of_name (by decide)) rfl (fun X => Im.drop [true, true, true] rfl (sc_sees_0_ok X a0 a1 a2 h)) e2⟩
theorem cl_X16_36 {X : CT} {cc : ByteArray} {nL : Nat} {mn : String} {ret : Option FieldType} {d d0 : Nat} {τ : Type} {pc : Nat} {lv : List (Option PV)} {st : List PV} {h : PH} {sz : τ → Nat × Nat} {K : τ → Prop} {f : Option Nat → PH → Option (Int32)} (HR : IM_X16_isGood f d0) {a0 : Option Nat} {g : Int32 → Option τ} (hd : d0 + 1 ≤ d) (hdg : decode cc pc = .ok (.invokevirtual 36, 3)) (hst : st.length ≤ 8) (kk : ∀ r, Im X (cc, nL, RX16, mn, ret, d) (pc + 3) lv (.inl r :: st) h (g r) sz K) : Im X (cc, nL, RX16, mn, ret, d) pc lv (.inr a0 :: st) h ((f a0 h).bind g) sz K := by
  refine im_cP (y := yX16_isGood) (cY := cX16_isGood) (nY := 1) (rY := (some .boolean)) (d' := d0) (av := [.inr a0]) (fun r e hX => ?_) (fun r e => (HR _ _ _ e).2) hd (by decide) hst rfl kk
  obtain ⟨a, c, fs, rfl, ec, hm⟩ := isC_some (HR _ _ _ e).1
  simp only [List.mem_cons, List.not_mem_nil, or_false] at hm
  rcases hm with rfl | rfl
  · exact cal_U (n := 0) hX q696 q698 q699 q697 q128 q701 rfl (by decide +kernel) rfl rfl ec hdg
  · exact cal_U (n := 0) hX q696 q698 q700 q697 q128 q701 rfl (by decide +kernel) rfl rfl ec hdg

theorem cl_X16_40 {X : CT} {cc : ByteArray} {nL : Nat} {mn : String} {ret : Option FieldType} {d d0 : Nat} {τ : Type} {pc : Nat} {lv : List (Option PV)} {st : List PV} {h : PH} {sz : τ → Nat × Nat} {K : τ → Prop} {f : Option Nat → Int32 → Int32 → PH → Option (Int32)} (HR : IM_X16_sees f d0) {a0 : Option Nat} {a1 : Int32} {a2 : Int32} {g : Int32 → Option τ} (hd : d0 + 1 ≤ d) (hdg : decode cc pc = .ok (.invokevirtual 40, 3)) (hst : st.length ≤ 8) (kk : ∀ r, Im X (cc, nL, RX16, mn, ret, d) (pc + 3) lv (.inl r :: st) h (g r) sz K) : Im X (cc, nL, RX16, mn, ret, d) pc lv (.inl a2 :: .inl a1 :: .inr a0 :: st) h ((f a0 a1 a2 h).bind g) sz K := by
  refine im_cP (y := yX16_sees) (cY := cX16_sees) (nY := 3) (rY := (some .boolean)) (d' := d0) (av := [.inr a0, .inl a1, .inl a2]) (fun r e hX => ?_) (fun r e => (HR _ _ _ _ _ e).2) hd (by decide) hst rfl kk
  obtain ⟨a, c, fs, rfl, ec, hm⟩ := isC_some (HR _ _ _ _ _ e).1
  simp only [List.mem_cons, List.not_mem_nil, or_false] at hm
  rcases hm with rfl | rfl
  · exact cal_U (n := 2) hX q702 q704 q705 q703 q128 q707 rfl (by decide +kernel) rfl rfl ec hdg
  · exact cal_U (n := 2) hX q702 q704 q706 q703 q128 q707 rfl (by decide +kernel) rfl rfl ec hdg

theorem cl_X16_44 {X : CT} {cc : ByteArray} {nL : Nat} {mn : String} {ret : Option FieldType} {d d0 : Nat} {τ : Type} {pc : Nat} {lv : List (Option PV)} {st : List PV} {h : PH} {sz : τ → Nat × Nat} {K : τ → Prop} {f : Option Nat → Int32 → Int32 → PH → Option (PH)} (HR : IM_X16_bad f d0) {a0 : Option Nat} {a1 : Int32} {a2 : Int32} {g : PH → Option τ} (hd : d0 + 1 ≤ d) (hdg : decode cc pc = .ok (.invokevirtual 44, 3)) (hst : st.length ≤ 8) (kk : ∀ h', Im X (cc, nL, RX16, mn, ret, d) (pc + 3) lv st h' (g h') sz K) : Im X (cc, nL, RX16, mn, ret, d) pc lv (.inl a2 :: .inl a1 :: .inr a0 :: st) h ((f a0 a1 a2 h).bind g) sz K := by
  refine im_cV (y := yX16_bad) (cY := cX16_bad) (nY := 3) (rY := none) (d' := d0) (av := [.inr a0, .inl a1, .inl a2]) (fun h' e hX => ?_) (fun h' e => (HR _ _ _ _ _ e).2) hd (by decide) hst rfl kk
  obtain ⟨a, c, fs, rfl, ec, hm⟩ := isC_some (HR _ _ _ _ _ e).1
  simp only [List.mem_cons, List.not_mem_nil, or_false] at hm
  rcases hm with rfl | rfl
  · exact cal_U (n := 2) hX q708 q710 q711 q709 q128 q713 rfl (by decide +kernel) rfl rfl ec hdg
  · exact cal_U (n := 2) hX q708 q710 q712 q709 q128 q713 rfl (by decide +kernel) rfl rfl ec hdg

theorem fp_X16_17 : ∀ c ∈ [13, 14], FP RX16 17 c 1 .int := List.forall_mem_cons.mpr ⟨⟨RX17, TX17, 6, rfl, in_X17, by decide, apt_X17, rfl, by decide +kernel, Or.inl q649⟩, List.forall_mem_cons.mpr ⟨⟨RX18, TX18, 9, rfl, in_X18, by decide, apt_X18, rfl, by decide +kernel, Or.inl q649⟩, fun _ h => absurd h List.not_mem_nil⟩⟩
def IM_X16_sign (f : Option Nat → Int32 → Int32 → PH → Option (Int32 × PH)) (d : Nat) : Prop := ∀ (a0 : Option Nat) (a1 : Int32) (a2 : Int32) (h : PH) (r : Int32) (h' : PH), f a0 a1 a2 h = some (r, h') → isC [13, 14] a0 h = true ∧ SpI yX16_sign cX16_sign 4 (some .int) d [.inr a0, .inl a1, .inl a2] h r h'
noncomputable def sc_sign_36 (v0 : Option Nat) (v3 : Int32) (h : PH) : Option (Int32 × PH) :=
  (gfi [13, 14] 1 v0 h).bind fun x51 =>
  (pf [13, 14] 1 v0 (.inl (x51 + 1)) h).bind fun h52 =>
  some ((v3, h52))
theorem sc_sign_36_ok (X : CT) (v0 : Option Nat) (v3 : Int32) (h : PH) : Im X (cX16_sign, 4, RX16, "sign", (some .int), 3) 36 [some (.inr v0), none, none, some (.inl v3)] [] h (sc_sign_36 v0 v3 h) szI (kI X) := by
  unfold sc_sign_36
  refine im_aload_n (pc := 36) dX16_sign_36 rfl rfl ?_
  refine im_dup (pc := 37) dX16_sign_37 ?_
  refine im_gi (pc := 38) fl_X16_17 dX16_sign_38 fun x51 => ?_
  refine im_iconst (pc := 41) (v := 1) dX16_sign_41 (by decide) ?_
  refine im_iadd (pc := 42) dX16_sign_42 ?_
  refine im_pf (pc := 43) fp_X16_17 (okT_i _) dX16_sign_43 fun h52 => ?_
  refine im_iload_n (pc := 46) dX16_sign_46 rfl rfl ?_
  exact im_iret (pc := 47) dX16_sign_47
noncomputable def sc_sign_0 (v0 : Option Nat) (v1 : Int32) (v2 : Int32) (h : PH) : Option (Int32 × PH) :=
  (sc_here v0 h).bind fun x51 =>
  (sc_isGood v0 h).bind fun x52 =>
  (if x52 = 0 then
  sc_sign_36 v0 (x51 - v1) h
  else
  (sc_sees v0 v1 ((v1 + v2) - 1) h).bind fun x53 =>
  (if x53 = 0 then
  (gfi [13, 14] 1 v0 h).bind fun x54 =>
  (sc_bad v0 1 x54 h).bind fun h55 =>
  sc_sign_36 v0 (x51 - v1) h55
  else
  sc_sign_36 v0 (x51 - v1) h))
theorem sc_sign_0_ok (X : CT) (v0 : Option Nat) (v1 : Int32) (v2 : Int32) (h : PH) : Im X (cX16_sign, 4, RX16, "sign", (some .int), 3) 0 [some (.inr v0), some (.inl v1), some (.inl v2), none] [] h (sc_sign_0 v0 v1 v2 h) szI (kI X) := by
  unfold sc_sign_0
  refine im_aload_n (pc := 0) dX16_sign_0 rfl rfl ?_
  refine cl_X16_32 sc_here_im (pc := 1) (by decide) dX16_sign_1 (Nat.le_of_ble_eq_true rfl) fun x51 => ?_
  refine im_iload_n (pc := 4) dX16_sign_4 rfl rfl ?_
  refine im_isub (pc := 5) dX16_sign_5 ?_
  refine im_istore_n (pc := 6) (lv' := [some (.inr v0), some (.inl v1), some (.inl v2), some (.inl (x51 - v1))]) dX16_sign_6 rfl (by decide) rfl ?_
  refine im_aload_n (pc := 7) dX16_sign_7 rfl rfl ?_
  refine cl_X16_36 sc_isGood_im (pc := 8) (by decide) dX16_sign_8 (Nat.le_of_ble_eq_true rfl) fun x52 => ?_
  refine im_if_eq (pc := 11) (tgt := 36) dX16_sign_11 (by decide) ?_ ?_
  · exact Im.drop [true, false, false, true] rfl (sc_sign_36_ok X v0 (x51 - v1) h)
  · refine im_aload_n (pc := 14) dX16_sign_14 rfl rfl ?_
    refine im_iload_n (pc := 15) dX16_sign_15 rfl rfl ?_
    refine im_iload_n (pc := 16) dX16_sign_16 rfl rfl ?_
    refine im_iload_n (pc := 17) dX16_sign_17 rfl rfl ?_
    refine im_iadd (pc := 18) dX16_sign_18 ?_
    refine im_iconst (pc := 19) (v := 1) dX16_sign_19 (by decide) ?_
    refine im_isub (pc := 20) dX16_sign_20 ?_
    refine cl_X16_40 sc_sees_im (pc := 21) (by decide) dX16_sign_21 (Nat.le_of_ble_eq_true rfl) fun x53 => ?_
    refine im_if_ne (pc := 24) (tgt := 36) dX16_sign_24 (by decide) ?_ ?_
    · exact Im.drop [true, false, false, true] rfl (sc_sign_36_ok X v0 (x51 - v1) h)
    · refine im_aload_n (pc := 27) dX16_sign_27 rfl rfl ?_
      refine im_iconst (pc := 28) (v := 1) dX16_sign_28 (by decide) ?_
      refine im_aload_n (pc := 29) dX16_sign_29 rfl rfl ?_
      refine im_gi (pc := 30) fl_X16_17 dX16_sign_30 fun x54 => ?_
      refine cl_X16_44 sc_bad_im (pc := 33) (by decide) dX16_sign_33 (Nat.le_of_ble_eq_true rfl) fun h55 => ?_
      exact Im.drop [true, false, false, true] rfl (sc_sign_36_ok X v0 (x51 - v1) h55)
noncomputable def sc_sign (a0 : Option Nat) (a1 : Int32) (a2 : Int32) (h : PH) : Option (Int32 × PH) := grd (isC [13, 14] a0 h) (sc_sign_0 a0 a1 a2 h)
theorem sc_sign_im : IM_X16_sign sc_sign 3 := by
  intro a0 a1 a2 h r h' e
  obtain ⟨e1, e2⟩ := grd_some e
  exact ⟨e1, SpI.of (k := 1) (plainFor_of_name (by decide)) rfl (fun X => Im.drop [true, true, true, false] rfl (sc_sign_0_ok X a0 a1 a2 h)) e2⟩
theorem fl_X0_113 : ∀ c ∈ [3], FL RX0 113 c 3 := List.forall_mem_cons.mpr ⟨⟨RX4, TX4, 4, rfl, in_X4, by decide, Or.inr ⟨_, lw_n q207 rfl⟩⟩, fun _ h => absurd h List.not_mem_nil⟩
def IM_X0_isTold (f : Option Nat → Int32 → PH → Option (Int32)) (d : Nat) : Prop := ∀ (a0 : Option Nat) (a1 : Int32) (h : PH) (r : Int32), f a0 a1 h = some r → isC [0] a0 h = true ∧ SpI yX0_isTold cX0_isTold 2 (some .boolean) d [.inr a0, .inl a1] h r h
noncomputable def tp_isTold_0 (v0 : Option Nat) (v1 : Int32) (h : PH) : Option (Int32) :=
  (tp_in v1 16 h).bind fun x51 =>
  (if x51 = 0 then
  some (0)
  else
  (gfr [0] 1 v0 h).bind fun r52 =>
  (gfr [2] 0 r52 h).bind fun r53 =>
  (aldr 2 r53 v1 h).bind fun r54 =>
  (gfi [3] 3 r54 h).bind fun x55 =>
  (if x55 = 0 then
  some (0)
  else
  some (1)))
theorem tp_isTold_0_ok (X : CT) (v0 : Option Nat) (v1 : Int32) (h : PH) : Im X (cX0_isTold, 2, RX0, "isTold", (some .boolean), 2) 0 [some (.inr v0), some (.inl v1)] [] h (tp_isTold_0 v0 v1 h) (szP h) (kP X h) := by
  unfold tp_isTold_0
  refine im_iload_n (pc := 0) dX0_isTold_0 rfl rfl ?_
  refine im_bipush (pc := 1) (v := 16) dX0_isTold_1 (by decide) ?_
  refine cl_X0_25 tp_in_im (pc := 3) (by decide) dX0_isTold_3 (Nat.le_of_ble_eq_true rfl) fun x51 => ?_
  refine im_if_eq (pc := 6) (tgt := 28) dX0_isTold_6 (by decide) ?_ ?_
  · refine im_iconst (pc := 28) (v := 0) dX0_isTold_28 (by decide) ?_
    exact im_zretTP (pc := 29) (nar_z (Or.inl rfl)) dX0_isTold_29
  · refine im_aload_n (pc := 9) dX0_isTold_9 rfl rfl ?_
    refine im_gr (pc := 10) fl_X0_63 dX0_isTold_10 fun r52 => ?_
    refine im_gr (pc := 13) fl_X0_109 dX0_isTold_13 fun r53 => ?_
    refine im_iload_n (pc := 16) dX0_isTold_16 rfl rfl ?_
    refine im_aald (pc := 17) (t := 2) (by decide) (by decide) dX0_isTold_17 fun r54 => ?_
    refine im_gi (pc := 18) fl_X0_113 dX0_isTold_18 fun x55 => ?_
    refine im_if_eq (pc := 21) (tgt := 28) dX0_isTold_21 (by decide) ?_ ?_
    · refine im_iconst (pc := 28) (v := 0) dX0_isTold_28 (by decide) ?_
      exact im_zretTP (pc := 29) (nar_z (Or.inl rfl)) dX0_isTold_29
    · refine im_iconst (pc := 24) (v := 1) dX0_isTold_24 (by decide) ?_
      refine im_goto (pc := 25) (tgt := 29) dX0_isTold_25 (by decide) ?_
      exact im_zretTP (pc := 29) (nar_z (Or.inr rfl)) dX0_isTold_29
noncomputable def tp_isTold (a0 : Option Nat) (a1 : Int32) (h : PH) : Option (Int32) := grd (isC [0] a0 h) (tp_isTold_0 a0 a1 h)
theorem tp_isTold_im : IM_X0_isTold tp_isTold 2 := by
  intro a0 a1 h r e
  obtain ⟨e1, e2⟩ := grd_some e
  exact ⟨e1, SpI.ofP (k := 0) (plainFor_of_name (by decide)) rfl (fun X => Im.drop [true, true] rfl (tp_isTold_0_ok X a0 a1 h)) e2⟩
def IM_X16_goes (f : Option Nat → PH → Option (PH)) (d : Nat) : Prop := ∀ (a0 : Option Nat) (h : PH) (h' : PH), f a0 h = some h' → isC [13, 14] a0 h = true ∧ SpV yX16_goes cX16_goes 1 none d [.inr a0] h h'
noncomputable def sc_goes_0 (v0 : Option Nat) (h : PH) : Option (PH) :=
  (gfi [13, 14] 1 v0 h).bind fun x51 =>
  (pf [13, 14] 1 v0 (.inl (x51 + 1)) h).bind fun h52 =>
  some (h52)
theorem sc_goes_0_ok (X : CT) (v0 : Option Nat) (h : PH) : Im X (cX16_goes, 1, RX16, "goes", none, 1) 0 [some (.inr v0)] [] h (sc_goes_0 v0 h) szV (kV X) := by
  unfold sc_goes_0
  refine im_aload_n (pc := 0) dX16_goes_0 rfl rfl ?_
  refine im_dup (pc := 1) dX16_goes_1 ?_
  refine im_gi (pc := 2) fl_X16_17 dX16_goes_2 fun x51 => ?_
  refine im_iconst (pc := 5) (v := 1) dX16_goes_5 (by decide) ?_
  refine im_iadd (pc := 6) dX16_goes_6 ?_
  refine im_pf (pc := 7) fp_X16_17 (okT_i _) dX16_goes_7 fun h52 => ?_
  exact im_vret (pc := 10) dX16_goes_10
noncomputable def sc_goes (a0 : Option Nat) (h : PH) : Option (PH) := grd (isC [13, 14] a0 h) (sc_goes_0 a0 h)
theorem sc_goes_im : IM_X16_goes sc_goes 1 := by
  intro a0 h h' e
  obtain ⟨e1, e2⟩ := grd_some e
  exact ⟨e1, SpV.of (k := 0) (plainFor_of_name (by decide)) rfl (fun X => Im.drop [true] rfl (sc_goes_0_ok X a0 h)) e2⟩
def IM_X4_isLaid (f : Option Nat → PH → Option (Int32)) (d : Nat) : Prop := ∀ (a0 : Option Nat) (h : PH) (r : Int32), f a0 h = some r → isC [3] a0 h = true ∧ SpI yX4_isLaid cX4_isLaid 1 (some .boolean) d [.inr a0] h r h
noncomputable def pe_isLaid_0 (v0 : Option Nat) (h : PH) : Option (Int32) :=
  (gfi [3] 3 v0 h).bind fun x51 =>
  (if x51 = 0 then
  some (0)
  else
  (gfi [3] 2 v0 h).bind fun x52 =>
  (if x52 = (-1) then
  some (0)
  else
  some (1)))
theorem pe_isLaid_0_ok (X : CT) (v0 : Option Nat) (h : PH) : Im X (cX4_isLaid, 1, RX4, "isLaid", (some .boolean), 1) 0 [some (.inr v0)] [] h (pe_isLaid_0 v0 h) (szP h) (kP X h) := by
  unfold pe_isLaid_0
  refine im_aload_n (pc := 0) dX4_isLaid_0 rfl rfl ?_
  refine im_gi (pc := 1) fl_X4_21 dX4_isLaid_1 fun x51 => ?_
  refine im_if_eq (pc := 4) (tgt := 19) dX4_isLaid_4 (by decide) ?_ ?_
  · refine im_iconst (pc := 19) (v := 0) dX4_isLaid_19 (by decide) ?_
    exact im_zretTP (pc := 20) (nar_z (Or.inl rfl)) dX4_isLaid_20
  · refine im_aload_n (pc := 7) dX4_isLaid_7 rfl rfl ?_
    refine im_gi (pc := 8) fl_X4_9 dX4_isLaid_8 fun x52 => ?_
    refine im_iconst (pc := 11) (v := (-1)) dX4_isLaid_11 (by decide) ?_
    refine im_icmp_eq (pc := 12) (tgt := 19) dX4_isLaid_12 (by decide) ?_ ?_
    · refine im_iconst (pc := 19) (v := 0) dX4_isLaid_19 (by decide) ?_
      exact im_zretTP (pc := 20) (nar_z (Or.inl rfl)) dX4_isLaid_20
    · refine im_iconst (pc := 15) (v := 1) dX4_isLaid_15 (by decide) ?_
      refine im_goto (pc := 16) (tgt := 20) dX4_isLaid_16 (by decide) ?_
      exact im_zretTP (pc := 20) (nar_z (Or.inr rfl)) dX4_isLaid_20
noncomputable def pe_isLaid (a0 : Option Nat) (h : PH) : Option (Int32) := grd (isC [3] a0 h) (pe_isLaid_0 a0 h)
theorem pe_isLaid_im : IM_X4_isLaid pe_isLaid 1 := by
  intro a0 h r e
  obtain ⟨e1, e2⟩ := grd_some e
  exact ⟨e1, SpI.ofP (k := 0) (plainFor_of_name (by decide)) rfl (fun X => Im.drop [true] rfl (pe_isLaid_0_ok X a0 h)) e2⟩
theorem cl_X3_33 {X : CT} {cc : ByteArray} {nL : Nat} {mn : String} {ret : Option FieldType} {d d0 : Nat} {τ : Type} {pc : Nat} {lv : List (Option PV)} {st : List PV} {h : PH} {sz : τ → Nat × Nat} {K : τ → Prop} {f : Option Nat → PH → Option (Int32)} (HR : IM_X4_isLaid f d0) {a0 : Option Nat} {g : Int32 → Option τ} (hd : d0 + 1 ≤ d) (hdg : decode cc pc = .ok (.invokevirtual 33, 3)) (hst : st.length ≤ 8) (kk : ∀ r, Im X (cc, nL, RX3, mn, ret, d) (pc + 3) lv (.inl r :: st) h (g r) sz K) : Im X (cc, nL, RX3, mn, ret, d) pc lv (.inr a0 :: st) h ((f a0 h).bind g) sz K := by
  refine im_cP (y := yX4_isLaid) (cY := cX4_isLaid) (nY := 1) (rY := (some .boolean)) (d' := d0) (av := [.inr a0]) (fun r e hX => ?_) (fun r e => (HR _ _ _ e).2) hd (by decide) hst rfl kk
  obtain ⟨a, c, fs, rfl, ec, hm⟩ := isC_some (HR _ _ _ e).1
  cases List.mem_singleton.mp hm
  exact cal_V (n := 0) hX (lw_V q748 q749 q750 q110 q751) (by decide +kernel) rfl rfl ec hdg

theorem fl_X3_37 : ∀ c ∈ [3], FL RX3 37 c 2 := List.forall_mem_cons.mpr ⟨⟨RX4, TX4, 4, rfl, in_X4, by decide, Or.inr ⟨_, lw_n q203 rfl⟩⟩, fun _ h => absurd h List.not_mem_nil⟩
def IM_X3_whoLiesAt (f : Option Nat → Int32 → PH → Option (Int32)) (d : Nat) : Prop := ∀ (a0 : Option Nat) (a1 : Int32) (h : PH) (r : Int32), f a0 a1 h = some r → isC [2] a0 h = true ∧ SpI yX3_whoLiesAt cX3_whoLiesAt 3 (some .int) d [.inr a0, .inl a1] h r h
noncomputable def yd_whoLiesAt_b2 (v0 : Option Nat) (v1 : Int32) (v2 : Int32) (h : PH) : Option ((Int32) ⊕ (Int32)) :=
  (if 16 ≤ v2 then
  some (.inr ((-1)))
  else
  (gfr [2] 0 v0 h).bind fun r51 =>
  (aldr 2 r51 v2 h).bind fun r52 =>
  (pe_isLaid r52 h).bind fun x53 =>
  (if x53 = 0 then
  some (.inl (v2 + 1))
  else
  (gfr [2] 0 v0 h).bind fun r54 =>
  (aldr 2 r54 v2 h).bind fun r55 =>
  (gfi [3] 2 r55 h).bind fun x56 =>
  (if x56 = v1 then
  some (.inr v2)
  else
  some (.inl (v2 + 1)))))
noncomputable def yd_whoLiesAt_L2 (v0 : Option Nat) (v1 : Int32) (v2 : Int32) (h : PH) : Option (Int32) :=
  iter (fun s : Int32 => yd_whoLiesAt_b2 v0 v1 s h) v2
theorem yd_whoLiesAt_b2_ok (X : CT) (v0 : Option Nat) (v1 : Int32) (v2 : Int32) (h : PH) : Im X (cX3_whoLiesAt, 3, RX3, "whoLiesAt", (some .int), 2) 2 [some (.inr v0), some (.inl v1), some (.inl v2)] [] h (yd_whoLiesAt_b2 v0 v1 v2 h) (ez (fun s : Int32 => h) (szP h)) (ek X 2 (fun s : Int32 => [some (.inr v0), some (.inl v1), some (.inl s)]) (fun s : Int32 => h) (kP X h)) := by
  unfold yd_whoLiesAt_b2
  refine im_iload_n (pc := 2) dX3_whoLiesAt_2 rfl rfl ?_
  refine im_bipush (pc := 3) (v := 16) dX3_whoLiesAt_3 (by decide) ?_
  refine im_icmp_ge (pc := 5) (tgt := 41) dX3_whoLiesAt_5 (by decide) ?_ ?_
  · refine im_iconst (pc := 41) (v := (-1)) dX3_whoLiesAt_41 (by decide) ?_
    exact Im.outS (im_iretP (pc := 42) dX3_whoLiesAt_42)
  · refine im_aload_n (pc := 8) dX3_whoLiesAt_8 rfl rfl ?_
    refine im_gr (pc := 9) fl_X3_17 dX3_whoLiesAt_9 fun r51 => ?_
    refine im_iload_n (pc := 12) dX3_whoLiesAt_12 rfl rfl ?_
    refine im_aald (pc := 13) (t := 2) (by decide) (by decide) dX3_whoLiesAt_13 fun r52 => ?_
    refine cl_X3_33 pe_isLaid_im (pc := 14) (by decide) dX3_whoLiesAt_14 (Nat.le_of_ble_eq_true rfl) fun x53 => ?_
    refine im_if_eq (pc := 17) (tgt := 35) dX3_whoLiesAt_17 (by decide) ?_ ?_
    · refine im_iinc (pc := 35) (v := (v2 + 1)) (lv' := [some (.inr v0), some (.inl v1), some (.inl (v2 + 1))]) dX3_whoLiesAt_35 rfl rfl (by decide) rfl ?_
      refine im_goto (pc := 38) (tgt := 2) dX3_whoLiesAt_38 (by decide) ?_
      exact Im.back [true, true, true] rfl rfl
    · refine im_aload_n (pc := 20) dX3_whoLiesAt_20 rfl rfl ?_
      refine im_gr (pc := 21) fl_X3_17 dX3_whoLiesAt_21 fun r54 => ?_
      refine im_iload_n (pc := 24) dX3_whoLiesAt_24 rfl rfl ?_
      refine im_aald (pc := 25) (t := 2) (by decide) (by decide) dX3_whoLiesAt_25 fun r55 => ?_
      refine im_gi (pc := 26) fl_X3_37 dX3_whoLiesAt_26 fun x56 => ?_
      refine im_iload_n (pc := 29) dX3_whoLiesAt_29 rfl rfl ?_
      refine im_icmp_ne (pc := 30) (tgt := 35) dX3_whoLiesAt_30 (by decide) ?_ ?_
      · refine im_iinc (pc := 35) (v := (v2 + 1)) (lv' := [some (.inr v0), some (.inl v1), some (.inl (v2 + 1))]) dX3_whoLiesAt_35 rfl rfl (by decide) rfl ?_
        refine im_goto (pc := 38) (tgt := 2) dX3_whoLiesAt_38 (by decide) ?_
        exact Im.back [true, true, true] rfl rfl
      · refine im_iload_n (pc := 33) dX3_whoLiesAt_33 rfl rfl ?_
        exact Im.outS (im_iretP (pc := 34) dX3_whoLiesAt_34)
theorem yd_whoLiesAt_L2_ok (X : CT) (v0 : Option Nat) (v1 : Int32) (v2 : Int32) (h : PH) : Im X (cX3_whoLiesAt, 3, RX3, "whoLiesAt", (some .int), 2) 2 [some (.inr v0), some (.inl v1), some (.inl v2)] [] h (yd_whoLiesAt_L2 v0 v1 v2 h) (szP h) (kP X h) := by
  unfold yd_whoLiesAt_L2
  exact Im.iter (lv := (fun s : Int32 => [some (.inr v0), some (.inl v1), some (.inl s)])) (hp := (fun s : Int32 => h)) (fun s => yd_whoLiesAt_b2_ok X v0 v1 s h) _ rfl rfl
noncomputable def yd_whoLiesAt_0 (v0 : Option Nat) (v1 : Int32) (h : PH) : Option (Int32) :=
  yd_whoLiesAt_L2 v0 v1 0 h
theorem yd_whoLiesAt_0_ok (X : CT) (v0 : Option Nat) (v1 : Int32) (h : PH) : Im X (cX3_whoLiesAt, 3, RX3, "whoLiesAt", (some .int), 2) 0 [some (.inr v0), some (.inl v1), none] [] h (yd_whoLiesAt_0 v0 v1 h) (szP h) (kP X h) := by
  unfold yd_whoLiesAt_0
  refine im_iconst (pc := 0) (v := 0) dX3_whoLiesAt_0 (by decide) ?_
  refine im_istore_n (pc := 1) (lv' := [some (.inr v0), some (.inl v1), some (.inl 0)]) dX3_whoLiesAt_1 rfl (by decide) rfl ?_
  exact Im.drop [true, true, true] rfl (yd_whoLiesAt_L2_ok X v0 v1 0 h)
noncomputable def yd_whoLiesAt (a0 : Option Nat) (a1 : Int32) (h : PH) : Option (Int32) := grd (isC [2] a0 h) (yd_whoLiesAt_0 a0 a1 h)
theorem yd_whoLiesAt_im : IM_X3_whoLiesAt yd_whoLiesAt 2 := by
  intro a0 a1 h r e
  obtain ⟨e1, e2⟩ := grd_some e
  exact ⟨e1, SpI.ofP (k := 1) (plainFor_of_name (by decide)) rfl (fun X => Im.drop [true, true, false] rfl (yd_whoLiesAt_0_ok X a0 a1 h)) e2⟩
theorem cl_X17_15 {X : CT} {cc : ByteArray} {nL : Nat} {mn : String} {ret : Option FieldType} {d d0 : Nat} {τ : Type} {pc : Nat} {lv : List (Option PV)} {st : List PV} {h : PH} {sz : τ → Nat × Nat} {K : τ → Prop} {f : Option Nat → PH → Option (Int32)} (HR : IM_X16_place f d0) {a0 : Option Nat} {g : Int32 → Option τ} (hd : d0 + 1 ≤ d) (hdg : decode cc pc = .ok (.invokevirtual 15, 3)) (hst : st.length ≤ 8) (kk : ∀ r, Im X (cc, nL, RX17, mn, ret, d) (pc + 3) lv (.inl r :: st) h (g r) sz K) : Im X (cc, nL, RX17, mn, ret, d) pc lv (.inr a0 :: st) h ((grd (isC [13] a0 h) (f a0 h)).bind g) sz K := by
  refine im_cP (y := yX16_place) (cY := cX16_place) (nY := 1) (rY := (some .int)) (d' := d0) (av := [.inr a0]) (fun r e hX => ?_) (fun r e => (HR _ _ _ (grd_some e).2).2) hd (by decide) hst rfl kk
  obtain ⟨a, c, fs, rfl, ec, hm⟩ := isC_some (grd_some e).1
  simp only [List.mem_cons, List.not_mem_nil, or_false] at hm
  subst hm
  exact cal_U (n := 0) hX q678 q679 q681 q682 q128 q683 rfl (by decide +kernel) rfl rfl ec hdg

theorem cl_X17_19 {X : CT} {cc : ByteArray} {nL : Nat} {mn : String} {ret : Option FieldType} {d d0 : Nat} {τ : Type} {pc : Nat} {lv : List (Option PV)} {st : List PV} {h : PH} {sz : τ → Nat × Nat} {K : τ → Prop} {f : Option Nat → Int32 → Int32 → PH → Option (Int32 × PH)} (HR : IM_X16_sign f d0) {a0 : Option Nat} {a1 : Int32} {a2 : Int32} {g : Int32 → PH → Option τ} (hd : d0 + 1 ≤ d) (hdg : decode cc pc = .ok (.invokevirtual 19, 3)) (hst : st.length ≤ 8) (kk : ∀ r h', Im X (cc, nL, RX17, mn, ret, d) (pc + 3) lv (.inl r :: st) h' (g r h') sz K) : Im X (cc, nL, RX17, mn, ret, d) pc lv (.inl a2 :: .inl a1 :: .inr a0 :: st) h (bd2 (grd (isC [13] a0 h) (f a0 a1 a2 h)) g) sz K := by
  refine im_cI (y := yX16_sign) (cY := cX16_sign) (nY := 4) (rY := (some .int)) (d' := d0) (av := [.inr a0, .inl a1, .inl a2]) (fun r h' e hX => ?_) (fun r h' e => (HR _ _ _ _ _ _ (grd_some e).2).2) hd (by decide) hst rfl kk
  obtain ⟨a, c, fs, rfl, ec, hm⟩ := isC_some (grd_some e).1
  simp only [List.mem_cons, List.not_mem_nil, or_false] at hm
  subst hm
  exact cal_U (n := 2) hX q684 q685 q687 q688 q128 q689 rfl (by decide +kernel) rfl rfl ec hdg

theorem cl_X17_23 {X : CT} {cc : ByteArray} {nL : Nat} {mn : String} {ret : Option FieldType} {d d0 : Nat} {τ : Type} {pc : Nat} {lv : List (Option PV)} {st : List PV} {h : PH} {sz : τ → Nat × Nat} {K : τ → Prop} {f : Option Nat → PH → Option (Int32)} (HR : IM_X16_isGood f d0) {a0 : Option Nat} {g : Int32 → Option τ} (hd : d0 + 1 ≤ d) (hdg : decode cc pc = .ok (.invokevirtual 23, 3)) (hst : st.length ≤ 8) (kk : ∀ r, Im X (cc, nL, RX17, mn, ret, d) (pc + 3) lv (.inl r :: st) h (g r) sz K) : Im X (cc, nL, RX17, mn, ret, d) pc lv (.inr a0 :: st) h ((grd (isC [13] a0 h) (f a0 h)).bind g) sz K := by
  refine im_cP (y := yX16_isGood) (cY := cX16_isGood) (nY := 1) (rY := (some .boolean)) (d' := d0) (av := [.inr a0]) (fun r e hX => ?_) (fun r e => (HR _ _ _ (grd_some e).2).2) hd (by decide) hst rfl kk
  obtain ⟨a, c, fs, rfl, ec, hm⟩ := isC_some (grd_some e).1
  simp only [List.mem_cons, List.not_mem_nil, or_false] at hm
  subst hm
  exact cal_U (n := 0) hX q714 q715 q717 q697 q128 q701 rfl (by decide +kernel) rfl rfl ec hdg

theorem cl_X17_27 {X : CT} {cc : ByteArray} {nL : Nat} {mn : String} {ret : Option FieldType} {d d0 : Nat} {τ : Type} {pc : Nat} {lv : List (Option PV)} {st : List PV} {h : PH} {sz : τ → Nat × Nat} {K : τ → Prop} {f : Option Nat → PH → Option (Int32)} (HR : IM_X16_here f d0) {a0 : Option Nat} {g : Int32 → Option τ} (hd : d0 + 1 ≤ d) (hdg : decode cc pc = .ok (.invokevirtual 27, 3)) (hst : st.length ≤ 8) (kk : ∀ r, Im X (cc, nL, RX17, mn, ret, d) (pc + 3) lv (.inl r :: st) h (g r) sz K) : Im X (cc, nL, RX17, mn, ret, d) pc lv (.inr a0 :: st) h ((grd (isC [13] a0 h) (f a0 h)).bind g) sz K := by
  refine im_cP (y := yX16_here) (cY := cX16_here) (nY := 1) (rY := (some .int)) (d' := d0) (av := [.inr a0]) (fun r e hX => ?_) (fun r e => (HR _ _ _ (grd_some e).2).2) hd (by decide) hst rfl kk
  obtain ⟨a, c, fs, rfl, ec, hm⟩ := isC_some (grd_some e).1
  simp only [List.mem_cons, List.not_mem_nil, or_false] at hm
  subst hm
  exact cal_U (n := 0) hX q730 q731 q733 q691 q128 q695 rfl (by decide +kernel) rfl rfl ec hdg

theorem cl_X17_30 {X : CT} {cc : ByteArray} {nL : Nat} {mn : String} {ret : Option FieldType} {d d0 : Nat} {τ : Type} {pc : Nat} {lv : List (Option PV)} {st : List PV} {h : PH} {sz : τ → Nat × Nat} {K : τ → Prop} {f : Option Nat → Int32 → Int32 → PH → Option (PH)} (HR : IM_X16_bad f d0) {a0 : Option Nat} {a1 : Int32} {a2 : Int32} {g : PH → Option τ} (hd : d0 + 1 ≤ d) (hdg : decode cc pc = .ok (.invokevirtual 30, 3)) (hst : st.length ≤ 8) (kk : ∀ h', Im X (cc, nL, RX17, mn, ret, d) (pc + 3) lv st h' (g h') sz K) : Im X (cc, nL, RX17, mn, ret, d) pc lv (.inl a2 :: .inl a1 :: .inr a0 :: st) h ((grd (isC [13] a0 h) (f a0 a1 a2 h)).bind g) sz K := by
  refine im_cV (y := yX16_bad) (cY := cX16_bad) (nY := 3) (rY := none) (d' := d0) (av := [.inr a0, .inl a1, .inl a2]) (fun h' e hX => ?_) (fun h' e => (HR _ _ _ _ _ (grd_some e).2).2) hd (by decide) hst rfl kk
  obtain ⟨a, c, fs, rfl, ec, hm⟩ := isC_some (grd_some e).1
  simp only [List.mem_cons, List.not_mem_nil, or_false] at hm
  subst hm
  exact cal_U (n := 2) hX q718 q719 q721 q709 q128 q713 rfl (by decide +kernel) rfl rfl ec hdg

theorem cl_X17_34 {X : CT} {cc : ByteArray} {nL : Nat} {mn : String} {ret : Option FieldType} {d d0 : Nat} {τ : Type} {pc : Nat} {lv : List (Option PV)} {st : List PV} {h : PH} {sz : τ → Nat × Nat} {K : τ → Prop} {f : Option Nat → PH → Option (PH)} (HR : IM_X16_goes f d0) {a0 : Option Nat} {g : PH → Option τ} (hd : d0 + 1 ≤ d) (hdg : decode cc pc = .ok (.invokevirtual 34, 3)) (hst : st.length ≤ 8) (kk : ∀ h', Im X (cc, nL, RX17, mn, ret, d) (pc + 3) lv st h' (g h') sz K) : Im X (cc, nL, RX17, mn, ret, d) pc lv (.inr a0 :: st) h ((grd (isC [13] a0 h) (f a0 h)).bind g) sz K := by
  refine im_cV (y := yX16_goes) (cY := cX16_goes) (nY := 1) (rY := none) (d' := d0) (av := [.inr a0]) (fun h' e hX => ?_) (fun h' e => (HR _ _ _ (grd_some e).2).2) hd (by decide) hst rfl kk
  obtain ⟨a, c, fs, rfl, ec, hm⟩ := isC_some (grd_some e).1
  simp only [List.mem_cons, List.not_mem_nil, or_false] at hm
  subst hm
  exact cal_U (n := 0) hX q734 q735 q737 q738 q128 q739 rfl (by decide +kernel) rfl rfl ec hdg

theorem fl_X17_3 : ∀ c ∈ [13], FL RX17 3 c 5 := List.forall_mem_cons.mpr ⟨⟨RX17, TX17, 6, rfl, in_X17, by decide, Or.inl q647⟩, fun _ h => absurd h List.not_mem_nil⟩
theorem fl_X17_38 : ∀ c ∈ [0], FL RX17 38 c 2 := List.forall_mem_cons.mpr ⟨⟨RX0, TX0, 20, rfl, in_X0, by decide, Or.inr ⟨_, lw_n q275 rfl⟩⟩, fun _ h => absurd h List.not_mem_nil⟩
theorem cl_X17_42 {X : CT} {cc : ByteArray} {nL : Nat} {mn : String} {ret : Option FieldType} {d d0 : Nat} {τ : Type} {pc : Nat} {lv : List (Option PV)} {st : List PV} {h : PH} {sz : τ → Nat × Nat} {K : τ → Prop} {f : Option Nat → Int32 → PH → Option (Int32)} (HR : IM_X3_whoLiesAt f d0) {a0 : Option Nat} {a1 : Int32} {g : Int32 → Option τ} (hd : d0 + 1 ≤ d) (hdg : decode cc pc = .ok (.invokevirtual 42, 3)) (hst : st.length ≤ 8) (kk : ∀ r, Im X (cc, nL, RX17, mn, ret, d) (pc + 3) lv (.inl r :: st) h (g r) sz K) : Im X (cc, nL, RX17, mn, ret, d) pc lv (.inl a1 :: .inr a0 :: st) h ((f a0 a1 h).bind g) sz K := by
  refine im_cP (y := yX3_whoLiesAt) (cY := cX3_whoLiesAt) (nY := 3) (rY := (some .int)) (d' := d0) (av := [.inr a0, .inl a1]) (fun r e hX => ?_) (fun r e => (HR _ _ _ _ e).2) hd (by decide) hst rfl kk
  obtain ⟨a, c, fs, rfl, ec, hm⟩ := isC_some (HR _ _ _ _ e).1
  cases List.mem_singleton.mp hm
  exact cal_V (n := 1) hX (lw_V q744 q745 q746 q109 q747) (by decide +kernel) rfl rfl ec hdg

theorem fl_X17_48 : ∀ c ∈ [2], FL RX17 48 c 0 := List.forall_mem_cons.mpr ⟨⟨RX3, TX3, 6, rfl, in_X3, by decide, Or.inr ⟨_, lw_n q218 rfl⟩⟩, fun _ h => absurd h List.not_mem_nil⟩
theorem fp_X17_52 : ∀ c ∈ [3], FP RX17 52 c 2 .int := List.forall_mem_cons.mpr ⟨⟨RX4, TX4, 4, rfl, in_X4, by decide, apt_X4, rfl, by decide +kernel, Or.inr ⟨_, lw_n q202 rfl⟩⟩, fun _ h => absurd h List.not_mem_nil⟩
def IM_X17_lays (f : Option Nat → Int32 → PH → Option (PH)) (d : Nat) : Prop := ∀ (a0 : Option Nat) (a1 : Int32) (h : PH) (h' : PH), f a0 a1 h = some h' → isC [13] a0 h = true ∧ SpV yX17_lays cX17_lays 7 none d [.inr a0, .inl a1] h h'
noncomputable def se_lays_126 (v0 : Option Nat) (v1 : Int32) (v3 : Int32) (v5 : Int32) (h : PH) : Option (PH) :=
  (gfr [13] 5 v0 h).bind fun r51 =>
  (gfr [0] 2 r51 h).bind fun r52 =>
  (gfr [2] 0 r52 h).bind fun r53 =>
  (aldr 2 r53 v1 h).bind fun r54 =>
  (pf [3] 2 r54 (.inl ((10 * v5) + v3)) h).bind fun h55 =>
  some (h55)
theorem se_lays_126_ok (X : CT) (v0 : Option Nat) (v1 : Int32) (v3 : Int32) (v5 : Int32) (h : PH) : Im X (cX17_lays, 7, RX17, "lays", none, 4) 126 [some (.inr v0), some (.inl v1), none, some (.inl v3), none, some (.inl v5), none] [] h (se_lays_126 v0 v1 v3 v5 h) szV (kV X) := by
  unfold se_lays_126
  refine im_aload_n (pc := 126) dX17_lays_126 rfl rfl ?_
  refine im_gr (pc := 127) fl_X17_3 dX17_lays_127 fun r51 => ?_
  refine im_gr (pc := 130) fl_X17_38 dX17_lays_130 fun r52 => ?_
  refine im_gr (pc := 133) fl_X17_48 dX17_lays_133 fun r53 => ?_
  refine im_iload_n (pc := 136) dX17_lays_136 rfl rfl ?_
  refine im_aald (pc := 137) (t := 2) (by decide) (by decide) dX17_lays_137 fun r54 => ?_
  refine im_bipush (pc := 138) (v := 10) dX17_lays_138 (by decide) ?_
  refine im_iload (pc := 140) dX17_lays_140 rfl ?_
  refine im_imul (pc := 142) dX17_lays_142 ?_
  refine im_iload_n (pc := 143) dX17_lays_143 rfl rfl ?_
  refine im_iadd (pc := 144) dX17_lays_144 ?_
  refine im_pf (pc := 145) fp_X17_52 (okT_i _) dX17_lays_145 fun h55 => ?_
  exact im_vret (pc := 148) dX17_lays_148
noncomputable def se_lays_80 (v0 : Option Nat) (v1 : Int32) (v2 : Int32) (v3 : Int32) (v5 : Int32) (h : PH) : Option (PH) :=
  (grd (isC [13] v0 h) (sc_isGood v0 h)).bind fun x51 =>
  (if x51 = 0 then
  some (h)
  else
  (gfr [13] 5 v0 h).bind fun r52 =>
  (gfr [0] 2 r52 h).bind fun r53 =>
  (yd_whoLiesAt r53 ((10 * v5) + v3) h).bind fun x54 =>
  (if x54 = (-1) then
  se_lays_126 v0 v1 v3 v5 h
  else
  (if x54 = v1 then
  se_lays_126 v0 v1 v3 v5 h
  else
  (grd (isC [13] v0 h) (sc_bad v0 8 v2 h)).bind fun h55 =>
  se_lays_126 v0 v1 v3 v5 h55)))
theorem se_lays_80_ok (X : CT) (v0 : Option Nat) (v1 : Int32) (v2 : Int32) (v3 : Int32) (v5 : Int32) (h : PH) : Im X (cX17_lays, 7, RX17, "lays", none, 4) 80 [some (.inr v0), some (.inl v1), some (.inl v2), some (.inl v3), none, some (.inl v5), none] [] h (se_lays_80 v0 v1 v2 v3 v5 h) szV (kV X) := by
  unfold se_lays_80
  refine im_aload_n (pc := 80) dX17_lays_80 rfl rfl ?_
  refine cl_X17_23 sc_isGood_im (pc := 81) (by decide) dX17_lays_81 (Nat.le_of_ble_eq_true rfl) fun x51 => ?_
  refine im_if_ne (pc := 84) (tgt := 88) dX17_lays_84 (by decide) ?_ ?_
  · refine im_aload_n (pc := 88) dX17_lays_88 rfl rfl ?_
    refine im_gr (pc := 89) fl_X17_3 dX17_lays_89 fun r52 => ?_
    refine im_gr (pc := 92) fl_X17_38 dX17_lays_92 fun r53 => ?_
    refine im_bipush (pc := 95) (v := 10) dX17_lays_95 (by decide) ?_
    refine im_iload (pc := 97) dX17_lays_97 rfl ?_
    refine im_imul (pc := 99) dX17_lays_99 ?_
    refine im_iload_n (pc := 100) dX17_lays_100 rfl rfl ?_
    refine im_iadd (pc := 101) dX17_lays_101 ?_
    refine cl_X17_42 yd_whoLiesAt_im (pc := 102) (by decide) dX17_lays_102 (Nat.le_of_ble_eq_true rfl) fun x54 => ?_
    refine im_istore (pc := 105) (lv' := [some (.inr v0), some (.inl v1), some (.inl v2), some (.inl v3), none, some (.inl v5), some (.inl x54)]) dX17_lays_105 (by decide) rfl ?_
    refine im_iload (pc := 107) dX17_lays_107 rfl ?_
    refine im_iconst (pc := 109) (v := (-1)) dX17_lays_109 (by decide) ?_
    refine im_icmp_eq (pc := 110) (tgt := 126) dX17_lays_110 (by decide) ?_ ?_
    · exact Im.drop [true, true, false, true, false, true, false] rfl (se_lays_126_ok X v0 v1 v3 v5 h)
    · refine im_iload (pc := 113) dX17_lays_113 rfl ?_
      refine im_iload_n (pc := 115) dX17_lays_115 rfl rfl ?_
      refine im_icmp_eq (pc := 116) (tgt := 126) dX17_lays_116 (by decide) ?_ ?_
      · exact Im.drop [true, true, false, true, false, true, false] rfl (se_lays_126_ok X v0 v1 v3 v5 h)
      · refine im_aload_n (pc := 119) dX17_lays_119 rfl rfl ?_
        refine im_bipush (pc := 120) (v := 8) dX17_lays_120 (by decide) ?_
        refine im_iload_n (pc := 122) dX17_lays_122 rfl rfl ?_
        refine cl_X17_30 sc_bad_im (pc := 123) (by decide) dX17_lays_123 (Nat.le_of_ble_eq_true rfl) fun h55 => ?_
        exact Im.drop [true, true, false, true, false, true, false] rfl (se_lays_126_ok X v0 v1 v3 v5 h55)
  · exact im_vret (pc := 87) dX17_lays_87
noncomputable def se_lays_39 (v0 : Option Nat) (v1 : Int32) (v2 : Int32) (v3 : Int32) (h : PH) : Option (PH) :=
  (grd (isC [13] v0 h) (sc_goes v0 h)).bind fun h51 =>
  (grd (isC [13] v0 h51) (sc_place v0 h51)).bind fun x52 =>
  bd2 (grd (isC [13] v0 h51) (sc_sign v0 48 10 h51)) fun x54 h53 =>
  (grd (isC [13] v0 h53) (sc_isGood v0 h53)).bind fun x55 =>
  (if x55 = 0 then
  se_lays_80 v0 v1 v2 v3 x54 h53
  else
  (if x54 < 6 then
  se_lays_80 v0 v1 v2 v3 x54 h53
  else
  (grd (isC [13] v0 h53) (sc_bad v0 3 x52 h53)).bind fun h56 =>
  se_lays_80 v0 v1 v2 v3 x54 h56))
theorem se_lays_39_ok (X : CT) (v0 : Option Nat) (v1 : Int32) (v2 : Int32) (v3 : Int32) (h : PH) : Im X (cX17_lays, 7, RX17, "lays", none, 4) 39 [some (.inr v0), some (.inl v1), some (.inl v2), some (.inl v3), none, none, none] [] h (se_lays_39 v0 v1 v2 v3 h) szV (kV X) := by
  unfold se_lays_39
  refine im_aload_n (pc := 39) dX17_lays_39 rfl rfl ?_
  refine cl_X17_34 sc_goes_im (pc := 40) (by decide) dX17_lays_40 (Nat.le_of_ble_eq_true rfl) fun h51 => ?_
  refine im_aload_n (pc := 43) dX17_lays_43 rfl rfl ?_
  refine cl_X17_15 sc_place_im (pc := 44) (by decide) dX17_lays_44 (Nat.le_of_ble_eq_true rfl) fun x52 => ?_
  refine im_istore (pc := 47) (lv' := [some (.inr v0), some (.inl v1), some (.inl v2), some (.inl v3), some (.inl x52), none, none]) dX17_lays_47 (by decide) rfl ?_
  refine im_aload_n (pc := 49) dX17_lays_49 rfl rfl ?_
  refine im_bipush (pc := 50) (v := 48) dX17_lays_50 (by decide) ?_
  refine im_bipush (pc := 52) (v := 10) dX17_lays_52 (by decide) ?_
  refine cl_X17_19 sc_sign_im (pc := 54) (by decide) dX17_lays_54 (Nat.le_of_ble_eq_true rfl) fun x54 h53 => ?_
  refine im_istore (pc := 57) (lv' := [some (.inr v0), some (.inl v1), some (.inl v2), some (.inl v3), some (.inl x52), some (.inl x54), none]) dX17_lays_57 (by decide) rfl ?_
  refine im_aload_n (pc := 59) dX17_lays_59 rfl rfl ?_
  refine cl_X17_23 sc_isGood_im (pc := 60) (by decide) dX17_lays_60 (Nat.le_of_ble_eq_true rfl) fun x55 => ?_
  refine im_if_eq (pc := 63) (tgt := 80) dX17_lays_63 (by decide) ?_ ?_
  · exact Im.drop [true, true, true, true, false, true, false] rfl (se_lays_80_ok X v0 v1 v2 v3 x54 h53)
  · refine im_iload (pc := 66) dX17_lays_66 rfl ?_
    refine im_bipush (pc := 68) (v := 6) dX17_lays_68 (by decide) ?_
    refine im_icmp_lt (pc := 70) (tgt := 80) dX17_lays_70 (by decide) ?_ ?_
    · exact Im.drop [true, true, true, true, false, true, false] rfl (se_lays_80_ok X v0 v1 v2 v3 x54 h53)
    · refine im_aload_n (pc := 73) dX17_lays_73 rfl rfl ?_
      refine im_iconst (pc := 74) (v := 3) dX17_lays_74 (by decide) ?_
      refine im_iload (pc := 75) dX17_lays_75 rfl ?_
      refine cl_X17_30 sc_bad_im (pc := 77) (by decide) dX17_lays_77 (Nat.le_of_ble_eq_true rfl) fun h56 => ?_
      exact Im.drop [true, true, true, true, false, true, false] rfl (se_lays_80_ok X v0 v1 v2 v3 x54 h56)
noncomputable def se_lays_0 (v0 : Option Nat) (v1 : Int32) (h : PH) : Option (PH) :=
  (grd (isC [13] v0 h) (sc_place v0 h)).bind fun x51 =>
  bd2 (grd (isC [13] v0 h) (sc_sign v0 48 10 h)) fun x53 h52 =>
  (grd (isC [13] v0 h52) (sc_isGood v0 h52)).bind fun x54 =>
  (if x54 = 0 then
  se_lays_39 v0 v1 x51 x53 h52
  else
  (grd (isC [13] v0 h52) (sc_here v0 h52)).bind fun x55 =>
  (if x55 = 44 then
  se_lays_39 v0 v1 x51 x53 h52
  else
  (grd (isC [13] v0 h52) (sc_place v0 h52)).bind fun x56 =>
  (grd (isC [13] v0 h52) (sc_bad v0 1 x56 h52)).bind fun h57 =>
  se_lays_39 v0 v1 x51 x53 h57))
theorem se_lays_0_ok (X : CT) (v0 : Option Nat) (v1 : Int32) (h : PH) : Im X (cX17_lays, 7, RX17, "lays", none, 4) 0 [some (.inr v0), some (.inl v1), none, none, none, none, none] [] h (se_lays_0 v0 v1 h) szV (kV X) := by
  unfold se_lays_0
  refine im_aload_n (pc := 0) dX17_lays_0 rfl rfl ?_
  refine cl_X17_15 sc_place_im (pc := 1) (by decide) dX17_lays_1 (Nat.le_of_ble_eq_true rfl) fun x51 => ?_
  refine im_istore_n (pc := 4) (lv' := [some (.inr v0), some (.inl v1), some (.inl x51), none, none, none, none]) dX17_lays_4 rfl (by decide) rfl ?_
  refine im_aload_n (pc := 5) dX17_lays_5 rfl rfl ?_
  refine im_bipush (pc := 6) (v := 48) dX17_lays_6 (by decide) ?_
  refine im_bipush (pc := 8) (v := 10) dX17_lays_8 (by decide) ?_
  refine cl_X17_19 sc_sign_im (pc := 10) (by decide) dX17_lays_10 (Nat.le_of_ble_eq_true rfl) fun x53 h52 => ?_
  refine im_istore_n (pc := 13) (lv' := [some (.inr v0), some (.inl v1), some (.inl x51), some (.inl x53), none, none, none]) dX17_lays_13 rfl (by decide) rfl ?_
  refine im_aload_n (pc := 14) dX17_lays_14 rfl rfl ?_
  refine cl_X17_23 sc_isGood_im (pc := 15) (by decide) dX17_lays_15 (Nat.le_of_ble_eq_true rfl) fun x54 => ?_
  refine im_if_eq (pc := 18) (tgt := 39) dX17_lays_18 (by decide) ?_ ?_
  · exact Im.drop [true, true, true, true, false, false, false] rfl (se_lays_39_ok X v0 v1 x51 x53 h52)
  · refine im_aload_n (pc := 21) dX17_lays_21 rfl rfl ?_
    refine cl_X17_27 sc_here_im (pc := 22) (by decide) dX17_lays_22 (Nat.le_of_ble_eq_true rfl) fun x55 => ?_
    refine im_bipush (pc := 25) (v := 44) dX17_lays_25 (by decide) ?_
    refine im_icmp_eq (pc := 27) (tgt := 39) dX17_lays_27 (by decide) ?_ ?_
    · exact Im.drop [true, true, true, true, false, false, false] rfl (se_lays_39_ok X v0 v1 x51 x53 h52)
    · refine im_aload_n (pc := 30) dX17_lays_30 rfl rfl ?_
      refine im_iconst (pc := 31) (v := 1) dX17_lays_31 (by decide) ?_
      refine im_aload_n (pc := 32) dX17_lays_32 rfl rfl ?_
      refine cl_X17_15 sc_place_im (pc := 33) (by decide) dX17_lays_33 (Nat.le_of_ble_eq_true rfl) fun x56 => ?_
      refine cl_X17_30 sc_bad_im (pc := 36) (by decide) dX17_lays_36 (Nat.le_of_ble_eq_true rfl) fun h57 => ?_
      exact Im.drop [true, true, true, true, false, false, false] rfl (se_lays_39_ok X v0 v1 x51 x53 h57)
noncomputable def se_lays (a0 : Option Nat) (a1 : Int32) (h : PH) : Option (PH) := grd (isC [13] a0 h) (se_lays_0 a0 a1 h)
theorem se_lays_im : IM_X17_lays se_lays 4 := by
  intro a0 a1 h h' e
  obtain ⟨e1, e2⟩ := grd_some e
  exact ⟨e1, SpV.of (k := 5) (plainFor_of_name (by decide)) rfl (fun X => Im.drop [true, true, false, false, false, false, false] rfl (se_lays_0_ok X a0 a1 h)) e2⟩
theorem cl_X17_58 {X : CT} {cc : ByteArray} {nL : Nat} {mn : String} {ret : Option FieldType} {d d0 : Nat} {τ : Type} {pc : Nat} {lv : List (Option PV)} {st : List PV} {h : PH} {sz : τ → Nat × Nat} {K : τ → Prop} {f : Option Nat → Int32 → PH → Option (Int32)} (HR : IM_X0_isTold f d0) {a0 : Option Nat} {a1 : Int32} {g : Int32 → Option τ} (hd : d0 + 1 ≤ d) (hdg : decode cc pc = .ok (.invokevirtual 58, 3)) (hst : st.length ≤ 8) (kk : ∀ r, Im X (cc, nL, RX17, mn, ret, d) (pc + 3) lv (.inl r :: st) h (g r) sz K) : Im X (cc, nL, RX17, mn, ret, d) pc lv (.inl a1 :: .inr a0 :: st) h ((f a0 a1 h).bind g) sz K := by
  refine im_cP (y := yX0_isTold) (cY := cX0_isTold) (nY := 2) (rY := (some .boolean)) (d' := d0) (av := [.inr a0, .inl a1]) (fun r e hX => ?_) (fun r e => (HR _ _ _ _ e).2) hd (by decide) hst rfl kk
  obtain ⟨a, c, fs, rfl, ec, hm⟩ := isC_some (HR _ _ _ _ e).1
  cases List.mem_singleton.mp hm
  exact cal_VN (n := 1) hX (lw_n q722 rfl) q724 q106 q725 qs15 (by decide +kernel) rfl rfl ec hdg

theorem fl_X17_52 : ∀ c ∈ [3], FL RX17 52 c 2 := List.forall_mem_cons.mpr ⟨⟨RX4, TX4, 4, rfl, in_X4, by decide, Or.inr ⟨_, lw_n q202 rfl⟩⟩, fun _ h => absurd h List.not_mem_nil⟩
def IM_X17_changes (f : Option Nat → Option Nat → PH → Option (PH)) (d : Nat) : Prop := ∀ (a0 : Option Nat) (a1 : Option Nat) (h : PH) (h' : PH), f a0 a1 h = some h' → isC [13] a0 h = true ∧ SpV yX17_changes cX17_changes 5 none d [.inr a0, .inr a1] h h'
noncomputable def se_changes_39 (v0 : Option Nat) (v1 : Option Nat) (v3 : Int32) (h : PH) : Option (PH) :=
  (grd (isC [13] v0 h) (sc_isGood v0 h)).bind fun x51 =>
  (if x51 = 0 then
  some (h)
  else
  (gfi [3] 2 v1 h).bind fun x52 =>
  (gfr [13] 5 v0 h).bind fun r53 =>
  (gfr [0] 2 r53 h).bind fun r54 =>
  (gfr [2] 0 r54 h).bind fun r55 =>
  (aldr 2 r55 v3 h).bind fun r56 =>
  (gfi [3] 2 r56 h).bind fun x57 =>
  (pf [3] 2 v1 (.inl x57) h).bind fun h58 =>
  (gfr [13] 5 v0 h58).bind fun r59 =>
  (gfr [0] 2 r59 h58).bind fun r60 =>
  (gfr [2] 0 r60 h58).bind fun r61 =>
  (aldr 2 r61 v3 h58).bind fun r62 =>
  (pf [3] 2 r62 (.inl x52) h58).bind fun h63 =>
  some (h63))
theorem se_changes_39_ok (X : CT) (v0 : Option Nat) (v1 : Option Nat) (v3 : Int32) (h : PH) : Im X (cX17_changes, 5, RX17, "changes", none, 4) 39 [some (.inr v0), some (.inr v1), none, some (.inl v3), none] [] h (se_changes_39 v0 v1 v3 h) szV (kV X) := by
  unfold se_changes_39
  refine im_aload_n (pc := 39) dX17_changes_39 rfl rfl ?_
  refine cl_X17_23 sc_isGood_im (pc := 40) (by decide) dX17_changes_40 (Nat.le_of_ble_eq_true rfl) fun x51 => ?_
  refine im_if_ne (pc := 43) (tgt := 47) dX17_changes_43 (by decide) ?_ ?_
  · refine im_aload_n (pc := 47) dX17_changes_47 rfl rfl ?_
    refine im_gi (pc := 48) fl_X17_52 dX17_changes_48 fun x52 => ?_
    refine im_istore (pc := 51) (lv' := [some (.inr v0), some (.inr v1), none, some (.inl v3), some (.inl x52)]) dX17_changes_51 (by decide) rfl ?_
    refine im_aload_n (pc := 53) dX17_changes_53 rfl rfl ?_
    refine im_aload_n (pc := 54) dX17_changes_54 rfl rfl ?_
    refine im_gr (pc := 55) fl_X17_3 dX17_changes_55 fun r53 => ?_
    refine im_gr (pc := 58) fl_X17_38 dX17_changes_58 fun r54 => ?_
    refine im_gr (pc := 61) fl_X17_48 dX17_changes_61 fun r55 => ?_
    refine im_iload_n (pc := 64) dX17_changes_64 rfl rfl ?_
    refine im_aald (pc := 65) (t := 2) (by decide) (by decide) dX17_changes_65 fun r56 => ?_
    refine im_gi (pc := 66) fl_X17_52 dX17_changes_66 fun x57 => ?_
    refine im_pf (pc := 69) fp_X17_52 (okT_i _) dX17_changes_69 fun h58 => ?_
    refine im_aload_n (pc := 72) dX17_changes_72 rfl rfl ?_
    refine im_gr (pc := 73) fl_X17_3 dX17_changes_73 fun r59 => ?_
    refine im_gr (pc := 76) fl_X17_38 dX17_changes_76 fun r60 => ?_
    refine im_gr (pc := 79) fl_X17_48 dX17_changes_79 fun r61 => ?_
    refine im_iload_n (pc := 82) dX17_changes_82 rfl rfl ?_
    refine im_aald (pc := 83) (t := 2) (by decide) (by decide) dX17_changes_83 fun r62 => ?_
    refine im_iload (pc := 84) dX17_changes_84 rfl ?_
    refine im_pf (pc := 86) fp_X17_52 (okT_i _) dX17_changes_86 fun h63 => ?_
    exact im_vret (pc := 89) dX17_changes_89
  · exact im_vret (pc := 46) dX17_changes_46
noncomputable def se_changes_0 (v0 : Option Nat) (v1 : Option Nat) (h : PH) : Option (PH) :=
  (grd (isC [13] v0 h) (sc_place v0 h)).bind fun x51 =>
  bd2 (grd (isC [13] v0 h) (sc_sign v0 97 16 h)) fun x53 h52 =>
  (grd (isC [13] v0 h52) (sc_isGood v0 h52)).bind fun x54 =>
  (if x54 = 0 then
  se_changes_39 v0 v1 x53 h52
  else
  (gfr [13] 5 v0 h52).bind fun r55 =>
  (tp_isTold r55 x53 h52).bind fun x56 =>
  (if x56 = 0 then
  (grd (isC [13] v0 h52) (sc_bad v0 7 x51 h52)).bind fun h57 =>
  se_changes_39 v0 v1 x53 h57
  else
  se_changes_39 v0 v1 x53 h52))
theorem se_changes_0_ok (X : CT) (v0 : Option Nat) (v1 : Option Nat) (h : PH) : Im X (cX17_changes, 5, RX17, "changes", none, 4) 0 [some (.inr v0), some (.inr v1), none, none, none] [] h (se_changes_0 v0 v1 h) szV (kV X) := by
  unfold se_changes_0
  refine im_aload_n (pc := 0) dX17_changes_0 rfl rfl ?_
  refine cl_X17_15 sc_place_im (pc := 1) (by decide) dX17_changes_1 (Nat.le_of_ble_eq_true rfl) fun x51 => ?_
  refine im_istore_n (pc := 4) (lv' := [some (.inr v0), some (.inr v1), some (.inl x51), none, none]) dX17_changes_4 rfl (by decide) rfl ?_
  refine im_aload_n (pc := 5) dX17_changes_5 rfl rfl ?_
  refine im_bipush (pc := 6) (v := 97) dX17_changes_6 (by decide) ?_
  refine im_bipush (pc := 8) (v := 16) dX17_changes_8 (by decide) ?_
  refine cl_X17_19 sc_sign_im (pc := 10) (by decide) dX17_changes_10 (Nat.le_of_ble_eq_true rfl) fun x53 h52 => ?_
  refine im_istore_n (pc := 13) (lv' := [some (.inr v0), some (.inr v1), some (.inl x51), some (.inl x53), none]) dX17_changes_13 rfl (by decide) rfl ?_
  refine im_aload_n (pc := 14) dX17_changes_14 rfl rfl ?_
  refine cl_X17_23 sc_isGood_im (pc := 15) (by decide) dX17_changes_15 (Nat.le_of_ble_eq_true rfl) fun x54 => ?_
  refine im_if_eq (pc := 18) (tgt := 39) dX17_changes_18 (by decide) ?_ ?_
  · exact Im.drop [true, true, false, true, false] rfl (se_changes_39_ok X v0 v1 x53 h52)
  · refine im_aload_n (pc := 21) dX17_changes_21 rfl rfl ?_
    refine im_gr (pc := 22) fl_X17_3 dX17_changes_22 fun r55 => ?_
    refine im_iload_n (pc := 25) dX17_changes_25 rfl rfl ?_
    refine cl_X17_58 tp_isTold_im (pc := 26) (by decide) dX17_changes_26 (Nat.le_of_ble_eq_true rfl) fun x56 => ?_
    refine im_if_ne (pc := 29) (tgt := 39) dX17_changes_29 (by decide) ?_ ?_
    · exact Im.drop [true, true, false, true, false] rfl (se_changes_39_ok X v0 v1 x53 h52)
    · refine im_aload_n (pc := 32) dX17_changes_32 rfl rfl ?_
      refine im_bipush (pc := 33) (v := 7) dX17_changes_33 (by decide) ?_
      refine im_iload_n (pc := 35) dX17_changes_35 rfl rfl ?_
      refine cl_X17_30 sc_bad_im (pc := 36) (by decide) dX17_changes_36 (Nat.le_of_ble_eq_true rfl) fun h57 => ?_
      exact Im.drop [true, true, false, true, false] rfl (se_changes_39_ok X v0 v1 x53 h57)
noncomputable def se_changes (a0 : Option Nat) (a1 : Option Nat) (h : PH) : Option (PH) := grd (isC [13] a0 h) (se_changes_0 a0 a1 h)
theorem se_changes_im : IM_X17_changes se_changes 4 := by
  intro a0 a1 h h' e
  obtain ⟨e1, e2⟩ := grd_some e
  exact ⟨e1, SpV.of (k := 3) (plainFor_of_name (by decide)) rfl (fun X => Im.drop [true, true, false, false, false] rfl (se_changes_0_ok X a0 a1 h)) e2⟩
theorem fl_X17_62 : ∀ c ∈ [3], FL RX17 62 c 0 := List.forall_mem_cons.mpr ⟨⟨RX4, TX4, 4, rfl, in_X4, by decide, Or.inr ⟨_, lw_n q194 rfl⟩⟩, fun _ h => absurd h List.not_mem_nil⟩
theorem fp_X17_62 : ∀ c ∈ [3], FP RX17 62 c 0 .int := List.forall_mem_cons.mpr ⟨⟨RX4, TX4, 4, rfl, in_X4, by decide, apt_X4, rfl, by decide +kernel, Or.inr ⟨_, lw_n q194 rfl⟩⟩, fun _ h => absurd h List.not_mem_nil⟩
def IM_X17_topic (f : Option Nat → Option Nat → Int32 → PH → Option (PH)) (d : Nat) : Prop := ∀ (a0 : Option Nat) (a1 : Option Nat) (a2 : Int32) (h : PH) (h' : PH), f a0 a1 a2 h = some h' → isC [13] a0 h = true ∧ SpV yX17_topic cX17_topic 4 none d [.inr a0, .inr a1, .inl a2] h h'
noncomputable def se_topic_42 (s0 : Int32) (s1 : Option Nat) (h : PH) : Option (PH) :=
  (pf [3] 0 s1 (.inl s0) h).bind fun h51 =>
  some (h51)
theorem se_topic_42_ok (X : CT) (s0 : Int32) (s1 : Option Nat) (h : PH) : Im X (cX17_topic, 4, RX17, "topic", none, 4) 42 [none, none, none, none] [.inl s0, .inr s1] h (se_topic_42 s0 s1 h) szV (kV X) := by
  unfold se_topic_42
  refine im_pf (pc := 42) fp_X17_62 (okT_i _) dX17_topic_42 fun h51 => ?_
  exact im_vret (pc := 45) dX17_topic_45
noncomputable def se_topic_0 (v0 : Option Nat) (v1 : Option Nat) (v2 : Int32) (h : PH) : Option (PH) :=
  bd2 (grd (isC [13] v0 h) (sc_sign v0 65 16 h)) fun x52 h51 =>
  (grd (isC [13] v0 h51) (sc_isGood v0 h51)).bind fun x53 =>
  (if x53 = 0 then
  some (h51)
  else
  (if v2 = 0 then
  (gfi [3] 0 v1 h51).bind fun x54 =>
  se_topic_42 (x54 &&& (((1 : Int32) <<< (x52 &&& 31)) ^^^ (-1))) v1 h51
  else
  (gfi [3] 0 v1 h51).bind fun x55 =>
  se_topic_42 (x55 ||| ((1 : Int32) <<< (x52 &&& 31))) v1 h51))
theorem se_topic_0_ok (X : CT) (v0 : Option Nat) (v1 : Option Nat) (v2 : Int32) (h : PH) : Im X (cX17_topic, 4, RX17, "topic", none, 4) 0 [some (.inr v0), some (.inr v1), some (.inl v2), none] [] h (se_topic_0 v0 v1 v2 h) szV (kV X) := by
  unfold se_topic_0
  refine im_aload_n (pc := 0) dX17_topic_0 rfl rfl ?_
  refine im_bipush (pc := 1) (v := 65) dX17_topic_1 (by decide) ?_
  refine im_bipush (pc := 3) (v := 16) dX17_topic_3 (by decide) ?_
  refine cl_X17_19 sc_sign_im (pc := 5) (by decide) dX17_topic_5 (Nat.le_of_ble_eq_true rfl) fun x52 h51 => ?_
  refine im_istore_n (pc := 8) (lv' := [some (.inr v0), some (.inr v1), some (.inl v2), some (.inl x52)]) dX17_topic_8 rfl (by decide) rfl ?_
  refine im_aload_n (pc := 9) dX17_topic_9 rfl rfl ?_
  refine cl_X17_23 sc_isGood_im (pc := 10) (by decide) dX17_topic_10 (Nat.le_of_ble_eq_true rfl) fun x53 => ?_
  refine im_if_eq (pc := 13) (tgt := 45) dX17_topic_13 (by decide) ?_ ?_
  · exact im_vret (pc := 45) dX17_topic_45
  · refine im_aload_n (pc := 16) dX17_topic_16 rfl rfl ?_
    refine im_iload_n (pc := 17) dX17_topic_17 rfl rfl ?_
    refine im_if_eq (pc := 18) (tgt := 32) dX17_topic_18 (by decide) ?_ ?_
    · refine im_aload_n (pc := 32) dX17_topic_32 rfl rfl ?_
      refine im_gi (pc := 33) fl_X17_62 dX17_topic_33 fun x54 => ?_
      refine im_iconst (pc := 36) (v := 1) dX17_topic_36 (by decide) ?_
      refine im_iload_n (pc := 37) dX17_topic_37 rfl rfl ?_
      refine im_ishl (pc := 38) dX17_topic_38 ?_
      refine im_iconst (pc := 39) (v := (-1)) dX17_topic_39 (by decide) ?_
      refine im_ixor (pc := 40) dX17_topic_40 ?_
      refine im_iand (pc := 41) dX17_topic_41 ?_
      exact Im.drop [false, false, false, false] rfl (se_topic_42_ok X (x54 &&& (((1 : Int32) <<< (x52 &&& 31)) ^^^ (-1))) v1 h51)
    · refine im_aload_n (pc := 21) dX17_topic_21 rfl rfl ?_
      refine im_gi (pc := 22) fl_X17_62 dX17_topic_22 fun x55 => ?_
      refine im_iconst (pc := 25) (v := 1) dX17_topic_25 (by decide) ?_
      refine im_iload_n (pc := 26) dX17_topic_26 rfl rfl ?_
      refine im_ishl (pc := 27) dX17_topic_27 ?_
      refine im_ior (pc := 28) dX17_topic_28 ?_
      refine im_goto (pc := 29) (tgt := 42) dX17_topic_29 (by decide) ?_
      exact Im.drop [false, false, false, false] rfl (se_topic_42_ok X (x55 ||| ((1 : Int32) <<< (x52 &&& 31))) v1 h51)
noncomputable def se_topic (a0 : Option Nat) (a1 : Option Nat) (a2 : Int32) (h : PH) : Option (PH) := grd (isC [13] a0 h) (se_topic_0 a0 a1 a2 h)
theorem se_topic_im : IM_X17_topic se_topic 4 := by
  intro a0 a1 a2 h h' e
  obtain ⟨e1, e2⟩ := grd_some e
  exact ⟨e1, SpV.of (k := 1) (plainFor_of_name (by decide)) rfl (fun X => Im.drop [true, true, true, false] rfl (se_topic_0_ok X a0 a1 a2 h)) e2⟩
theorem cl_X17_69 {X : CT} {cc : ByteArray} {nL : Nat} {mn : String} {ret : Option FieldType} {d d0 : Nat} {τ : Type} {pc : Nat} {lv : List (Option PV)} {st : List PV} {h : PH} {sz : τ → Nat × Nat} {K : τ → Prop} {f : Option Nat → Option Nat → PH → Option (PH)} (HR : IM_X17_changes f d0) {a0 : Option Nat} {a1 : Option Nat} {g : PH → Option τ} (hd : d0 + 1 ≤ d) (hdg : decode cc pc = .ok (.invokevirtual 69, 3)) (hst : st.length ≤ 8) (kk : ∀ h', Im X (cc, nL, RX17, mn, ret, d) (pc + 3) lv st h' (g h') sz K) : Im X (cc, nL, RX17, mn, ret, d) pc lv (.inr a1 :: .inr a0 :: st) h ((f a0 a1 h).bind g) sz K := by
  refine im_cV (y := yX17_changes) (cY := cX17_changes) (nY := 5) (rY := none) (d' := d0) (av := [.inr a0, .inr a1]) (fun h' e hX => ?_) (fun h' e => (HR _ _ _ _ e).2) hd (by decide) hst rfl kk
  obtain ⟨a, c, fs, rfl, ec, hm⟩ := isC_some (HR _ _ _ _ e).1
  cases List.mem_singleton.mp hm
  exact cal_V (n := 1) hX (lw_V q752 q754 qs18 q129 q755) (by decide +kernel) rfl rfl ec hdg

theorem cl_X17_65 {X : CT} {cc : ByteArray} {nL : Nat} {mn : String} {ret : Option FieldType} {d d0 : Nat} {τ : Type} {pc : Nat} {lv : List (Option PV)} {st : List PV} {h : PH} {sz : τ → Nat × Nat} {K : τ → Prop} {f : Option Nat → Int32 → PH → Option (PH)} (HR : IM_X17_lays f d0) {a0 : Option Nat} {a1 : Int32} {g : PH → Option τ} (hd : d0 + 1 ≤ d) (hdg : decode cc pc = .ok (.invokevirtual 65, 3)) (hst : st.length ≤ 8) (kk : ∀ h', Im X (cc, nL, RX17, mn, ret, d) (pc + 3) lv st h' (g h') sz K) : Im X (cc, nL, RX17, mn, ret, d) pc lv (.inl a1 :: .inr a0 :: st) h ((f a0 a1 h).bind g) sz K := by
  refine im_cV (y := yX17_lays) (cY := cX17_lays) (nY := 7) (rY := none) (d' := d0) (av := [.inr a0, .inl a1]) (fun h' e hX => ?_) (fun h' e => (HR _ _ _ _ e).2) hd (by decide) hst rfl kk
  obtain ⟨a, c, fs, rfl, ec, hm⟩ := isC_some (HR _ _ _ _ e).1
  cases List.mem_singleton.mp hm
  exact cal_V (n := 1) hX (lw_V q740 q742 qs17 q129 q743) (by decide +kernel) rfl rfl ec hdg

theorem cl_X17_73 {X : CT} {cc : ByteArray} {nL : Nat} {mn : String} {ret : Option FieldType} {d d0 : Nat} {τ : Type} {pc : Nat} {lv : List (Option PV)} {st : List PV} {h : PH} {sz : τ → Nat × Nat} {K : τ → Prop} {f : Option Nat → Option Nat → Int32 → PH → Option (PH)} (HR : IM_X17_topic f d0) {a0 : Option Nat} {a1 : Option Nat} {a2 : Int32} {g : PH → Option τ} (hd : d0 + 1 ≤ d) (hdg : decode cc pc = .ok (.invokevirtual 73, 3)) (hst : st.length ≤ 8) (kk : ∀ h', Im X (cc, nL, RX17, mn, ret, d) (pc + 3) lv st h' (g h') sz K) : Im X (cc, nL, RX17, mn, ret, d) pc lv (.inl a2 :: .inr a1 :: .inr a0 :: st) h ((f a0 a1 a2 h).bind g) sz K := by
  refine im_cV (y := yX17_topic) (cY := cX17_topic) (nY := 4) (rY := none) (d' := d0) (av := [.inr a0, .inr a1, .inl a2]) (fun h' e hX => ?_) (fun h' e => (HR _ _ _ _ _ e).2) hd (by decide) hst rfl kk
  obtain ⟨a, c, fs, rfl, ec, hm⟩ := isC_some (HR _ _ _ _ _ e).1
  cases List.mem_singleton.mp hm
  exact cal_V (n := 2) hX (lw_V q756 q758 qs19 q129 q759) (by decide +kernel) rfl rfl ec hdg

def IM_X17_does (f : Option Nat → Int32 → PH → Option (PH)) (d : Nat) : Prop := ∀ (a0 : Option Nat) (a1 : Int32) (h : PH) (h' : PH), f a0 a1 h = some h' → isC [13] a0 h = true ∧ SpV yX17_does cX17_does 4 none d [.inr a0, .inl a1] h h'
noncomputable def se_does_134 (s0 : Int32) (s1 : Option Nat) (s2 : Option Nat) (h : PH) : Option (PH) :=
  (se_topic s2 s1 s0 h).bind fun h51 =>
  some (h51)
theorem se_does_134_ok (X : CT) (s0 : Int32) (s1 : Option Nat) (s2 : Option Nat) (h : PH) : Im X (cX17_does, 4, RX17, "does", none, 5) 134 [none, none, none, none] [.inl s0, .inr s1, .inr s2] h (se_does_134 s0 s1 s2 h) szV (kV X) := by
  unfold se_does_134
  refine cl_X17_73 se_topic_im (pc := 134) (by decide) dX17_does_134 (Nat.le_of_ble_eq_true rfl) fun h51 => ?_
  refine im_goto (pc := 137) (tgt := 146) dX17_does_137 (by decide) ?_
  exact im_vret (pc := 146) dX17_does_146
noncomputable def se_does_0 (v0 : Option Nat) (v1 : Int32) (h : PH) : Option (PH) :=
  (grd (isC [13] v0 h) (sc_here v0 h)).bind fun x51 =>
  (grd (isC [13] v0 h) (sc_place v0 h)).bind fun x52 =>
  (grd (isC [13] v0 h) (sc_goes v0 h)).bind fun h53 =>
  (if x51 = 33 then
  (gfr [13] 5 v0 h53).bind fun r55 =>
  (gfr [0] 2 r55 h53).bind fun r56 =>
  (gfr [2] 0 r56 h53).bind fun r57 =>
  (aldr 2 r57 v1 h53).bind fun r58 =>
  (pf [3] 2 r58 (.inl (-1)) h53).bind fun h59 =>
  some (h59)
  else
  (if x51 = 43 then
  (gfr [13] 5 v0 h53).bind fun r60 =>
  (gfr [0] 2 r60 h53).bind fun r61 =>
  (gfr [2] 0 r61 h53).bind fun r62 =>
  (aldr 2 r62 v1 h53).bind fun r63 =>
  (if x51 = 43 then
  se_does_134 1 r63 v0 h53
  else
  se_does_134 0 r63 v0 h53)
  else
  (if x51 = 45 then
  (gfr [13] 5 v0 h53).bind fun r64 =>
  (gfr [0] 2 r64 h53).bind fun r65 =>
  (gfr [2] 0 r65 h53).bind fun r66 =>
  (aldr 2 r66 v1 h53).bind fun r67 =>
  (if x51 = 43 then
  se_does_134 1 r67 v0 h53
  else
  se_does_134 0 r67 v0 h53)
  else
  (if x51 = 61 then
  (gfr [13] 5 v0 h53).bind fun r68 =>
  (gfr [0] 2 r68 h53).bind fun r69 =>
  (gfr [2] 0 r69 h53).bind fun r70 =>
  (aldr 2 r70 v1 h53).bind fun r71 =>
  (se_changes v0 r71 h53).bind fun h72 =>
  some (h72)
  else
  (if x51 = 64 then
  (se_lays v0 v1 h53).bind fun h73 =>
  some (h73)
  else
  (grd (isC [13] v0 h53) (sc_bad v0 1 x52 h53)).bind fun h54 =>
  some (h54))))))
theorem se_does_0_ok (X : CT) (v0 : Option Nat) (v1 : Int32) (h : PH) : Im X (cX17_does, 4, RX17, "does", none, 5) 0 [some (.inr v0), some (.inl v1), none, none] [] h (se_does_0 v0 v1 h) szV (kV X) := by
  unfold se_does_0
  refine im_aload_n (pc := 0) dX17_does_0 rfl rfl ?_
  refine cl_X17_27 sc_here_im (pc := 1) (by decide) dX17_does_1 (Nat.le_of_ble_eq_true rfl) fun x51 => ?_
  refine im_istore_n (pc := 4) (lv' := [some (.inr v0), some (.inl v1), some (.inl x51), none]) dX17_does_4 rfl (by decide) rfl ?_
  refine im_aload_n (pc := 5) dX17_does_5 rfl rfl ?_
  refine cl_X17_15 sc_place_im (pc := 6) (by decide) dX17_does_6 (Nat.le_of_ble_eq_true rfl) fun x52 => ?_
  refine im_istore_n (pc := 9) (lv' := [some (.inr v0), some (.inl v1), some (.inl x51), some (.inl x52)]) dX17_does_9 rfl (by decide) rfl ?_
  refine im_aload_n (pc := 10) dX17_does_10 rfl rfl ?_
  refine cl_X17_34 sc_goes_im (pc := 11) (by decide) dX17_does_11 (Nat.le_of_ble_eq_true rfl) fun h53 => ?_
  refine im_iload_n (pc := 14) dX17_does_14 rfl rfl ?_
  refine im_lsw (pc := 15) (dt := 140) [(33, 72), (43, 110), (45, 110), (61, 91), (64, 64)] dX17_does_15 (by decide) (by decide) ⟨_, _, rfl, ?_, ⟨_, _, rfl, ?_, ⟨_, _, rfl, ?_, ⟨_, _, rfl, ?_, ⟨_, _, rfl, ?_, ?_⟩⟩⟩⟩⟩
  · refine im_aload_n (pc := 72) dX17_does_72 rfl rfl ?_
    refine im_gr (pc := 73) fl_X17_3 dX17_does_73 fun r55 => ?_
    refine im_gr (pc := 76) fl_X17_38 dX17_does_76 fun r56 => ?_
    refine im_gr (pc := 79) fl_X17_48 dX17_does_79 fun r57 => ?_
    refine im_iload_n (pc := 82) dX17_does_82 rfl rfl ?_
    refine im_aald (pc := 83) (t := 2) (by decide) (by decide) dX17_does_83 fun r58 => ?_
    refine im_iconst (pc := 84) (v := (-1)) dX17_does_84 (by decide) ?_
    refine im_pf (pc := 85) fp_X17_52 (okT_i _) dX17_does_85 fun h59 => ?_
    refine im_goto (pc := 88) (tgt := 146) dX17_does_88 (by decide) ?_
    exact im_vret (pc := 146) dX17_does_146
  · refine im_aload_n (pc := 110) dX17_does_110 rfl rfl ?_
    refine im_aload_n (pc := 111) dX17_does_111 rfl rfl ?_
    refine im_gr (pc := 112) fl_X17_3 dX17_does_112 fun r60 => ?_
    refine im_gr (pc := 115) fl_X17_38 dX17_does_115 fun r61 => ?_
    refine im_gr (pc := 118) fl_X17_48 dX17_does_118 fun r62 => ?_
    refine im_iload_n (pc := 121) dX17_does_121 rfl rfl ?_
    refine im_aald (pc := 122) (t := 2) (by decide) (by decide) dX17_does_122 fun r63 => ?_
    refine im_iload_n (pc := 123) dX17_does_123 rfl rfl ?_
    refine im_bipush (pc := 124) (v := 43) dX17_does_124 (by decide) ?_
    refine im_icmp_ne (pc := 126) (tgt := 133) dX17_does_126 (by decide) ?_ ?_
    · refine im_iconst (pc := 133) (v := 0) dX17_does_133 (by decide) ?_
      exact Im.drop [false, false, false, false] rfl (se_does_134_ok X 0 r63 v0 h53)
    · refine im_iconst (pc := 129) (v := 1) dX17_does_129 (by decide) ?_
      refine im_goto (pc := 130) (tgt := 134) dX17_does_130 (by decide) ?_
      exact Im.drop [false, false, false, false] rfl (se_does_134_ok X 1 r63 v0 h53)
  · refine im_aload_n (pc := 110) dX17_does_110 rfl rfl ?_
    refine im_aload_n (pc := 111) dX17_does_111 rfl rfl ?_
    refine im_gr (pc := 112) fl_X17_3 dX17_does_112 fun r64 => ?_
    refine im_gr (pc := 115) fl_X17_38 dX17_does_115 fun r65 => ?_
    refine im_gr (pc := 118) fl_X17_48 dX17_does_118 fun r66 => ?_
    refine im_iload_n (pc := 121) dX17_does_121 rfl rfl ?_
    refine im_aald (pc := 122) (t := 2) (by decide) (by decide) dX17_does_122 fun r67 => ?_
    refine im_iload_n (pc := 123) dX17_does_123 rfl rfl ?_
    refine im_bipush (pc := 124) (v := 43) dX17_does_124 (by decide) ?_
    refine im_icmp_ne (pc := 126) (tgt := 133) dX17_does_126 (by decide) ?_ ?_
    · refine im_iconst (pc := 133) (v := 0) dX17_does_133 (by decide) ?_
      exact Im.drop [false, false, false, false] rfl (se_does_134_ok X 0 r67 v0 h53)
    · refine im_iconst (pc := 129) (v := 1) dX17_does_129 (by decide) ?_
      refine im_goto (pc := 130) (tgt := 134) dX17_does_130 (by decide) ?_
      exact Im.drop [false, false, false, false] rfl (se_does_134_ok X 1 r67 v0 h53)
  · refine im_aload_n (pc := 91) dX17_does_91 rfl rfl ?_
    refine im_aload_n (pc := 92) dX17_does_92 rfl rfl ?_
    refine im_gr (pc := 93) fl_X17_3 dX17_does_93 fun r68 => ?_
    refine im_gr (pc := 96) fl_X17_38 dX17_does_96 fun r69 => ?_
    refine im_gr (pc := 99) fl_X17_48 dX17_does_99 fun r70 => ?_
    refine im_iload_n (pc := 102) dX17_does_102 rfl rfl ?_
    refine im_aald (pc := 103) (t := 2) (by decide) (by decide) dX17_does_103 fun r71 => ?_
    refine cl_X17_69 se_changes_im (pc := 104) (by decide) dX17_does_104 (Nat.le_of_ble_eq_true rfl) fun h72 => ?_
    refine im_goto (pc := 107) (tgt := 146) dX17_does_107 (by decide) ?_
    exact im_vret (pc := 146) dX17_does_146
  · refine im_aload_n (pc := 64) dX17_does_64 rfl rfl ?_
    refine im_iload_n (pc := 65) dX17_does_65 rfl rfl ?_
    refine cl_X17_65 se_lays_im (pc := 66) (by decide) dX17_does_66 (Nat.le_of_ble_eq_true rfl) fun h73 => ?_
    refine im_goto (pc := 69) (tgt := 146) dX17_does_69 (by decide) ?_
    exact im_vret (pc := 146) dX17_does_146
  · refine im_aload_n (pc := 140) dX17_does_140 rfl rfl ?_
    refine im_iconst (pc := 141) (v := 1) dX17_does_141 (by decide) ?_
    refine im_iload_n (pc := 142) dX17_does_142 rfl rfl ?_
    refine cl_X17_30 sc_bad_im (pc := 143) (by decide) dX17_does_143 (Nat.le_of_ble_eq_true rfl) fun h54 => ?_
    exact im_vret (pc := 146) dX17_does_146
noncomputable def se_does (a0 : Option Nat) (a1 : Int32) (h : PH) : Option (PH) := grd (isC [13] a0 h) (se_does_0 a0 a1 h)
theorem se_does_im : IM_X17_does se_does 5 := by
  intro a0 a1 h h' e
  obtain ⟨e1, e2⟩ := grd_some e
  exact ⟨e1, SpV.of (k := 2) (plainFor_of_name (by decide)) rfl (fun X => Im.drop [true, true, false, false] rfl (se_does_0_ok X a0 a1 h)) e2⟩
theorem cl_X17_77 {X : CT} {cc : ByteArray} {nL : Nat} {mn : String} {ret : Option FieldType} {d d0 : Nat} {τ : Type} {pc : Nat} {lv : List (Option PV)} {st : List PV} {h : PH} {sz : τ → Nat × Nat} {K : τ → Prop} {f : Option Nat → Int32 → PH → Option (PH)} (HR : IM_X17_does f d0) {a0 : Option Nat} {a1 : Int32} {g : PH → Option τ} (hd : d0 + 1 ≤ d) (hdg : decode cc pc = .ok (.invokevirtual 77, 3)) (hst : st.length ≤ 8) (kk : ∀ h', Im X (cc, nL, RX17, mn, ret, d) (pc + 3) lv st h' (g h') sz K) : Im X (cc, nL, RX17, mn, ret, d) pc lv (.inl a1 :: .inr a0 :: st) h ((f a0 a1 h).bind g) sz K := by
  refine im_cV (y := yX17_does) (cY := cX17_does) (nY := 4) (rY := none) (d' := d0) (av := [.inr a0, .inl a1]) (fun h' e hX => ?_) (fun h' e => (HR _ _ _ _ e).2) hd (by decide) hst rfl kk
  obtain ⟨a, c, fs, rfl, ec, hm⟩ := isC_some (HR _ _ _ _ e).1
  cases List.mem_singleton.mp hm
  exact cal_V (n := 1) hX (lw_V q726 q728 qs16 q129 q729) (by decide +kernel) rfl rfl ec hdg

def IM_X17_line (f : Option Nat → Int32 → PH → Option (PH)) (d : Nat) : Prop := ∀ (a0 : Option Nat) (a1 : Int32) (h : PH) (h' : PH), f a0 a1 h = some h' → isC [13] a0 h = true ∧ SpV yX17_line cX17_line 4 none d [.inr a0, .inl a1] h h'
noncomputable def se_line_58 (v0 : Option Nat) (v3 : Int32) (h : PH) : Option (PH) :=
  (grd (isC [13] v0 h) (sc_isGood v0 h)).bind fun x51 =>
  (if x51 = 0 then
  some (h)
  else
  (se_does v0 v3 h).bind fun h52 =>
  some (h52))
theorem se_line_58_ok (X : CT) (v0 : Option Nat) (v3 : Int32) (h : PH) : Im X (cX17_line, 4, RX17, "line", none, 6) 58 [some (.inr v0), none, none, some (.inl v3)] [] h (se_line_58 v0 v3 h) szV (kV X) := by
  unfold se_line_58
  refine im_aload_n (pc := 58) dX17_line_58 rfl rfl ?_
  refine cl_X17_23 sc_isGood_im (pc := 59) (by decide) dX17_line_59 (Nat.le_of_ble_eq_true rfl) fun x51 => ?_
  refine im_if_eq (pc := 62) (tgt := 70) dX17_line_62 (by decide) ?_ ?_
  · exact im_vret (pc := 70) dX17_line_70
  · refine im_aload_n (pc := 65) dX17_line_65 rfl rfl ?_
    refine im_iload_n (pc := 66) dX17_line_66 rfl rfl ?_
    refine cl_X17_77 se_does_im (pc := 67) (by decide) dX17_line_67 (Nat.le_of_ble_eq_true rfl) fun h52 => ?_
    exact im_vret (pc := 70) dX17_line_70
noncomputable def se_line_33 (v0 : Option Nat) (v2 : Int32) (v3 : Int32) (h : PH) : Option (PH) :=
  (grd (isC [13] v0 h) (sc_isGood v0 h)).bind fun x51 =>
  (if x51 = 0 then
  se_line_58 v0 v3 h
  else
  (gfr [13] 5 v0 h).bind fun r52 =>
  (tp_isTold r52 v3 h).bind fun x53 =>
  (if x53 = 0 then
  (grd (isC [13] v0 h) (sc_bad v0 7 v2 h)).bind fun h54 =>
  se_line_58 v0 v3 h54
  else
  se_line_58 v0 v3 h))
theorem se_line_33_ok (X : CT) (v0 : Option Nat) (v2 : Int32) (v3 : Int32) (h : PH) : Im X (cX17_line, 4, RX17, "line", none, 6) 33 [some (.inr v0), none, some (.inl v2), some (.inl v3)] [] h (se_line_33 v0 v2 v3 h) szV (kV X) := by
  unfold se_line_33
  refine im_aload_n (pc := 33) dX17_line_33 rfl rfl ?_
  refine cl_X17_23 sc_isGood_im (pc := 34) (by decide) dX17_line_34 (Nat.le_of_ble_eq_true rfl) fun x51 => ?_
  refine im_if_eq (pc := 37) (tgt := 58) dX17_line_37 (by decide) ?_ ?_
  · exact Im.drop [true, false, false, true] rfl (se_line_58_ok X v0 v3 h)
  · refine im_aload_n (pc := 40) dX17_line_40 rfl rfl ?_
    refine im_gr (pc := 41) fl_X17_3 dX17_line_41 fun r52 => ?_
    refine im_iload_n (pc := 44) dX17_line_44 rfl rfl ?_
    refine cl_X17_58 tp_isTold_im (pc := 45) (by decide) dX17_line_45 (Nat.le_of_ble_eq_true rfl) fun x53 => ?_
    refine im_if_ne (pc := 48) (tgt := 58) dX17_line_48 (by decide) ?_ ?_
    · exact Im.drop [true, false, false, true] rfl (se_line_58_ok X v0 v3 h)
    · refine im_aload_n (pc := 51) dX17_line_51 rfl rfl ?_
      refine im_bipush (pc := 52) (v := 7) dX17_line_52 (by decide) ?_
      refine im_iload_n (pc := 54) dX17_line_54 rfl rfl ?_
      refine cl_X17_30 sc_bad_im (pc := 55) (by decide) dX17_line_55 (Nat.le_of_ble_eq_true rfl) fun h54 => ?_
      exact Im.drop [true, false, false, true] rfl (se_line_58_ok X v0 v3 h54)
noncomputable def se_line_0 (v0 : Option Nat) (v1 : Int32) (h : PH) : Option (PH) :=
  (grd (isC [13] v0 h) (sc_place v0 h)).bind fun x51 =>
  bd2 (grd (isC [13] v0 h) (sc_sign v0 97 16 h)) fun x53 h52 =>
  (grd (isC [13] v0 h52) (sc_isGood v0 h52)).bind fun x54 =>
  (if x54 = 0 then
  se_line_33 v0 x51 x53 h52
  else
  (if v1 = 20 then
  (grd (isC [13] v0 h52) (sc_bad v0 4 x51 h52)).bind fun h55 =>
  se_line_33 v0 x51 x53 h55
  else
  se_line_33 v0 x51 x53 h52))
theorem se_line_0_ok (X : CT) (v0 : Option Nat) (v1 : Int32) (h : PH) : Im X (cX17_line, 4, RX17, "line", none, 6) 0 [some (.inr v0), some (.inl v1), none, none] [] h (se_line_0 v0 v1 h) szV (kV X) := by
  unfold se_line_0
  refine im_aload_n (pc := 0) dX17_line_0 rfl rfl ?_
  refine cl_X17_15 sc_place_im (pc := 1) (by decide) dX17_line_1 (Nat.le_of_ble_eq_true rfl) fun x51 => ?_
  refine im_istore_n (pc := 4) (lv' := [some (.inr v0), some (.inl v1), some (.inl x51), none]) dX17_line_4 rfl (by decide) rfl ?_
  refine im_aload_n (pc := 5) dX17_line_5 rfl rfl ?_
  refine im_bipush (pc := 6) (v := 97) dX17_line_6 (by decide) ?_
  refine im_bipush (pc := 8) (v := 16) dX17_line_8 (by decide) ?_
  refine cl_X17_19 sc_sign_im (pc := 10) (by decide) dX17_line_10 (Nat.le_of_ble_eq_true rfl) fun x53 h52 => ?_
  refine im_istore_n (pc := 13) (lv' := [some (.inr v0), some (.inl v1), some (.inl x51), some (.inl x53)]) dX17_line_13 rfl (by decide) rfl ?_
  refine im_aload_n (pc := 14) dX17_line_14 rfl rfl ?_
  refine cl_X17_23 sc_isGood_im (pc := 15) (by decide) dX17_line_15 (Nat.le_of_ble_eq_true rfl) fun x54 => ?_
  refine im_if_eq (pc := 18) (tgt := 33) dX17_line_18 (by decide) ?_ ?_
  · exact Im.drop [true, false, true, true] rfl (se_line_33_ok X v0 x51 x53 h52)
  · refine im_iload_n (pc := 21) dX17_line_21 rfl rfl ?_
    refine im_bipush (pc := 22) (v := 20) dX17_line_22 (by decide) ?_
    refine im_icmp_ne (pc := 24) (tgt := 33) dX17_line_24 (by decide) ?_ ?_
    · exact Im.drop [true, false, true, true] rfl (se_line_33_ok X v0 x51 x53 h52)
    · refine im_aload_n (pc := 27) dX17_line_27 rfl rfl ?_
      refine im_iconst (pc := 28) (v := 4) dX17_line_28 (by decide) ?_
      refine im_iload_n (pc := 29) dX17_line_29 rfl rfl ?_
      refine cl_X17_30 sc_bad_im (pc := 30) (by decide) dX17_line_30 (Nat.le_of_ble_eq_true rfl) fun h55 => ?_
      exact Im.drop [true, false, true, true] rfl (se_line_33_ok X v0 x51 x53 h55)
noncomputable def se_line (a0 : Option Nat) (a1 : Int32) (h : PH) : Option (PH) := grd (isC [13] a0 h) (se_line_0 a0 a1 h)
theorem se_line_im : IM_X17_line se_line 6 := by
  intro a0 a1 h h' e
  obtain ⟨e1, e2⟩ := grd_some e
  exact ⟨e1, SpV.of (k := 2) (plainFor_of_name (by decide)) rfl (fun X => Im.drop [true, true, false, false] rfl (se_line_0_ok X a0 a1 h)) e2⟩
theorem cl_X18_25 {X : CT} {cc : ByteArray} {nL : Nat} {mn : String} {ret : Option FieldType} {d d0 : Nat} {τ : Type} {pc : Nat} {lv : List (Option PV)} {st : List PV} {h : PH} {sz : τ → Nat × Nat} {K : τ → Prop} {f : Option Nat → PH → Option (Int32)} (HR : IM_X16_place f d0) {a0 : Option Nat} {g : Int32 → Option τ} (hd : d0 + 1 ≤ d) (hdg : decode cc pc = .ok (.invokevirtual 25, 3)) (hst : st.length ≤ 8) (kk : ∀ r, Im X (cc, nL, RX18, mn, ret, d) (pc + 3) lv (.inl r :: st) h (g r) sz K) : Im X (cc, nL, RX18, mn, ret, d) pc lv (.inr a0 :: st) h ((grd (isC [14] a0 h) (f a0 h)).bind g) sz K := by
  refine im_cP (y := yX16_place) (cY := cX16_place) (nY := 1) (rY := (some .int)) (d' := d0) (av := [.inr a0]) (fun r e hX => ?_) (fun r e => (HR _ _ _ (grd_some e).2).2) hd (by decide) hst rfl kk
  obtain ⟨a, c, fs, rfl, ec, hm⟩ := isC_some (grd_some e).1
  simp only [List.mem_cons, List.not_mem_nil, or_false] at hm
  subst hm
  exact cal_U (n := 0) hX q763 q764 q765 q682 q128 q683 rfl (by decide +kernel) rfl rfl ec hdg

theorem cl_X18_29 {X : CT} {cc : ByteArray} {nL : Nat} {mn : String} {ret : Option FieldType} {d d0 : Nat} {τ : Type} {pc : Nat} {lv : List (Option PV)} {st : List PV} {h : PH} {sz : τ → Nat × Nat} {K : τ → Prop} {f : Option Nat → Int32 → Int32 → PH → Option (Int32 × PH)} (HR : IM_X16_sign f d0) {a0 : Option Nat} {a1 : Int32} {a2 : Int32} {g : Int32 → PH → Option τ} (hd : d0 + 1 ≤ d) (hdg : decode cc pc = .ok (.invokevirtual 29, 3)) (hst : st.length ≤ 8) (kk : ∀ r h', Im X (cc, nL, RX18, mn, ret, d) (pc + 3) lv (.inl r :: st) h' (g r h') sz K) : Im X (cc, nL, RX18, mn, ret, d) pc lv (.inl a2 :: .inl a1 :: .inr a0 :: st) h (bd2 (grd (isC [14] a0 h) (f a0 a1 a2 h)) g) sz K := by
  refine im_cI (y := yX16_sign) (cY := cX16_sign) (nY := 4) (rY := (some .int)) (d' := d0) (av := [.inr a0, .inl a1, .inl a2]) (fun r h' e hX => ?_) (fun r h' e => (HR _ _ _ _ _ _ (grd_some e).2).2) hd (by decide) hst rfl kk
  obtain ⟨a, c, fs, rfl, ec, hm⟩ := isC_some (grd_some e).1
  simp only [List.mem_cons, List.not_mem_nil, or_false] at hm
  subst hm
  exact cal_U (n := 2) hX q766 q767 q768 q688 q128 q689 rfl (by decide +kernel) rfl rfl ec hdg

theorem cl_X18_33 {X : CT} {cc : ByteArray} {nL : Nat} {mn : String} {ret : Option FieldType} {d d0 : Nat} {τ : Type} {pc : Nat} {lv : List (Option PV)} {st : List PV} {h : PH} {sz : τ → Nat × Nat} {K : τ → Prop} {f : Option Nat → PH → Option (Int32)} (HR : IM_X16_isGood f d0) {a0 : Option Nat} {g : Int32 → Option τ} (hd : d0 + 1 ≤ d) (hdg : decode cc pc = .ok (.invokevirtual 33, 3)) (hst : st.length ≤ 8) (kk : ∀ r, Im X (cc, nL, RX18, mn, ret, d) (pc + 3) lv (.inl r :: st) h (g r) sz K) : Im X (cc, nL, RX18, mn, ret, d) pc lv (.inr a0 :: st) h ((grd (isC [14] a0 h) (f a0 h)).bind g) sz K := by
  refine im_cP (y := yX16_isGood) (cY := cX16_isGood) (nY := 1) (rY := (some .boolean)) (d' := d0) (av := [.inr a0]) (fun r e hX => ?_) (fun r e => (HR _ _ _ (grd_some e).2).2) hd (by decide) hst rfl kk
  obtain ⟨a, c, fs, rfl, ec, hm⟩ := isC_some (grd_some e).1
  simp only [List.mem_cons, List.not_mem_nil, or_false] at hm
  subst hm
  exact cal_U (n := 0) hX q769 q770 q771 q697 q128 q701 rfl (by decide +kernel) rfl rfl ec hdg

theorem cl_X18_37 {X : CT} {cc : ByteArray} {nL : Nat} {mn : String} {ret : Option FieldType} {d d0 : Nat} {τ : Type} {pc : Nat} {lv : List (Option PV)} {st : List PV} {h : PH} {sz : τ → Nat × Nat} {K : τ → Prop} {f : Option Nat → Int32 → Int32 → PH → Option (PH)} (HR : IM_X16_bad f d0) {a0 : Option Nat} {a1 : Int32} {a2 : Int32} {g : PH → Option τ} (hd : d0 + 1 ≤ d) (hdg : decode cc pc = .ok (.invokevirtual 37, 3)) (hst : st.length ≤ 8) (kk : ∀ h', Im X (cc, nL, RX18, mn, ret, d) (pc + 3) lv st h' (g h') sz K) : Im X (cc, nL, RX18, mn, ret, d) pc lv (.inl a2 :: .inl a1 :: .inr a0 :: st) h ((grd (isC [14] a0 h) (f a0 a1 a2 h)).bind g) sz K := by
  refine im_cV (y := yX16_bad) (cY := cX16_bad) (nY := 3) (rY := none) (d' := d0) (av := [.inr a0, .inl a1, .inl a2]) (fun h' e hX => ?_) (fun h' e => (HR _ _ _ _ _ (grd_some e).2).2) hd (by decide) hst rfl kk
  obtain ⟨a, c, fs, rfl, ec, hm⟩ := isC_some (grd_some e).1
  simp only [List.mem_cons, List.not_mem_nil, or_false] at hm
  subst hm
  exact cal_U (n := 2) hX q772 q773 q774 q709 q128 q713 rfl (by decide +kernel) rfl rfl ec hdg

theorem cl_X18_41 {X : CT} {cc : ByteArray} {nL : Nat} {mn : String} {ret : Option FieldType} {d d0 : Nat} {τ : Type} {pc : Nat} {lv : List (Option PV)} {st : List PV} {h : PH} {sz : τ → Nat × Nat} {K : τ → Prop} {f : Option Nat → PH → Option (Int32)} (HR : IM_X16_here f d0) {a0 : Option Nat} {g : Int32 → Option τ} (hd : d0 + 1 ≤ d) (hdg : decode cc pc = .ok (.invokevirtual 41, 3)) (hst : st.length ≤ 8) (kk : ∀ r, Im X (cc, nL, RX18, mn, ret, d) (pc + 3) lv (.inl r :: st) h (g r) sz K) : Im X (cc, nL, RX18, mn, ret, d) pc lv (.inr a0 :: st) h ((grd (isC [14] a0 h) (f a0 h)).bind g) sz K := by
  refine im_cP (y := yX16_here) (cY := cX16_here) (nY := 1) (rY := (some .int)) (d' := d0) (av := [.inr a0]) (fun r e hX => ?_) (fun r e => (HR _ _ _ (grd_some e).2).2) hd (by decide) hst rfl kk
  obtain ⟨a, c, fs, rfl, ec, hm⟩ := isC_some (grd_some e).1
  simp only [List.mem_cons, List.not_mem_nil, or_false] at hm
  subst hm
  exact cal_U (n := 0) hX q775 q776 q777 q691 q128 q695 rfl (by decide +kernel) rfl rfl ec hdg

theorem cl_X18_44 {X : CT} {cc : ByteArray} {nL : Nat} {mn : String} {ret : Option FieldType} {d d0 : Nat} {τ : Type} {pc : Nat} {lv : List (Option PV)} {st : List PV} {h : PH} {sz : τ → Nat × Nat} {K : τ → Prop} {f : Option Nat → PH → Option (PH)} (HR : IM_X16_goes f d0) {a0 : Option Nat} {g : PH → Option τ} (hd : d0 + 1 ≤ d) (hdg : decode cc pc = .ok (.invokevirtual 44, 3)) (hst : st.length ≤ 8) (kk : ∀ h', Im X (cc, nL, RX18, mn, ret, d) (pc + 3) lv st h' (g h') sz K) : Im X (cc, nL, RX18, mn, ret, d) pc lv (.inr a0 :: st) h ((grd (isC [14] a0 h) (f a0 h)).bind g) sz K := by
  refine im_cV (y := yX16_goes) (cY := cX16_goes) (nY := 1) (rY := none) (d' := d0) (av := [.inr a0]) (fun h' e hX => ?_) (fun h' e => (HR _ _ _ (grd_some e).2).2) hd (by decide) hst rfl kk
  obtain ⟨a, c, fs, rfl, ec, hm⟩ := isC_some (grd_some e).1
  simp only [List.mem_cons, List.not_mem_nil, or_false] at hm
  subst hm
  exact cal_U (n := 0) hX q778 q779 q780 q738 q128 q739 rfl (by decide +kernel) rfl rfl ec hdg

theorem fl_X18_15 : ∀ c ∈ [14], FL RX18 15 c 5 := List.forall_mem_cons.mpr ⟨⟨RX18, TX18, 9, rfl, in_X18, by decide, Or.inl q791⟩, fun _ h => absurd h List.not_mem_nil⟩
theorem fl_X18_19 : ∀ c ∈ [14], FL RX18 19 c 6 := List.forall_mem_cons.mpr ⟨⟨RX18, TX18, 9, rfl, in_X18, by decide, Or.inl q793⟩, fun _ h => absurd h List.not_mem_nil⟩
theorem fl_X18_22 : ∀ c ∈ [14], FL RX18 22 c 7 := List.forall_mem_cons.mpr ⟨⟨RX18, TX18, 9, rfl, in_X18, by decide, Or.inl q795⟩, fun _ h => absurd h List.not_mem_nil⟩
def IM_X18_line (f : Option Nat → Int32 → PH → Option (PH)) (d : Nat) : Prop := ∀ (a0 : Option Nat) (a1 : Int32) (h : PH) (h' : PH), f a0 a1 h = some h' → isC [14] a0 h = true ∧ SpV yX18_line cX18_line 8 none d [.inr a0, .inl a1] h h'
noncomputable def wa_line_157 (v0 : Option Nat) (v1 : Int32) (v3 : Int32) (v4 : Int32) (v7 : Int32) (h : PH) : Option (PH) :=
  (grd (isC [14] v0 h) (sc_isGood v0 h)).bind fun x51 =>
  (if x51 = 0 then
  some (h)
  else
  (gfr [14] 5 v0 h).bind fun r52 =>
  (ast 0 r52 v1 v3 h).bind fun h53 =>
  (gfr [14] 6 v0 h53).bind fun r54 =>
  (ast 0 r54 v1 v7 h53).bind fun h55 =>
  (gfr [14] 7 v0 h55).bind fun r56 =>
  (ast 0 r56 v1 v4 h55).bind fun h57 =>
  some (h57))
theorem wa_line_157_ok (X : CT) (v0 : Option Nat) (v1 : Int32) (v3 : Int32) (v4 : Int32) (v7 : Int32) (h : PH) : Im X (cX18_line, 8, RX18, "line", none, 4) 157 [some (.inr v0), some (.inl v1), none, some (.inl v3), some (.inl v4), none, none, some (.inl v7)] [] h (wa_line_157 v0 v1 v3 v4 v7 h) szV (kV X) := by
  unfold wa_line_157
  refine im_aload_n (pc := 157) dX18_line_157 rfl rfl ?_
  refine cl_X18_33 sc_isGood_im (pc := 158) (by decide) dX18_line_158 (Nat.le_of_ble_eq_true rfl) fun x51 => ?_
  refine im_if_ne (pc := 161) (tgt := 165) dX18_line_161 (by decide) ?_ ?_
  · refine im_aload_n (pc := 165) dX18_line_165 rfl rfl ?_
    refine im_gr (pc := 166) fl_X18_15 dX18_line_166 fun r52 => ?_
    refine im_iload_n (pc := 169) dX18_line_169 rfl rfl ?_
    refine im_iload_n (pc := 170) dX18_line_170 rfl rfl ?_
    refine im_iast (pc := 171) dX18_line_171 fun h53 => ?_
    refine im_aload_n (pc := 172) dX18_line_172 rfl rfl ?_
    refine im_gr (pc := 173) fl_X18_19 dX18_line_173 fun r54 => ?_
    refine im_iload_n (pc := 176) dX18_line_176 rfl rfl ?_
    refine im_iload (pc := 177) dX18_line_177 rfl ?_
    refine im_iast (pc := 179) dX18_line_179 fun h55 => ?_
    refine im_aload_n (pc := 180) dX18_line_180 rfl rfl ?_
    refine im_gr (pc := 181) fl_X18_22 dX18_line_181 fun r56 => ?_
    refine im_iload_n (pc := 184) dX18_line_184 rfl rfl ?_
    refine im_iload (pc := 185) dX18_line_185 rfl ?_
    refine im_iast (pc := 187) dX18_line_187 fun h57 => ?_
    exact im_vret (pc := 188) dX18_line_188
  · exact im_vret (pc := 164) dX18_line_164
noncomputable def wa_line_129 (v0 : Option Nat) (v1 : Int32) (v3 : Int32) (v4 : Int32) (v5 : Int32) (v6 : Int32) (s0 : Int32) (h : PH) : Option (PH) :=
  (grd (isC [14] v0 h) (sc_isGood v0 h)).bind fun x51 =>
  (if x51 = 0 then
  wa_line_157 v0 v1 v3 v4 s0 h
  else
  (if v5 = 0 then
  wa_line_157 v0 v1 v3 v4 s0 h
  else
  (if v3 = s0 then
  (grd (isC [14] v0 h) (sc_bad v0 6 v6 h)).bind fun h52 =>
  wa_line_157 v0 v1 v3 v4 s0 h52
  else
  wa_line_157 v0 v1 v3 v4 s0 h)))
theorem wa_line_129_ok (X : CT) (v0 : Option Nat) (v1 : Int32) (v3 : Int32) (v4 : Int32) (v5 : Int32) (v6 : Int32) (s0 : Int32) (h : PH) : Im X (cX18_line, 8, RX18, "line", none, 4) 129 [some (.inr v0), some (.inl v1), none, some (.inl v3), some (.inl v4), some (.inl v5), some (.inl v6), none] [.inl s0] h (wa_line_129 v0 v1 v3 v4 v5 v6 s0 h) szV (kV X) := by
  unfold wa_line_129
  refine im_istore (pc := 129) (lv' := [some (.inr v0), some (.inl v1), none, some (.inl v3), some (.inl v4), some (.inl v5), some (.inl v6), some (.inl s0)]) dX18_line_129 (by decide) rfl ?_
  refine im_aload_n (pc := 131) dX18_line_131 rfl rfl ?_
  refine cl_X18_33 sc_isGood_im (pc := 132) (by decide) dX18_line_132 (Nat.le_of_ble_eq_true rfl) fun x51 => ?_
  refine im_if_eq (pc := 135) (tgt := 157) dX18_line_135 (by decide) ?_ ?_
  · exact Im.drop [true, true, false, true, true, false, false, true] rfl (wa_line_157_ok X v0 v1 v3 v4 s0 h)
  · refine im_iload (pc := 138) dX18_line_138 rfl ?_
    refine im_if_eq (pc := 140) (tgt := 157) dX18_line_140 (by decide) ?_ ?_
    · exact Im.drop [true, true, false, true, true, false, false, true] rfl (wa_line_157_ok X v0 v1 v3 v4 s0 h)
    · refine im_iload_n (pc := 143) dX18_line_143 rfl rfl ?_
      refine im_iload (pc := 144) dX18_line_144 rfl ?_
      refine im_icmp_ne (pc := 146) (tgt := 157) dX18_line_146 (by decide) ?_ ?_
      · exact Im.drop [true, true, false, true, true, false, false, true] rfl (wa_line_157_ok X v0 v1 v3 v4 s0 h)
      · refine im_aload_n (pc := 149) dX18_line_149 rfl rfl ?_
        refine im_bipush (pc := 150) (v := 6) dX18_line_150 (by decide) ?_
        refine im_iload (pc := 152) dX18_line_152 rfl ?_
        refine cl_X18_37 sc_bad_im (pc := 154) (by decide) dX18_line_154 (Nat.le_of_ble_eq_true rfl) fun h52 => ?_
        exact Im.drop [true, true, false, true, true, false, false, true] rfl (wa_line_157_ok X v0 v1 v3 v4 s0 h52)
noncomputable def wa_line_95 (v0 : Option Nat) (v1 : Int32) (v3 : Int32) (v4 : Int32) (v5 : Int32) (h : PH) : Option (PH) :=
  (grd (isC [14] v0 h) (sc_goes v0 h)).bind fun h51 =>
  (grd (isC [14] v0 h51) (sc_place v0 h51)).bind fun x52 =>
  (if v5 = 0 then
  wa_line_129 v0 v1 v3 v4 v5 x52 v3 h51
  else
  (grd (isC [14] v0 h51) (sc_isGood v0 h51)).bind fun x53 =>
  (if x53 = 0 then
  wa_line_129 v0 v1 v3 v4 v5 x52 v3 h51
  else
  bd2 (grd (isC [14] v0 h51) (sc_sign v0 97 16 h51)) fun x55 h54 =>
  wa_line_129 v0 v1 v3 v4 v5 x52 x55 h54))
theorem wa_line_95_ok (X : CT) (v0 : Option Nat) (v1 : Int32) (v3 : Int32) (v4 : Int32) (v5 : Int32) (h : PH) : Im X (cX18_line, 8, RX18, "line", none, 4) 95 [some (.inr v0), some (.inl v1), none, some (.inl v3), some (.inl v4), some (.inl v5), none, none] [] h (wa_line_95 v0 v1 v3 v4 v5 h) szV (kV X) := by
  unfold wa_line_95
  refine im_aload_n (pc := 95) dX18_line_95 rfl rfl ?_
  refine cl_X18_44 sc_goes_im (pc := 96) (by decide) dX18_line_96 (Nat.le_of_ble_eq_true rfl) fun h51 => ?_
  refine im_aload_n (pc := 99) dX18_line_99 rfl rfl ?_
  refine cl_X18_25 sc_place_im (pc := 100) (by decide) dX18_line_100 (Nat.le_of_ble_eq_true rfl) fun x52 => ?_
  refine im_istore (pc := 103) (lv' := [some (.inr v0), some (.inl v1), none, some (.inl v3), some (.inl v4), some (.inl v5), some (.inl x52), none]) dX18_line_103 (by decide) rfl ?_
  refine im_iload (pc := 105) dX18_line_105 rfl ?_
  refine im_if_eq (pc := 107) (tgt := 128) dX18_line_107 (by decide) ?_ ?_
  · refine im_iload_n (pc := 128) dX18_line_128 rfl rfl ?_
    exact Im.drop [true, true, false, true, true, true, true, false] rfl (wa_line_129_ok X v0 v1 v3 v4 v5 x52 v3 h51)
  · refine im_aload_n (pc := 110) dX18_line_110 rfl rfl ?_
    refine cl_X18_33 sc_isGood_im (pc := 111) (by decide) dX18_line_111 (Nat.le_of_ble_eq_true rfl) fun x53 => ?_
    refine im_if_eq (pc := 114) (tgt := 128) dX18_line_114 (by decide) ?_ ?_
    · refine im_iload_n (pc := 128) dX18_line_128 rfl rfl ?_
      exact Im.drop [true, true, false, true, true, true, true, false] rfl (wa_line_129_ok X v0 v1 v3 v4 v5 x52 v3 h51)
    · refine im_aload_n (pc := 117) dX18_line_117 rfl rfl ?_
      refine im_bipush (pc := 118) (v := 97) dX18_line_118 (by decide) ?_
      refine im_bipush (pc := 120) (v := 16) dX18_line_120 (by decide) ?_
      refine cl_X18_29 sc_sign_im (pc := 122) (by decide) dX18_line_122 (Nat.le_of_ble_eq_true rfl) fun x55 h54 => ?_
      refine im_goto (pc := 125) (tgt := 129) dX18_line_125 (by decide) ?_
      exact Im.drop [true, true, false, true, true, true, true, false] rfl (wa_line_129_ok X v0 v1 v3 v4 v5 x52 x55 h54)
noncomputable def wa_line_58 (v0 : Option Nat) (v1 : Int32) (v3 : Int32) (v4 : Int32) (s0 : Int32) (h : PH) : Option (PH) :=
  (grd (isC [14] v0 h) (sc_isGood v0 h)).bind fun x51 =>
  (if x51 = 0 then
  wa_line_95 v0 v1 v3 v4 s0 h
  else
  (if s0 = 0 then
  (if v4 = 35 then
  wa_line_95 v0 v1 v3 v4 s0 h
  else
  (if v4 = 46 then
  wa_line_95 v0 v1 v3 v4 s0 h
  else
  (grd (isC [14] v0 h) (sc_place v0 h)).bind fun x52 =>
  (grd (isC [14] v0 h) (sc_bad v0 1 x52 h)).bind fun h53 =>
  wa_line_95 v0 v1 v3 v4 s0 h53))
  else
  wa_line_95 v0 v1 v3 v4 s0 h))
theorem wa_line_58_ok (X : CT) (v0 : Option Nat) (v1 : Int32) (v3 : Int32) (v4 : Int32) (s0 : Int32) (h : PH) : Im X (cX18_line, 8, RX18, "line", none, 4) 58 [some (.inr v0), some (.inl v1), none, some (.inl v3), some (.inl v4), none, none, none] [.inl s0] h (wa_line_58 v0 v1 v3 v4 s0 h) szV (kV X) := by
  unfold wa_line_58
  refine im_istore (pc := 58) (lv' := [some (.inr v0), some (.inl v1), none, some (.inl v3), some (.inl v4), some (.inl s0), none, none]) dX18_line_58 (by decide) rfl ?_
  refine im_aload_n (pc := 60) dX18_line_60 rfl rfl ?_
  refine cl_X18_33 sc_isGood_im (pc := 61) (by decide) dX18_line_61 (Nat.le_of_ble_eq_true rfl) fun x51 => ?_
  refine im_if_eq (pc := 64) (tgt := 95) dX18_line_64 (by decide) ?_ ?_
  · exact Im.drop [true, true, false, true, true, true, false, false] rfl (wa_line_95_ok X v0 v1 v3 v4 s0 h)
  · refine im_iload (pc := 67) dX18_line_67 rfl ?_
    refine im_if_ne (pc := 69) (tgt := 95) dX18_line_69 (by decide) ?_ ?_
    · exact Im.drop [true, true, false, true, true, true, false, false] rfl (wa_line_95_ok X v0 v1 v3 v4 s0 h)
    · refine im_iload (pc := 72) dX18_line_72 rfl ?_
      refine im_bipush (pc := 74) (v := 35) dX18_line_74 (by decide) ?_
      refine im_icmp_eq (pc := 76) (tgt := 95) dX18_line_76 (by decide) ?_ ?_
      · exact Im.drop [true, true, false, true, true, true, false, false] rfl (wa_line_95_ok X v0 v1 v3 v4 s0 h)
      · refine im_iload (pc := 79) dX18_line_79 rfl ?_
        refine im_bipush (pc := 81) (v := 46) dX18_line_81 (by decide) ?_
        refine im_icmp_eq (pc := 83) (tgt := 95) dX18_line_83 (by decide) ?_ ?_
        · exact Im.drop [true, true, false, true, true, true, false, false] rfl (wa_line_95_ok X v0 v1 v3 v4 s0 h)
        · refine im_aload_n (pc := 86) dX18_line_86 rfl rfl ?_
          refine im_iconst (pc := 87) (v := 1) dX18_line_87 (by decide) ?_
          refine im_aload_n (pc := 88) dX18_line_88 rfl rfl ?_
          refine cl_X18_25 sc_place_im (pc := 89) (by decide) dX18_line_89 (Nat.le_of_ble_eq_true rfl) fun x52 => ?_
          refine cl_X18_37 sc_bad_im (pc := 92) (by decide) dX18_line_92 (Nat.le_of_ble_eq_true rfl) fun h53 => ?_
          exact Im.drop [true, true, false, true, true, true, false, false] rfl (wa_line_95_ok X v0 v1 v3 v4 s0 h53)
noncomputable def wa_line_33 (v0 : Option Nat) (v1 : Int32) (v3 : Int32) (h : PH) : Option (PH) :=
  (grd (isC [14] v0 h) (sc_here v0 h)).bind fun x51 =>
  (if x51 = 43 then
  wa_line_58 v0 v1 v3 x51 1 h
  else
  (if x51 = 45 then
  wa_line_58 v0 v1 v3 x51 1 h
  else
  wa_line_58 v0 v1 v3 x51 0 h))
theorem wa_line_33_ok (X : CT) (v0 : Option Nat) (v1 : Int32) (v3 : Int32) (h : PH) : Im X (cX18_line, 8, RX18, "line", none, 4) 33 [some (.inr v0), some (.inl v1), none, some (.inl v3), none, none, none, none] [] h (wa_line_33 v0 v1 v3 h) szV (kV X) := by
  unfold wa_line_33
  refine im_aload_n (pc := 33) dX18_line_33 rfl rfl ?_
  refine cl_X18_41 sc_here_im (pc := 34) (by decide) dX18_line_34 (Nat.le_of_ble_eq_true rfl) fun x51 => ?_
  refine im_istore (pc := 37) (lv' := [some (.inr v0), some (.inl v1), none, some (.inl v3), some (.inl x51), none, none, none]) dX18_line_37 (by decide) rfl ?_
  refine im_iload (pc := 39) dX18_line_39 rfl ?_
  refine im_bipush (pc := 41) (v := 43) dX18_line_41 (by decide) ?_
  refine im_icmp_eq (pc := 43) (tgt := 53) dX18_line_43 (by decide) ?_ ?_
  · refine im_iconst (pc := 53) (v := 1) dX18_line_53 (by decide) ?_
    refine im_goto (pc := 54) (tgt := 58) dX18_line_54 (by decide) ?_
    exact Im.drop [true, true, false, true, true, false, false, false] rfl (wa_line_58_ok X v0 v1 v3 x51 1 h)
  · refine im_iload (pc := 46) dX18_line_46 rfl ?_
    refine im_bipush (pc := 48) (v := 45) dX18_line_48 (by decide) ?_
    refine im_icmp_ne (pc := 50) (tgt := 57) dX18_line_50 (by decide) ?_ ?_
    · refine im_iconst (pc := 57) (v := 0) dX18_line_57 (by decide) ?_
      exact Im.drop [true, true, false, true, true, false, false, false] rfl (wa_line_58_ok X v0 v1 v3 x51 0 h)
    · refine im_iconst (pc := 53) (v := 1) dX18_line_53 (by decide) ?_
      refine im_goto (pc := 54) (tgt := 58) dX18_line_54 (by decide) ?_
      exact Im.drop [true, true, false, true, true, false, false, false] rfl (wa_line_58_ok X v0 v1 v3 x51 1 h)
noncomputable def wa_line_0 (v0 : Option Nat) (v1 : Int32) (h : PH) : Option (PH) :=
  (grd (isC [14] v0 h) (sc_place v0 h)).bind fun x51 =>
  bd2 (grd (isC [14] v0 h) (sc_sign v0 97 16 h)) fun x53 h52 =>
  (grd (isC [14] v0 h52) (sc_isGood v0 h52)).bind fun x54 =>
  (if x54 = 0 then
  wa_line_33 v0 v1 x53 h52
  else
  (if v1 = 24 then
  (grd (isC [14] v0 h52) (sc_bad v0 4 x51 h52)).bind fun h55 =>
  wa_line_33 v0 v1 x53 h55
  else
  wa_line_33 v0 v1 x53 h52))
theorem wa_line_0_ok (X : CT) (v0 : Option Nat) (v1 : Int32) (h : PH) : Im X (cX18_line, 8, RX18, "line", none, 4) 0 [some (.inr v0), some (.inl v1), none, none, none, none, none, none] [] h (wa_line_0 v0 v1 h) szV (kV X) := by
  unfold wa_line_0
  refine im_aload_n (pc := 0) dX18_line_0 rfl rfl ?_
  refine cl_X18_25 sc_place_im (pc := 1) (by decide) dX18_line_1 (Nat.le_of_ble_eq_true rfl) fun x51 => ?_
  refine im_istore_n (pc := 4) (lv' := [some (.inr v0), some (.inl v1), some (.inl x51), none, none, none, none, none]) dX18_line_4 rfl (by decide) rfl ?_
  refine im_aload_n (pc := 5) dX18_line_5 rfl rfl ?_
  refine im_bipush (pc := 6) (v := 97) dX18_line_6 (by decide) ?_
  refine im_bipush (pc := 8) (v := 16) dX18_line_8 (by decide) ?_
  refine cl_X18_29 sc_sign_im (pc := 10) (by decide) dX18_line_10 (Nat.le_of_ble_eq_true rfl) fun x53 h52 => ?_
  refine im_istore_n (pc := 13) (lv' := [some (.inr v0), some (.inl v1), some (.inl x51), some (.inl x53), none, none, none, none]) dX18_line_13 rfl (by decide) rfl ?_
  refine im_aload_n (pc := 14) dX18_line_14 rfl rfl ?_
  refine cl_X18_33 sc_isGood_im (pc := 15) (by decide) dX18_line_15 (Nat.le_of_ble_eq_true rfl) fun x54 => ?_
  refine im_if_eq (pc := 18) (tgt := 33) dX18_line_18 (by decide) ?_ ?_
  · exact Im.drop [true, true, false, true, false, false, false, false] rfl (wa_line_33_ok X v0 v1 x53 h52)
  · refine im_iload_n (pc := 21) dX18_line_21 rfl rfl ?_
    refine im_bipush (pc := 22) (v := 24) dX18_line_22 (by decide) ?_
    refine im_icmp_ne (pc := 24) (tgt := 33) dX18_line_24 (by decide) ?_ ?_
    · exact Im.drop [true, true, false, true, false, false, false, false] rfl (wa_line_33_ok X v0 v1 x53 h52)
    · refine im_aload_n (pc := 27) dX18_line_27 rfl rfl ?_
      refine im_iconst (pc := 28) (v := 4) dX18_line_28 (by decide) ?_
      refine im_iload_n (pc := 29) dX18_line_29 rfl rfl ?_
      refine cl_X18_37 sc_bad_im (pc := 30) (by decide) dX18_line_30 (Nat.le_of_ble_eq_true rfl) fun h55 => ?_
      exact Im.drop [true, true, false, true, false, false, false, false] rfl (wa_line_33_ok X v0 v1 x53 h55)
noncomputable def wa_line (a0 : Option Nat) (a1 : Int32) (h : PH) : Option (PH) := grd (isC [14] a0 h) (wa_line_0 a0 a1 h)
theorem wa_line_im : IM_X18_line wa_line 4 := by
  intro a0 a1 h h' e
  obtain ⟨e1, e2⟩ := grd_some e
  exact ⟨e1, SpV.of (k := 6) (plainFor_of_name (by decide)) rfl (fun X => Im.drop [true, true, false, false, false, false, false, false] rfl (wa_line_0_ok X a0 a1 h)) e2⟩
def IM_sc_line (f : Option Nat → Int32 → PH → Option (PH)) (d : Nat) : Prop := ∀ (a0 : Option Nat) (a1 : Int32) (h : PH) (h' : PH), f a0 a1 h = some h' → (isC [13] a0 h = true ∧ ∃ d1, d1 ≤ d ∧ SpV yX17_line cX17_line 4 none d1 [.inr a0, .inl a1] h h') ∨ (isC [14] a0 h = true ∧ ∃ d1, d1 ≤ d ∧ SpV yX18_line cX18_line 8 none d1 [.inr a0, .inl a1] h h')
noncomputable def sc_line (a0 : Option Nat) (a1 : Int32) (h : PH) : Option (PH) := if isC [13] a0 h = true then se_line a0 a1 h else if isC [14] a0 h = true then wa_line a0 a1 h else none
theorem sc_line_im : IM_sc_line sc_line 6 := by
  intro a0 a1 h h' e
  unfold sc_line at e
  split at e
  · rename_i hc
    exact Or.inl ⟨hc, _, by decide, (se_line_im _ _ _ _ e).2⟩
  · skip
    split at e
    · rename_i hc
      exact Or.inr ⟨hc, _, by decide, (wa_line_im _ _ _ _ e).2⟩
    · cases e
theorem cl_X16_48 {X : CT} {cc : ByteArray} {nL : Nat} {mn : String} {ret : Option FieldType} {d d0 : Nat} {τ : Type} {pc : Nat} {lv : List (Option PV)} {st : List PV} {h : PH} {sz : τ → Nat × Nat} {K : τ → Prop} {f : Option Nat → Int32 → PH → Option (PH)} (HR : IM_sc_line f d0) {a0 : Option Nat} {a1 : Int32} {g : PH → Option τ} (hd : d0 + 1 ≤ d) (hdg : decode cc pc = .ok (.invokevirtual 48, 3)) (hst : st.length ≤ 8) (kk : ∀ h', Im X (cc, nL, RX16, mn, ret, d) (pc + 3) lv st h' (g h') sz K) : Im X (cc, nL, RX16, mn, ret, d) pc lv (.inl a1 :: .inr a0 :: st) h ((f a0 a1 h).bind g) sz K := by
  cases eo : f a0 a1 h with
  | none => exact Im.none
  | some res =>
    rw [← eo]
    rcases HR _ _ _ _  eo with ⟨hc, d1, hd1, hsp⟩ | ⟨hc, d1, hd1, hsp⟩
    · refine im_cV (y := yX17_line) (cY := cX17_line) (nY := 4) (rY := none) (d' := d1) (av := [.inr a0, .inl a1]) (fun h' e hX => ?_) (fun h' e => by rw [eo] at e; cases e; exact hsp) (by omega) (by decide) hst rfl kk
      obtain ⟨a, c, fs, rfl, ec, hm⟩ := isC_some hc
      cases List.mem_singleton.mp hm
      exact cal_A (n := 1) hX q672 q674 q675 q676 q129 q677 (lw_n q673 rfl) (by decide +kernel) rfl rfl ec hdg
    · refine im_cV (y := yX18_line) (cY := cX18_line) (nY := 8) (rY := none) (d' := d1) (av := [.inr a0, .inl a1]) (fun h' e hX => ?_) (fun h' e => by rw [eo] at e; cases e; exact hsp) (by omega) (by decide) hst rfl kk
      obtain ⟨a, c, fs, rfl, ec, hm⟩ := isC_some hc
      cases List.mem_singleton.mp hm
      exact cal_A (n := 1) hX q672 q674 q760 q761 q130 q762 (lw_n q673 rfl) (by decide +kernel) rfl rfl ec hdg

theorem fl_X16_29 : ∀ c ∈ [13, 14], FL RX16 29 c 3 := List.forall_mem_cons.mpr ⟨⟨RX17, TX17, 6, rfl, in_X17, by decide, Or.inl q651⟩, List.forall_mem_cons.mpr ⟨⟨RX18, TX18, 9, rfl, in_X18, by decide, Or.inl q651⟩, fun _ h => absurd h List.not_mem_nil⟩⟩
def IM_X16_read (f : Option Nat → PH → Option (Int32 × PH)) (d : Nat) : Prop := ∀ (a0 : Option Nat) (h : PH) (r : Int32) (h' : PH), f a0 h = some (r, h') → isC [13, 14] a0 h = true ∧ SpI yX16_read cX16_read 2 (some .int) d [.inr a0] h r h'
noncomputable def sc_read_43 (v0 : Option Nat) (v1 : Int32) (h : PH) : Option ((Int32 × PH) ⊕ (Int32 × PH)) :=
  (gfi [13, 14] 1 v0 h).bind fun x51 =>
  (pf [13, 14] 1 v0 (.inl (x51 + 1)) h).bind fun h52 =>
  (sc_isGood v0 h52).bind fun x53 =>
  (if x53 = 0 then
  some (.inl ((v1 + 1), h52))
  else
  (sc_line v0 v1 h52).bind fun h54 =>
  some (.inl ((v1 + 1), h54)))
theorem sc_read_43_ok (X : CT) (v0 : Option Nat) (v1 : Int32) (h : PH) : Im X (cX16_read, 2, RX16, "read", (some .int), 7) 43 [some (.inr v0), some (.inl v1)] [] h (sc_read_43 v0 v1 h) (ez (fun s : Int32 × PH => s.2) szI) (ek X 7 (fun s : Int32 × PH => [some (.inr v0), some (.inl s.1)]) (fun s : Int32 × PH => s.2) (kI X)) := by
  unfold sc_read_43
  refine im_aload_n (pc := 43) dX16_read_43 rfl rfl ?_
  refine im_dup (pc := 44) dX16_read_44 ?_
  refine im_gi (pc := 45) fl_X16_17 dX16_read_45 fun x51 => ?_
  refine im_iconst (pc := 48) (v := 1) dX16_read_48 (by decide) ?_
  refine im_iadd (pc := 49) dX16_read_49 ?_
  refine im_pf (pc := 50) fp_X16_17 (okT_i _) dX16_read_50 fun h52 => ?_
  refine im_aload_n (pc := 53) dX16_read_53 rfl rfl ?_
  refine cl_X16_36 sc_isGood_im (pc := 54) (by decide) dX16_read_54 (Nat.le_of_ble_eq_true rfl) fun x53 => ?_
  refine im_if_eq (pc := 57) (tgt := 65) dX16_read_57 (by decide) ?_ ?_
  · refine im_iinc (pc := 65) (v := (v1 + 1)) (lv' := [some (.inr v0), some (.inl (v1 + 1))]) dX16_read_65 rfl rfl (by decide) rfl ?_
    refine im_goto (pc := 68) (tgt := 7) dX16_read_68 (by decide) ?_
    exact Im.back [true, true] rfl rfl
  · refine im_aload_n (pc := 60) dX16_read_60 rfl rfl ?_
    refine im_iload_n (pc := 61) dX16_read_61 rfl rfl ?_
    refine cl_X16_48 sc_line_im (pc := 62) (by decide) dX16_read_62 (Nat.le_of_ble_eq_true rfl) fun h54 => ?_
    refine im_iinc (pc := 65) (v := (v1 + 1)) (lv' := [some (.inr v0), some (.inl (v1 + 1))]) dX16_read_65 rfl rfl (by decide) rfl ?_
    refine im_goto (pc := 68) (tgt := 7) dX16_read_68 (by decide) ?_
    exact Im.back [true, true] rfl rfl
noncomputable def sc_read_71 (v0 : Option Nat) (v1 : Int32) (h : PH) : Option (Int32 × PH) :=
  (sc_isGood v0 h).bind fun x51 =>
  (if x51 = 0 then
  (gfi [13, 14] 2 v0 h).bind fun x52 =>
  (gfi [13, 14] 3 v0 h).bind fun x53 =>
  some (((((-1000) * x52) - x53), h))
  else
  some ((v1, h)))
theorem sc_read_71_ok (X : CT) (v0 : Option Nat) (v1 : Int32) (h : PH) : Im X (cX16_read, 2, RX16, "read", (some .int), 7) 71 [some (.inr v0), some (.inl v1)] [] h (sc_read_71 v0 v1 h) szI (kI X) := by
  unfold sc_read_71
  refine im_aload_n (pc := 71) dX16_read_71 rfl rfl ?_
  refine cl_X16_36 sc_isGood_im (pc := 72) (by decide) dX16_read_72 (Nat.le_of_ble_eq_true rfl) fun x51 => ?_
  refine im_if_eq (pc := 75) (tgt := 82) dX16_read_75 (by decide) ?_ ?_
  · refine im_sipush (pc := 82) (v := (-1000)) dX16_read_82 (by decide) ?_
    refine im_aload_n (pc := 85) dX16_read_85 rfl rfl ?_
    refine im_gi (pc := 86) fl_X16_26 dX16_read_86 fun x52 => ?_
    refine im_imul (pc := 89) dX16_read_89 ?_
    refine im_aload_n (pc := 90) dX16_read_90 rfl rfl ?_
    refine im_gi (pc := 91) fl_X16_29 dX16_read_91 fun x53 => ?_
    refine im_isub (pc := 94) dX16_read_94 ?_
    exact im_iret (pc := 95) dX16_read_95
  · refine im_iload_n (pc := 78) dX16_read_78 rfl rfl ?_
    refine im_goto (pc := 79) (tgt := 95) dX16_read_79 (by decide) ?_
    exact im_iret (pc := 95) dX16_read_95
noncomputable def sc_read_b7 (v0 : Option Nat) (v1 : Int32) (h : PH) : Option ((Int32 × PH) ⊕ (Int32 × PH)) :=
  (sc_isGood v0 h).bind fun x51 =>
  (if x51 = 0 then
  (sc_read_71 v0 v1 h).map .inr
  else
  (gfi [13, 14] 1 v0 h).bind fun x52 =>
  (gfi [13, 14] 0 v0 h).bind fun x53 =>
  (if x53 ≤ x52 then
  (sc_read_71 v0 v1 h).map .inr
  else
  (sc_here v0 h).bind fun x54 =>
  (if x54 = 59 then
  sc_read_43 v0 v1 h
  else
  (gfi [13, 14] 1 v0 h).bind fun x55 =>
  (sc_bad v0 1 x55 h).bind fun h56 =>
  sc_read_43 v0 v1 h56)))
noncomputable def sc_read_L7 (v0 : Option Nat) (v1 : Int32) (h : PH) : Option (Int32 × PH) :=
  iter (fun s : Int32 × PH => sc_read_b7 v0 s.1 s.2) (v1, h)
theorem sc_read_b7_ok (X : CT) (v0 : Option Nat) (v1 : Int32) (h : PH) : Im X (cX16_read, 2, RX16, "read", (some .int), 7) 7 [some (.inr v0), some (.inl v1)] [] h (sc_read_b7 v0 v1 h) (ez (fun s : Int32 × PH => s.2) szI) (ek X 7 (fun s : Int32 × PH => [some (.inr v0), some (.inl s.1)]) (fun s : Int32 × PH => s.2) (kI X)) := by
  unfold sc_read_b7
  refine im_aload_n (pc := 7) dX16_read_7 rfl rfl ?_
  refine cl_X16_36 sc_isGood_im (pc := 8) (by decide) dX16_read_8 (Nat.le_of_ble_eq_true rfl) fun x51 => ?_
  refine im_if_eq (pc := 11) (tgt := 71) dX16_read_11 (by decide) ?_ ?_
  · exact Im.out (Im.drop [true, true] rfl (sc_read_71_ok X v0 v1 h))
  · refine im_aload_n (pc := 14) dX16_read_14 rfl rfl ?_
    refine im_gi (pc := 15) fl_X16_17 dX16_read_15 fun x52 => ?_
    refine im_aload_n (pc := 18) dX16_read_18 rfl rfl ?_
    refine im_gi (pc := 19) fl_X16_13 dX16_read_19 fun x53 => ?_
    refine im_icmp_ge (pc := 22) (tgt := 71) dX16_read_22 (by decide) ?_ ?_
    · exact Im.out (Im.drop [true, true] rfl (sc_read_71_ok X v0 v1 h))
    · refine im_aload_n (pc := 25) dX16_read_25 rfl rfl ?_
      refine cl_X16_32 sc_here_im (pc := 26) (by decide) dX16_read_26 (Nat.le_of_ble_eq_true rfl) fun x54 => ?_
      refine im_bipush (pc := 29) (v := 59) dX16_read_29 (by decide) ?_
      refine im_icmp_eq (pc := 31) (tgt := 43) dX16_read_31 (by decide) ?_ ?_
      · exact Im.drop [true, true] rfl (sc_read_43_ok X v0 v1 h)
      · refine im_aload_n (pc := 34) dX16_read_34 rfl rfl ?_
        refine im_iconst (pc := 35) (v := 1) dX16_read_35 (by decide) ?_
        refine im_aload_n (pc := 36) dX16_read_36 rfl rfl ?_
        refine im_gi (pc := 37) fl_X16_17 dX16_read_37 fun x55 => ?_
        refine cl_X16_44 sc_bad_im (pc := 40) (by decide) dX16_read_40 (Nat.le_of_ble_eq_true rfl) fun h56 => ?_
        exact Im.drop [true, true] rfl (sc_read_43_ok X v0 v1 h56)
theorem sc_read_L7_ok (X : CT) (v0 : Option Nat) (v1 : Int32) (h : PH) : Im X (cX16_read, 2, RX16, "read", (some .int), 7) 7 [some (.inr v0), some (.inl v1)] [] h (sc_read_L7 v0 v1 h) szI (kI X) := by
  unfold sc_read_L7
  exact Im.iter (lv := (fun s : Int32 × PH => [some (.inr v0), some (.inl s.1)])) (hp := (fun s : Int32 × PH => s.2)) (fun s => sc_read_b7_ok X v0 s.1 s.2) _ rfl rfl
noncomputable def sc_read_0 (v0 : Option Nat) (h : PH) : Option (Int32 × PH) :=
  (sc_line v0 0 h).bind fun h51 =>
  sc_read_L7 v0 1 h51
theorem sc_read_0_ok (X : CT) (v0 : Option Nat) (h : PH) : Im X (cX16_read, 2, RX16, "read", (some .int), 7) 0 [some (.inr v0), none] [] h (sc_read_0 v0 h) szI (kI X) := by
  unfold sc_read_0
  refine im_aload_n (pc := 0) dX16_read_0 rfl rfl ?_
  refine im_iconst (pc := 1) (v := 0) dX16_read_1 (by decide) ?_
  refine cl_X16_48 sc_line_im (pc := 2) (by decide) dX16_read_2 (Nat.le_of_ble_eq_true rfl) fun h51 => ?_
  refine im_iconst (pc := 5) (v := 1) dX16_read_5 (by decide) ?_
  refine im_istore_n (pc := 6) (lv' := [some (.inr v0), some (.inl 1)]) dX16_read_6 rfl (by decide) rfl ?_
  exact Im.drop [true, true] rfl (sc_read_L7_ok X v0 1 h51)
noncomputable def sc_read (a0 : Option Nat) (h : PH) : Option (Int32 × PH) := grd (isC [13, 14] a0 h) (sc_read_0 a0 h)
theorem sc_read_im : IM_X16_read sc_read 7 := by
  intro a0 h r h' e
  obtain ⟨e1, e2⟩ := grd_some e
  exact ⟨e1, SpI.of (k := 1) (plainFor_of_name (by decide)) rfl (fun X => Im.drop [true, false] rfl (sc_read_0_ok X a0 h)) e2⟩
theorem fl_X0_67 : ∀ c ∈ [0], FL RX0 67 c 2 := List.forall_mem_cons.mpr ⟨⟨RX0, TX0, 20, rfl, in_X0, by decide, Or.inl q276⟩, fun _ h => absurd h List.not_mem_nil⟩
theorem cl_X0_152 {X : CT} {cc : ByteArray} {nL : Nat} {mn : String} {ret : Option FieldType} {d d0 : Nat} {τ : Type} {pc : Nat} {lv : List (Option PV)} {st : List PV} {h : PH} {sz : τ → Nat × Nat} {K : τ → Prop} {f : Option Nat → Option Nat → PH → Option (Option Nat × PH)} (HR : IM_X3_takes f d0) {a0 : Option Nat} {a1 : Option Nat} {g : Option Nat → PH → Option τ} (hd : d0 + 1 ≤ d) (hdg : decode cc pc = .ok (.invokevirtual 152, 3)) (hst : st.length ≤ 8) (kk : ∀ r h', Im X (cc, nL, RX0, mn, ret, d) (pc + 3) lv (.inr r :: st) h' (g r h') sz K) : Im X (cc, nL, RX0, mn, ret, d) pc lv (.inr a1 :: .inr a0 :: st) h (bd2 (f a0 a1 h) g) sz K := by
  refine im_cR (y := yX3_takes) (cY := cX3_takes) (nY := 3) (rY := (some (.object "TalkingPlots$Yard"))) (d' := d0) (av := [.inr a0, .inr a1]) (fun r h' e hX => ?_) (fun r h' e => (HR _ _ _ _ _ e).2) hd (by decide) hst rfl kk
  obtain ⟨a, c, fs, rfl, ec, hm⟩ := isC_some (HR _ _ _ _ _ e).1
  cases List.mem_singleton.mp hm
  exact cal_V (n := 1) hX (lw_V q630 q631 q632 q109 q633) (by decide +kernel) rfl rfl ec hdg

theorem nw_X0_156 : NW RX0 156 13 [.inl 0, .inl 0, .inl 0, .inl 0, .inr none, .inr none] := ⟨RX17, TX17, tyX17, rfl, in_X17, tyX17_ok, q638, q639, q129, fun G j hj => by
  have hj : j < 6 := hj
  match j, hj with
  | 0, _ => rfl
  | 1, _ => rfl
  | 2, _ => rfl
  | 3, _ => rfl
  | 4, _ => rfl
  | 5, _ => rfl⟩
theorem cl_X0_158 {X : CT} {cc : ByteArray} {nL : Nat} {mn : String} {ret : Option FieldType} {d d0 : Nat} {τ : Type} {pc : Nat} {lv : List (Option PV)} {st : List PV} {h : PH} {sz : τ → Nat × Nat} {K : τ → Prop} {f : Option Nat → Option Nat → Int32 → PH → Option (PH)} (HR : IM_X17_init f d0) {a0 : Option Nat} {a1 : Option Nat} {a2 : Int32} {g : PH → Option τ} (hd : d0 + 1 ≤ d) (hdg : decode cc pc = .ok (.invokespecial 158, 3)) (hst : st.length ≤ 8) (kk : ∀ h', Im X (cc, nL, RX0, mn, ret, d) (pc + 3) lv st h' (g h') sz K) : Im X (cc, nL, RX0, mn, ret, d) pc lv (.inl a2 :: .inr a1 :: .inr a0 :: st) h ((f a0 a1 a2 h).bind g) sz K := by
  refine im_cV (y := yX17_init) (cY := cX17_init) (nY := 3) (rY := none) (d' := d0) (av := [.inr a0, .inr a1, .inl a2]) (fun h' e hX => ?_) (fun h' e => (HR _ _ _ _ _ e).2) hd (by decide) hst rfl kk
  obtain ⟨a, c, fs, rfl, ec, hm⟩ := isC_some (HR _ _ _ _ _ e).1
  exact cal_I (n := 2) hX q640 q641 q129 q642 rfl (by decide +kernel) rfl hdg

theorem cl_X0_159 {X : CT} {cc : ByteArray} {nL : Nat} {mn : String} {ret : Option FieldType} {d d0 : Nat} {τ : Type} {pc : Nat} {lv : List (Option PV)} {st : List PV} {h : PH} {sz : τ → Nat × Nat} {K : τ → Prop} {f : Option Nat → PH → Option (Int32 × PH)} (HR : IM_X16_read f d0) {a0 : Option Nat} {g : Int32 → PH → Option τ} (hd : d0 + 1 ≤ d) (hdg : decode cc pc = .ok (.invokevirtual 159, 3)) (hst : st.length ≤ 8) (kk : ∀ r h', Im X (cc, nL, RX0, mn, ret, d) (pc + 3) lv (.inl r :: st) h' (g r h') sz K) : Im X (cc, nL, RX0, mn, ret, d) pc lv (.inr a0 :: st) h (bd2 (grd (isC [13] a0 h) (f a0 h)) g) sz K := by
  refine im_cI (y := yX16_read) (cY := cX16_read) (nY := 2) (rY := (some .int)) (d' := d0) (av := [.inr a0]) (fun r h' e hX => ?_) (fun r h' e => (HR _ _ _ _ (grd_some e).2).2) hd (by decide) hst rfl kk
  obtain ⟨a, c, fs, rfl, ec, hm⟩ := isC_some (grd_some e).1
  simp only [List.mem_cons, List.not_mem_nil, or_false] at hm
  subst hm
  exact cal_U (n := 0) hX q666 q667 q669 q670 q128 q671 rfl (by decide +kernel) rfl rfl ec hdg

def IM_X0_burials (f : Option Nat → Int32 → PH → Option (Int32 × PH)) (d : Nat) : Prop := ∀ (a0 : Option Nat) (a1 : Int32) (h : PH) (r : Int32) (h' : PH), f a0 a1 h = some (r, h') → isC [0] a0 h = true ∧ SpI yX0_burials cX0_burials 5 (some .int) d [.inr a0, .inl a1] h r h'
noncomputable def tp_burials_0 (v0 : Option Nat) (v1 : Int32) (h : PH) : Option (Int32 × PH) :=
  (tp_within v1 1 120 h).bind fun x51 =>
  (if x51 = 0 then
  some (((-1), h))
  else
  (gfi [0] 6 v0 h).bind fun x52 =>
  (if v1 ≤ x52 then
  (pf [0] 6 v0 (.inl 0) h).bind fun h53 =>
  (gfr [0] 2 v0 h53).bind fun r54 =>
  (gfr [0] 1 v0 h53).bind fun r55 =>
  bd2 (yd_takes r54 r55 h53) fun r57 h56 =>
  (nw 13 [.inl 0, .inl 0, .inl 0, .inl 0, .inr none, .inr none] h56).bind fun h58 =>
  (se_init (some h56.1) v0 v1 h58).bind fun h59 =>
  bd2 (grd (isC [13] (some h56.1) h59) (sc_read (some h56.1) h59)) fun x61 h60 =>
  (if x61 < 0 then
  some ((x61, h60))
  else
  (gfr [0] 1 v0 h60).bind fun r62 =>
  (gfr [0] 2 v0 h60).bind fun r63 =>
  bd2 (yd_takes r62 r63 h60) fun r65 h64 =>
  some ((x61, h64)))
  else
  some (((-1), h))))
theorem tp_burials_0_ok (X : CT) (v0 : Option Nat) (v1 : Int32) (h : PH) : Im X (cX0_burials, 5, RX0, "burials", (some .int), 8) 0 [some (.inr v0), some (.inl v1), none, none, none] [] h (tp_burials_0 v0 v1 h) szI (kI X) := by
  unfold tp_burials_0
  refine im_iload_n (pc := 0) dX0_burials_0 rfl rfl ?_
  refine im_iconst (pc := 1) (v := 1) dX0_burials_1 (by decide) ?_
  refine im_bipush (pc := 2) (v := 120) dX0_burials_2 (by decide) ?_
  refine cl_X0_120 tp_within_im (pc := 4) (by decide) dX0_burials_4 (Nat.le_of_ble_eq_true rfl) fun x51 => ?_
  refine im_if_eq (pc := 7) (tgt := 18) dX0_burials_7 (by decide) ?_ ?_
  · refine im_iconst (pc := 18) (v := (-1)) dX0_burials_18 (by decide) ?_
    exact im_iret (pc := 19) dX0_burials_19
  · refine im_iload_n (pc := 10) dX0_burials_10 rfl rfl ?_
    refine im_aload_n (pc := 11) dX0_burials_11 rfl rfl ?_
    refine im_gi (pc := 12) fl_X0_133 dX0_burials_12 fun x52 => ?_
    refine im_icmp_le (pc := 15) (tgt := 20) dX0_burials_15 (by decide) ?_ ?_
    · refine im_aload_n (pc := 20) dX0_burials_20 rfl rfl ?_
      refine im_iconst (pc := 21) (v := 0) dX0_burials_21 (by decide) ?_
      refine im_pf (pc := 22) fp_X0_133 (okT_i _) dX0_burials_22 fun h53 => ?_
      refine im_aload_n (pc := 25) dX0_burials_25 rfl rfl ?_
      refine im_gr (pc := 26) fl_X0_67 dX0_burials_26 fun r54 => ?_
      refine im_aload_n (pc := 29) dX0_burials_29 rfl rfl ?_
      refine im_gr (pc := 30) fl_X0_63 dX0_burials_30 fun r55 => ?_
      refine cl_X0_152 yd_takes_im (pc := 33) (by decide) dX0_burials_33 (Nat.le_of_ble_eq_true rfl) fun r57 h56 => ?_
      refine im_astore_n (pc := 36) (lv' := [some (.inr v0), some (.inl v1), some (.inr r57), none, none]) dX0_burials_36 rfl (by decide) rfl ?_
      refine im_new (pc := 37) nw_X0_156 dX0_burials_37 fun h58 => ?_
      refine im_dup (pc := 40) dX0_burials_40 ?_
      refine im_aload_n (pc := 41) dX0_burials_41 rfl rfl ?_
      refine im_iload_n (pc := 42) dX0_burials_42 rfl rfl ?_
      refine cl_X0_158 se_init_im (pc := 43) (by decide) dX0_burials_43 (Nat.le_of_ble_eq_true rfl) fun h59 => ?_
      refine im_astore_n (pc := 46) (lv' := [some (.inr v0), some (.inl v1), some (.inr r57), some (.inr (some h56.1)), none]) dX0_burials_46 rfl (by decide) rfl ?_
      refine im_aload_n (pc := 47) dX0_burials_47 rfl rfl ?_
      refine cl_X0_159 sc_read_im (pc := 48) (by decide) dX0_burials_48 (Nat.le_of_ble_eq_true rfl) fun x61 h60 => ?_
      refine im_istore (pc := 51) (lv' := [some (.inr v0), some (.inl v1), some (.inr r57), some (.inr (some h56.1)), some (.inl x61)]) dX0_burials_51 (by decide) rfl ?_
      refine im_iload (pc := 53) dX0_burials_53 rfl ?_
      refine im_if_lt (pc := 55) (tgt := 70) dX0_burials_55 (by decide) ?_ ?_
      · refine im_iload (pc := 70) dX0_burials_70 rfl ?_
        exact im_iret (pc := 72) dX0_burials_72
      · refine im_aload_n (pc := 58) dX0_burials_58 rfl rfl ?_
        refine im_gr (pc := 59) fl_X0_63 dX0_burials_59 fun r62 => ?_
        refine im_aload_n (pc := 62) dX0_burials_62 rfl rfl ?_
        refine im_gr (pc := 63) fl_X0_67 dX0_burials_63 fun r63 => ?_
        refine cl_X0_152 yd_takes_im (pc := 66) (by decide) dX0_burials_66 (Nat.le_of_ble_eq_true rfl) fun r65 h64 => ?_
        refine im_astore_n (pc := 69) (lv' := [some (.inr v0), some (.inl v1), some (.inr r65), some (.inr (some h56.1)), some (.inl x61)]) dX0_burials_69 rfl (by decide) rfl ?_
        refine im_iload (pc := 70) dX0_burials_70 rfl ?_
        exact im_iret (pc := 72) dX0_burials_72
    · refine im_iconst (pc := 18) (v := (-1)) dX0_burials_18 (by decide) ?_
      exact im_iret (pc := 19) dX0_burials_19
noncomputable def tp_burials (a0 : Option Nat) (a1 : Int32) (h : PH) : Option (Int32 × PH) := grd (isC [0] a0 h) (tp_burials_0 a0 a1 h)
theorem tp_burials_im : IM_X0_burials tp_burials 8 := by
  intro a0 a1 h r h' e
  obtain ⟨e1, e2⟩ := grd_some e
  exact ⟨e1, SpI.of (k := 3) (plainFor_of_name (by decide)) rfl (fun X => Im.drop [true, true, false, false, false] rfl (tp_burials_0_ok X a0 a1 h)) e2⟩
theorem fp_X18_3 : ∀ c ∈ [14], FPF RX18 3 c 8 (.object "TalkingPlots") := List.forall_mem_cons.mpr ⟨⟨RX18, TX18, 9, rfl, in_X18, by decide, apt_X18, rfl, rfl, by decide +kernel, q797⟩, fun _ h => absurd h List.not_mem_nil⟩
theorem cl_X18_9 {X : CT} {cc : ByteArray} {nL : Nat} {mn : String} {ret : Option FieldType} {d d0 : Nat} {τ : Type} {pc : Nat} {lv : List (Option PV)} {st : List PV} {h : PH} {sz : τ → Nat × Nat} {K : τ → Prop} {f : Option Nat → Option Nat → Int32 → PH → Option (PH)} (HR : IM_X16_init f d0) {a0 : Option Nat} {a1 : Option Nat} {a2 : Int32} {g : PH → Option τ} (hd : d0 + 1 ≤ d) (hdg : decode cc pc = .ok (.invokespecial 9, 3)) (hst : st.length ≤ 8) (kk : ∀ h', Im X (cc, nL, RX18, mn, ret, d) (pc + 3) lv st h' (g h') sz K) : Im X (cc, nL, RX18, mn, ret, d) pc lv (.inl a2 :: .inr a1 :: .inr a0 :: st) h ((f a0 a1 a2 h).bind g) sz K := by
  refine im_cV (y := yX16_init) (cY := cX16_init) (nY := 3) (rY := none) (d' := d0) (av := [.inr a0, .inr a1, .inl a2]) (fun h' e hX => ?_) (fun h' e => (HR _ _ _ _ _ e).2) hd (by decide) hst rfl kk
  obtain ⟨a, c, fs, rfl, ec, hm⟩ := isC_some (HR _ _ _ _ _ e).1
  exact cal_I (n := 2) hX q790 q644 q128 q645 rfl (by decide +kernel) rfl hdg

theorem fp_X18_15 : ∀ c ∈ [14], FPF RX18 15 c 5 (.array .int) := List.forall_mem_cons.mpr ⟨⟨RX18, TX18, 9, rfl, in_X18, by decide, apt_X18, rfl, rfl, by decide +kernel, q791⟩, fun _ h => absurd h List.not_mem_nil⟩
theorem fp_X18_19 : ∀ c ∈ [14], FPF RX18 19 c 6 (.array .int) := List.forall_mem_cons.mpr ⟨⟨RX18, TX18, 9, rfl, in_X18, by decide, apt_X18, rfl, rfl, by decide +kernel, q793⟩, fun _ h => absurd h List.not_mem_nil⟩
theorem fp_X18_22 : ∀ c ∈ [14], FPF RX18 22 c 7 (.array .int) := List.forall_mem_cons.mpr ⟨⟨RX18, TX18, 9, rfl, in_X18, by decide, apt_X18, rfl, rfl, by decide +kernel, q795⟩, fun _ h => absurd h List.not_mem_nil⟩
def IM_X18_init (f : Option Nat → Option Nat → Int32 → PH → Option (PH)) (d : Nat) : Prop := ∀ (a0 : Option Nat) (a1 : Option Nat) (a2 : Int32) (h : PH) (h' : PH), f a0 a1 a2 h = some h' → isC [14] a0 h = true ∧ SpV yX18_init cX18_init 3 none d [.inr a0, .inr a1, .inl a2] h h'
noncomputable def wa_init_0 (v0 : Option Nat) (v1 : Option Nat) (v2 : Int32) (h : PH) : Option (PH) :=
  (pf [14] 8 v0 (.inr v1) h).bind fun h51 =>
  (sc_init v0 v1 v2 h51).bind fun h52 =>
  (nwa 0 24 h52).bind fun h53 =>
  (pf [14] 5 v0 (.inr (some h52.1)) h53).bind fun h54 =>
  (nwa 0 24 h54).bind fun h55 =>
  (pf [14] 6 v0 (.inr (some h54.1)) h55).bind fun h56 =>
  (nwa 0 24 h56).bind fun h57 =>
  (pf [14] 7 v0 (.inr (some h56.1)) h57).bind fun h58 =>
  some (h58)
theorem wa_init_0_ok (X : CT) (v0 : Option Nat) (v1 : Option Nat) (v2 : Int32) (h : PH) : Im X (cX18_init, 3, RX18, "<init>", none, 2) 0 [some (.inr v0), some (.inr v1), some (.inl v2)] [] h (wa_init_0 v0 v1 v2 h) szV (kV X) := by
  unfold wa_init_0
  refine im_aload_n (pc := 0) dX18_init_0 rfl rfl ?_
  refine im_aload_n (pc := 1) dX18_init_1 rfl rfl ?_
  refine im_pfF (pc := 2) fp_X18_3 (okT_o _ _) dX18_init_2 fun h51 => ?_
  refine im_aload_n (pc := 5) dX18_init_5 rfl rfl ?_
  refine im_aload_n (pc := 6) dX18_init_6 rfl rfl ?_
  refine im_iload_n (pc := 7) dX18_init_7 rfl rfl ?_
  refine cl_X18_9 sc_init_im (pc := 8) (by decide) dX18_init_8 (Nat.le_of_ble_eq_true rfl) fun h52 => ?_
  refine im_aload_n (pc := 11) dX18_init_11 rfl rfl ?_
  refine im_bipush (pc := 12) (v := 24) dX18_init_12 (by decide) ?_
  refine im_newa (pc := 14) (t := 0) (n := 24) (Or.inl ⟨rfl, rfl⟩) (by decide) (by decide) (by decide) dX18_init_14 fun h53 => ?_
  refine im_pfF (pc := 16) fp_X18_15 (okT_a _ _) dX18_init_16 fun h54 => ?_
  refine im_aload_n (pc := 19) dX18_init_19 rfl rfl ?_
  refine im_bipush (pc := 20) (v := 24) dX18_init_20 (by decide) ?_
  refine im_newa (pc := 22) (t := 0) (n := 24) (Or.inl ⟨rfl, rfl⟩) (by decide) (by decide) (by decide) dX18_init_22 fun h55 => ?_
  refine im_pfF (pc := 24) fp_X18_19 (okT_a _ _) dX18_init_24 fun h56 => ?_
  refine im_aload_n (pc := 27) dX18_init_27 rfl rfl ?_
  refine im_bipush (pc := 28) (v := 24) dX18_init_28 (by decide) ?_
  refine im_newa (pc := 30) (t := 0) (n := 24) (Or.inl ⟨rfl, rfl⟩) (by decide) (by decide) (by decide) dX18_init_30 fun h57 => ?_
  refine im_pfF (pc := 32) fp_X18_22 (okT_a _ _) dX18_init_32 fun h58 => ?_
  exact im_vret (pc := 35) dX18_init_35
noncomputable def wa_init (a0 : Option Nat) (a1 : Option Nat) (a2 : Int32) (h : PH) : Option (PH) := grd (isC [14] a0 h) (wa_init_0 a0 a1 a2 h)
theorem wa_init_im : IM_X18_init wa_init 2 := by
  intro a0 a1 a2 h h' e
  obtain ⟨e1, e2⟩ := grd_some e
  exact ⟨e1, SpV.of (k := 0) (plainFor_of_name (by decide)) rfl (fun X => Im.drop [true, true, true] rfl (wa_init_0_ok X a0 a1 a2 h)) e2⟩
