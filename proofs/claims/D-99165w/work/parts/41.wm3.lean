set_option maxRecDepth 100000
def IM_X6_max (f : Int32 → Int32 → PH → Option (Int32)) (d : Nat) : Prop := ∀ (a0 : Int32) (a1 : Int32) (h : PH) (r : Int32), f a0 a1 h = some r → SpI yX6_max cX6_max 2 (some .int) d [.inl a0, .inl a1] h r h
noncomputable def mo_max_0 (v0 : Int32) (v1 : Int32) (h : PH) : Option (Int32) :=
  (if v0 ≤ v1 then
  some (v1)
  else
  some (v0))
theorem mo_max_0_ok (X : CT) (v0 : Int32) (v1 : Int32) (h : PH) : Im X (cX6_max, 2, RX6, "max", (some .int), 1) 0 [some (.inl v0), some (.inl v1)] [] h (mo_max_0 v0 v1 h) (szP h) (kP X h) := by
  unfold mo_max_0
  refine im_iload_n (pc := 0) dX6_max_0 rfl rfl ?_
  refine im_iload_n (pc := 1) dX6_max_1 rfl rfl ?_
  refine im_icmp_le (pc := 2) (tgt := 9) dX6_max_2 (by decide) ?_ ?_
  · refine im_iload_n (pc := 9) dX6_max_9 rfl rfl ?_
    exact im_iretP (pc := 10) dX6_max_10
  · refine im_iload_n (pc := 5) dX6_max_5 rfl rfl ?_
    refine im_goto (pc := 6) (tgt := 10) dX6_max_6 (by decide) ?_
    exact im_iretP (pc := 10) dX6_max_10
noncomputable def mo_max (a0 : Int32) (a1 : Int32) (h : PH) : Option (Int32) := mo_max_0 a0 a1 h
theorem mo_max_im : IM_X6_max mo_max 1 := by
  intro a0 a1 h r e
  exact SpI.ofP (k := 0) (plainFor_of_name (by decide)) rfl (fun X => Im.drop [true, true] rfl (mo_max_0_ok X a0 a1 h)) e
theorem cl_X6_294 {X : CT} {cc : ByteArray} {nL : Nat} {mn : String} {ret : Option FieldType} {d d0 : Nat} {τ : Type} {pc : Nat} {lv : List (Option PV)} {st : List PV} {h : PH} {sz : τ → Nat × Nat} {K : τ → Prop} {f : Option Nat → Int32 → PH → Option (Int32 × PH)} (HR : IM_X6_holdsAny f d0) {a0 : Option Nat} {a1 : Int32} {g : Int32 → PH → Option τ} (hd : d0 + 1 ≤ d) (hdg : decode cc pc = .ok (.invokevirtual 294, 3)) (hst : st.length ≤ 8) (kk : ∀ r h', Im X (cc, nL, RX6, mn, ret, d) (pc + 3) lv (.inl r :: st) h' (g r h') sz K) : Im X (cc, nL, RX6, mn, ret, d) pc lv (.inl a1 :: .inr a0 :: st) h (bd2 (f a0 a1 h) g) sz K := by
  refine im_cI (y := yX6_holdsAny) (cY := cX6_holdsAny) (nY := 3) (rY := (some .boolean)) (d' := d0) (av := [.inr a0, .inl a1]) (fun r h' e hX => ?_) (fun r h' e => (HR _ _ _ _ _ e).2) hd (by decide) hst rfl kk
  obtain ⟨a, c, fs, rfl, ec, hm⟩ := isC_some (HR _ _ _ _ _ e).1
  cases List.mem_singleton.mp hm
  exact cal_V (n := 1) hX (lw_V q1515 q1517 qs79 q112 q1518) (by decide +kernel) rfl rfl ec hdg

theorem cl_X6_297 {X : CT} {cc : ByteArray} {nL : Nat} {mn : String} {ret : Option FieldType} {d d0 : Nat} {τ : Type} {pc : Nat} {lv : List (Option PV)} {st : List PV} {h : PH} {sz : τ → Nat × Nat} {K : τ → Prop} {f : Option Nat → Int32 → PH → Option (Int32 × PH)} (HR : IM_X6_likesMost f d0) {a0 : Option Nat} {a1 : Int32} {g : Int32 → PH → Option τ} (hd : d0 + 1 ≤ d) (hdg : decode cc pc = .ok (.invokevirtual 297, 3)) (hst : st.length ≤ 8) (kk : ∀ r h', Im X (cc, nL, RX6, mn, ret, d) (pc + 3) lv (.inl r :: st) h' (g r h') sz K) : Im X (cc, nL, RX6, mn, ret, d) pc lv (.inl a1 :: .inr a0 :: st) h (bd2 (f a0 a1 h) g) sz K := by
  refine im_cI (y := yX6_likesMost) (cY := cX6_likesMost) (nY := 6) (rY := (some .int)) (d' := d0) (av := [.inr a0, .inl a1]) (fun r h' e hX => ?_) (fun r h' e => (HR _ _ _ _ _ e).2) hd (by decide) hst rfl kk
  obtain ⟨a, c, fs, rfl, ec, hm⟩ := isC_some (HR _ _ _ _ _ e).1
  cases List.mem_singleton.mp hm
  exact cal_V (n := 1) hX (lw_V q1526 q1528 qs81 q112 q1529) (by decide +kernel) rfl rfl ec hdg

theorem fl_X6_300 : ∀ c ∈ [5], FL RX6 300 c 36 := List.forall_mem_cons.mpr ⟨⟨RX6, TX6, 50, rfl, in_X6, by decide, Or.inl q1213⟩, fun _ h => absurd h List.not_mem_nil⟩
theorem fp_X6_300 : ∀ c ∈ [5], FP RX6 300 c 36 .int := List.forall_mem_cons.mpr ⟨⟨RX6, TX6, 50, rfl, in_X6, by decide, apt_X6, rfl, by decide +kernel, Or.inl q1213⟩, fun _ h => absurd h List.not_mem_nil⟩
theorem cl_X6_304 {X : CT} {cc : ByteArray} {nL : Nat} {mn : String} {ret : Option FieldType} {d d0 : Nat} {τ : Type} {pc : Nat} {lv : List (Option PV)} {st : List PV} {h : PH} {sz : τ → Nat × Nat} {K : τ → Prop} {f : Option Nat → Int32 → Int32 → PH → Option (PH)} (HR : IM_X6_learns f d0) {a0 : Option Nat} {a1 : Int32} {a2 : Int32} {g : PH → Option τ} (hd : d0 + 1 ≤ d) (hdg : decode cc pc = .ok (.invokevirtual 304, 3)) (hst : st.length ≤ 8) (kk : ∀ h', Im X (cc, nL, RX6, mn, ret, d) (pc + 3) lv st h' (g h') sz K) : Im X (cc, nL, RX6, mn, ret, d) pc lv (.inl a2 :: .inl a1 :: .inr a0 :: st) h ((f a0 a1 a2 h).bind g) sz K := by
  refine im_cV (y := yX6_learns) (cY := cX6_learns) (nY := 4) (rY := none) (d' := d0) (av := [.inr a0, .inl a1, .inl a2]) (fun h' e hX => ?_) (fun h' e => (HR _ _ _ _ _ e).2) hd (by decide) hst rfl kk
  obtain ⟨a, c, fs, rfl, ec, hm⟩ := isC_some (HR _ _ _ _ _ e).1
  cases List.mem_singleton.mp hm
  exact cal_V (n := 2) hX (lw_V q1535 q1537 qs83 q112 q1538) (by decide +kernel) rfl rfl ec hdg

theorem cl_X6_307 {X : CT} {cc : ByteArray} {nL : Nat} {mn : String} {ret : Option FieldType} {d d0 : Nat} {τ : Type} {pc : Nat} {lv : List (Option PV)} {st : List PV} {h : PH} {sz : τ → Nat × Nat} {K : τ → Prop} {f : Int32 → Int32 → PH → Option (Int32)} (HR : IM_X6_min f d0) {a0 : Int32} {a1 : Int32} {g : Int32 → Option τ} (hd : d0 + 1 ≤ d) (hdg : decode cc pc = .ok (.invokestatic 307, 3)) (hst : st.length ≤ 8) (kk : ∀ r, Im X (cc, nL, RX6, mn, ret, d) (pc + 3) lv (.inl r :: st) h (g r) sz K) : Im X (cc, nL, RX6, mn, ret, d) pc lv (.inl a1 :: .inl a0 :: st) h ((f a0 a1 h).bind g) sz K := by
  refine im_cP (y := yX6_min) (cY := cX6_min) (nY := 2) (rY := (some .int)) (d' := d0) (av := [.inl a0, .inl a1]) (fun r e hX => ?_) (fun r e => HR _ _ _ _ e) hd (by decide) hst rfl kk
  exact cal_S (n := 2) hX (lw_S q1542 q1543 q112 q1544) (by decide +kernel) rfl hdg

theorem cl_X6_310 {X : CT} {cc : ByteArray} {nL : Nat} {mn : String} {ret : Option FieldType} {d d0 : Nat} {τ : Type} {pc : Nat} {lv : List (Option PV)} {st : List PV} {h : PH} {sz : τ → Nat × Nat} {K : τ → Prop} {f : Int32 → Int32 → PH → Option (Int32)} (HR : IM_X6_max f d0) {a0 : Int32} {a1 : Int32} {g : Int32 → Option τ} (hd : d0 + 1 ≤ d) (hdg : decode cc pc = .ok (.invokestatic 310, 3)) (hst : st.length ≤ 8) (kk : ∀ r, Im X (cc, nL, RX6, mn, ret, d) (pc + 3) lv (.inl r :: st) h (g r) sz K) : Im X (cc, nL, RX6, mn, ret, d) pc lv (.inl a1 :: .inl a0 :: st) h ((f a0 a1 h).bind g) sz K := by
  refine im_cP (y := yX6_max) (cY := cX6_max) (nY := 2) (rY := (some .int)) (d' := d0) (av := [.inl a0, .inl a1]) (fun r e hX => ?_) (fun r e => HR _ _ _ _ e) hd (by decide) hst rfl kk
  exact cal_S (n := 2) hX (lw_S q1545 q1546 q112 q1547) (by decide +kernel) rfl hdg

def IM_X6_turnOf (f : Option Nat → Int32 → PH → Option (PH)) (d : Nat) : Prop := ∀ (a0 : Option Nat) (a1 : Int32) (h : PH) (h' : PH), f a0 a1 h = some h' → isC [5] a0 h = true ∧ SpV yX6_turnOf cX6_turnOf 6 none d [.inr a0, .inl a1] h h'
noncomputable def mo_turnOf_118 (v0 : Option Nat) (v1 : Int32) (v4 : Int32) (v5 : Int32) (h : PH) : Option (PH) :=
  (gfr [5] 0 v0 h).bind fun r51 =>
  (gfr [5] 0 v0 h).bind fun r52 =>
  (ald 0 r52 (32 + v1) h).bind fun x53 =>
  (mo_min 99 ((x53 + v4) - v5) h).bind fun x54 =>
  (mo_max 0 x54 h).bind fun x55 =>
  (ast 0 r51 (32 + v1) x55 h).bind fun h56 =>
  some (h56)
theorem mo_turnOf_118_ok (X : CT) (v0 : Option Nat) (v1 : Int32) (v4 : Int32) (v5 : Int32) (h : PH) : Im X (cX6_turnOf, 6, RX6, "turnOf", none, 7) 118 [some (.inr v0), some (.inl v1), none, none, some (.inl v4), some (.inl v5)] [] h (mo_turnOf_118 v0 v1 v4 v5 h) szV (kV X) := by
  unfold mo_turnOf_118
  refine im_aload_n (pc := 118) dX6_turnOf_118 rfl rfl ?_
  refine im_gr (pc := 119) fl_X6_7 dX6_turnOf_119 fun r51 => ?_
  refine im_bipush (pc := 122) (v := 32) dX6_turnOf_122 (by decide) ?_
  refine im_iload_n (pc := 124) dX6_turnOf_124 rfl rfl ?_
  refine im_iadd (pc := 125) dX6_turnOf_125 ?_
  refine im_iconst (pc := 126) (v := 0) dX6_turnOf_126 (by decide) ?_
  refine im_bipush (pc := 127) (v := 99) dX6_turnOf_127 (by decide) ?_
  refine im_aload_n (pc := 129) dX6_turnOf_129 rfl rfl ?_
  refine im_gr (pc := 130) fl_X6_7 dX6_turnOf_130 fun r52 => ?_
  refine im_bipush (pc := 133) (v := 32) dX6_turnOf_133 (by decide) ?_
  refine im_iload_n (pc := 135) dX6_turnOf_135 rfl rfl ?_
  refine im_iadd (pc := 136) dX6_turnOf_136 ?_
  refine im_iald (pc := 137) dX6_turnOf_137 fun x53 => ?_
  refine im_iload (pc := 138) dX6_turnOf_138 rfl ?_
  refine im_iadd (pc := 140) dX6_turnOf_140 ?_
  refine im_iload (pc := 141) dX6_turnOf_141 rfl ?_
  refine im_isub (pc := 143) dX6_turnOf_143 ?_
  refine cl_X6_307 mo_min_im (pc := 144) (by decide) dX6_turnOf_144 (Nat.le_of_ble_eq_true rfl) fun x54 => ?_
  refine cl_X6_310 mo_max_im (pc := 147) (by decide) dX6_turnOf_147 (Nat.le_of_ble_eq_true rfl) fun x55 => ?_
  refine im_iast (pc := 150) dX6_turnOf_150 fun h56 => ?_
  exact im_vret (pc := 151) dX6_turnOf_151
noncomputable def mo_turnOf_0 (v0 : Option Nat) (v1 : Int32) (h : PH) : Option (PH) :=
  (mo_feels v0 v1 (-1) h).bind fun h51 =>
  bd2 (mo_holdsAny v0 113 h51) fun x53 h52 =>
  (if x53 = 0 then
  bd2 (mo_likesMost v0 v1 h52) fun x55 h54 =>
  (mo_feels v0 v1 x55 h54).bind fun h56 =>
  bd2 (mo_byLaw v0 104 10 h56) fun x58 h57 =>
  bd2 (mo_byLaw v0 103 99 h57) fun x60 h59 =>
  bd2 (mo_byLaw v0 98 99 h59) fun x62 h61 =>
  (if x55 = (-1) then
  mo_turnOf_118 v0 v1 x60 x62 h61
  else
  (gfi [5] 36 v0 h61).bind fun x63 =>
  (pf [5] 36 v0 (.inl (x63 + 1)) h61).bind fun h64 =>
  (gfr [5] 0 v0 h64).bind fun r65 =>
  (gfr [5] 0 v0 h64).bind fun r66 =>
  (ald 0 r66 65 h64).bind fun x67 =>
  (ast 0 r65 65 (irm ((25173 * x67) + 13849) 65536) h64).bind fun h68 =>
  (gfr [5] 0 v0 h68).bind fun r69 =>
  (ald 0 r69 65 h68).bind fun x70 =>
  (if x58 ≤ (irm x70 10) then
  mo_turnOf_118 v0 v1 x60 x62 h68
  else
  (mo_learns v0 v1 x55 h68).bind fun h71 =>
  mo_turnOf_118 v0 v1 x60 x62 h71))
  else
  some (h52))
theorem mo_turnOf_0_ok (X : CT) (v0 : Option Nat) (v1 : Int32) (h : PH) : Im X (cX6_turnOf, 6, RX6, "turnOf", none, 7) 0 [some (.inr v0), some (.inl v1), none, none, none, none] [] h (mo_turnOf_0 v0 v1 h) szV (kV X) := by
  unfold mo_turnOf_0
  refine im_aload_n (pc := 0) dX6_turnOf_0 rfl rfl ?_
  refine im_iload_n (pc := 1) dX6_turnOf_1 rfl rfl ?_
  refine im_iconst (pc := 2) (v := (-1)) dX6_turnOf_2 (by decide) ?_
  refine cl_X6_282 mo_feels_im (pc := 3) (by decide) dX6_turnOf_3 (Nat.le_of_ble_eq_true rfl) fun h51 => ?_
  refine im_aload_n (pc := 6) dX6_turnOf_6 rfl rfl ?_
  refine im_bipush (pc := 7) (v := 113) dX6_turnOf_7 (by decide) ?_
  refine cl_X6_294 mo_holdsAny_im (pc := 9) (by decide) dX6_turnOf_9 (Nat.le_of_ble_eq_true rfl) fun x53 h52 => ?_
  refine im_if_eq (pc := 12) (tgt := 16) dX6_turnOf_12 (by decide) ?_ ?_
  · refine im_aload_n (pc := 16) dX6_turnOf_16 rfl rfl ?_
    refine im_iload_n (pc := 17) dX6_turnOf_17 rfl rfl ?_
    refine cl_X6_297 mo_likesMost_im (pc := 18) (by decide) dX6_turnOf_18 (Nat.le_of_ble_eq_true rfl) fun x55 h54 => ?_
    refine im_istore_n (pc := 21) (lv' := [some (.inr v0), some (.inl v1), some (.inl x55), none, none, none]) dX6_turnOf_21 rfl (by decide) rfl ?_
    refine im_aload_n (pc := 22) dX6_turnOf_22 rfl rfl ?_
    refine im_iload_n (pc := 23) dX6_turnOf_23 rfl rfl ?_
    refine im_iload_n (pc := 24) dX6_turnOf_24 rfl rfl ?_
    refine cl_X6_282 mo_feels_im (pc := 25) (by decide) dX6_turnOf_25 (Nat.le_of_ble_eq_true rfl) fun h56 => ?_
    refine im_aload_n (pc := 28) dX6_turnOf_28 rfl rfl ?_
    refine im_bipush (pc := 29) (v := 104) dX6_turnOf_29 (by decide) ?_
    refine im_bipush (pc := 31) (v := 10) dX6_turnOf_31 (by decide) ?_
    refine cl_X6_285 mo_byLaw_im (pc := 33) (by decide) dX6_turnOf_33 (Nat.le_of_ble_eq_true rfl) fun x58 h57 => ?_
    refine im_istore_n (pc := 36) (lv' := [some (.inr v0), some (.inl v1), some (.inl x55), some (.inl x58), none, none]) dX6_turnOf_36 rfl (by decide) rfl ?_
    refine im_aload_n (pc := 37) dX6_turnOf_37 rfl rfl ?_
    refine im_bipush (pc := 38) (v := 103) dX6_turnOf_38 (by decide) ?_
    refine im_bipush (pc := 40) (v := 99) dX6_turnOf_40 (by decide) ?_
    refine cl_X6_285 mo_byLaw_im (pc := 42) (by decide) dX6_turnOf_42 (Nat.le_of_ble_eq_true rfl) fun x60 h59 => ?_
    refine im_istore (pc := 45) (lv' := [some (.inr v0), some (.inl v1), some (.inl x55), some (.inl x58), some (.inl x60), none]) dX6_turnOf_45 (by decide) rfl ?_
    refine im_aload_n (pc := 47) dX6_turnOf_47 rfl rfl ?_
    refine im_bipush (pc := 48) (v := 98) dX6_turnOf_48 (by decide) ?_
    refine im_bipush (pc := 50) (v := 99) dX6_turnOf_50 (by decide) ?_
    refine cl_X6_285 mo_byLaw_im (pc := 52) (by decide) dX6_turnOf_52 (Nat.le_of_ble_eq_true rfl) fun x62 h61 => ?_
    refine im_istore (pc := 55) (lv' := [some (.inr v0), some (.inl v1), some (.inl x55), some (.inl x58), some (.inl x60), some (.inl x62)]) dX6_turnOf_55 (by decide) rfl ?_
    refine im_iload_n (pc := 57) dX6_turnOf_57 rfl rfl ?_
    refine im_iconst (pc := 58) (v := (-1)) dX6_turnOf_58 (by decide) ?_
    refine im_icmp_eq (pc := 59) (tgt := 118) dX6_turnOf_59 (by decide) ?_ ?_
    · exact Im.drop [true, true, false, false, true, true] rfl (mo_turnOf_118_ok X v0 v1 x60 x62 h61)
    · refine im_aload_n (pc := 62) dX6_turnOf_62 rfl rfl ?_
      refine im_aload_n (pc := 63) dX6_turnOf_63 rfl rfl ?_
      refine im_gi (pc := 64) fl_X6_300 dX6_turnOf_64 fun x63 => ?_
      refine im_iconst (pc := 67) (v := 1) dX6_turnOf_67 (by decide) ?_
      refine im_iadd (pc := 68) dX6_turnOf_68 ?_
      refine im_pf (pc := 69) fp_X6_300 (okT_i _) dX6_turnOf_69 fun h64 => ?_
      refine im_aload_n (pc := 72) dX6_turnOf_72 rfl rfl ?_
      refine im_gr (pc := 73) fl_X6_7 dX6_turnOf_73 fun r65 => ?_
      refine im_bipush (pc := 76) (v := 65) dX6_turnOf_76 (by decide) ?_
      refine im_sipush (pc := 78) (v := 25173) dX6_turnOf_78 (by decide) ?_
      refine im_aload_n (pc := 81) dX6_turnOf_81 rfl rfl ?_
      refine im_gr (pc := 82) fl_X6_7 dX6_turnOf_82 fun r66 => ?_
      refine im_bipush (pc := 85) (v := 65) dX6_turnOf_85 (by decide) ?_
      refine im_iald (pc := 87) dX6_turnOf_87 fun x67 => ?_
      refine im_imul (pc := 88) dX6_turnOf_88 ?_
      refine im_sipush (pc := 89) (v := 13849) dX6_turnOf_89 (by decide) ?_
      refine im_iadd (pc := 92) dX6_turnOf_92 ?_
      refine im_ldcw (pc := 93) q1534 dX6_turnOf_93 ?_
      refine im_iremC (pc := 96) (by decide) dX6_turnOf_96 ?_
      refine im_iast (pc := 97) dX6_turnOf_97 fun h68 => ?_
      refine im_aload_n (pc := 98) dX6_turnOf_98 rfl rfl ?_
      refine im_gr (pc := 99) fl_X6_7 dX6_turnOf_99 fun r69 => ?_
      refine im_bipush (pc := 102) (v := 65) dX6_turnOf_102 (by decide) ?_
      refine im_iald (pc := 104) dX6_turnOf_104 fun x70 => ?_
      refine im_bipush (pc := 105) (v := 10) dX6_turnOf_105 (by decide) ?_
      refine im_iremC (pc := 107) (by decide) dX6_turnOf_107 ?_
      refine im_iload_n (pc := 108) dX6_turnOf_108 rfl rfl ?_
      refine im_icmp_ge (pc := 109) (tgt := 118) dX6_turnOf_109 (by decide) ?_ ?_
      · exact Im.drop [true, true, false, false, true, true] rfl (mo_turnOf_118_ok X v0 v1 x60 x62 h68)
      · refine im_aload_n (pc := 112) dX6_turnOf_112 rfl rfl ?_
        refine im_iload_n (pc := 113) dX6_turnOf_113 rfl rfl ?_
        refine im_iload_n (pc := 114) dX6_turnOf_114 rfl rfl ?_
        refine cl_X6_304 mo_learns_im (pc := 115) (by decide) dX6_turnOf_115 (Nat.le_of_ble_eq_true rfl) fun h71 => ?_
        exact Im.drop [true, true, false, false, true, true] rfl (mo_turnOf_118_ok X v0 v1 x60 x62 h71)
  · exact im_vret (pc := 15) dX6_turnOf_15
noncomputable def mo_turnOf (a0 : Option Nat) (a1 : Int32) (h : PH) : Option (PH) := grd (isC [5] a0 h) (mo_turnOf_0 a0 a1 h)
theorem mo_turnOf_im : IM_X6_turnOf mo_turnOf 7 := by
  intro a0 a1 h h' e
  obtain ⟨e1, e2⟩ := grd_some e
  exact ⟨e1, SpV.of (k := 4) (plainFor_of_name (by decide)) rfl (fun X => Im.drop [true, true, false, false, false, false] rfl (mo_turnOf_0_ok X a0 a1 h)) e2⟩
theorem cl_X6_313 {X : CT} {cc : ByteArray} {nL : Nat} {mn : String} {ret : Option FieldType} {d d0 : Nat} {τ : Type} {pc : Nat} {lv : List (Option PV)} {st : List PV} {h : PH} {sz : τ → Nat × Nat} {K : τ → Prop} {f : Option Nat → Int32 → PH → Option (PH)} (HR : IM_X6_turnOf f d0) {a0 : Option Nat} {a1 : Int32} {g : PH → Option τ} (hd : d0 + 1 ≤ d) (hdg : decode cc pc = .ok (.invokevirtual 313, 3)) (hst : st.length ≤ 8) (kk : ∀ h', Im X (cc, nL, RX6, mn, ret, d) (pc + 3) lv st h' (g h') sz K) : Im X (cc, nL, RX6, mn, ret, d) pc lv (.inl a1 :: .inr a0 :: st) h ((f a0 a1 h).bind g) sz K := by
  refine im_cV (y := yX6_turnOf) (cY := cX6_turnOf) (nY := 6) (rY := none) (d' := d0) (av := [.inr a0, .inl a1]) (fun h' e hX => ?_) (fun h' e => (HR _ _ _ _ e).2) hd (by decide) hst rfl kk
  obtain ⟨a, c, fs, rfl, ec, hm⟩ := isC_some (HR _ _ _ _ e).1
  cases List.mem_singleton.mp hm
  exact cal_V (n := 1) hX (lw_V q1486 q1488 qs74 q112 q1489) (by decide +kernel) rfl rfl ec hdg

def IM_X6_nightsGo (f : Option Nat → Int32 → PH → Option (PH)) (d : Nat) : Prop := ∀ (a0 : Option Nat) (a1 : Int32) (h : PH) (h' : PH), f a0 a1 h = some h' → isC [5] a0 h = true ∧ SpV yX6_nightsGo cX6_nightsGo 4 none d [.inr a0, .inl a1] h h'
noncomputable def mo_nightsGo_b32 (v0 : Option Nat) (v1 : Int32) (v2 : Int32) (v3 : Int32) (h : PH) : Option ((Int32 × PH) ⊕ ((Int32 × PH) ⊕ (PH))) :=
  (if 16 ≤ v3 then
  (gfr [5] 0 v0 h).bind fun r51 =>
  (gfr [5] 0 v0 h).bind fun r52 =>
  (ald 0 r52 64 h).bind fun x53 =>
  (ast 0 r51 64 (x53 + 1) h).bind fun h54 =>
  some (.inr (.inl ((v2 + 1), h54)))
  else
  (mo_isLaid v0 v3 h).bind fun x55 =>
  (if x55 = 0 then
  some (.inl ((v3 + 1), h))
  else
  (gfr [5] 0 v0 h).bind fun r56 =>
  (ald 0 r56 (32 + v3) h).bind fun x57 =>
  (if x57 ≤ 0 then
  some (.inl ((v3 + 1), h))
  else
  (mo_turnOf v0 v3 h).bind fun h58 =>
  some (.inl ((v3 + 1), h58)))))
noncomputable def mo_nightsGo_L32 (v0 : Option Nat) (v1 : Int32) (v2 : Int32) (v3 : Int32) (h : PH) : Option ((Int32 × PH) ⊕ (PH)) :=
  iter (fun s : Int32 × PH => mo_nightsGo_b32 v0 v1 v2 s.1 s.2) (v3, h)
theorem mo_nightsGo_b32_ok (X : CT) (v0 : Option Nat) (v1 : Int32) (v2 : Int32) (v3 : Int32) (h : PH) : Im X (cX6_nightsGo, 4, RX6, "nightsGo", none, 8) 32 [some (.inr v0), some (.inl v1), some (.inl v2), some (.inl v3)] [] h (mo_nightsGo_b32 v0 v1 v2 v3 h) (ez (fun s : Int32 × PH => s.2) (ez (fun s : Int32 × PH => s.2) szV)) (ek X 32 (fun s : Int32 × PH => [some (.inr v0), some (.inl v1), some (.inl v2), some (.inl s.1)]) (fun s : Int32 × PH => s.2) (ek X 12 (fun s : Int32 × PH => [some (.inr v0), some (.inl v1), some (.inl s.1), none]) (fun s : Int32 × PH => s.2) (kV X))) := by
  unfold mo_nightsGo_b32
  refine im_iload_n (pc := 32) dX6_nightsGo_32 rfl rfl ?_
  refine im_bipush (pc := 33) (v := 16) dX6_nightsGo_33 (by decide) ?_
  refine im_icmp_ge (pc := 35) (tgt := 69) dX6_nightsGo_35 (by decide) ?_ ?_
  · refine im_aload_n (pc := 69) dX6_nightsGo_69 rfl rfl ?_
    refine im_gr (pc := 70) fl_X6_7 dX6_nightsGo_70 fun r51 => ?_
    refine im_bipush (pc := 73) (v := 64) dX6_nightsGo_73 (by decide) ?_
    refine im_aload_n (pc := 75) dX6_nightsGo_75 rfl rfl ?_
    refine im_gr (pc := 76) fl_X6_7 dX6_nightsGo_76 fun r52 => ?_
    refine im_bipush (pc := 79) (v := 64) dX6_nightsGo_79 (by decide) ?_
    refine im_iald (pc := 81) dX6_nightsGo_81 fun x53 => ?_
    refine im_iconst (pc := 82) (v := 1) dX6_nightsGo_82 (by decide) ?_
    refine im_iadd (pc := 83) dX6_nightsGo_83 ?_
    refine im_iast (pc := 84) dX6_nightsGo_84 fun h54 => ?_
    refine im_iinc (pc := 85) (v := (v2 + 1)) (lv' := [some (.inr v0), some (.inl v1), some (.inl (v2 + 1)), some (.inl v3)]) dX6_nightsGo_85 rfl rfl (by decide) rfl ?_
    refine im_goto (pc := 88) (tgt := 12) dX6_nightsGo_88 (by decide) ?_
    exact Im.outS (Im.back [true, true, true, false] rfl rfl)
  · refine im_aload_n (pc := 38) dX6_nightsGo_38 rfl rfl ?_
    refine im_iload_n (pc := 39) dX6_nightsGo_39 rfl rfl ?_
    refine cl_X6_112 mo_isLaid_im (pc := 40) (by decide) dX6_nightsGo_40 (Nat.le_of_ble_eq_true rfl) fun x55 => ?_
    refine im_if_eq (pc := 43) (tgt := 63) dX6_nightsGo_43 (by decide) ?_ ?_
    · refine im_iinc (pc := 63) (v := (v3 + 1)) (lv' := [some (.inr v0), some (.inl v1), some (.inl v2), some (.inl (v3 + 1))]) dX6_nightsGo_63 rfl rfl (by decide) rfl ?_
      refine im_goto (pc := 66) (tgt := 32) dX6_nightsGo_66 (by decide) ?_
      exact Im.back [true, true, true, true] rfl rfl
    · refine im_aload_n (pc := 46) dX6_nightsGo_46 rfl rfl ?_
      refine im_gr (pc := 47) fl_X6_7 dX6_nightsGo_47 fun r56 => ?_
      refine im_bipush (pc := 50) (v := 32) dX6_nightsGo_50 (by decide) ?_
      refine im_iload_n (pc := 52) dX6_nightsGo_52 rfl rfl ?_
      refine im_iadd (pc := 53) dX6_nightsGo_53 ?_
      refine im_iald (pc := 54) dX6_nightsGo_54 fun x57 => ?_
      refine im_if_le (pc := 55) (tgt := 63) dX6_nightsGo_55 (by decide) ?_ ?_
      · refine im_iinc (pc := 63) (v := (v3 + 1)) (lv' := [some (.inr v0), some (.inl v1), some (.inl v2), some (.inl (v3 + 1))]) dX6_nightsGo_63 rfl rfl (by decide) rfl ?_
        refine im_goto (pc := 66) (tgt := 32) dX6_nightsGo_66 (by decide) ?_
        exact Im.back [true, true, true, true] rfl rfl
      · refine im_aload_n (pc := 58) dX6_nightsGo_58 rfl rfl ?_
        refine im_iload_n (pc := 59) dX6_nightsGo_59 rfl rfl ?_
        refine cl_X6_313 mo_turnOf_im (pc := 60) (by decide) dX6_nightsGo_60 (Nat.le_of_ble_eq_true rfl) fun h58 => ?_
        refine im_iinc (pc := 63) (v := (v3 + 1)) (lv' := [some (.inr v0), some (.inl v1), some (.inl v2), some (.inl (v3 + 1))]) dX6_nightsGo_63 rfl rfl (by decide) rfl ?_
        refine im_goto (pc := 66) (tgt := 32) dX6_nightsGo_66 (by decide) ?_
        exact Im.back [true, true, true, true] rfl rfl
theorem mo_nightsGo_L32_ok (X : CT) (v0 : Option Nat) (v1 : Int32) (v2 : Int32) (v3 : Int32) (h : PH) : Im X (cX6_nightsGo, 4, RX6, "nightsGo", none, 8) 32 [some (.inr v0), some (.inl v1), some (.inl v2), some (.inl v3)] [] h (mo_nightsGo_L32 v0 v1 v2 v3 h) (ez (fun s : Int32 × PH => s.2) szV) (ek X 12 (fun s : Int32 × PH => [some (.inr v0), some (.inl v1), some (.inl s.1), none]) (fun s : Int32 × PH => s.2) (kV X)) := by
  unfold mo_nightsGo_L32
  exact Im.iter (lv := (fun s : Int32 × PH => [some (.inr v0), some (.inl v1), some (.inl v2), some (.inl s.1)])) (hp := (fun s : Int32 × PH => s.2)) (fun s => mo_nightsGo_b32_ok X v0 v1 v2 s.1 s.2) _ rfl rfl
noncomputable def mo_nightsGo_b12 (v0 : Option Nat) (v1 : Int32) (v2 : Int32) (h : PH) : Option ((Int32 × PH) ⊕ (PH)) :=
  (if v1 ≤ v2 then
  some (.inr h)
  else
  (gfr [5] 0 v0 h).bind fun r51 =>
  (ald 0 r51 64 h).bind fun x52 =>
  (if 9999 ≤ x52 then
  some (.inr h)
  else
  mo_nightsGo_L32 v0 v1 v2 0 h))
noncomputable def mo_nightsGo_L12 (v0 : Option Nat) (v1 : Int32) (v2 : Int32) (h : PH) : Option (PH) :=
  iter (fun s : Int32 × PH => mo_nightsGo_b12 v0 v1 s.1 s.2) (v2, h)
theorem mo_nightsGo_b12_ok (X : CT) (v0 : Option Nat) (v1 : Int32) (v2 : Int32) (h : PH) : Im X (cX6_nightsGo, 4, RX6, "nightsGo", none, 8) 12 [some (.inr v0), some (.inl v1), some (.inl v2), none] [] h (mo_nightsGo_b12 v0 v1 v2 h) (ez (fun s : Int32 × PH => s.2) szV) (ek X 12 (fun s : Int32 × PH => [some (.inr v0), some (.inl v1), some (.inl s.1), none]) (fun s : Int32 × PH => s.2) (kV X)) := by
  unfold mo_nightsGo_b12
  refine im_iload_n (pc := 12) dX6_nightsGo_12 rfl rfl ?_
  refine im_iload_n (pc := 13) dX6_nightsGo_13 rfl rfl ?_
  refine im_icmp_ge (pc := 14) (tgt := 91) dX6_nightsGo_14 (by decide) ?_ ?_
  · exact Im.outS (im_vret (pc := 91) dX6_nightsGo_91)
  · refine im_aload_n (pc := 17) dX6_nightsGo_17 rfl rfl ?_
    refine im_gr (pc := 18) fl_X6_7 dX6_nightsGo_18 fun r51 => ?_
    refine im_bipush (pc := 21) (v := 64) dX6_nightsGo_21 (by decide) ?_
    refine im_iald (pc := 23) dX6_nightsGo_23 fun x52 => ?_
    refine im_sipush (pc := 24) (v := 9999) dX6_nightsGo_24 (by decide) ?_
    refine im_icmp_ge (pc := 27) (tgt := 91) dX6_nightsGo_27 (by decide) ?_ ?_
    · exact Im.outS (im_vret (pc := 91) dX6_nightsGo_91)
    · refine im_iconst (pc := 30) (v := 0) dX6_nightsGo_30 (by decide) ?_
      refine im_istore_n (pc := 31) (lv' := [some (.inr v0), some (.inl v1), some (.inl v2), some (.inl 0)]) dX6_nightsGo_31 rfl (by decide) rfl ?_
      exact Im.drop [true, true, true, true] rfl (mo_nightsGo_L32_ok X v0 v1 v2 0 h)
theorem mo_nightsGo_L12_ok (X : CT) (v0 : Option Nat) (v1 : Int32) (v2 : Int32) (h : PH) : Im X (cX6_nightsGo, 4, RX6, "nightsGo", none, 8) 12 [some (.inr v0), some (.inl v1), some (.inl v2), none] [] h (mo_nightsGo_L12 v0 v1 v2 h) szV (kV X) := by
  unfold mo_nightsGo_L12
  exact Im.iter (lv := (fun s : Int32 × PH => [some (.inr v0), some (.inl v1), some (.inl s.1), none])) (hp := (fun s : Int32 × PH => s.2)) (fun s => mo_nightsGo_b12_ok X v0 v1 s.1 s.2) _ rfl rfl
noncomputable def mo_nightsGo_0 (v0 : Option Nat) (v1 : Int32) (h : PH) : Option (PH) :=
  (pf [5] 36 v0 (.inl 0) h).bind fun h51 =>
  (pf [5] 37 v0 (.inl 0) h51).bind fun h52 =>
  mo_nightsGo_L12 v0 v1 0 h52
theorem mo_nightsGo_0_ok (X : CT) (v0 : Option Nat) (v1 : Int32) (h : PH) : Im X (cX6_nightsGo, 4, RX6, "nightsGo", none, 8) 0 [some (.inr v0), some (.inl v1), none, none] [] h (mo_nightsGo_0 v0 v1 h) szV (kV X) := by
  unfold mo_nightsGo_0
  refine im_aload_n (pc := 0) dX6_nightsGo_0 rfl rfl ?_
  refine im_iconst (pc := 1) (v := 0) dX6_nightsGo_1 (by decide) ?_
  refine im_pf (pc := 2) fp_X6_300 (okT_i _) dX6_nightsGo_2 fun h51 => ?_
  refine im_aload_n (pc := 5) dX6_nightsGo_5 rfl rfl ?_
  refine im_iconst (pc := 6) (v := 0) dX6_nightsGo_6 (by decide) ?_
  refine im_pf (pc := 7) fp_X6_291 (okT_i _) dX6_nightsGo_7 fun h52 => ?_
  refine im_iconst (pc := 10) (v := 0) dX6_nightsGo_10 (by decide) ?_
  refine im_istore_n (pc := 11) (lv' := [some (.inr v0), some (.inl v1), some (.inl 0), none]) dX6_nightsGo_11 rfl (by decide) rfl ?_
  exact Im.drop [true, true, true, false] rfl (mo_nightsGo_L12_ok X v0 v1 0 h52)
noncomputable def mo_nightsGo (a0 : Option Nat) (a1 : Int32) (h : PH) : Option (PH) := grd (isC [5] a0 h) (mo_nightsGo_0 a0 a1 h)
theorem mo_nightsGo_im : IM_X6_nightsGo mo_nightsGo 8 := by
  intro a0 a1 h h' e
  obtain ⟨e1, e2⟩ := grd_some e
  exact ⟨e1, SpV.of (k := 2) (plainFor_of_name (by decide)) rfl (fun X => Im.drop [true, true, false, false] rfl (mo_nightsGo_0_ok X a0 a1 h)) e2⟩
theorem cl_X6_316 {X : CT} {cc : ByteArray} {nL : Nat} {mn : String} {ret : Option FieldType} {d d0 : Nat} {τ : Type} {pc : Nat} {lv : List (Option PV)} {st : List PV} {h : PH} {sz : τ → Nat × Nat} {K : τ → Prop} {f : Option Nat → Int32 → PH → Option (PH)} (HR : IM_X6_nightsGo f d0) {a0 : Option Nat} {a1 : Int32} {g : PH → Option τ} (hd : d0 + 1 ≤ d) (hdg : decode cc pc = .ok (.invokevirtual 316, 3)) (hst : st.length ≤ 8) (kk : ∀ h', Im X (cc, nL, RX6, mn, ret, d) (pc + 3) lv st h' (g h') sz K) : Im X (cc, nL, RX6, mn, ret, d) pc lv (.inl a1 :: .inr a0 :: st) h ((f a0 a1 h).bind g) sz K := by
  refine im_cV (y := yX6_nightsGo) (cY := cX6_nightsGo) (nY := 4) (rY := none) (d' := d0) (av := [.inr a0, .inl a1]) (fun h' e hX => ?_) (fun h' e => (HR _ _ _ _ e).2) hd (by decide) hst rfl kk
  obtain ⟨a, c, fs, rfl, ec, hm⟩ := isC_some (HR _ _ _ _ e).1
  cases List.mem_singleton.mp hm
  exact cal_V (n := 1) hX (lw_V q1482 q1484 qs73 q112 q1485) (by decide +kernel) rfl rfl ec hdg

def IM_X6_nights (f : Option Nat → Int32 → PH → Option (Int32 × PH)) (d : Nat) : Prop := ∀ (a0 : Option Nat) (a1 : Int32) (h : PH) (r : Int32) (h' : PH), f a0 a1 h = some (r, h') → isC [5] a0 h = true ∧ SpI yX6_nights cX6_nights 2 (some .int) d [.inr a0, .inl a1] h r h'
noncomputable def mo_nights_0 (v0 : Option Nat) (v1 : Int32) (h : PH) : Option (Int32 × PH) :=
  (mo_in v1 1 240 h).bind fun x51 =>
  (if x51 = 0 then
  some (((-1), h))
  else
  (mo_nightsGo v0 v1 h).bind fun h52 =>
  (gfi [5] 36 v0 h52).bind fun x53 =>
  some ((x53, h52)))
theorem mo_nights_0_ok (X : CT) (v0 : Option Nat) (v1 : Int32) (h : PH) : Im X (cX6_nights, 2, RX6, "nights", (some .int), 9) 0 [some (.inr v0), some (.inl v1)] [] h (mo_nights_0 v0 v1 h) szI (kI X) := by
  unfold mo_nights_0
  refine im_iload_n (pc := 0) dX6_nights_0 rfl rfl ?_
  refine im_iconst (pc := 1) (v := 1) dX6_nights_1 (by decide) ?_
  refine im_sipush (pc := 2) (v := 240) dX6_nights_2 (by decide) ?_
  refine cl_X6_104 mo_in_im (pc := 5) (by decide) dX6_nights_5 (Nat.le_of_ble_eq_true rfl) fun x51 => ?_
  refine im_if_ne (pc := 8) (tgt := 13) dX6_nights_8 (by decide) ?_ ?_
  · refine im_aload_n (pc := 13) dX6_nights_13 rfl rfl ?_
    refine im_iload_n (pc := 14) dX6_nights_14 rfl rfl ?_
    refine cl_X6_316 mo_nightsGo_im (pc := 15) (by decide) dX6_nights_15 (Nat.le_of_ble_eq_true rfl) fun h52 => ?_
    refine im_aload_n (pc := 18) dX6_nights_18 rfl rfl ?_
    refine im_gi (pc := 19) fl_X6_300 dX6_nights_19 fun x53 => ?_
    exact im_iret (pc := 22) dX6_nights_22
  · refine im_iconst (pc := 11) (v := (-1)) dX6_nights_11 (by decide) ?_
    exact im_iret (pc := 12) dX6_nights_12
noncomputable def mo_nights (a0 : Option Nat) (a1 : Int32) (h : PH) : Option (Int32 × PH) := grd (isC [5] a0 h) (mo_nights_0 a0 a1 h)
theorem mo_nights_im : IM_X6_nights mo_nights 9 := by
  intro a0 a1 h r h' e
  obtain ⟨e1, e2⟩ := grd_some e
  exact ⟨e1, SpI.of (k := 0) (plainFor_of_name (by decide)) rfl (fun X => Im.drop [true, true] rfl (mo_nights_0_ok X a0 a1 h)) e2⟩
def IM_X6_moodless (f : Option Nat → PH → Option (Int32)) (d : Nat) : Prop := ∀ (a0 : Option Nat) (h : PH) (r : Int32), f a0 h = some r → isC [5] a0 h = true ∧ SpI yX6_moodless cX6_moodless 3 (some .int) d [.inr a0] h r h
noncomputable def mo_moodless_b4 (v0 : Option Nat) (v1 : Int32) (v2 : Int32) (h : PH) : Option ((Int32 × Int32) ⊕ (Int32)) :=
  (if 16 ≤ v2 then
  some (.inr v1)
  else
  (mo_isLaid v0 v2 h).bind fun x51 =>
  (if x51 = 0 then
  some (.inl (v1, (v2 + 1)))
  else
  (gfr [5] 0 v0 h).bind fun r52 =>
  (ald 0 r52 (32 + v2) h).bind fun x53 =>
  (if x53 = 0 then
  some (.inl ((v1 + 1), (v2 + 1)))
  else
  some (.inl (v1, (v2 + 1))))))
noncomputable def mo_moodless_L4 (v0 : Option Nat) (v1 : Int32) (v2 : Int32) (h : PH) : Option (Int32) :=
  iter (fun s : Int32 × Int32 => mo_moodless_b4 v0 s.1 s.2 h) (v1, v2)
theorem mo_moodless_b4_ok (X : CT) (v0 : Option Nat) (v1 : Int32) (v2 : Int32) (h : PH) : Im X (cX6_moodless, 3, RX6, "moodless", (some .int), 2) 4 [some (.inr v0), some (.inl v1), some (.inl v2)] [] h (mo_moodless_b4 v0 v1 v2 h) (ez (fun s : Int32 × Int32 => h) (szP h)) (ek X 4 (fun s : Int32 × Int32 => [some (.inr v0), some (.inl s.1), some (.inl s.2)]) (fun s : Int32 × Int32 => h) (kP X h)) := by
  unfold mo_moodless_b4
  refine im_iload_n (pc := 4) dX6_moodless_4 rfl rfl ?_
  refine im_bipush (pc := 5) (v := 16) dX6_moodless_5 (by decide) ?_
  refine im_icmp_ge (pc := 7) (tgt := 40) dX6_moodless_7 (by decide) ?_ ?_
  · refine im_iload_n (pc := 40) dX6_moodless_40 rfl rfl ?_
    exact Im.outS (im_iretP (pc := 41) dX6_moodless_41)
  · refine im_aload_n (pc := 10) dX6_moodless_10 rfl rfl ?_
    refine im_iload_n (pc := 11) dX6_moodless_11 rfl rfl ?_
    refine cl_X6_112 mo_isLaid_im (pc := 12) (by decide) dX6_moodless_12 (Nat.le_of_ble_eq_true rfl) fun x51 => ?_
    refine im_if_eq (pc := 15) (tgt := 34) dX6_moodless_15 (by decide) ?_ ?_
    · refine im_iinc (pc := 34) (v := (v2 + 1)) (lv' := [some (.inr v0), some (.inl v1), some (.inl (v2 + 1))]) dX6_moodless_34 rfl rfl (by decide) rfl ?_
      refine im_goto (pc := 37) (tgt := 4) dX6_moodless_37 (by decide) ?_
      exact Im.back [true, true, true] rfl rfl
    · refine im_aload_n (pc := 18) dX6_moodless_18 rfl rfl ?_
      refine im_gr (pc := 19) fl_X6_7 dX6_moodless_19 fun r52 => ?_
      refine im_bipush (pc := 22) (v := 32) dX6_moodless_22 (by decide) ?_
      refine im_iload_n (pc := 24) dX6_moodless_24 rfl rfl ?_
      refine im_iadd (pc := 25) dX6_moodless_25 ?_
      refine im_iald (pc := 26) dX6_moodless_26 fun x53 => ?_
      refine im_if_ne (pc := 27) (tgt := 34) dX6_moodless_27 (by decide) ?_ ?_
      · refine im_iinc (pc := 34) (v := (v2 + 1)) (lv' := [some (.inr v0), some (.inl v1), some (.inl (v2 + 1))]) dX6_moodless_34 rfl rfl (by decide) rfl ?_
        refine im_goto (pc := 37) (tgt := 4) dX6_moodless_37 (by decide) ?_
        exact Im.back [true, true, true] rfl rfl
      · refine im_iload_n (pc := 30) dX6_moodless_30 rfl rfl ?_
        refine im_iconst (pc := 31) (v := 1) dX6_moodless_31 (by decide) ?_
        refine im_iadd (pc := 32) dX6_moodless_32 ?_
        refine im_istore_n (pc := 33) (lv' := [some (.inr v0), some (.inl (v1 + 1)), some (.inl v2)]) dX6_moodless_33 rfl (by decide) rfl ?_
        refine im_iinc (pc := 34) (v := (v2 + 1)) (lv' := [some (.inr v0), some (.inl (v1 + 1)), some (.inl (v2 + 1))]) dX6_moodless_34 rfl rfl (by decide) rfl ?_
        refine im_goto (pc := 37) (tgt := 4) dX6_moodless_37 (by decide) ?_
        exact Im.back [true, true, true] rfl rfl
theorem mo_moodless_L4_ok (X : CT) (v0 : Option Nat) (v1 : Int32) (v2 : Int32) (h : PH) : Im X (cX6_moodless, 3, RX6, "moodless", (some .int), 2) 4 [some (.inr v0), some (.inl v1), some (.inl v2)] [] h (mo_moodless_L4 v0 v1 v2 h) (szP h) (kP X h) := by
  unfold mo_moodless_L4
  exact Im.iter (lv := (fun s : Int32 × Int32 => [some (.inr v0), some (.inl s.1), some (.inl s.2)])) (hp := (fun s : Int32 × Int32 => h)) (fun s => mo_moodless_b4_ok X v0 s.1 s.2 h) _ rfl rfl
noncomputable def mo_moodless_0 (v0 : Option Nat) (h : PH) : Option (Int32) :=
  mo_moodless_L4 v0 0 0 h
theorem mo_moodless_0_ok (X : CT) (v0 : Option Nat) (h : PH) : Im X (cX6_moodless, 3, RX6, "moodless", (some .int), 2) 0 [some (.inr v0), none, none] [] h (mo_moodless_0 v0 h) (szP h) (kP X h) := by
  unfold mo_moodless_0
  refine im_iconst (pc := 0) (v := 0) dX6_moodless_0 (by decide) ?_
  refine im_istore_n (pc := 1) (lv' := [some (.inr v0), some (.inl 0), none]) dX6_moodless_1 rfl (by decide) rfl ?_
  refine im_iconst (pc := 2) (v := 0) dX6_moodless_2 (by decide) ?_
  refine im_istore_n (pc := 3) (lv' := [some (.inr v0), some (.inl 0), some (.inl 0)]) dX6_moodless_3 rfl (by decide) rfl ?_
  exact Im.drop [true, true, true] rfl (mo_moodless_L4_ok X v0 0 0 h)
noncomputable def mo_moodless (a0 : Option Nat) (h : PH) : Option (Int32) := grd (isC [5] a0 h) (mo_moodless_0 a0 h)
theorem mo_moodless_im : IM_X6_moodless mo_moodless 2 := by
  intro a0 h r e
  obtain ⟨e1, e2⟩ := grd_some e
  exact ⟨e1, SpI.ofP (k := 2) (plainFor_of_name (by decide)) rfl (fun X => Im.drop [true, false, false] rfl (mo_moodless_0_ok X a0 h)) e2⟩
theorem cl_X6_319 {X : CT} {cc : ByteArray} {nL : Nat} {mn : String} {ret : Option FieldType} {d d0 : Nat} {τ : Type} {pc : Nat} {lv : List (Option PV)} {st : List PV} {h : PH} {sz : τ → Nat × Nat} {K : τ → Prop} {f : Option Nat → PH → Option (Int32)} (HR : IM_X6_moodless f d0) {a0 : Option Nat} {g : Int32 → Option τ} (hd : d0 + 1 ≤ d) (hdg : decode cc pc = .ok (.invokevirtual 319, 3)) (hst : st.length ≤ 8) (kk : ∀ r, Im X (cc, nL, RX6, mn, ret, d) (pc + 3) lv (.inl r :: st) h (g r) sz K) : Im X (cc, nL, RX6, mn, ret, d) pc lv (.inr a0 :: st) h ((f a0 h).bind g) sz K := by
  refine im_cP (y := yX6_moodless) (cY := cX6_moodless) (nY := 3) (rY := (some .int)) (d' := d0) (av := [.inr a0]) (fun r e hX => ?_) (fun r e => (HR _ _ _ e).2) hd (by decide) hst rfl kk
  obtain ⟨a, c, fs, rfl, ec, hm⟩ := isC_some (HR _ _ _ e).1
  cases List.mem_singleton.mp hm
  exact cal_V (n := 0) hX (lw_V q1552 q1554 qs84 q112 q1555) (by decide +kernel) rfl rfl ec hdg

def IM_X6_tried (f : Option Nat → Int32 → Int32 → PH → Option (Int32 × PH)) (d : Nat) : Prop := ∀ (a0 : Option Nat) (a1 : Int32) (a2 : Int32) (h : PH) (r : Int32) (h' : PH), f a0 a1 a2 h = some (r, h') → isC [5] a0 h = true ∧ SpI yX6_tried cX6_tried 4 (some .int) d [.inr a0, .inl a1, .inl a2] h r h'
noncomputable def mo_tried_149 (v0 : Option Nat) (v3 : Int32) (h : PH) : Option (Int32 × PH) :=
  (gfr [5] 1 v0 h).bind fun r51 =>
  (gfr [5] 0 v0 h).bind fun r52 =>
  (mo_copies r51 r52 h).bind fun h53 =>
  some ((v3, h53))
theorem mo_tried_149_ok (X : CT) (v0 : Option Nat) (v3 : Int32) (h : PH) : Im X (cX6_tried, 4, RX6, "tried", (some .int), 9) 149 [some (.inr v0), none, none, some (.inl v3)] [] h (mo_tried_149 v0 v3 h) szI (kI X) := by
  unfold mo_tried_149
  refine im_aload_n (pc := 149) dX6_tried_149 rfl rfl ?_
  refine im_gr (pc := 150) fl_X6_13 dX6_tried_150 fun r51 => ?_
  refine im_aload_n (pc := 153) dX6_tried_153 rfl rfl ?_
  refine im_gr (pc := 154) fl_X6_7 dX6_tried_154 fun r52 => ?_
  refine cl_X6_266 mo_copies_im (pc := 157) (by decide) dX6_tried_157 (Nat.le_of_ble_eq_true rfl) fun h53 => ?_
  refine im_iload_n (pc := 160) dX6_tried_160 rfl rfl ?_
  exact im_iret (pc := 161) dX6_tried_161
noncomputable def mo_tried_44 (v0 : Option Nat) (v1 : Int32) (v2 : Int32) (h : PH) : Option (Int32 × PH) :=
  (gfr [5] 0 v0 h).bind fun r51 =>
  (gfr [5] 1 v0 h).bind fun r52 =>
  (mo_copies r51 r52 h).bind fun h53 =>
  (mo_nightsGo v0 v1 h53).bind fun h54 =>
  (if v2 = 0 then
  (gfi [5] 36 v0 h54).bind fun x60 =>
  mo_tried_149 v0 x60 h54
  else
  (if v2 = 1 then
  (gfi [5] 37 v0 h54).bind fun x61 =>
  mo_tried_149 v0 x61 h54
  else
  (if v2 = 2 then
  (mo_moodless v0 h54).bind fun x62 =>
  mo_tried_149 v0 x62 h54
  else
  (if 30 ≤ v2 then
  (gfr [5] 0 v0 h54).bind fun r55 =>
  (ald 0 r55 ((16 + v2) - 30) h54).bind fun x56 =>
  (mo_bits x56 h54).bind fun x57 =>
  mo_tried_149 v0 x57 h54
  else
  (gfr [5] 0 v0 h54).bind fun r58 =>
  (ald 0 r58 ((32 + v2) - 10) h54).bind fun x59 =>
  mo_tried_149 v0 x59 h54))))
theorem mo_tried_44_ok (X : CT) (v0 : Option Nat) (v1 : Int32) (v2 : Int32) (h : PH) : Im X (cX6_tried, 4, RX6, "tried", (some .int), 9) 44 [some (.inr v0), some (.inl v1), some (.inl v2), none] [] h (mo_tried_44 v0 v1 v2 h) szI (kI X) := by
  unfold mo_tried_44
  refine im_aload_n (pc := 44) dX6_tried_44 rfl rfl ?_
  refine im_gr (pc := 45) fl_X6_7 dX6_tried_45 fun r51 => ?_
  refine im_aload_n (pc := 48) dX6_tried_48 rfl rfl ?_
  refine im_gr (pc := 49) fl_X6_13 dX6_tried_49 fun r52 => ?_
  refine cl_X6_266 mo_copies_im (pc := 52) (by decide) dX6_tried_52 (Nat.le_of_ble_eq_true rfl) fun h53 => ?_
  refine im_aload_n (pc := 55) dX6_tried_55 rfl rfl ?_
  refine im_iload_n (pc := 56) dX6_tried_56 rfl rfl ?_
  refine cl_X6_316 mo_nightsGo_im (pc := 57) (by decide) dX6_tried_57 (Nat.le_of_ble_eq_true rfl) fun h54 => ?_
  refine im_iload_n (pc := 60) dX6_tried_60 rfl rfl ?_
  refine im_tsw (pc := 61) (dt := 112) [(0, 88), (1, 96), (2, 104)] dX6_tried_61 (by decide) ⟨_, _, rfl, ?_, ⟨_, _, rfl, ?_, ⟨_, _, rfl, ?_, ?_⟩⟩⟩
  · refine im_aload_n (pc := 88) dX6_tried_88 rfl rfl ?_
    refine im_gi (pc := 89) fl_X6_300 dX6_tried_89 fun x60 => ?_
    refine im_istore_n (pc := 92) (lv' := [some (.inr v0), some (.inl v1), some (.inl v2), some (.inl x60)]) dX6_tried_92 rfl (by decide) rfl ?_
    refine im_goto (pc := 93) (tgt := 149) dX6_tried_93 (by decide) ?_
    exact Im.drop [true, false, false, true] rfl (mo_tried_149_ok X v0 x60 h54)
  · refine im_aload_n (pc := 96) dX6_tried_96 rfl rfl ?_
    refine im_gi (pc := 97) fl_X6_291 dX6_tried_97 fun x61 => ?_
    refine im_istore_n (pc := 100) (lv' := [some (.inr v0), some (.inl v1), some (.inl v2), some (.inl x61)]) dX6_tried_100 rfl (by decide) rfl ?_
    refine im_goto (pc := 101) (tgt := 149) dX6_tried_101 (by decide) ?_
    exact Im.drop [true, false, false, true] rfl (mo_tried_149_ok X v0 x61 h54)
  · refine im_aload_n (pc := 104) dX6_tried_104 rfl rfl ?_
    refine cl_X6_319 mo_moodless_im (pc := 105) (by decide) dX6_tried_105 (Nat.le_of_ble_eq_true rfl) fun x62 => ?_
    refine im_istore_n (pc := 108) (lv' := [some (.inr v0), some (.inl v1), some (.inl v2), some (.inl x62)]) dX6_tried_108 rfl (by decide) rfl ?_
    refine im_goto (pc := 109) (tgt := 149) dX6_tried_109 (by decide) ?_
    exact Im.drop [true, false, false, true] rfl (mo_tried_149_ok X v0 x62 h54)
  · refine im_iload_n (pc := 112) dX6_tried_112 rfl rfl ?_
    refine im_bipush (pc := 113) (v := 30) dX6_tried_113 (by decide) ?_
    refine im_icmp_ge (pc := 115) (tgt := 133) dX6_tried_115 (by decide) ?_ ?_
    · refine im_aload_n (pc := 133) dX6_tried_133 rfl rfl ?_
      refine im_gr (pc := 134) fl_X6_7 dX6_tried_134 fun r55 => ?_
      refine im_bipush (pc := 137) (v := 16) dX6_tried_137 (by decide) ?_
      refine im_iload_n (pc := 139) dX6_tried_139 rfl rfl ?_
      refine im_iadd (pc := 140) dX6_tried_140 ?_
      refine im_bipush (pc := 141) (v := 30) dX6_tried_141 (by decide) ?_
      refine im_isub (pc := 143) dX6_tried_143 ?_
      refine im_iald (pc := 144) dX6_tried_144 fun x56 => ?_
      refine cl_X6_126 mo_bits_im (pc := 145) (by decide) dX6_tried_145 (Nat.le_of_ble_eq_true rfl) fun x57 => ?_
      refine im_istore_n (pc := 148) (lv' := [some (.inr v0), some (.inl v1), some (.inl v2), some (.inl x57)]) dX6_tried_148 rfl (by decide) rfl ?_
      exact Im.drop [true, false, false, true] rfl (mo_tried_149_ok X v0 x57 h54)
    · refine im_aload_n (pc := 118) dX6_tried_118 rfl rfl ?_
      refine im_gr (pc := 119) fl_X6_7 dX6_tried_119 fun r58 => ?_
      refine im_bipush (pc := 122) (v := 32) dX6_tried_122 (by decide) ?_
      refine im_iload_n (pc := 124) dX6_tried_124 rfl rfl ?_
      refine im_iadd (pc := 125) dX6_tried_125 ?_
      refine im_bipush (pc := 126) (v := 10) dX6_tried_126 (by decide) ?_
      refine im_isub (pc := 128) dX6_tried_128 ?_
      refine im_iald (pc := 129) dX6_tried_129 fun x59 => ?_
      refine im_goto (pc := 130) (tgt := 148) dX6_tried_130 (by decide) ?_
      refine im_istore_n (pc := 148) (lv' := [some (.inr v0), some (.inl v1), some (.inl v2), some (.inl x59)]) dX6_tried_148 rfl (by decide) rfl ?_
      exact Im.drop [true, false, false, true] rfl (mo_tried_149_ok X v0 x59 h54)
noncomputable def mo_tried_0 (v0 : Option Nat) (v1 : Int32) (v2 : Int32) (h : PH) : Option (Int32 × PH) :=
  (mo_in v1 1 240 h).bind fun x51 =>
  (if x51 = 0 then
  some (((-1), h))
  else
  (mo_in v2 0 2 h).bind fun x52 =>
  (if x52 = 0 then
  (mo_isTold v0 (v2 - 10) h).bind fun x53 =>
  (if x53 = 0 then
  (mo_isTold v0 (v2 - 30) h).bind fun x54 =>
  (if x54 = 0 then
  some (((-1), h))
  else
  mo_tried_44 v0 v1 v2 h)
  else
  mo_tried_44 v0 v1 v2 h)
  else
  mo_tried_44 v0 v1 v2 h))
theorem mo_tried_0_ok (X : CT) (v0 : Option Nat) (v1 : Int32) (v2 : Int32) (h : PH) : Im X (cX6_tried, 4, RX6, "tried", (some .int), 9) 0 [some (.inr v0), some (.inl v1), some (.inl v2), none] [] h (mo_tried_0 v0 v1 v2 h) szI (kI X) := by
  unfold mo_tried_0
  refine im_iload_n (pc := 0) dX6_tried_0 rfl rfl ?_
  refine im_iconst (pc := 1) (v := 1) dX6_tried_1 (by decide) ?_
  refine im_sipush (pc := 2) (v := 240) dX6_tried_2 (by decide) ?_
  refine cl_X6_104 mo_in_im (pc := 5) (by decide) dX6_tried_5 (Nat.le_of_ble_eq_true rfl) fun x51 => ?_
  refine im_if_eq (pc := 8) (tgt := 42) dX6_tried_8 (by decide) ?_ ?_
  · refine im_iconst (pc := 42) (v := (-1)) dX6_tried_42 (by decide) ?_
    exact im_iret (pc := 43) dX6_tried_43
  · refine im_iload_n (pc := 11) dX6_tried_11 rfl rfl ?_
    refine im_iconst (pc := 12) (v := 0) dX6_tried_12 (by decide) ?_
    refine im_iconst (pc := 13) (v := 2) dX6_tried_13 (by decide) ?_
    refine cl_X6_104 mo_in_im (pc := 14) (by decide) dX6_tried_14 (Nat.le_of_ble_eq_true rfl) fun x52 => ?_
    refine im_if_ne (pc := 17) (tgt := 44) dX6_tried_17 (by decide) ?_ ?_
    · exact Im.drop [true, true, true, false] rfl (mo_tried_44_ok X v0 v1 v2 h)
    · refine im_aload_n (pc := 20) dX6_tried_20 rfl rfl ?_
      refine im_iload_n (pc := 21) dX6_tried_21 rfl rfl ?_
      refine im_bipush (pc := 22) (v := 10) dX6_tried_22 (by decide) ?_
      refine im_isub (pc := 24) dX6_tried_24 ?_
      refine cl_X6_108 mo_isTold_im (pc := 25) (by decide) dX6_tried_25 (Nat.le_of_ble_eq_true rfl) fun x53 => ?_
      refine im_if_ne (pc := 28) (tgt := 44) dX6_tried_28 (by decide) ?_ ?_
      · exact Im.drop [true, true, true, false] rfl (mo_tried_44_ok X v0 v1 v2 h)
      · refine im_aload_n (pc := 31) dX6_tried_31 rfl rfl ?_
        refine im_iload_n (pc := 32) dX6_tried_32 rfl rfl ?_
        refine im_bipush (pc := 33) (v := 30) dX6_tried_33 (by decide) ?_
        refine im_isub (pc := 35) dX6_tried_35 ?_
        refine cl_X6_108 mo_isTold_im (pc := 36) (by decide) dX6_tried_36 (Nat.le_of_ble_eq_true rfl) fun x54 => ?_
        refine im_if_ne (pc := 39) (tgt := 44) dX6_tried_39 (by decide) ?_ ?_
        · exact Im.drop [true, true, true, false] rfl (mo_tried_44_ok X v0 v1 v2 h)
        · refine im_iconst (pc := 42) (v := (-1)) dX6_tried_42 (by decide) ?_
          exact im_iret (pc := 43) dX6_tried_43
noncomputable def mo_tried (a0 : Option Nat) (a1 : Int32) (a2 : Int32) (h : PH) : Option (Int32 × PH) := grd (isC [5] a0 h) (mo_tried_0 a0 a1 a2 h)
theorem mo_tried_im : IM_X6_tried mo_tried 9 := by
  intro a0 a1 a2 h r h' e
  obtain ⟨e1, e2⟩ := grd_some e
  exact ⟨e1, SpI.of (k := 1) (plainFor_of_name (by decide)) rfl (fun X => Im.drop [true, true, true, false] rfl (mo_tried_0_ok X a0 a1 a2 h)) e2⟩
def IM_X6_rankOf (f : Option Nat → Int32 → PH → Option (Int32)) (d : Nat) : Prop := ∀ (a0 : Option Nat) (a1 : Int32) (h : PH) (r : Int32), f a0 a1 h = some r → isC [5] a0 h = true ∧ SpI yX6_rankOf cX6_rankOf 4 (some .int) d [.inr a0, .inl a1] h r h
noncomputable def mo_rankOf_b4 (v0 : Option Nat) (v1 : Int32) (v2 : Int32) (v3 : Int32) (h : PH) : Option ((Int32 × Int32) ⊕ (Int32)) :=
  (if 16 ≤ v3 then
  some (.inr v2)
  else
  (mo_isTold v0 v3 h).bind fun x51 =>
  (if x51 = 0 then
  some (.inl (v2, (v3 + 1)))
  else
  (gfr [5] 0 v0 h).bind fun r52 =>
  (ald 0 r52 (32 + v3) h).bind fun x53 =>
  (gfr [5] 0 v0 h).bind fun r54 =>
  (ald 0 r54 (32 + v1) h).bind fun x55 =>
  (if x55 < x53 then
  some (.inl ((v2 + 1), (v3 + 1)))
  else
  (gfr [5] 0 v0 h).bind fun r56 =>
  (ald 0 r56 (32 + v3) h).bind fun x57 =>
  (gfr [5] 0 v0 h).bind fun r58 =>
  (ald 0 r58 (32 + v1) h).bind fun x59 =>
  (if x57 = x59 then
  (if v1 ≤ v3 then
  some (.inl (v2, (v3 + 1)))
  else
  some (.inl ((v2 + 1), (v3 + 1))))
  else
  some (.inl (v2, (v3 + 1)))))))
noncomputable def mo_rankOf_L4 (v0 : Option Nat) (v1 : Int32) (v2 : Int32) (v3 : Int32) (h : PH) : Option (Int32) :=
  iter (fun s : Int32 × Int32 => mo_rankOf_b4 v0 v1 s.1 s.2 h) (v2, v3)
theorem mo_rankOf_b4_ok (X : CT) (v0 : Option Nat) (v1 : Int32) (v2 : Int32) (v3 : Int32) (h : PH) : Im X (cX6_rankOf, 4, RX6, "rankOf", (some .int), 3) 4 [some (.inr v0), some (.inl v1), some (.inl v2), some (.inl v3)] [] h (mo_rankOf_b4 v0 v1 v2 v3 h) (ez (fun s : Int32 × Int32 => h) (szP h)) (ek X 4 (fun s : Int32 × Int32 => [some (.inr v0), some (.inl v1), some (.inl s.1), some (.inl s.2)]) (fun s : Int32 × Int32 => h) (kP X h)) := by
  unfold mo_rankOf_b4
  refine im_iload_n (pc := 4) dX6_rankOf_4 rfl rfl ?_
  refine im_bipush (pc := 5) (v := 16) dX6_rankOf_5 (by decide) ?_
  refine im_icmp_ge (pc := 7) (tgt := 75) dX6_rankOf_7 (by decide) ?_ ?_
  · refine im_iload_n (pc := 75) dX6_rankOf_75 rfl rfl ?_
    exact Im.outS (im_iretP (pc := 76) dX6_rankOf_76)
  · refine im_aload_n (pc := 10) dX6_rankOf_10 rfl rfl ?_
    refine im_iload_n (pc := 11) dX6_rankOf_11 rfl rfl ?_
    refine cl_X6_108 mo_isTold_im (pc := 12) (by decide) dX6_rankOf_12 (Nat.le_of_ble_eq_true rfl) fun x51 => ?_
    refine im_if_eq (pc := 15) (tgt := 69) dX6_rankOf_15 (by decide) ?_ ?_
    · refine im_iinc (pc := 69) (v := (v3 + 1)) (lv' := [some (.inr v0), some (.inl v1), some (.inl v2), some (.inl (v3 + 1))]) dX6_rankOf_69 rfl rfl (by decide) rfl ?_
      refine im_goto (pc := 72) (tgt := 4) dX6_rankOf_72 (by decide) ?_
      exact Im.back [true, true, true, true] rfl rfl
    · refine im_aload_n (pc := 18) dX6_rankOf_18 rfl rfl ?_
      refine im_gr (pc := 19) fl_X6_7 dX6_rankOf_19 fun r52 => ?_
      refine im_bipush (pc := 22) (v := 32) dX6_rankOf_22 (by decide) ?_
      refine im_iload_n (pc := 24) dX6_rankOf_24 rfl rfl ?_
      refine im_iadd (pc := 25) dX6_rankOf_25 ?_
      refine im_iald (pc := 26) dX6_rankOf_26 fun x53 => ?_
      refine im_aload_n (pc := 27) dX6_rankOf_27 rfl rfl ?_
      refine im_gr (pc := 28) fl_X6_7 dX6_rankOf_28 fun r54 => ?_
      refine im_bipush (pc := 31) (v := 32) dX6_rankOf_31 (by decide) ?_
      refine im_iload_n (pc := 33) dX6_rankOf_33 rfl rfl ?_
      refine im_iadd (pc := 34) dX6_rankOf_34 ?_
      refine im_iald (pc := 35) dX6_rankOf_35 fun x55 => ?_
      refine im_icmp_gt (pc := 36) (tgt := 65) dX6_rankOf_36 (by decide) ?_ ?_
      · refine im_iload_n (pc := 65) dX6_rankOf_65 rfl rfl ?_
        refine im_iconst (pc := 66) (v := 1) dX6_rankOf_66 (by decide) ?_
        refine im_iadd (pc := 67) dX6_rankOf_67 ?_
        refine im_istore_n (pc := 68) (lv' := [some (.inr v0), some (.inl v1), some (.inl (v2 + 1)), some (.inl v3)]) dX6_rankOf_68 rfl (by decide) rfl ?_
        refine im_iinc (pc := 69) (v := (v3 + 1)) (lv' := [some (.inr v0), some (.inl v1), some (.inl (v2 + 1)), some (.inl (v3 + 1))]) dX6_rankOf_69 rfl rfl (by decide) rfl ?_
        refine im_goto (pc := 72) (tgt := 4) dX6_rankOf_72 (by decide) ?_
        exact Im.back [true, true, true, true] rfl rfl
      · refine im_aload_n (pc := 39) dX6_rankOf_39 rfl rfl ?_
        refine im_gr (pc := 40) fl_X6_7 dX6_rankOf_40 fun r56 => ?_
        refine im_bipush (pc := 43) (v := 32) dX6_rankOf_43 (by decide) ?_
        refine im_iload_n (pc := 45) dX6_rankOf_45 rfl rfl ?_
        refine im_iadd (pc := 46) dX6_rankOf_46 ?_
        refine im_iald (pc := 47) dX6_rankOf_47 fun x57 => ?_
        refine im_aload_n (pc := 48) dX6_rankOf_48 rfl rfl ?_
        refine im_gr (pc := 49) fl_X6_7 dX6_rankOf_49 fun r58 => ?_
        refine im_bipush (pc := 52) (v := 32) dX6_rankOf_52 (by decide) ?_
        refine im_iload_n (pc := 54) dX6_rankOf_54 rfl rfl ?_
        refine im_iadd (pc := 55) dX6_rankOf_55 ?_
        refine im_iald (pc := 56) dX6_rankOf_56 fun x59 => ?_
        refine im_icmp_ne (pc := 57) (tgt := 69) dX6_rankOf_57 (by decide) ?_ ?_
        · refine im_iinc (pc := 69) (v := (v3 + 1)) (lv' := [some (.inr v0), some (.inl v1), some (.inl v2), some (.inl (v3 + 1))]) dX6_rankOf_69 rfl rfl (by decide) rfl ?_
          refine im_goto (pc := 72) (tgt := 4) dX6_rankOf_72 (by decide) ?_
          exact Im.back [true, true, true, true] rfl rfl
        · refine im_iload_n (pc := 60) dX6_rankOf_60 rfl rfl ?_
          refine im_iload_n (pc := 61) dX6_rankOf_61 rfl rfl ?_
          refine im_icmp_ge (pc := 62) (tgt := 69) dX6_rankOf_62 (by decide) ?_ ?_
          · refine im_iinc (pc := 69) (v := (v3 + 1)) (lv' := [some (.inr v0), some (.inl v1), some (.inl v2), some (.inl (v3 + 1))]) dX6_rankOf_69 rfl rfl (by decide) rfl ?_
            refine im_goto (pc := 72) (tgt := 4) dX6_rankOf_72 (by decide) ?_
            exact Im.back [true, true, true, true] rfl rfl
          · refine im_iload_n (pc := 65) dX6_rankOf_65 rfl rfl ?_
            refine im_iconst (pc := 66) (v := 1) dX6_rankOf_66 (by decide) ?_
            refine im_iadd (pc := 67) dX6_rankOf_67 ?_
            refine im_istore_n (pc := 68) (lv' := [some (.inr v0), some (.inl v1), some (.inl (v2 + 1)), some (.inl v3)]) dX6_rankOf_68 rfl (by decide) rfl ?_
            refine im_iinc (pc := 69) (v := (v3 + 1)) (lv' := [some (.inr v0), some (.inl v1), some (.inl (v2 + 1)), some (.inl (v3 + 1))]) dX6_rankOf_69 rfl rfl (by decide) rfl ?_
            refine im_goto (pc := 72) (tgt := 4) dX6_rankOf_72 (by decide) ?_
            exact Im.back [true, true, true, true] rfl rfl
theorem mo_rankOf_L4_ok (X : CT) (v0 : Option Nat) (v1 : Int32) (v2 : Int32) (v3 : Int32) (h : PH) : Im X (cX6_rankOf, 4, RX6, "rankOf", (some .int), 3) 4 [some (.inr v0), some (.inl v1), some (.inl v2), some (.inl v3)] [] h (mo_rankOf_L4 v0 v1 v2 v3 h) (szP h) (kP X h) := by
  unfold mo_rankOf_L4
  exact Im.iter (lv := (fun s : Int32 × Int32 => [some (.inr v0), some (.inl v1), some (.inl s.1), some (.inl s.2)])) (hp := (fun s : Int32 × Int32 => h)) (fun s => mo_rankOf_b4_ok X v0 v1 s.1 s.2 h) _ rfl rfl
noncomputable def mo_rankOf_0 (v0 : Option Nat) (v1 : Int32) (h : PH) : Option (Int32) :=
  mo_rankOf_L4 v0 v1 0 0 h
theorem mo_rankOf_0_ok (X : CT) (v0 : Option Nat) (v1 : Int32) (h : PH) : Im X (cX6_rankOf, 4, RX6, "rankOf", (some .int), 3) 0 [some (.inr v0), some (.inl v1), none, none] [] h (mo_rankOf_0 v0 v1 h) (szP h) (kP X h) := by
  unfold mo_rankOf_0
  refine im_iconst (pc := 0) (v := 0) dX6_rankOf_0 (by decide) ?_
  refine im_istore_n (pc := 1) (lv' := [some (.inr v0), some (.inl v1), some (.inl 0), none]) dX6_rankOf_1 rfl (by decide) rfl ?_
  refine im_iconst (pc := 2) (v := 0) dX6_rankOf_2 (by decide) ?_
  refine im_istore_n (pc := 3) (lv' := [some (.inr v0), some (.inl v1), some (.inl 0), some (.inl 0)]) dX6_rankOf_3 rfl (by decide) rfl ?_
  exact Im.drop [true, true, true, true] rfl (mo_rankOf_L4_ok X v0 v1 0 0 h)
noncomputable def mo_rankOf (a0 : Option Nat) (a1 : Int32) (h : PH) : Option (Int32) := grd (isC [5] a0 h) (mo_rankOf_0 a0 a1 h)
theorem mo_rankOf_im : IM_X6_rankOf mo_rankOf 3 := by
  intro a0 a1 h r e
  obtain ⟨e1, e2⟩ := grd_some e
  exact ⟨e1, SpI.ofP (k := 2) (plainFor_of_name (by decide)) rfl (fun X => Im.drop [true, true, false, false] rfl (mo_rankOf_0_ok X a0 a1 h)) e2⟩
theorem cl_X6_322 {X : CT} {cc : ByteArray} {nL : Nat} {mn : String} {ret : Option FieldType} {d d0 : Nat} {τ : Type} {pc : Nat} {lv : List (Option PV)} {st : List PV} {h : PH} {sz : τ → Nat × Nat} {K : τ → Prop} {f : Option Nat → Int32 → PH → Option (Int32)} (HR : IM_X6_rankOf f d0) {a0 : Option Nat} {a1 : Int32} {g : Int32 → Option τ} (hd : d0 + 1 ≤ d) (hdg : decode cc pc = .ok (.invokevirtual 322, 3)) (hst : st.length ≤ 8) (kk : ∀ r, Im X (cc, nL, RX6, mn, ret, d) (pc + 3) lv (.inl r :: st) h (g r) sz K) : Im X (cc, nL, RX6, mn, ret, d) pc lv (.inl a1 :: .inr a0 :: st) h ((f a0 a1 h).bind g) sz K := by
  refine im_cP (y := yX6_rankOf) (cY := cX6_rankOf) (nY := 4) (rY := (some .int)) (d' := d0) (av := [.inr a0, .inl a1]) (fun r e hX => ?_) (fun r e => (HR _ _ _ _ e).2) hd (by decide) hst rfl kk
  obtain ⟨a, c, fs, rfl, ec, hm⟩ := isC_some (HR _ _ _ _ e).1
  cases List.mem_singleton.mp hm
  exact cal_V (n := 1) hX (lw_V q1560 q1562 qs85 q112 q1563) (by decide +kernel) rfl rfl ec hdg

def IM_X6_personIs (f : Option Nat → Int32 → Int32 → PH → Option (Int32)) (d : Nat) : Prop := ∀ (a0 : Option Nat) (a1 : Int32) (a2 : Int32) (h : PH) (r : Int32), f a0 a1 a2 h = some r → isC [5] a0 h = true ∧ SpI yX6_personIs cX6_personIs 3 (some .int) d [.inr a0, .inl a1, .inl a2] h r h
noncomputable def mo_personIs_0 (v0 : Option Nat) (v1 : Int32) (v2 : Int32) (h : PH) : Option (Int32) :=
  (mo_isTold v0 v1 h).bind fun x51 =>
  (if x51 = 0 then
  some ((-1))
  else
  (if v2 = 0 then
  (gfr [5] 0 v0 h).bind fun r52 =>
  (ald 0 r52 (16 + v1) h).bind fun x53 =>
  some (x53)
  else
  (if v2 = 1 then
  (gfr [5] 0 v0 h).bind fun r54 =>
  (ald 0 r54 (32 + v1) h).bind fun x55 =>
  some (x55)
  else
  (if v2 = 2 then
  (gfr [5] 0 v0 h).bind fun r56 =>
  (ald 0 r56 (48 + v1) h).bind fun x57 =>
  some (x57)
  else
  (if v2 = 3 then
  (mo_besideSet v0 v1 h).bind fun x58 =>
  some (x58)
  else
  (if v2 = 4 then
  (mo_rankOf v0 v1 h).bind fun x59 =>
  some (x59)
  else
  some ((-1))))))))
theorem mo_personIs_0_ok (X : CT) (v0 : Option Nat) (v1 : Int32) (v2 : Int32) (h : PH) : Im X (cX6_personIs, 3, RX6, "personIs", (some .int), 5) 0 [some (.inr v0), some (.inl v1), some (.inl v2)] [] h (mo_personIs_0 v0 v1 v2 h) (szP h) (kP X h) := by
  unfold mo_personIs_0
  refine im_aload_n (pc := 0) dX6_personIs_0 rfl rfl ?_
  refine im_iload_n (pc := 1) dX6_personIs_1 rfl rfl ?_
  refine cl_X6_108 mo_isTold_im (pc := 2) (by decide) dX6_personIs_2 (Nat.le_of_ble_eq_true rfl) fun x51 => ?_
  refine im_if_ne (pc := 5) (tgt := 10) dX6_personIs_5 (by decide) ?_ ?_
  · refine im_iload_n (pc := 10) dX6_personIs_10 rfl rfl ?_
    refine im_tsw (pc := 11) (dt := 86) [(0, 44), (1, 54), (2, 64), (3, 74), (4, 80)] dX6_personIs_11 (by decide) ⟨_, _, rfl, ?_, ⟨_, _, rfl, ?_, ⟨_, _, rfl, ?_, ⟨_, _, rfl, ?_, ⟨_, _, rfl, ?_, ?_⟩⟩⟩⟩⟩
    · refine im_aload_n (pc := 44) dX6_personIs_44 rfl rfl ?_
      refine im_gr (pc := 45) fl_X6_7 dX6_personIs_45 fun r52 => ?_
      refine im_bipush (pc := 48) (v := 16) dX6_personIs_48 (by decide) ?_
      refine im_iload_n (pc := 50) dX6_personIs_50 rfl rfl ?_
      refine im_iadd (pc := 51) dX6_personIs_51 ?_
      refine im_iald (pc := 52) dX6_personIs_52 fun x53 => ?_
      exact im_iretP (pc := 53) dX6_personIs_53
    · refine im_aload_n (pc := 54) dX6_personIs_54 rfl rfl ?_
      refine im_gr (pc := 55) fl_X6_7 dX6_personIs_55 fun r54 => ?_
      refine im_bipush (pc := 58) (v := 32) dX6_personIs_58 (by decide) ?_
      refine im_iload_n (pc := 60) dX6_personIs_60 rfl rfl ?_
      refine im_iadd (pc := 61) dX6_personIs_61 ?_
      refine im_iald (pc := 62) dX6_personIs_62 fun x55 => ?_
      exact im_iretP (pc := 63) dX6_personIs_63
    · refine im_aload_n (pc := 64) dX6_personIs_64 rfl rfl ?_
      refine im_gr (pc := 65) fl_X6_7 dX6_personIs_65 fun r56 => ?_
      refine im_bipush (pc := 68) (v := 48) dX6_personIs_68 (by decide) ?_
      refine im_iload_n (pc := 70) dX6_personIs_70 rfl rfl ?_
      refine im_iadd (pc := 71) dX6_personIs_71 ?_
      refine im_iald (pc := 72) dX6_personIs_72 fun x57 => ?_
      exact im_iretP (pc := 73) dX6_personIs_73
    · refine im_aload_n (pc := 74) dX6_personIs_74 rfl rfl ?_
      refine im_iload_n (pc := 75) dX6_personIs_75 rfl rfl ?_
      refine cl_X6_244 mo_besideSet_im (pc := 76) (by decide) dX6_personIs_76 (Nat.le_of_ble_eq_true rfl) fun x58 => ?_
      exact im_iretP (pc := 79) dX6_personIs_79
    · refine im_aload_n (pc := 80) dX6_personIs_80 rfl rfl ?_
      refine im_iload_n (pc := 81) dX6_personIs_81 rfl rfl ?_
      refine cl_X6_322 mo_rankOf_im (pc := 82) (by decide) dX6_personIs_82 (Nat.le_of_ble_eq_true rfl) fun x59 => ?_
      exact im_iretP (pc := 85) dX6_personIs_85
    · refine im_iconst (pc := 86) (v := (-1)) dX6_personIs_86 (by decide) ?_
      exact im_iretP (pc := 87) dX6_personIs_87
  · refine im_iconst (pc := 8) (v := (-1)) dX6_personIs_8 (by decide) ?_
    exact im_iretP (pc := 9) dX6_personIs_9
noncomputable def mo_personIs (a0 : Option Nat) (a1 : Int32) (a2 : Int32) (h : PH) : Option (Int32) := grd (isC [5] a0 h) (mo_personIs_0 a0 a1 a2 h)
theorem mo_personIs_im : IM_X6_personIs mo_personIs 5 := by
  intro a0 a1 a2 h r e
  obtain ⟨e1, e2⟩ := grd_some e
  exact ⟨e1, SpI.ofP (k := 0) (plainFor_of_name (by decide)) rfl (fun X => Im.drop [true, true, true] rfl (mo_personIs_0_ok X a0 a1 a2 h)) e2⟩
def IM_X6_talkOf (f : Option Nat → Int32 → Int32 → PH → Option (Int32)) (d : Nat) : Prop := ∀ (a0 : Option Nat) (a1 : Int32) (a2 : Int32) (h : PH) (r : Int32), f a0 a1 a2 h = some r → isC [5] a0 h = true ∧ SpI yX6_talkOf cX6_talkOf 3 (some .int) d [.inr a0, .inl a1, .inl a2] h r h
noncomputable def mo_talkOf_0 (v0 : Option Nat) (v1 : Int32) (v2 : Int32) (h : PH) : Option (Int32) :=
  (mo_shared v0 v1 v2 h).bind fun x51 =>
  (gfr [5] 0 v0 h).bind fun r52 =>
  (ald 0 r52 (16 + v1) h).bind fun x53 =>
  (gfr [5] 0 v0 h).bind fun r54 =>
  (ald 0 r54 (16 + v2) h).bind fun x55 =>
  (mo_bits (x53 ^^^ x55) h).bind fun x56 =>
  some (((3 * x51) - x56))
theorem mo_talkOf_0_ok (X : CT) (v0 : Option Nat) (v1 : Int32) (v2 : Int32) (h : PH) : Im X (cX6_talkOf, 3, RX6, "talkOf", (some .int), 3) 0 [some (.inr v0), some (.inl v1), some (.inl v2)] [] h (mo_talkOf_0 v0 v1 v2 h) (szP h) (kP X h) := by
  unfold mo_talkOf_0
  refine im_iconst (pc := 0) (v := 3) dX6_talkOf_0 (by decide) ?_
  refine im_aload_n (pc := 1) dX6_talkOf_1 rfl rfl ?_
  refine im_iload_n (pc := 2) dX6_talkOf_2 rfl rfl ?_
  refine im_iload_n (pc := 3) dX6_talkOf_3 rfl rfl ?_
  refine cl_X6_129 mo_shared_im (pc := 4) (by decide) dX6_talkOf_4 (Nat.le_of_ble_eq_true rfl) fun x51 => ?_
  refine im_imul (pc := 7) dX6_talkOf_7 ?_
  refine im_aload_n (pc := 8) dX6_talkOf_8 rfl rfl ?_
  refine im_gr (pc := 9) fl_X6_7 dX6_talkOf_9 fun r52 => ?_
  refine im_bipush (pc := 12) (v := 16) dX6_talkOf_12 (by decide) ?_
  refine im_iload_n (pc := 14) dX6_talkOf_14 rfl rfl ?_
  refine im_iadd (pc := 15) dX6_talkOf_15 ?_
  refine im_iald (pc := 16) dX6_talkOf_16 fun x53 => ?_
  refine im_aload_n (pc := 17) dX6_talkOf_17 rfl rfl ?_
  refine im_gr (pc := 18) fl_X6_7 dX6_talkOf_18 fun r54 => ?_
  refine im_bipush (pc := 21) (v := 16) dX6_talkOf_21 (by decide) ?_
  refine im_iload_n (pc := 23) dX6_talkOf_23 rfl rfl ?_
  refine im_iadd (pc := 24) dX6_talkOf_24 ?_
  refine im_iald (pc := 25) dX6_talkOf_25 fun x55 => ?_
  refine im_ixor (pc := 26) dX6_talkOf_26 ?_
  refine cl_X6_126 mo_bits_im (pc := 27) (by decide) dX6_talkOf_27 (Nat.le_of_ble_eq_true rfl) fun x56 => ?_
  refine im_isub (pc := 30) dX6_talkOf_30 ?_
  exact im_iretP (pc := 31) dX6_talkOf_31
noncomputable def mo_talkOf (a0 : Option Nat) (a1 : Int32) (a2 : Int32) (h : PH) : Option (Int32) := grd (isC [5] a0 h) (mo_talkOf_0 a0 a1 a2 h)
theorem mo_talkOf_im : IM_X6_talkOf mo_talkOf 3 := by
  intro a0 a1 a2 h r e
  obtain ⟨e1, e2⟩ := grd_some e
  exact ⟨e1, SpI.ofP (k := 0) (plainFor_of_name (by decide)) rfl (fun X => Im.drop [true, true, true] rfl (mo_talkOf_0_ok X a0 a1 a2 h)) e2⟩
theorem cl_X6_325 {X : CT} {cc : ByteArray} {nL : Nat} {mn : String} {ret : Option FieldType} {d d0 : Nat} {τ : Type} {pc : Nat} {lv : List (Option PV)} {st : List PV} {h : PH} {sz : τ → Nat × Nat} {K : τ → Prop} {f : Option Nat → Int32 → Int32 → PH → Option (Int32)} (HR : IM_X6_talkOf f d0) {a0 : Option Nat} {a1 : Int32} {a2 : Int32} {g : Int32 → Option τ} (hd : d0 + 1 ≤ d) (hdg : decode cc pc = .ok (.invokevirtual 325, 3)) (hst : st.length ≤ 8) (kk : ∀ r, Im X (cc, nL, RX6, mn, ret, d) (pc + 3) lv (.inl r :: st) h (g r) sz K) : Im X (cc, nL, RX6, mn, ret, d) pc lv (.inl a2 :: .inl a1 :: .inr a0 :: st) h ((f a0 a1 a2 h).bind g) sz K := by
  refine im_cP (y := yX6_talkOf) (cY := cX6_talkOf) (nY := 3) (rY := (some .int)) (d' := d0) (av := [.inr a0, .inl a1, .inl a2]) (fun r e hX => ?_) (fun r e => (HR _ _ _ _ _ e).2) hd (by decide) hst rfl kk
  obtain ⟨a, c, fs, rfl, ec, hm⟩ := isC_some (HR _ _ _ _ _ e).1
  cases List.mem_singleton.mp hm
  exact cal_V (n := 2) hX (lw_V q1568 q1570 qs86 q112 q1571) (by decide +kernel) rfl rfl ec hdg

def IM_X6_talk (f : Option Nat → Int32 → Int32 → PH → Option (Int32)) (d : Nat) : Prop := ∀ (a0 : Option Nat) (a1 : Int32) (a2 : Int32) (h : PH) (r : Int32), f a0 a1 a2 h = some r → isC [5] a0 h = true ∧ SpI yX6_talk cX6_talk 3 (some .int) d [.inr a0, .inl a1, .inl a2] h r h
noncomputable def mo_talk_0 (v0 : Option Nat) (v1 : Int32) (v2 : Int32) (h : PH) : Option (Int32) :=
  (mo_isTold v0 v1 h).bind fun x51 =>
  (if x51 = 0 then
  some ((-1000))
  else
  (mo_isTold v0 v2 h).bind fun x52 =>
  (if x52 = 0 then
  some ((-1000))
  else
  (if v1 = v2 then
  some ((-1000))
  else
  (mo_talkOf v0 v1 v2 h).bind fun x53 =>
  some (x53))))
theorem mo_talk_0_ok (X : CT) (v0 : Option Nat) (v1 : Int32) (v2 : Int32) (h : PH) : Im X (cX6_talk, 3, RX6, "talk", (some .int), 4) 0 [some (.inr v0), some (.inl v1), some (.inl v2)] [] h (mo_talk_0 v0 v1 v2 h) (szP h) (kP X h) := by
  unfold mo_talk_0
  refine im_aload_n (pc := 0) dX6_talk_0 rfl rfl ?_
  refine im_iload_n (pc := 1) dX6_talk_1 rfl rfl ?_
  refine cl_X6_108 mo_isTold_im (pc := 2) (by decide) dX6_talk_2 (Nat.le_of_ble_eq_true rfl) fun x51 => ?_
  refine im_if_eq (pc := 5) (tgt := 30) dX6_talk_5 (by decide) ?_ ?_
  · refine im_sipush (pc := 30) (v := (-1000)) dX6_talk_30 (by decide) ?_
    exact im_iretP (pc := 33) dX6_talk_33
  · refine im_aload_n (pc := 8) dX6_talk_8 rfl rfl ?_
    refine im_iload_n (pc := 9) dX6_talk_9 rfl rfl ?_
    refine cl_X6_108 mo_isTold_im (pc := 10) (by decide) dX6_talk_10 (Nat.le_of_ble_eq_true rfl) fun x52 => ?_
    refine im_if_eq (pc := 13) (tgt := 30) dX6_talk_13 (by decide) ?_ ?_
    · refine im_sipush (pc := 30) (v := (-1000)) dX6_talk_30 (by decide) ?_
      exact im_iretP (pc := 33) dX6_talk_33
    · refine im_iload_n (pc := 16) dX6_talk_16 rfl rfl ?_
      refine im_iload_n (pc := 17) dX6_talk_17 rfl rfl ?_
      refine im_icmp_eq (pc := 18) (tgt := 30) dX6_talk_18 (by decide) ?_ ?_
      · refine im_sipush (pc := 30) (v := (-1000)) dX6_talk_30 (by decide) ?_
        exact im_iretP (pc := 33) dX6_talk_33
      · refine im_aload_n (pc := 21) dX6_talk_21 rfl rfl ?_
        refine im_iload_n (pc := 22) dX6_talk_22 rfl rfl ?_
        refine im_iload_n (pc := 23) dX6_talk_23 rfl rfl ?_
        refine cl_X6_325 mo_talkOf_im (pc := 24) (by decide) dX6_talk_24 (Nat.le_of_ble_eq_true rfl) fun x53 => ?_
        refine im_goto (pc := 27) (tgt := 33) dX6_talk_27 (by decide) ?_
        exact im_iretP (pc := 33) dX6_talk_33
noncomputable def mo_talk (a0 : Option Nat) (a1 : Int32) (a2 : Int32) (h : PH) : Option (Int32) := grd (isC [5] a0 h) (mo_talk_0 a0 a1 a2 h)
theorem mo_talk_im : IM_X6_talk mo_talk 4 := by
  intro a0 a1 a2 h r e
  obtain ⟨e1, e2⟩ := grd_some e
  exact ⟨e1, SpI.ofP (k := 0) (plainFor_of_name (by decide)) rfl (fun X => Im.drop [true, true, true] rfl (mo_talk_0_ok X a0 a1 a2 h)) e2⟩
def IM_X6_yardTalk (f : Option Nat → PH → Option (Int32)) (d : Nat) : Prop := ∀ (a0 : Option Nat) (h : PH) (r : Int32), f a0 h = some r → isC [5] a0 h = true ∧ SpI yX6_yardTalk cX6_yardTalk 4 (some .int) d [.inr a0] h r h
noncomputable def mo_yardTalk_b12 (v0 : Option Nat) (v1 : Int32) (v2 : Int32) (v3 : Int32) (h : PH) : Option ((Int32 × Int32) ⊕ ((Int32 × Int32) ⊕ (Int32))) :=
  (if v2 ≤ v3 then
  some (.inr (.inl (v1, (v2 + 1))))
  else
  (mo_areBeside v0 v2 v3 h).bind fun x51 =>
  (if x51 = 0 then
  some (.inl (v1, (v3 + 1)))
  else
  (mo_talkOf v0 v2 v3 h).bind fun x52 =>
  some (.inl ((v1 + x52), (v3 + 1)))))
noncomputable def mo_yardTalk_L12 (v0 : Option Nat) (v1 : Int32) (v2 : Int32) (v3 : Int32) (h : PH) : Option ((Int32 × Int32) ⊕ (Int32)) :=
  iter (fun s : Int32 × Int32 => mo_yardTalk_b12 v0 s.1 v2 s.2 h) (v1, v3)
theorem mo_yardTalk_b12_ok (X : CT) (v0 : Option Nat) (v1 : Int32) (v2 : Int32) (v3 : Int32) (h : PH) : Im X (cX6_yardTalk, 4, RX6, "yardTalk", (some .int), 4) 12 [some (.inr v0), some (.inl v1), some (.inl v2), some (.inl v3)] [] h (mo_yardTalk_b12 v0 v1 v2 v3 h) (ez (fun s : Int32 × Int32 => h) (ez (fun s : Int32 × Int32 => h) (szP h))) (ek X 12 (fun s : Int32 × Int32 => [some (.inr v0), some (.inl s.1), some (.inl v2), some (.inl s.2)]) (fun s : Int32 × Int32 => h) (ek X 4 (fun s : Int32 × Int32 => [some (.inr v0), some (.inl s.1), some (.inl s.2), none]) (fun s : Int32 × Int32 => h) (kP X h))) := by
  unfold mo_yardTalk_b12
  refine im_iload_n (pc := 12) dX6_yardTalk_12 rfl rfl ?_
  refine im_iload_n (pc := 13) dX6_yardTalk_13 rfl rfl ?_
  refine im_icmp_ge (pc := 14) (tgt := 41) dX6_yardTalk_14 (by decide) ?_ ?_
  · refine im_iinc (pc := 41) (v := (v2 + 1)) (lv' := [some (.inr v0), some (.inl v1), some (.inl (v2 + 1)), some (.inl v3)]) dX6_yardTalk_41 rfl rfl (by decide) rfl ?_
    refine im_goto (pc := 44) (tgt := 4) dX6_yardTalk_44 (by decide) ?_
    exact Im.outS (Im.back [true, true, true, false] rfl rfl)
  · refine im_aload_n (pc := 17) dX6_yardTalk_17 rfl rfl ?_
    refine im_iload_n (pc := 18) dX6_yardTalk_18 rfl rfl ?_
    refine im_iload_n (pc := 19) dX6_yardTalk_19 rfl rfl ?_
    refine cl_X6_123 mo_areBeside_im (pc := 20) (by decide) dX6_yardTalk_20 (Nat.le_of_ble_eq_true rfl) fun x51 => ?_
    refine im_if_eq (pc := 23) (tgt := 35) dX6_yardTalk_23 (by decide) ?_ ?_
    · refine im_iinc (pc := 35) (v := (v3 + 1)) (lv' := [some (.inr v0), some (.inl v1), some (.inl v2), some (.inl (v3 + 1))]) dX6_yardTalk_35 rfl rfl (by decide) rfl ?_
      refine im_goto (pc := 38) (tgt := 12) dX6_yardTalk_38 (by decide) ?_
      exact Im.back [true, true, true, true] rfl rfl
    · refine im_iload_n (pc := 26) dX6_yardTalk_26 rfl rfl ?_
      refine im_aload_n (pc := 27) dX6_yardTalk_27 rfl rfl ?_
      refine im_iload_n (pc := 28) dX6_yardTalk_28 rfl rfl ?_
      refine im_iload_n (pc := 29) dX6_yardTalk_29 rfl rfl ?_
      refine cl_X6_325 mo_talkOf_im (pc := 30) (by decide) dX6_yardTalk_30 (Nat.le_of_ble_eq_true rfl) fun x52 => ?_
      refine im_iadd (pc := 33) dX6_yardTalk_33 ?_
      refine im_istore_n (pc := 34) (lv' := [some (.inr v0), some (.inl (v1 + x52)), some (.inl v2), some (.inl v3)]) dX6_yardTalk_34 rfl (by decide) rfl ?_
      refine im_iinc (pc := 35) (v := (v3 + 1)) (lv' := [some (.inr v0), some (.inl (v1 + x52)), some (.inl v2), some (.inl (v3 + 1))]) dX6_yardTalk_35 rfl rfl (by decide) rfl ?_
      refine im_goto (pc := 38) (tgt := 12) dX6_yardTalk_38 (by decide) ?_
      exact Im.back [true, true, true, true] rfl rfl
theorem mo_yardTalk_L12_ok (X : CT) (v0 : Option Nat) (v1 : Int32) (v2 : Int32) (v3 : Int32) (h : PH) : Im X (cX6_yardTalk, 4, RX6, "yardTalk", (some .int), 4) 12 [some (.inr v0), some (.inl v1), some (.inl v2), some (.inl v3)] [] h (mo_yardTalk_L12 v0 v1 v2 v3 h) (ez (fun s : Int32 × Int32 => h) (szP h)) (ek X 4 (fun s : Int32 × Int32 => [some (.inr v0), some (.inl s.1), some (.inl s.2), none]) (fun s : Int32 × Int32 => h) (kP X h)) := by
  unfold mo_yardTalk_L12
  exact Im.iter (lv := (fun s : Int32 × Int32 => [some (.inr v0), some (.inl s.1), some (.inl v2), some (.inl s.2)])) (hp := (fun s : Int32 × Int32 => h)) (fun s => mo_yardTalk_b12_ok X v0 s.1 v2 s.2 h) _ rfl rfl
noncomputable def mo_yardTalk_b4 (v0 : Option Nat) (v1 : Int32) (v2 : Int32) (h : PH) : Option ((Int32 × Int32) ⊕ (Int32)) :=
  (if 16 ≤ v2 then
  some (.inr v1)
  else
  mo_yardTalk_L12 v0 v1 v2 0 h)
noncomputable def mo_yardTalk_L4 (v0 : Option Nat) (v1 : Int32) (v2 : Int32) (h : PH) : Option (Int32) :=
  iter (fun s : Int32 × Int32 => mo_yardTalk_b4 v0 s.1 s.2 h) (v1, v2)
theorem mo_yardTalk_b4_ok (X : CT) (v0 : Option Nat) (v1 : Int32) (v2 : Int32) (h : PH) : Im X (cX6_yardTalk, 4, RX6, "yardTalk", (some .int), 4) 4 [some (.inr v0), some (.inl v1), some (.inl v2), none] [] h (mo_yardTalk_b4 v0 v1 v2 h) (ez (fun s : Int32 × Int32 => h) (szP h)) (ek X 4 (fun s : Int32 × Int32 => [some (.inr v0), some (.inl s.1), some (.inl s.2), none]) (fun s : Int32 × Int32 => h) (kP X h)) := by
  unfold mo_yardTalk_b4
  refine im_iload_n (pc := 4) dX6_yardTalk_4 rfl rfl ?_
  refine im_bipush (pc := 5) (v := 16) dX6_yardTalk_5 (by decide) ?_
  refine im_icmp_ge (pc := 7) (tgt := 47) dX6_yardTalk_7 (by decide) ?_ ?_
  · refine im_iload_n (pc := 47) dX6_yardTalk_47 rfl rfl ?_
    exact Im.outS (im_iretP (pc := 48) dX6_yardTalk_48)
  · refine im_iconst (pc := 10) (v := 0) dX6_yardTalk_10 (by decide) ?_
    refine im_istore_n (pc := 11) (lv' := [some (.inr v0), some (.inl v1), some (.inl v2), some (.inl 0)]) dX6_yardTalk_11 rfl (by decide) rfl ?_
    exact Im.drop [true, true, true, true] rfl (mo_yardTalk_L12_ok X v0 v1 v2 0 h)
theorem mo_yardTalk_L4_ok (X : CT) (v0 : Option Nat) (v1 : Int32) (v2 : Int32) (h : PH) : Im X (cX6_yardTalk, 4, RX6, "yardTalk", (some .int), 4) 4 [some (.inr v0), some (.inl v1), some (.inl v2), none] [] h (mo_yardTalk_L4 v0 v1 v2 h) (szP h) (kP X h) := by
  unfold mo_yardTalk_L4
  exact Im.iter (lv := (fun s : Int32 × Int32 => [some (.inr v0), some (.inl s.1), some (.inl s.2), none])) (hp := (fun s : Int32 × Int32 => h)) (fun s => mo_yardTalk_b4_ok X v0 s.1 s.2 h) _ rfl rfl
noncomputable def mo_yardTalk_0 (v0 : Option Nat) (h : PH) : Option (Int32) :=
  mo_yardTalk_L4 v0 0 0 h
theorem mo_yardTalk_0_ok (X : CT) (v0 : Option Nat) (h : PH) : Im X (cX6_yardTalk, 4, RX6, "yardTalk", (some .int), 4) 0 [some (.inr v0), none, none, none] [] h (mo_yardTalk_0 v0 h) (szP h) (kP X h) := by
  unfold mo_yardTalk_0
  refine im_iconst (pc := 0) (v := 0) dX6_yardTalk_0 (by decide) ?_
  refine im_istore_n (pc := 1) (lv' := [some (.inr v0), some (.inl 0), none, none]) dX6_yardTalk_1 rfl (by decide) rfl ?_
  refine im_iconst (pc := 2) (v := 0) dX6_yardTalk_2 (by decide) ?_
  refine im_istore_n (pc := 3) (lv' := [some (.inr v0), some (.inl 0), some (.inl 0), none]) dX6_yardTalk_3 rfl (by decide) rfl ?_
  exact Im.drop [true, true, true, false] rfl (mo_yardTalk_L4_ok X v0 0 0 h)
noncomputable def mo_yardTalk (a0 : Option Nat) (h : PH) : Option (Int32) := grd (isC [5] a0 h) (mo_yardTalk_0 a0 h)
theorem mo_yardTalk_im : IM_X6_yardTalk mo_yardTalk 4 := by
  intro a0 h r e
  obtain ⟨e1, e2⟩ := grd_some e
  exact ⟨e1, SpI.ofP (k := 3) (plainFor_of_name (by decide)) rfl (fun X => Im.drop [true, false, false, false] rfl (mo_yardTalk_0_ok X a0 h)) e2⟩
def IM_X6_talkAt (f : Option Nat → Int32 → Int32 → PH → Option (Int32)) (d : Nat) : Prop := ∀ (a0 : Option Nat) (a1 : Int32) (a2 : Int32) (h : PH) (r : Int32), f a0 a1 a2 h = some r → isC [5] a0 h = true ∧ SpI yX6_talkAt cX6_talkAt 5 (some .int) d [.inr a0, .inl a1, .inl a2] h r h
noncomputable def mo_talkAt_b5 (v0 : Option Nat) (v1 : Int32) (v2 : Int32) (v3 : Int32) (v4 : Int32) (h : PH) : Option ((Int32 × Int32) ⊕ (Int32)) :=
  (if 16 ≤ v4 then
  some (.inr v3)
  else
  (if v4 = v1 then
  some (.inl (v3, (v4 + 1)))
  else
  (mo_isLaid v0 v4 h).bind fun x51 =>
  (if x51 = 0 then
  some (.inl (v3, (v4 + 1)))
  else
  (gfr [5] 0 v0 h).bind fun r52 =>
  (ald 0 r52 (48 + v4) h).bind fun x53 =>
  (mo_areNext v2 x53 h).bind fun x54 =>
  (if x54 = 0 then
  some (.inl (v3, (v4 + 1)))
  else
  (mo_talkOf v0 v1 v4 h).bind fun x55 =>
  some (.inl ((v3 + x55), (v4 + 1)))))))
noncomputable def mo_talkAt_L5 (v0 : Option Nat) (v1 : Int32) (v2 : Int32) (v3 : Int32) (v4 : Int32) (h : PH) : Option (Int32) :=
  iter (fun s : Int32 × Int32 => mo_talkAt_b5 v0 v1 v2 s.1 s.2 h) (v3, v4)
theorem mo_talkAt_b5_ok (X : CT) (v0 : Option Nat) (v1 : Int32) (v2 : Int32) (v3 : Int32) (v4 : Int32) (h : PH) : Im X (cX6_talkAt, 5, RX6, "talkAt", (some .int), 4) 5 [some (.inr v0), some (.inl v1), some (.inl v2), some (.inl v3), some (.inl v4)] [] h (mo_talkAt_b5 v0 v1 v2 v3 v4 h) (ez (fun s : Int32 × Int32 => h) (szP h)) (ek X 5 (fun s : Int32 × Int32 => [some (.inr v0), some (.inl v1), some (.inl v2), some (.inl s.1), some (.inl s.2)]) (fun s : Int32 × Int32 => h) (kP X h)) := by
  unfold mo_talkAt_b5
  refine im_iload (pc := 5) dX6_talkAt_5 rfl ?_
  refine im_bipush (pc := 7) (v := 16) dX6_talkAt_7 (by decide) ?_
  refine im_icmp_ge (pc := 9) (tgt := 60) dX6_talkAt_9 (by decide) ?_ ?_
  · refine im_iload_n (pc := 60) dX6_talkAt_60 rfl rfl ?_
    exact Im.outS (im_iretP (pc := 61) dX6_talkAt_61)
  · refine im_iload (pc := 12) dX6_talkAt_12 rfl ?_
    refine im_iload_n (pc := 14) dX6_talkAt_14 rfl rfl ?_
    refine im_icmp_eq (pc := 15) (tgt := 54) dX6_talkAt_15 (by decide) ?_ ?_
    · refine im_iinc (pc := 54) (v := (v4 + 1)) (lv' := [some (.inr v0), some (.inl v1), some (.inl v2), some (.inl v3), some (.inl (v4 + 1))]) dX6_talkAt_54 rfl rfl (by decide) rfl ?_
      refine im_goto (pc := 57) (tgt := 5) dX6_talkAt_57 (by decide) ?_
      exact Im.back [true, true, true, true, true] rfl rfl
    · refine im_aload_n (pc := 18) dX6_talkAt_18 rfl rfl ?_
      refine im_iload (pc := 19) dX6_talkAt_19 rfl ?_
      refine cl_X6_112 mo_isLaid_im (pc := 21) (by decide) dX6_talkAt_21 (Nat.le_of_ble_eq_true rfl) fun x51 => ?_
      refine im_if_eq (pc := 24) (tgt := 54) dX6_talkAt_24 (by decide) ?_ ?_
      · refine im_iinc (pc := 54) (v := (v4 + 1)) (lv' := [some (.inr v0), some (.inl v1), some (.inl v2), some (.inl v3), some (.inl (v4 + 1))]) dX6_talkAt_54 rfl rfl (by decide) rfl ?_
        refine im_goto (pc := 57) (tgt := 5) dX6_talkAt_57 (by decide) ?_
        exact Im.back [true, true, true, true, true] rfl rfl
      · refine im_iload_n (pc := 27) dX6_talkAt_27 rfl rfl ?_
        refine im_aload_n (pc := 28) dX6_talkAt_28 rfl rfl ?_
        refine im_gr (pc := 29) fl_X6_7 dX6_talkAt_29 fun r52 => ?_
        refine im_bipush (pc := 32) (v := 48) dX6_talkAt_32 (by decide) ?_
        refine im_iload (pc := 34) dX6_talkAt_34 rfl ?_
        refine im_iadd (pc := 36) dX6_talkAt_36 ?_
        refine im_iald (pc := 37) dX6_talkAt_37 fun x53 => ?_
        refine cl_X6_119 mo_areNext_im (pc := 38) (by decide) dX6_talkAt_38 (Nat.le_of_ble_eq_true rfl) fun x54 => ?_
        refine im_if_eq (pc := 41) (tgt := 54) dX6_talkAt_41 (by decide) ?_ ?_
        · refine im_iinc (pc := 54) (v := (v4 + 1)) (lv' := [some (.inr v0), some (.inl v1), some (.inl v2), some (.inl v3), some (.inl (v4 + 1))]) dX6_talkAt_54 rfl rfl (by decide) rfl ?_
          refine im_goto (pc := 57) (tgt := 5) dX6_talkAt_57 (by decide) ?_
          exact Im.back [true, true, true, true, true] rfl rfl
        · refine im_iload_n (pc := 44) dX6_talkAt_44 rfl rfl ?_
          refine im_aload_n (pc := 45) dX6_talkAt_45 rfl rfl ?_
          refine im_iload_n (pc := 46) dX6_talkAt_46 rfl rfl ?_
          refine im_iload (pc := 47) dX6_talkAt_47 rfl ?_
          refine cl_X6_325 mo_talkOf_im (pc := 49) (by decide) dX6_talkAt_49 (Nat.le_of_ble_eq_true rfl) fun x55 => ?_
          refine im_iadd (pc := 52) dX6_talkAt_52 ?_
          refine im_istore_n (pc := 53) (lv' := [some (.inr v0), some (.inl v1), some (.inl v2), some (.inl (v3 + x55)), some (.inl v4)]) dX6_talkAt_53 rfl (by decide) rfl ?_
          refine im_iinc (pc := 54) (v := (v4 + 1)) (lv' := [some (.inr v0), some (.inl v1), some (.inl v2), some (.inl (v3 + x55)), some (.inl (v4 + 1))]) dX6_talkAt_54 rfl rfl (by decide) rfl ?_
          refine im_goto (pc := 57) (tgt := 5) dX6_talkAt_57 (by decide) ?_
          exact Im.back [true, true, true, true, true] rfl rfl
theorem mo_talkAt_L5_ok (X : CT) (v0 : Option Nat) (v1 : Int32) (v2 : Int32) (v3 : Int32) (v4 : Int32) (h : PH) : Im X (cX6_talkAt, 5, RX6, "talkAt", (some .int), 4) 5 [some (.inr v0), some (.inl v1), some (.inl v2), some (.inl v3), some (.inl v4)] [] h (mo_talkAt_L5 v0 v1 v2 v3 v4 h) (szP h) (kP X h) := by
  unfold mo_talkAt_L5
  exact Im.iter (lv := (fun s : Int32 × Int32 => [some (.inr v0), some (.inl v1), some (.inl v2), some (.inl s.1), some (.inl s.2)])) (hp := (fun s : Int32 × Int32 => h)) (fun s => mo_talkAt_b5_ok X v0 v1 v2 s.1 s.2 h) _ rfl rfl
noncomputable def mo_talkAt_0 (v0 : Option Nat) (v1 : Int32) (v2 : Int32) (h : PH) : Option (Int32) :=
  mo_talkAt_L5 v0 v1 v2 0 0 h
theorem mo_talkAt_0_ok (X : CT) (v0 : Option Nat) (v1 : Int32) (v2 : Int32) (h : PH) : Im X (cX6_talkAt, 5, RX6, "talkAt", (some .int), 4) 0 [some (.inr v0), some (.inl v1), some (.inl v2), none, none] [] h (mo_talkAt_0 v0 v1 v2 h) (szP h) (kP X h) := by
  unfold mo_talkAt_0
  refine im_iconst (pc := 0) (v := 0) dX6_talkAt_0 (by decide) ?_
  refine im_istore_n (pc := 1) (lv' := [some (.inr v0), some (.inl v1), some (.inl v2), some (.inl 0), none]) dX6_talkAt_1 rfl (by decide) rfl ?_
  refine im_iconst (pc := 2) (v := 0) dX6_talkAt_2 (by decide) ?_
  refine im_istore (pc := 3) (lv' := [some (.inr v0), some (.inl v1), some (.inl v2), some (.inl 0), some (.inl 0)]) dX6_talkAt_3 (by decide) rfl ?_
  exact Im.drop [true, true, true, true, true] rfl (mo_talkAt_L5_ok X v0 v1 v2 0 0 h)
noncomputable def mo_talkAt (a0 : Option Nat) (a1 : Int32) (a2 : Int32) (h : PH) : Option (Int32) := grd (isC [5] a0 h) (mo_talkAt_0 a0 a1 a2 h)
theorem mo_talkAt_im : IM_X6_talkAt mo_talkAt 4 := by
  intro a0 a1 a2 h r e
  obtain ⟨e1, e2⟩ := grd_some e
  exact ⟨e1, SpI.ofP (k := 2) (plainFor_of_name (by decide)) rfl (fun X => Im.drop [true, true, true, false, false] rfl (mo_talkAt_0_ok X a0 a1 a2 h)) e2⟩
theorem cl_X6_328 {X : CT} {cc : ByteArray} {nL : Nat} {mn : String} {ret : Option FieldType} {d d0 : Nat} {τ : Type} {pc : Nat} {lv : List (Option PV)} {st : List PV} {h : PH} {sz : τ → Nat × Nat} {K : τ → Prop} {f : Option Nat → Int32 → Int32 → PH → Option (Int32)} (HR : IM_X6_talkAt f d0) {a0 : Option Nat} {a1 : Int32} {a2 : Int32} {g : Int32 → Option τ} (hd : d0 + 1 ≤ d) (hdg : decode cc pc = .ok (.invokevirtual 328, 3)) (hst : st.length ≤ 8) (kk : ∀ r, Im X (cc, nL, RX6, mn, ret, d) (pc + 3) lv (.inl r :: st) h (g r) sz K) : Im X (cc, nL, RX6, mn, ret, d) pc lv (.inl a2 :: .inl a1 :: .inr a0 :: st) h ((f a0 a1 a2 h).bind g) sz K := by
  refine im_cP (y := yX6_talkAt) (cY := cX6_talkAt) (nY := 5) (rY := (some .int)) (d' := d0) (av := [.inr a0, .inl a1, .inl a2]) (fun r e hX => ?_) (fun r e => (HR _ _ _ _ _ e).2) hd (by decide) hst rfl kk
  obtain ⟨a, c, fs, rfl, ec, hm⟩ := isC_some (HR _ _ _ _ _ e).1
  cases List.mem_singleton.mp hm
  exact cal_V (n := 2) hX (lw_V q1580 q1582 qs87 q112 q1583) (by decide +kernel) rfl rfl ec hdg

def IM_X6_best (f : Option Nat → Int32 → Int32 → PH → Option (Int32)) (d : Nat) : Prop := ∀ (a0 : Option Nat) (a1 : Int32) (a2 : Int32) (h : PH) (r : Int32), f a0 a1 a2 h = some r → isC [5] a0 h = true ∧ SpI yX6_best cX6_best 8 (some .int) d [.inr a0, .inl a1, .inl a2] h r h
noncomputable def mo_best_60 (v0 : Option Nat) (v1 : Int32) (v2 : Int32) (v3 : Int32) (v4 : Int32) (v5 : Int32) (h : PH) : Option ((Int32 × Int32 × Int32) ⊕ (Int32)) :=
  (mo_talkAt v0 v1 v5 h).bind fun x51 =>
  (if v3 = (-1) then
  some (.inl (v5, x51, (v5 + 1)))
  else
  (if v4 < x51 then
  some (.inl (v5, x51, (v5 + 1)))
  else
  some (.inl (v3, v4, (v5 + 1)))))
theorem mo_best_60_ok (X : CT) (v0 : Option Nat) (v1 : Int32) (v2 : Int32) (v3 : Int32) (v4 : Int32) (v5 : Int32) (h : PH) : Im X (cX6_best, 8, RX6, "best", (some .int), 5) 60 [some (.inr v0), some (.inl v1), some (.inl v2), some (.inl v3), some (.inl v4), some (.inl v5), none, none] [] h (mo_best_60 v0 v1 v2 v3 v4 v5 h) (ez (fun s : Int32 × Int32 × Int32 => h) (szP h)) (ek X 29 (fun s : Int32 × Int32 × Int32 => [some (.inr v0), some (.inl v1), some (.inl v2), some (.inl s.1), some (.inl s.2.1), some (.inl s.2.2), none, none]) (fun s : Int32 × Int32 × Int32 => h) (kP X h)) := by
  unfold mo_best_60
  refine im_aload_n (pc := 60) dX6_best_60 rfl rfl ?_
  refine im_iload_n (pc := 61) dX6_best_61 rfl rfl ?_
  refine im_iload (pc := 62) dX6_best_62 rfl ?_
  refine cl_X6_328 mo_talkAt_im (pc := 64) (by decide) dX6_best_64 (Nat.le_of_ble_eq_true rfl) fun x51 => ?_
  refine im_istore (pc := 67) (lv' := [some (.inr v0), some (.inl v1), some (.inl v2), some (.inl v3), some (.inl v4), some (.inl v5), none, some (.inl x51)]) dX6_best_67 (by decide) rfl ?_
  refine im_iload_n (pc := 69) dX6_best_69 rfl rfl ?_
  refine im_iconst (pc := 70) (v := (-1)) dX6_best_70 (by decide) ?_
  refine im_icmp_eq (pc := 71) (tgt := 84) dX6_best_71 (by decide) ?_ ?_
  · refine im_iload (pc := 84) dX6_best_84 rfl ?_
    refine im_istore (pc := 86) (lv' := [some (.inr v0), some (.inl v1), some (.inl v2), some (.inl v3), some (.inl x51), some (.inl v5), none, some (.inl x51)]) dX6_best_86 (by decide) rfl ?_
    refine im_iload (pc := 88) dX6_best_88 rfl ?_
    refine im_istore_n (pc := 90) (lv' := [some (.inr v0), some (.inl v1), some (.inl v2), some (.inl v5), some (.inl x51), some (.inl v5), none, some (.inl x51)]) dX6_best_90 rfl (by decide) rfl ?_
    refine im_iinc (pc := 91) (v := (v5 + 1)) (lv' := [some (.inr v0), some (.inl v1), some (.inl v2), some (.inl v5), some (.inl x51), some (.inl (v5 + 1)), none, some (.inl x51)]) dX6_best_91 rfl rfl (by decide) rfl ?_
    refine im_goto (pc := 94) (tgt := 29) dX6_best_94 (by decide) ?_
    exact Im.back [true, true, true, true, true, true, false, false] rfl rfl
  · refine im_iload (pc := 74) dX6_best_74 rfl ?_
    refine im_iload (pc := 76) dX6_best_76 rfl ?_
    refine im_icmp_gt (pc := 78) (tgt := 84) dX6_best_78 (by decide) ?_ ?_
    · refine im_iload (pc := 84) dX6_best_84 rfl ?_
      refine im_istore (pc := 86) (lv' := [some (.inr v0), some (.inl v1), some (.inl v2), some (.inl v3), some (.inl x51), some (.inl v5), none, some (.inl x51)]) dX6_best_86 (by decide) rfl ?_
      refine im_iload (pc := 88) dX6_best_88 rfl ?_
      refine im_istore_n (pc := 90) (lv' := [some (.inr v0), some (.inl v1), some (.inl v2), some (.inl v5), some (.inl x51), some (.inl v5), none, some (.inl x51)]) dX6_best_90 rfl (by decide) rfl ?_
      refine im_iinc (pc := 91) (v := (v5 + 1)) (lv' := [some (.inr v0), some (.inl v1), some (.inl v2), some (.inl v5), some (.inl x51), some (.inl (v5 + 1)), none, some (.inl x51)]) dX6_best_91 rfl rfl (by decide) rfl ?_
      refine im_goto (pc := 94) (tgt := 29) dX6_best_94 (by decide) ?_
      exact Im.back [true, true, true, true, true, true, false, false] rfl rfl
    · refine im_goto (pc := 81) (tgt := 91) dX6_best_81 (by decide) ?_
      refine im_iinc (pc := 91) (v := (v5 + 1)) (lv' := [some (.inr v0), some (.inl v1), some (.inl v2), some (.inl v3), some (.inl v4), some (.inl (v5 + 1)), none, some (.inl x51)]) dX6_best_91 rfl rfl (by decide) rfl ?_
      refine im_goto (pc := 94) (tgt := 29) dX6_best_94 (by decide) ?_
      exact Im.back [true, true, true, true, true, true, false, false] rfl rfl
noncomputable def mo_best_b29 (v0 : Option Nat) (v1 : Int32) (v2 : Int32) (v3 : Int32) (v4 : Int32) (v5 : Int32) (h : PH) : Option ((Int32 × Int32 × Int32) ⊕ (Int32)) :=
  (if 60 ≤ v5 then
  (if v2 = 0 then
  some (.inr v3)
  else
  some (.inr v4))
  else
  (mo_whoLies v0 v5 h).bind fun x51 =>
  (if x51 = (-2) then
  mo_best_60 v0 v1 v2 v3 v4 v5 h
  else
  (if x51 = v1 then
  mo_best_60 v0 v1 v2 v3 v4 v5 h
  else
  some (.inl (v3, v4, (v5 + 1))))))
noncomputable def mo_best_L29 (v0 : Option Nat) (v1 : Int32) (v2 : Int32) (v3 : Int32) (v4 : Int32) (v5 : Int32) (h : PH) : Option (Int32) :=
  iter (fun s : Int32 × Int32 × Int32 => mo_best_b29 v0 v1 v2 s.1 s.2.1 s.2.2 h) (v3, v4, v5)
theorem mo_best_b29_ok (X : CT) (v0 : Option Nat) (v1 : Int32) (v2 : Int32) (v3 : Int32) (v4 : Int32) (v5 : Int32) (h : PH) : Im X (cX6_best, 8, RX6, "best", (some .int), 5) 29 [some (.inr v0), some (.inl v1), some (.inl v2), some (.inl v3), some (.inl v4), some (.inl v5), none, none] [] h (mo_best_b29 v0 v1 v2 v3 v4 v5 h) (ez (fun s : Int32 × Int32 × Int32 => h) (szP h)) (ek X 29 (fun s : Int32 × Int32 × Int32 => [some (.inr v0), some (.inl v1), some (.inl v2), some (.inl s.1), some (.inl s.2.1), some (.inl s.2.2), none, none]) (fun s : Int32 × Int32 × Int32 => h) (kP X h)) := by
  unfold mo_best_b29
  refine im_iload (pc := 29) dX6_best_29 rfl ?_
  refine im_bipush (pc := 31) (v := 60) dX6_best_31 (by decide) ?_
  refine im_icmp_ge (pc := 33) (tgt := 97) dX6_best_33 (by decide) ?_ ?_
  · refine im_iload_n (pc := 97) dX6_best_97 rfl rfl ?_
    refine im_if_ne (pc := 98) (tgt := 105) dX6_best_98 (by decide) ?_ ?_
    · refine im_iload (pc := 105) dX6_best_105 rfl ?_
      exact Im.outS (im_iretP (pc := 107) dX6_best_107)
    · refine im_iload_n (pc := 101) dX6_best_101 rfl rfl ?_
      refine im_goto (pc := 102) (tgt := 107) dX6_best_102 (by decide) ?_
      exact Im.outS (im_iretP (pc := 107) dX6_best_107)
  · refine im_aload_n (pc := 36) dX6_best_36 rfl rfl ?_
    refine im_iload (pc := 37) dX6_best_37 rfl ?_
    refine cl_X6_247 mo_whoLies_im (pc := 39) (by decide) dX6_best_39 (Nat.le_of_ble_eq_true rfl) fun x51 => ?_
    refine im_istore (pc := 42) (lv' := [some (.inr v0), some (.inl v1), some (.inl v2), some (.inl v3), some (.inl v4), some (.inl v5), some (.inl x51), none]) dX6_best_42 (by decide) rfl ?_
    refine im_iload (pc := 44) dX6_best_44 rfl ?_
    refine im_bipush (pc := 46) (v := (-2)) dX6_best_46 (by decide) ?_
    refine im_icmp_eq (pc := 48) (tgt := 60) dX6_best_48 (by decide) ?_ ?_
    · exact Im.drop [true, true, true, true, true, true, false, false] rfl (mo_best_60_ok X v0 v1 v2 v3 v4 v5 h)
    · refine im_iload (pc := 51) dX6_best_51 rfl ?_
      refine im_iload_n (pc := 53) dX6_best_53 rfl rfl ?_
      refine im_icmp_eq (pc := 54) (tgt := 60) dX6_best_54 (by decide) ?_ ?_
      · exact Im.drop [true, true, true, true, true, true, false, false] rfl (mo_best_60_ok X v0 v1 v2 v3 v4 v5 h)
      · refine im_goto (pc := 57) (tgt := 91) dX6_best_57 (by decide) ?_
        refine im_iinc (pc := 91) (v := (v5 + 1)) (lv' := [some (.inr v0), some (.inl v1), some (.inl v2), some (.inl v3), some (.inl v4), some (.inl (v5 + 1)), some (.inl x51), none]) dX6_best_91 rfl rfl (by decide) rfl ?_
        refine im_goto (pc := 94) (tgt := 29) dX6_best_94 (by decide) ?_
        exact Im.back [true, true, true, true, true, true, false, false] rfl rfl
theorem mo_best_L29_ok (X : CT) (v0 : Option Nat) (v1 : Int32) (v2 : Int32) (v3 : Int32) (v4 : Int32) (v5 : Int32) (h : PH) : Im X (cX6_best, 8, RX6, "best", (some .int), 5) 29 [some (.inr v0), some (.inl v1), some (.inl v2), some (.inl v3), some (.inl v4), some (.inl v5), none, none] [] h (mo_best_L29 v0 v1 v2 v3 v4 v5 h) (szP h) (kP X h) := by
  unfold mo_best_L29
  exact Im.iter (lv := (fun s : Int32 × Int32 × Int32 => [some (.inr v0), some (.inl v1), some (.inl v2), some (.inl s.1), some (.inl s.2.1), some (.inl s.2.2), none, none])) (hp := (fun s : Int32 × Int32 × Int32 => h)) (fun s => mo_best_b29_ok X v0 v1 v2 s.1 s.2.1 s.2.2 h) _ rfl rfl
noncomputable def mo_best_0 (v0 : Option Nat) (v1 : Int32) (v2 : Int32) (h : PH) : Option (Int32) :=
  (mo_isTold v0 v1 h).bind fun x51 =>
  (if x51 = 0 then
  some ((-1000))
  else
  (mo_in v2 0 1 h).bind fun x52 =>
  (if x52 = 0 then
  some ((-1000))
  else
  mo_best_L29 v0 v1 v2 (-1) 0 0 h))
theorem mo_best_0_ok (X : CT) (v0 : Option Nat) (v1 : Int32) (v2 : Int32) (h : PH) : Im X (cX6_best, 8, RX6, "best", (some .int), 5) 0 [some (.inr v0), some (.inl v1), some (.inl v2), none, none, none, none, none] [] h (mo_best_0 v0 v1 v2 h) (szP h) (kP X h) := by
  unfold mo_best_0
  refine im_aload_n (pc := 0) dX6_best_0 rfl rfl ?_
  refine im_iload_n (pc := 1) dX6_best_1 rfl rfl ?_
  refine cl_X6_108 mo_isTold_im (pc := 2) (by decide) dX6_best_2 (Nat.le_of_ble_eq_true rfl) fun x51 => ?_
  refine im_if_eq (pc := 5) (tgt := 17) dX6_best_5 (by decide) ?_ ?_
  · refine im_sipush (pc := 17) (v := (-1000)) dX6_best_17 (by decide) ?_
    exact im_iretP (pc := 20) dX6_best_20
  · refine im_iload_n (pc := 8) dX6_best_8 rfl rfl ?_
    refine im_iconst (pc := 9) (v := 0) dX6_best_9 (by decide) ?_
    refine im_iconst (pc := 10) (v := 1) dX6_best_10 (by decide) ?_
    refine cl_X6_104 mo_in_im (pc := 11) (by decide) dX6_best_11 (Nat.le_of_ble_eq_true rfl) fun x52 => ?_
    refine im_if_ne (pc := 14) (tgt := 21) dX6_best_14 (by decide) ?_ ?_
    · refine im_iconst (pc := 21) (v := (-1)) dX6_best_21 (by decide) ?_
      refine im_istore_n (pc := 22) (lv' := [some (.inr v0), some (.inl v1), some (.inl v2), some (.inl (-1)), none, none, none, none]) dX6_best_22 rfl (by decide) rfl ?_
      refine im_iconst (pc := 23) (v := 0) dX6_best_23 (by decide) ?_
      refine im_istore (pc := 24) (lv' := [some (.inr v0), some (.inl v1), some (.inl v2), some (.inl (-1)), some (.inl 0), none, none, none]) dX6_best_24 (by decide) rfl ?_
      refine im_iconst (pc := 26) (v := 0) dX6_best_26 (by decide) ?_
      refine im_istore (pc := 27) (lv' := [some (.inr v0), some (.inl v1), some (.inl v2), some (.inl (-1)), some (.inl 0), some (.inl 0), none, none]) dX6_best_27 (by decide) rfl ?_
      exact Im.drop [true, true, true, true, true, true, false, false] rfl (mo_best_L29_ok X v0 v1 v2 (-1) 0 0 h)
    · refine im_sipush (pc := 17) (v := (-1000)) dX6_best_17 (by decide) ?_
      exact im_iretP (pc := 20) dX6_best_20
noncomputable def mo_best (a0 : Option Nat) (a1 : Int32) (a2 : Int32) (h : PH) : Option (Int32) := grd (isC [5] a0 h) (mo_best_0 a0 a1 a2 h)
theorem mo_best_im : IM_X6_best mo_best 5 := by
  intro a0 a1 a2 h r e
  obtain ⟨e1, e2⟩ := grd_some e
  exact ⟨e1, SpI.ofP (k := 5) (plainFor_of_name (by decide)) rfl (fun X => Im.drop [true, true, true, false, false, false, false, false] rfl (mo_best_0_ok X a0 a1 a2 h)) e2⟩
def IM_X6_move (f : Option Nat → Int32 → PH → Option (Int32)) (d : Nat) : Prop := ∀ (a0 : Option Nat) (a1 : Int32) (h : PH) (r : Int32), f a0 a1 h = some r → isC [5] a0 h = true ∧ SpI yX6_move cX6_move 8 (some .int) d [.inr a0, .inl a1] h r h
noncomputable def mo_move_b33 (v0 : Option Nat) (v1 : Int32) (v2 : Int32) (v3 : Int32) (v4 : Int32) (v5 : Int32) (v6 : Int32) (h : PH) : Option ((Int32 × Int32 × Int32 × Int32) ⊕ ((Int32 × Int32 × Int32 × Int32) ⊕ (Int32))) :=
  (if 60 ≤ v6 then
  some (.inr (.inl (v2, v3, v4, (v5 + 1))))
  else
  (mo_isLaid v0 v5 h).bind fun x51 =>
  (if x51 = 0 then
  some (.inr (.inl (v2, v3, v4, (v5 + 1))))
  else
  (mo_whoLies v0 v6 h).bind fun x52 =>
  (if x52 = (-2) then
  (mo_talkAt v0 v5 v6 h).bind fun x53 =>
  (gfr [5] 0 v0 h).bind fun r54 =>
  (ald 0 r54 (48 + v5) h).bind fun x55 =>
  (mo_talkAt v0 v5 x55 h).bind fun x56 =>
  (if v4 < (x53 - x56) then
  some (.inl (v5, v6, (x53 - x56), (v6 + 1)))
  else
  some (.inl (v2, v3, v4, (v6 + 1))))
  else
  some (.inl (v2, v3, v4, (v6 + 1))))))
noncomputable def mo_move_L33 (v0 : Option Nat) (v1 : Int32) (v2 : Int32) (v3 : Int32) (v4 : Int32) (v5 : Int32) (v6 : Int32) (h : PH) : Option ((Int32 × Int32 × Int32 × Int32) ⊕ (Int32)) :=
  iter (fun s : Int32 × Int32 × Int32 × Int32 => mo_move_b33 v0 v1 s.1 s.2.1 s.2.2.1 v5 s.2.2.2 h) (v2, v3, v4, v6)
theorem mo_move_b33_ok (X : CT) (v0 : Option Nat) (v1 : Int32) (v2 : Int32) (v3 : Int32) (v4 : Int32) (v5 : Int32) (v6 : Int32) (h : PH) : Im X (cX6_move, 8, RX6, "move", (some .int), 5) 33 [some (.inr v0), some (.inl v1), some (.inl v2), some (.inl v3), some (.inl v4), some (.inl v5), some (.inl v6), none] [] h (mo_move_b33 v0 v1 v2 v3 v4 v5 v6 h) (ez (fun s : Int32 × Int32 × Int32 × Int32 => h) (ez (fun s : Int32 × Int32 × Int32 × Int32 => h) (szP h))) (ek X 33 (fun s : Int32 × Int32 × Int32 × Int32 => [some (.inr v0), some (.inl v1), some (.inl s.1), some (.inl s.2.1), some (.inl s.2.2.1), some (.inl v5), some (.inl s.2.2.2), none]) (fun s : Int32 × Int32 × Int32 × Int32 => h) (ek X 23 (fun s : Int32 × Int32 × Int32 × Int32 => [some (.inr v0), some (.inl v1), some (.inl s.1), some (.inl s.2.1), some (.inl s.2.2.1), some (.inl s.2.2.2), none, none]) (fun s : Int32 × Int32 × Int32 × Int32 => h) (kP X h))) := by
  unfold mo_move_b33
  refine im_iload (pc := 33) dX6_move_33 rfl ?_
  refine im_bipush (pc := 35) (v := 60) dX6_move_35 (by decide) ?_
  refine im_icmp_ge (pc := 37) (tgt := 116) dX6_move_37 (by decide) ?_ ?_
  · refine im_iinc (pc := 116) (v := (v5 + 1)) (lv' := [some (.inr v0), some (.inl v1), some (.inl v2), some (.inl v3), some (.inl v4), some (.inl (v5 + 1)), some (.inl v6), none]) dX6_move_116 rfl rfl (by decide) rfl ?_
    refine im_goto (pc := 119) (tgt := 23) dX6_move_119 (by decide) ?_
    exact Im.outS (Im.back [true, true, true, true, true, true, false, false] rfl rfl)
  · refine im_aload_n (pc := 40) dX6_move_40 rfl rfl ?_
    refine im_iload (pc := 41) dX6_move_41 rfl ?_
    refine cl_X6_112 mo_isLaid_im (pc := 43) (by decide) dX6_move_43 (Nat.le_of_ble_eq_true rfl) fun x51 => ?_
    refine im_if_eq (pc := 46) (tgt := 116) dX6_move_46 (by decide) ?_ ?_
    · refine im_iinc (pc := 116) (v := (v5 + 1)) (lv' := [some (.inr v0), some (.inl v1), some (.inl v2), some (.inl v3), some (.inl v4), some (.inl (v5 + 1)), some (.inl v6), none]) dX6_move_116 rfl rfl (by decide) rfl ?_
      refine im_goto (pc := 119) (tgt := 23) dX6_move_119 (by decide) ?_
      exact Im.outS (Im.back [true, true, true, true, true, true, false, false] rfl rfl)
    · refine im_aload_n (pc := 49) dX6_move_49 rfl rfl ?_
      refine im_iload (pc := 50) dX6_move_50 rfl ?_
      refine cl_X6_247 mo_whoLies_im (pc := 52) (by decide) dX6_move_52 (Nat.le_of_ble_eq_true rfl) fun x52 => ?_
      refine im_bipush (pc := 55) (v := (-2)) dX6_move_55 (by decide) ?_
      refine im_icmp_eq (pc := 57) (tgt := 63) dX6_move_57 (by decide) ?_ ?_
      · refine im_aload_n (pc := 63) dX6_move_63 rfl rfl ?_
        refine im_iload (pc := 64) dX6_move_64 rfl ?_
        refine im_iload (pc := 66) dX6_move_66 rfl ?_
        refine cl_X6_328 mo_talkAt_im (pc := 68) (by decide) dX6_move_68 (Nat.le_of_ble_eq_true rfl) fun x53 => ?_
        refine im_aload_n (pc := 71) dX6_move_71 rfl rfl ?_
        refine im_iload (pc := 72) dX6_move_72 rfl ?_
        refine im_aload_n (pc := 74) dX6_move_74 rfl rfl ?_
        refine im_gr (pc := 75) fl_X6_7 dX6_move_75 fun r54 => ?_
        refine im_bipush (pc := 78) (v := 48) dX6_move_78 (by decide) ?_
        refine im_iload (pc := 80) dX6_move_80 rfl ?_
        refine im_iadd (pc := 82) dX6_move_82 ?_
        refine im_iald (pc := 83) dX6_move_83 fun x55 => ?_
        refine cl_X6_328 mo_talkAt_im (pc := 84) (by decide) dX6_move_84 (Nat.le_of_ble_eq_true rfl) fun x56 => ?_
        refine im_isub (pc := 87) dX6_move_87 ?_
        refine im_istore (pc := 88) (lv' := [some (.inr v0), some (.inl v1), some (.inl v2), some (.inl v3), some (.inl v4), some (.inl v5), some (.inl v6), some (.inl (x53 - x56))]) dX6_move_88 (by decide) rfl ?_
        refine im_iload (pc := 90) dX6_move_90 rfl ?_
        refine im_iload (pc := 92) dX6_move_92 rfl ?_
        refine im_icmp_gt (pc := 94) (tgt := 100) dX6_move_94 (by decide) ?_ ?_
        · refine im_iload (pc := 100) dX6_move_100 rfl ?_
          refine im_istore (pc := 102) (lv' := [some (.inr v0), some (.inl v1), some (.inl v2), some (.inl v3), some (.inl (x53 - x56)), some (.inl v5), some (.inl v6), some (.inl (x53 - x56))]) dX6_move_102 (by decide) rfl ?_
          refine im_iload (pc := 104) dX6_move_104 rfl ?_
          refine im_istore_n (pc := 106) (lv' := [some (.inr v0), some (.inl v1), some (.inl v5), some (.inl v3), some (.inl (x53 - x56)), some (.inl v5), some (.inl v6), some (.inl (x53 - x56))]) dX6_move_106 rfl (by decide) rfl ?_
          refine im_iload (pc := 107) dX6_move_107 rfl ?_
          refine im_istore_n (pc := 109) (lv' := [some (.inr v0), some (.inl v1), some (.inl v5), some (.inl v6), some (.inl (x53 - x56)), some (.inl v5), some (.inl v6), some (.inl (x53 - x56))]) dX6_move_109 rfl (by decide) rfl ?_
          refine im_iinc (pc := 110) (v := (v6 + 1)) (lv' := [some (.inr v0), some (.inl v1), some (.inl v5), some (.inl v6), some (.inl (x53 - x56)), some (.inl v5), some (.inl (v6 + 1)), some (.inl (x53 - x56))]) dX6_move_110 rfl rfl (by decide) rfl ?_
          refine im_goto (pc := 113) (tgt := 33) dX6_move_113 (by decide) ?_
          exact Im.back [true, true, true, true, true, true, true, false] rfl rfl
        · refine im_goto (pc := 97) (tgt := 110) dX6_move_97 (by decide) ?_
          refine im_iinc (pc := 110) (v := (v6 + 1)) (lv' := [some (.inr v0), some (.inl v1), some (.inl v2), some (.inl v3), some (.inl v4), some (.inl v5), some (.inl (v6 + 1)), some (.inl (x53 - x56))]) dX6_move_110 rfl rfl (by decide) rfl ?_
          refine im_goto (pc := 113) (tgt := 33) dX6_move_113 (by decide) ?_
          exact Im.back [true, true, true, true, true, true, true, false] rfl rfl
      · refine im_goto (pc := 60) (tgt := 110) dX6_move_60 (by decide) ?_
        refine im_iinc (pc := 110) (v := (v6 + 1)) (lv' := [some (.inr v0), some (.inl v1), some (.inl v2), some (.inl v3), some (.inl v4), some (.inl v5), some (.inl (v6 + 1)), none]) dX6_move_110 rfl rfl (by decide) rfl ?_
        refine im_goto (pc := 113) (tgt := 33) dX6_move_113 (by decide) ?_
        exact Im.back [true, true, true, true, true, true, true, false] rfl rfl
theorem mo_move_L33_ok (X : CT) (v0 : Option Nat) (v1 : Int32) (v2 : Int32) (v3 : Int32) (v4 : Int32) (v5 : Int32) (v6 : Int32) (h : PH) : Im X (cX6_move, 8, RX6, "move", (some .int), 5) 33 [some (.inr v0), some (.inl v1), some (.inl v2), some (.inl v3), some (.inl v4), some (.inl v5), some (.inl v6), none] [] h (mo_move_L33 v0 v1 v2 v3 v4 v5 v6 h) (ez (fun s : Int32 × Int32 × Int32 × Int32 => h) (szP h)) (ek X 23 (fun s : Int32 × Int32 × Int32 × Int32 => [some (.inr v0), some (.inl v1), some (.inl s.1), some (.inl s.2.1), some (.inl s.2.2.1), some (.inl s.2.2.2), none, none]) (fun s : Int32 × Int32 × Int32 × Int32 => h) (kP X h)) := by
  unfold mo_move_L33
  exact Im.iter (lv := (fun s : Int32 × Int32 × Int32 × Int32 => [some (.inr v0), some (.inl v1), some (.inl s.1), some (.inl s.2.1), some (.inl s.2.2.1), some (.inl v5), some (.inl s.2.2.2), none])) (hp := (fun s : Int32 × Int32 × Int32 × Int32 => h)) (fun s => mo_move_b33_ok X v0 v1 s.1 s.2.1 s.2.2.1 v5 s.2.2.2 h) _ rfl rfl
noncomputable def mo_move_b23 (v0 : Option Nat) (v1 : Int32) (v2 : Int32) (v3 : Int32) (v4 : Int32) (v5 : Int32) (h : PH) : Option ((Int32 × Int32 × Int32 × Int32) ⊕ (Int32)) :=
  (if 16 ≤ v5 then
  (if v2 = (-2) then
  some (.inr ((-2)))
  else
  (if v1 = 0 then
  some (.inr v2)
  else
  (if v1 = 1 then
  some (.inr v3)
  else
  some (.inr v4))))
  else
  mo_move_L33 v0 v1 v2 v3 v4 v5 0 h)
noncomputable def mo_move_L23 (v0 : Option Nat) (v1 : Int32) (v2 : Int32) (v3 : Int32) (v4 : Int32) (v5 : Int32) (h : PH) : Option (Int32) :=
  iter (fun s : Int32 × Int32 × Int32 × Int32 => mo_move_b23 v0 v1 s.1 s.2.1 s.2.2.1 s.2.2.2 h) (v2, v3, v4, v5)
theorem mo_move_b23_ok (X : CT) (v0 : Option Nat) (v1 : Int32) (v2 : Int32) (v3 : Int32) (v4 : Int32) (v5 : Int32) (h : PH) : Im X (cX6_move, 8, RX6, "move", (some .int), 5) 23 [some (.inr v0), some (.inl v1), some (.inl v2), some (.inl v3), some (.inl v4), some (.inl v5), none, none] [] h (mo_move_b23 v0 v1 v2 v3 v4 v5 h) (ez (fun s : Int32 × Int32 × Int32 × Int32 => h) (szP h)) (ek X 23 (fun s : Int32 × Int32 × Int32 × Int32 => [some (.inr v0), some (.inl v1), some (.inl s.1), some (.inl s.2.1), some (.inl s.2.2.1), some (.inl s.2.2.2), none, none]) (fun s : Int32 × Int32 × Int32 × Int32 => h) (kP X h)) := by
  unfold mo_move_b23
  refine im_iload (pc := 23) dX6_move_23 rfl ?_
  refine im_bipush (pc := 25) (v := 16) dX6_move_25 (by decide) ?_
  refine im_icmp_ge (pc := 27) (tgt := 122) dX6_move_27 (by decide) ?_ ?_
  · refine im_iload_n (pc := 122) dX6_move_122 rfl rfl ?_
    refine im_bipush (pc := 123) (v := (-2)) dX6_move_123 (by decide) ?_
    refine im_icmp_ne (pc := 125) (tgt := 131) dX6_move_125 (by decide) ?_ ?_
    · refine im_iload_n (pc := 131) dX6_move_131 rfl rfl ?_
      refine im_if_ne (pc := 132) (tgt := 139) dX6_move_132 (by decide) ?_ ?_
      · refine im_iload_n (pc := 139) dX6_move_139 rfl rfl ?_
        refine im_iconst (pc := 140) (v := 1) dX6_move_140 (by decide) ?_
        refine im_icmp_ne (pc := 141) (tgt := 148) dX6_move_141 (by decide) ?_ ?_
        · refine im_iload (pc := 148) dX6_move_148 rfl ?_
          exact Im.outS (im_iretP (pc := 150) dX6_move_150)
        · refine im_iload_n (pc := 144) dX6_move_144 rfl rfl ?_
          refine im_goto (pc := 145) (tgt := 150) dX6_move_145 (by decide) ?_
          exact Im.outS (im_iretP (pc := 150) dX6_move_150)
      · refine im_iload_n (pc := 135) dX6_move_135 rfl rfl ?_
        refine im_goto (pc := 136) (tgt := 150) dX6_move_136 (by decide) ?_
        exact Im.outS (im_iretP (pc := 150) dX6_move_150)
    · refine im_bipush (pc := 128) (v := (-2)) dX6_move_128 (by decide) ?_
      exact Im.outS (im_iretP (pc := 130) dX6_move_130)
  · refine im_iconst (pc := 30) (v := 0) dX6_move_30 (by decide) ?_
    refine im_istore (pc := 31) (lv' := [some (.inr v0), some (.inl v1), some (.inl v2), some (.inl v3), some (.inl v4), some (.inl v5), some (.inl 0), none]) dX6_move_31 (by decide) rfl ?_
    exact Im.drop [true, true, true, true, true, true, true, false] rfl (mo_move_L33_ok X v0 v1 v2 v3 v4 v5 0 h)
theorem mo_move_L23_ok (X : CT) (v0 : Option Nat) (v1 : Int32) (v2 : Int32) (v3 : Int32) (v4 : Int32) (v5 : Int32) (h : PH) : Im X (cX6_move, 8, RX6, "move", (some .int), 5) 23 [some (.inr v0), some (.inl v1), some (.inl v2), some (.inl v3), some (.inl v4), some (.inl v5), none, none] [] h (mo_move_L23 v0 v1 v2 v3 v4 v5 h) (szP h) (kP X h) := by
  unfold mo_move_L23
  exact Im.iter (lv := (fun s : Int32 × Int32 × Int32 × Int32 => [some (.inr v0), some (.inl v1), some (.inl s.1), some (.inl s.2.1), some (.inl s.2.2.1), some (.inl s.2.2.2), none, none])) (hp := (fun s : Int32 × Int32 × Int32 × Int32 => h)) (fun s => mo_move_b23_ok X v0 v1 s.1 s.2.1 s.2.2.1 s.2.2.2 h) _ rfl rfl
noncomputable def mo_move_0 (v0 : Option Nat) (v1 : Int32) (h : PH) : Option (Int32) :=
  (mo_in v1 0 2 h).bind fun x51 =>
  (if x51 = 0 then
  some ((-1))
  else
  mo_move_L23 v0 v1 (-2) (-2) 0 0 h)
theorem mo_move_0_ok (X : CT) (v0 : Option Nat) (v1 : Int32) (h : PH) : Im X (cX6_move, 8, RX6, "move", (some .int), 5) 0 [some (.inr v0), some (.inl v1), none, none, none, none, none, none] [] h (mo_move_0 v0 v1 h) (szP h) (kP X h) := by
  unfold mo_move_0
  refine im_iload_n (pc := 0) dX6_move_0 rfl rfl ?_
  refine im_iconst (pc := 1) (v := 0) dX6_move_1 (by decide) ?_
  refine im_iconst (pc := 2) (v := 2) dX6_move_2 (by decide) ?_
  refine cl_X6_104 mo_in_im (pc := 3) (by decide) dX6_move_3 (Nat.le_of_ble_eq_true rfl) fun x51 => ?_
  refine im_if_ne (pc := 6) (tgt := 11) dX6_move_6 (by decide) ?_ ?_
  · refine im_bipush (pc := 11) (v := (-2)) dX6_move_11 (by decide) ?_
    refine im_istore_n (pc := 13) (lv' := [some (.inr v0), some (.inl v1), some (.inl (-2)), none, none, none, none, none]) dX6_move_13 rfl (by decide) rfl ?_
    refine im_bipush (pc := 14) (v := (-2)) dX6_move_14 (by decide) ?_
    refine im_istore_n (pc := 16) (lv' := [some (.inr v0), some (.inl v1), some (.inl (-2)), some (.inl (-2)), none, none, none, none]) dX6_move_16 rfl (by decide) rfl ?_
    refine im_iconst (pc := 17) (v := 0) dX6_move_17 (by decide) ?_
    refine im_istore (pc := 18) (lv' := [some (.inr v0), some (.inl v1), some (.inl (-2)), some (.inl (-2)), some (.inl 0), none, none, none]) dX6_move_18 (by decide) rfl ?_
    refine im_iconst (pc := 20) (v := 0) dX6_move_20 (by decide) ?_
    refine im_istore (pc := 21) (lv' := [some (.inr v0), some (.inl v1), some (.inl (-2)), some (.inl (-2)), some (.inl 0), some (.inl 0), none, none]) dX6_move_21 (by decide) rfl ?_
    exact Im.drop [true, true, true, true, true, true, false, false] rfl (mo_move_L23_ok X v0 v1 (-2) (-2) 0 0 h)
  · refine im_iconst (pc := 9) (v := (-1)) dX6_move_9 (by decide) ?_
    exact im_iretP (pc := 10) dX6_move_10
noncomputable def mo_move (a0 : Option Nat) (a1 : Int32) (h : PH) : Option (Int32) := grd (isC [5] a0 h) (mo_move_0 a0 a1 h)
theorem mo_move_im : IM_X6_move mo_move 5 := by
  intro a0 a1 h r e
  obtain ⟨e1, e2⟩ := grd_some e
  exact ⟨e1, SpI.ofP (k := 6) (plainFor_of_name (by decide)) rfl (fun X => Im.drop [true, true, false, false, false, false, false, false] rfl (mo_move_0_ok X a0 a1 h)) e2⟩
def IM_X6_changesPlots (f : Option Nat → Int32 → Int32 → PH → Option (PH)) (d : Nat) : Prop := ∀ (a0 : Option Nat) (a1 : Int32) (a2 : Int32) (h : PH) (h' : PH), f a0 a1 a2 h = some h' → isC [5] a0 h = true ∧ SpV yX6_changesPlots cX6_changesPlots 4 none d [.inr a0, .inl a1, .inl a2] h h'
noncomputable def mo_changesPlots_0 (v0 : Option Nat) (v1 : Int32) (v2 : Int32) (h : PH) : Option (PH) :=
  (gfr [5] 0 v0 h).bind fun r51 =>
  (ald 0 r51 (48 + v1) h).bind fun x52 =>
  (gfr [5] 0 v0 h).bind fun r53 =>
  (gfr [5] 0 v0 h).bind fun r54 =>
  (ald 0 r54 (48 + v2) h).bind fun x55 =>
  (ast 0 r53 (48 + v1) x55 h).bind fun h56 =>
  (gfr [5] 0 v0 h56).bind fun r57 =>
  (ast 0 r57 (48 + v2) x52 h56).bind fun h58 =>
  some (h58)
theorem mo_changesPlots_0_ok (X : CT) (v0 : Option Nat) (v1 : Int32) (v2 : Int32) (h : PH) : Im X (cX6_changesPlots, 4, RX6, "changesPlots", none, 1) 0 [some (.inr v0), some (.inl v1), some (.inl v2), none] [] h (mo_changesPlots_0 v0 v1 v2 h) szV (kV X) := by
  unfold mo_changesPlots_0
  refine im_aload_n (pc := 0) dX6_changesPlots_0 rfl rfl ?_
  refine im_gr (pc := 1) fl_X6_7 dX6_changesPlots_1 fun r51 => ?_
  refine im_bipush (pc := 4) (v := 48) dX6_changesPlots_4 (by decide) ?_
  refine im_iload_n (pc := 6) dX6_changesPlots_6 rfl rfl ?_
  refine im_iadd (pc := 7) dX6_changesPlots_7 ?_
  refine im_iald (pc := 8) dX6_changesPlots_8 fun x52 => ?_
  refine im_istore_n (pc := 9) (lv' := [some (.inr v0), some (.inl v1), some (.inl v2), some (.inl x52)]) dX6_changesPlots_9 rfl (by decide) rfl ?_
  refine im_aload_n (pc := 10) dX6_changesPlots_10 rfl rfl ?_
  refine im_gr (pc := 11) fl_X6_7 dX6_changesPlots_11 fun r53 => ?_
  refine im_bipush (pc := 14) (v := 48) dX6_changesPlots_14 (by decide) ?_
  refine im_iload_n (pc := 16) dX6_changesPlots_16 rfl rfl ?_
  refine im_iadd (pc := 17) dX6_changesPlots_17 ?_
  refine im_aload_n (pc := 18) dX6_changesPlots_18 rfl rfl ?_
  refine im_gr (pc := 19) fl_X6_7 dX6_changesPlots_19 fun r54 => ?_
  refine im_bipush (pc := 22) (v := 48) dX6_changesPlots_22 (by decide) ?_
  refine im_iload_n (pc := 24) dX6_changesPlots_24 rfl rfl ?_
  refine im_iadd (pc := 25) dX6_changesPlots_25 ?_
  refine im_iald (pc := 26) dX6_changesPlots_26 fun x55 => ?_
  refine im_iast (pc := 27) dX6_changesPlots_27 fun h56 => ?_
  refine im_aload_n (pc := 28) dX6_changesPlots_28 rfl rfl ?_
  refine im_gr (pc := 29) fl_X6_7 dX6_changesPlots_29 fun r57 => ?_
  refine im_bipush (pc := 32) (v := 48) dX6_changesPlots_32 (by decide) ?_
  refine im_iload_n (pc := 34) dX6_changesPlots_34 rfl rfl ?_
  refine im_iadd (pc := 35) dX6_changesPlots_35 ?_
  refine im_iload_n (pc := 36) dX6_changesPlots_36 rfl rfl ?_
  refine im_iast (pc := 37) dX6_changesPlots_37 fun h58 => ?_
  exact im_vret (pc := 38) dX6_changesPlots_38
noncomputable def mo_changesPlots (a0 : Option Nat) (a1 : Int32) (a2 : Int32) (h : PH) : Option (PH) := grd (isC [5] a0 h) (mo_changesPlots_0 a0 a1 a2 h)
theorem mo_changesPlots_im : IM_X6_changesPlots mo_changesPlots 1 := by
  intro a0 a1 a2 h h' e
  obtain ⟨e1, e2⟩ := grd_some e
  exact ⟨e1, SpV.of (k := 1) (plainFor_of_name (by decide)) rfl (fun X => Im.drop [true, true, true, false] rfl (mo_changesPlots_0_ok X a0 a1 a2 h)) e2⟩
theorem cl_X6_331 {X : CT} {cc : ByteArray} {nL : Nat} {mn : String} {ret : Option FieldType} {d d0 : Nat} {τ : Type} {pc : Nat} {lv : List (Option PV)} {st : List PV} {h : PH} {sz : τ → Nat × Nat} {K : τ → Prop} {f : Option Nat → PH → Option (Int32)} (HR : IM_X6_yardTalk f d0) {a0 : Option Nat} {g : Int32 → Option τ} (hd : d0 + 1 ≤ d) (hdg : decode cc pc = .ok (.invokevirtual 331, 3)) (hst : st.length ≤ 8) (kk : ∀ r, Im X (cc, nL, RX6, mn, ret, d) (pc + 3) lv (.inl r :: st) h (g r) sz K) : Im X (cc, nL, RX6, mn, ret, d) pc lv (.inr a0 :: st) h ((f a0 h).bind g) sz K := by
  refine im_cP (y := yX6_yardTalk) (cY := cX6_yardTalk) (nY := 4) (rY := (some .int)) (d' := d0) (av := [.inr a0]) (fun r e hX => ?_) (fun r e => (HR _ _ _ e).2) hd (by decide) hst rfl kk
  obtain ⟨a, c, fs, rfl, ec, hm⟩ := isC_some (HR _ _ _ e).1
  cases List.mem_singleton.mp hm
  exact cal_V (n := 0) hX (lw_V q1592 q1573 q1574 q112 q1575) (by decide +kernel) rfl rfl ec hdg

theorem cl_X6_334 {X : CT} {cc : ByteArray} {nL : Nat} {mn : String} {ret : Option FieldType} {d d0 : Nat} {τ : Type} {pc : Nat} {lv : List (Option PV)} {st : List PV} {h : PH} {sz : τ → Nat × Nat} {K : τ → Prop} {f : Option Nat → Int32 → Int32 → PH → Option (PH)} (HR : IM_X6_changesPlots f d0) {a0 : Option Nat} {a1 : Int32} {a2 : Int32} {g : PH → Option τ} (hd : d0 + 1 ≤ d) (hdg : decode cc pc = .ok (.invokevirtual 334, 3)) (hst : st.length ≤ 8) (kk : ∀ h', Im X (cc, nL, RX6, mn, ret, d) (pc + 3) lv st h' (g h') sz K) : Im X (cc, nL, RX6, mn, ret, d) pc lv (.inl a2 :: .inl a1 :: .inr a0 :: st) h ((f a0 a1 a2 h).bind g) sz K := by
  refine im_cV (y := yX6_changesPlots) (cY := cX6_changesPlots) (nY := 4) (rY := none) (d' := d0) (av := [.inr a0, .inl a1, .inl a2]) (fun h' e hX => ?_) (fun h' e => (HR _ _ _ _ _ e).2) hd (by decide) hst rfl kk
  obtain ⟨a, c, fs, rfl, ec, hm⟩ := isC_some (HR _ _ _ _ _ e).1
  cases List.mem_singleton.mp hm
  exact cal_V (n := 2) hX (lw_V q1593 q1595 qs88 q112 q1596) (by decide +kernel) rfl rfl ec hdg

def IM_X6_change (f : Option Nat → Int32 → PH → Option (Int32 × PH)) (d : Nat) : Prop := ∀ (a0 : Option Nat) (a1 : Int32) (h : PH) (r : Int32) (h' : PH), f a0 a1 h = some (r, h') → isC [5] a0 h = true ∧ SpI yX6_change cX6_change 9 (some .int) d [.inr a0, .inl a1] h r h'
noncomputable def mo_change_b42 (v0 : Option Nat) (v1 : Int32) (v2 : Int32) (v3 : Int32) (v4 : Int32) (v5 : Int32) (v6 : Int32) (v7 : Int32) (h : PH) : Option ((Int32 × Int32 × Int32 × Int32 × PH) ⊕ ((Int32 × Int32 × Int32 × Int32 × PH) ⊕ (Int32 × PH))) :=
  (if 16 ≤ v7 then
  some (.inr (.inl (v2, v3, v5, (v6 + 1), h)))
  else
  (mo_isLaid v0 v6 h).bind fun x51 =>
  (if x51 = 0 then
  some (.inl (v2, v3, v5, (v7 + 1), h))
  else
  (mo_isLaid v0 v7 h).bind fun x52 =>
  (if x52 = 0 then
  some (.inl (v2, v3, v5, (v7 + 1), h))
  else
  (mo_changesPlots v0 v6 v7 h).bind fun h53 =>
  (mo_yardTalk v0 h53).bind fun x54 =>
  (mo_changesPlots v0 v6 v7 h53).bind fun h55 =>
  (if v5 < (x54 - v4) then
  some (.inl (v6, v7, (x54 - v4), (v7 + 1), h55))
  else
  some (.inl (v2, v3, v5, (v7 + 1), h55))))))
noncomputable def mo_change_L42 (v0 : Option Nat) (v1 : Int32) (v2 : Int32) (v3 : Int32) (v4 : Int32) (v5 : Int32) (v6 : Int32) (v7 : Int32) (h : PH) : Option ((Int32 × Int32 × Int32 × Int32 × PH) ⊕ (Int32 × PH)) :=
  iter (fun s : Int32 × Int32 × Int32 × Int32 × PH => mo_change_b42 v0 v1 s.1 s.2.1 v4 s.2.2.1 v6 s.2.2.2.1 s.2.2.2.2) (v2, v3, v5, v7, h)
theorem mo_change_b42_ok (X : CT) (v0 : Option Nat) (v1 : Int32) (v2 : Int32) (v3 : Int32) (v4 : Int32) (v5 : Int32) (v6 : Int32) (v7 : Int32) (h : PH) : Im X (cX6_change, 9, RX6, "change", (some .int), 5) 42 [some (.inr v0), some (.inl v1), some (.inl v2), some (.inl v3), some (.inl v4), some (.inl v5), some (.inl v6), some (.inl v7), none] [] h (mo_change_b42 v0 v1 v2 v3 v4 v5 v6 v7 h) (ez (fun s : Int32 × Int32 × Int32 × Int32 × PH => s.2.2.2.2) (ez (fun s : Int32 × Int32 × Int32 × Int32 × PH => s.2.2.2.2) szI)) (ek X 42 (fun s : Int32 × Int32 × Int32 × Int32 × PH => [some (.inr v0), some (.inl v1), some (.inl s.1), some (.inl s.2.1), some (.inl v4), some (.inl s.2.2.1), some (.inl v6), some (.inl s.2.2.2.1), none]) (fun s : Int32 × Int32 × Int32 × Int32 × PH => s.2.2.2.2) (ek X 29 (fun s : Int32 × Int32 × Int32 × Int32 × PH => [some (.inr v0), some (.inl v1), some (.inl s.1), some (.inl s.2.1), some (.inl v4), some (.inl s.2.2.1), some (.inl s.2.2.2.1), none, none]) (fun s : Int32 × Int32 × Int32 × Int32 × PH => s.2.2.2.2) (kI X))) := by
  unfold mo_change_b42
  refine im_iload (pc := 42) dX6_change_42 rfl ?_
  refine im_bipush (pc := 44) (v := 16) dX6_change_44 (by decide) ?_
  refine im_icmp_ge (pc := 46) (tgt := 121) dX6_change_46 (by decide) ?_ ?_
  · refine im_iinc (pc := 121) (v := (v6 + 1)) (lv' := [some (.inr v0), some (.inl v1), some (.inl v2), some (.inl v3), some (.inl v4), some (.inl v5), some (.inl (v6 + 1)), some (.inl v7), none]) dX6_change_121 rfl rfl (by decide) rfl ?_
    refine im_goto (pc := 124) (tgt := 29) dX6_change_124 (by decide) ?_
    exact Im.outS (Im.back [true, true, true, true, true, true, true, false, false] rfl rfl)
  · refine im_aload_n (pc := 49) dX6_change_49 rfl rfl ?_
    refine im_iload (pc := 50) dX6_change_50 rfl ?_
    refine cl_X6_112 mo_isLaid_im (pc := 52) (by decide) dX6_change_52 (Nat.le_of_ble_eq_true rfl) fun x51 => ?_
    refine im_if_eq (pc := 55) (tgt := 115) dX6_change_55 (by decide) ?_ ?_
    · refine im_iinc (pc := 115) (v := (v7 + 1)) (lv' := [some (.inr v0), some (.inl v1), some (.inl v2), some (.inl v3), some (.inl v4), some (.inl v5), some (.inl v6), some (.inl (v7 + 1)), none]) dX6_change_115 rfl rfl (by decide) rfl ?_
      refine im_goto (pc := 118) (tgt := 42) dX6_change_118 (by decide) ?_
      exact Im.back [true, true, true, true, true, true, true, true, false] rfl rfl
    · refine im_aload_n (pc := 58) dX6_change_58 rfl rfl ?_
      refine im_iload (pc := 59) dX6_change_59 rfl ?_
      refine cl_X6_112 mo_isLaid_im (pc := 61) (by decide) dX6_change_61 (Nat.le_of_ble_eq_true rfl) fun x52 => ?_
      refine im_if_ne (pc := 64) (tgt := 70) dX6_change_64 (by decide) ?_ ?_
      · refine im_aload_n (pc := 70) dX6_change_70 rfl rfl ?_
        refine im_iload (pc := 71) dX6_change_71 rfl ?_
        refine im_iload (pc := 73) dX6_change_73 rfl ?_
        refine cl_X6_334 mo_changesPlots_im (pc := 75) (by decide) dX6_change_75 (Nat.le_of_ble_eq_true rfl) fun h53 => ?_
        refine im_aload_n (pc := 78) dX6_change_78 rfl rfl ?_
        refine cl_X6_331 mo_yardTalk_im (pc := 79) (by decide) dX6_change_79 (Nat.le_of_ble_eq_true rfl) fun x54 => ?_
        refine im_iload (pc := 82) dX6_change_82 rfl ?_
        refine im_isub (pc := 84) dX6_change_84 ?_
        refine im_istore (pc := 85) (lv' := [some (.inr v0), some (.inl v1), some (.inl v2), some (.inl v3), some (.inl v4), some (.inl v5), some (.inl v6), some (.inl v7), some (.inl (x54 - v4))]) dX6_change_85 (by decide) rfl ?_
        refine im_aload_n (pc := 87) dX6_change_87 rfl rfl ?_
        refine im_iload (pc := 88) dX6_change_88 rfl ?_
        refine im_iload (pc := 90) dX6_change_90 rfl ?_
        refine cl_X6_334 mo_changesPlots_im (pc := 92) (by decide) dX6_change_92 (Nat.le_of_ble_eq_true rfl) fun h55 => ?_
        refine im_iload (pc := 95) dX6_change_95 rfl ?_
        refine im_iload (pc := 97) dX6_change_97 rfl ?_
        refine im_icmp_gt (pc := 99) (tgt := 105) dX6_change_99 (by decide) ?_ ?_
        · refine im_iload (pc := 105) dX6_change_105 rfl ?_
          refine im_istore (pc := 107) (lv' := [some (.inr v0), some (.inl v1), some (.inl v2), some (.inl v3), some (.inl v4), some (.inl (x54 - v4)), some (.inl v6), some (.inl v7), some (.inl (x54 - v4))]) dX6_change_107 (by decide) rfl ?_
          refine im_iload (pc := 109) dX6_change_109 rfl ?_
          refine im_istore_n (pc := 111) (lv' := [some (.inr v0), some (.inl v1), some (.inl v6), some (.inl v3), some (.inl v4), some (.inl (x54 - v4)), some (.inl v6), some (.inl v7), some (.inl (x54 - v4))]) dX6_change_111 rfl (by decide) rfl ?_
          refine im_iload (pc := 112) dX6_change_112 rfl ?_
          refine im_istore_n (pc := 114) (lv' := [some (.inr v0), some (.inl v1), some (.inl v6), some (.inl v7), some (.inl v4), some (.inl (x54 - v4)), some (.inl v6), some (.inl v7), some (.inl (x54 - v4))]) dX6_change_114 rfl (by decide) rfl ?_
          refine im_iinc (pc := 115) (v := (v7 + 1)) (lv' := [some (.inr v0), some (.inl v1), some (.inl v6), some (.inl v7), some (.inl v4), some (.inl (x54 - v4)), some (.inl v6), some (.inl (v7 + 1)), some (.inl (x54 - v4))]) dX6_change_115 rfl rfl (by decide) rfl ?_
          refine im_goto (pc := 118) (tgt := 42) dX6_change_118 (by decide) ?_
          exact Im.back [true, true, true, true, true, true, true, true, false] rfl rfl
        · refine im_goto (pc := 102) (tgt := 115) dX6_change_102 (by decide) ?_
          refine im_iinc (pc := 115) (v := (v7 + 1)) (lv' := [some (.inr v0), some (.inl v1), some (.inl v2), some (.inl v3), some (.inl v4), some (.inl v5), some (.inl v6), some (.inl (v7 + 1)), some (.inl (x54 - v4))]) dX6_change_115 rfl rfl (by decide) rfl ?_
          refine im_goto (pc := 118) (tgt := 42) dX6_change_118 (by decide) ?_
          exact Im.back [true, true, true, true, true, true, true, true, false] rfl rfl
      · refine im_goto (pc := 67) (tgt := 115) dX6_change_67 (by decide) ?_
        refine im_iinc (pc := 115) (v := (v7 + 1)) (lv' := [some (.inr v0), some (.inl v1), some (.inl v2), some (.inl v3), some (.inl v4), some (.inl v5), some (.inl v6), some (.inl (v7 + 1)), none]) dX6_change_115 rfl rfl (by decide) rfl ?_
        refine im_goto (pc := 118) (tgt := 42) dX6_change_118 (by decide) ?_
        exact Im.back [true, true, true, true, true, true, true, true, false] rfl rfl
theorem mo_change_L42_ok (X : CT) (v0 : Option Nat) (v1 : Int32) (v2 : Int32) (v3 : Int32) (v4 : Int32) (v5 : Int32) (v6 : Int32) (v7 : Int32) (h : PH) : Im X (cX6_change, 9, RX6, "change", (some .int), 5) 42 [some (.inr v0), some (.inl v1), some (.inl v2), some (.inl v3), some (.inl v4), some (.inl v5), some (.inl v6), some (.inl v7), none] [] h (mo_change_L42 v0 v1 v2 v3 v4 v5 v6 v7 h) (ez (fun s : Int32 × Int32 × Int32 × Int32 × PH => s.2.2.2.2) szI) (ek X 29 (fun s : Int32 × Int32 × Int32 × Int32 × PH => [some (.inr v0), some (.inl v1), some (.inl s.1), some (.inl s.2.1), some (.inl v4), some (.inl s.2.2.1), some (.inl s.2.2.2.1), none, none]) (fun s : Int32 × Int32 × Int32 × Int32 × PH => s.2.2.2.2) (kI X)) := by
  unfold mo_change_L42
  exact Im.iter (lv := (fun s : Int32 × Int32 × Int32 × Int32 × PH => [some (.inr v0), some (.inl v1), some (.inl s.1), some (.inl s.2.1), some (.inl v4), some (.inl s.2.2.1), some (.inl v6), some (.inl s.2.2.2.1), none])) (hp := (fun s : Int32 × Int32 × Int32 × Int32 × PH => s.2.2.2.2)) (fun s => mo_change_b42_ok X v0 v1 s.1 s.2.1 v4 s.2.2.1 v6 s.2.2.2.1 s.2.2.2.2) _ rfl rfl
noncomputable def mo_change_b29 (v0 : Option Nat) (v1 : Int32) (v2 : Int32) (v3 : Int32) (v4 : Int32) (v5 : Int32) (v6 : Int32) (h : PH) : Option ((Int32 × Int32 × Int32 × Int32 × PH) ⊕ (Int32 × PH)) :=
  (if 16 ≤ v6 then
  (if v2 = (-2) then
  some (.inr (((-2), h)))
  else
  (if v1 = 0 then
  some (.inr ((v2, h)))
  else
  (if v1 = 1 then
  some (.inr ((v3, h)))
  else
  some (.inr ((v5, h))))))
  else
  mo_change_L42 v0 v1 v2 v3 v4 v5 v6 (v6 + 1) h)
noncomputable def mo_change_L29 (v0 : Option Nat) (v1 : Int32) (v2 : Int32) (v3 : Int32) (v4 : Int32) (v5 : Int32) (v6 : Int32) (h : PH) : Option (Int32 × PH) :=
  iter (fun s : Int32 × Int32 × Int32 × Int32 × PH => mo_change_b29 v0 v1 s.1 s.2.1 v4 s.2.2.1 s.2.2.2.1 s.2.2.2.2) (v2, v3, v5, v6, h)
theorem mo_change_b29_ok (X : CT) (v0 : Option Nat) (v1 : Int32) (v2 : Int32) (v3 : Int32) (v4 : Int32) (v5 : Int32) (v6 : Int32) (h : PH) : Im X (cX6_change, 9, RX6, "change", (some .int), 5) 29 [some (.inr v0), some (.inl v1), some (.inl v2), some (.inl v3), some (.inl v4), some (.inl v5), some (.inl v6), none, none] [] h (mo_change_b29 v0 v1 v2 v3 v4 v5 v6 h) (ez (fun s : Int32 × Int32 × Int32 × Int32 × PH => s.2.2.2.2) szI) (ek X 29 (fun s : Int32 × Int32 × Int32 × Int32 × PH => [some (.inr v0), some (.inl v1), some (.inl s.1), some (.inl s.2.1), some (.inl v4), some (.inl s.2.2.1), some (.inl s.2.2.2.1), none, none]) (fun s : Int32 × Int32 × Int32 × Int32 × PH => s.2.2.2.2) (kI X)) := by
  unfold mo_change_b29
  refine im_iload (pc := 29) dX6_change_29 rfl ?_
  refine im_bipush (pc := 31) (v := 16) dX6_change_31 (by decide) ?_
  refine im_icmp_ge (pc := 33) (tgt := 127) dX6_change_33 (by decide) ?_ ?_
  · refine im_iload_n (pc := 127) dX6_change_127 rfl rfl ?_
    refine im_bipush (pc := 128) (v := (-2)) dX6_change_128 (by decide) ?_
    refine im_icmp_ne (pc := 130) (tgt := 136) dX6_change_130 (by decide) ?_ ?_
    · refine im_iload_n (pc := 136) dX6_change_136 rfl rfl ?_
      refine im_if_ne (pc := 137) (tgt := 144) dX6_change_137 (by decide) ?_ ?_
      · refine im_iload_n (pc := 144) dX6_change_144 rfl rfl ?_
        refine im_iconst (pc := 145) (v := 1) dX6_change_145 (by decide) ?_
        refine im_icmp_ne (pc := 146) (tgt := 153) dX6_change_146 (by decide) ?_ ?_
        · refine im_iload (pc := 153) dX6_change_153 rfl ?_
          exact Im.outS (im_iret (pc := 155) dX6_change_155)
        · refine im_iload_n (pc := 149) dX6_change_149 rfl rfl ?_
          refine im_goto (pc := 150) (tgt := 155) dX6_change_150 (by decide) ?_
          exact Im.outS (im_iret (pc := 155) dX6_change_155)
      · refine im_iload_n (pc := 140) dX6_change_140 rfl rfl ?_
        refine im_goto (pc := 141) (tgt := 155) dX6_change_141 (by decide) ?_
        exact Im.outS (im_iret (pc := 155) dX6_change_155)
    · refine im_bipush (pc := 133) (v := (-2)) dX6_change_133 (by decide) ?_
      exact Im.outS (im_iret (pc := 135) dX6_change_135)
  · refine im_iload (pc := 36) dX6_change_36 rfl ?_
    refine im_iconst (pc := 38) (v := 1) dX6_change_38 (by decide) ?_
    refine im_iadd (pc := 39) dX6_change_39 ?_
    refine im_istore (pc := 40) (lv' := [some (.inr v0), some (.inl v1), some (.inl v2), some (.inl v3), some (.inl v4), some (.inl v5), some (.inl v6), some (.inl (v6 + 1)), none]) dX6_change_40 (by decide) rfl ?_
    exact Im.drop [true, true, true, true, true, true, true, true, false] rfl (mo_change_L42_ok X v0 v1 v2 v3 v4 v5 v6 (v6 + 1) h)
theorem mo_change_L29_ok (X : CT) (v0 : Option Nat) (v1 : Int32) (v2 : Int32) (v3 : Int32) (v4 : Int32) (v5 : Int32) (v6 : Int32) (h : PH) : Im X (cX6_change, 9, RX6, "change", (some .int), 5) 29 [some (.inr v0), some (.inl v1), some (.inl v2), some (.inl v3), some (.inl v4), some (.inl v5), some (.inl v6), none, none] [] h (mo_change_L29 v0 v1 v2 v3 v4 v5 v6 h) szI (kI X) := by
  unfold mo_change_L29
  exact Im.iter (lv := (fun s : Int32 × Int32 × Int32 × Int32 × PH => [some (.inr v0), some (.inl v1), some (.inl s.1), some (.inl s.2.1), some (.inl v4), some (.inl s.2.2.1), some (.inl s.2.2.2.1), none, none])) (hp := (fun s : Int32 × Int32 × Int32 × Int32 × PH => s.2.2.2.2)) (fun s => mo_change_b29_ok X v0 v1 s.1 s.2.1 v4 s.2.2.1 s.2.2.2.1 s.2.2.2.2) _ rfl rfl
noncomputable def mo_change_0 (v0 : Option Nat) (v1 : Int32) (h : PH) : Option (Int32 × PH) :=
  (mo_in v1 0 2 h).bind fun x51 =>
  (if x51 = 0 then
  some (((-1), h))
  else
  (mo_yardTalk v0 h).bind fun x52 =>
  mo_change_L29 v0 v1 (-2) (-2) x52 0 0 h)
theorem mo_change_0_ok (X : CT) (v0 : Option Nat) (v1 : Int32) (h : PH) : Im X (cX6_change, 9, RX6, "change", (some .int), 5) 0 [some (.inr v0), some (.inl v1), none, none, none, none, none, none, none] [] h (mo_change_0 v0 v1 h) szI (kI X) := by
  unfold mo_change_0
  refine im_iload_n (pc := 0) dX6_change_0 rfl rfl ?_
  refine im_iconst (pc := 1) (v := 0) dX6_change_1 (by decide) ?_
  refine im_iconst (pc := 2) (v := 2) dX6_change_2 (by decide) ?_
  refine cl_X6_104 mo_in_im (pc := 3) (by decide) dX6_change_3 (Nat.le_of_ble_eq_true rfl) fun x51 => ?_
  refine im_if_ne (pc := 6) (tgt := 11) dX6_change_6 (by decide) ?_ ?_
  · refine im_bipush (pc := 11) (v := (-2)) dX6_change_11 (by decide) ?_
    refine im_istore_n (pc := 13) (lv' := [some (.inr v0), some (.inl v1), some (.inl (-2)), none, none, none, none, none, none]) dX6_change_13 rfl (by decide) rfl ?_
    refine im_bipush (pc := 14) (v := (-2)) dX6_change_14 (by decide) ?_
    refine im_istore_n (pc := 16) (lv' := [some (.inr v0), some (.inl v1), some (.inl (-2)), some (.inl (-2)), none, none, none, none, none]) dX6_change_16 rfl (by decide) rfl ?_
    refine im_aload_n (pc := 17) dX6_change_17 rfl rfl ?_
    refine cl_X6_331 mo_yardTalk_im (pc := 18) (by decide) dX6_change_18 (Nat.le_of_ble_eq_true rfl) fun x52 => ?_
    refine im_istore (pc := 21) (lv' := [some (.inr v0), some (.inl v1), some (.inl (-2)), some (.inl (-2)), some (.inl x52), none, none, none, none]) dX6_change_21 (by decide) rfl ?_
    refine im_iconst (pc := 23) (v := 0) dX6_change_23 (by decide) ?_
    refine im_istore (pc := 24) (lv' := [some (.inr v0), some (.inl v1), some (.inl (-2)), some (.inl (-2)), some (.inl x52), some (.inl 0), none, none, none]) dX6_change_24 (by decide) rfl ?_
    refine im_iconst (pc := 26) (v := 0) dX6_change_26 (by decide) ?_
    refine im_istore (pc := 27) (lv' := [some (.inr v0), some (.inl v1), some (.inl (-2)), some (.inl (-2)), some (.inl x52), some (.inl 0), some (.inl 0), none, none]) dX6_change_27 (by decide) rfl ?_
    exact Im.drop [true, true, true, true, true, true, true, false, false] rfl (mo_change_L29_ok X v0 v1 (-2) (-2) x52 0 0 h)
  · refine im_iconst (pc := 9) (v := (-1)) dX6_change_9 (by decide) ?_
    exact im_iret (pc := 10) dX6_change_10
noncomputable def mo_change (a0 : Option Nat) (a1 : Int32) (h : PH) : Option (Int32 × PH) := grd (isC [5] a0 h) (mo_change_0 a0 a1 h)
theorem mo_change_im : IM_X6_change mo_change 5 := by
  intro a0 a1 h r h' e
  obtain ⟨e1, e2⟩ := grd_some e
  exact ⟨e1, SpI.of (k := 7) (plainFor_of_name (by decide)) rfl (fun X => Im.drop [true, true, false, false, false, false, false, false, false] rfl (mo_change_0_ok X a0 a1 h)) e2⟩
def IM_X6_isByWall (f : Int32 → PH → Option (Int32)) (d : Nat) : Prop := ∀ (a0 : Int32) (h : PH) (r : Int32), f a0 h = some r → SpI yX6_isByWall cX6_isByWall 1 (some .boolean) d [.inl a0] h r h
noncomputable def mo_isByWall_0 (v0 : Int32) (h : PH) : Option (Int32) :=
  (if (irm v0 10) = 0 then
  some (1)
  else
  (if (irm v0 10) = 9 then
  some (1)
  else
  (if (v0 / 10) = 0 then
  some (1)
  else
  (if (v0 / 10) = 5 then
  some (1)
  else
  some (0)))))
theorem mo_isByWall_0_ok (X : CT) (v0 : Int32) (h : PH) : Im X (cX6_isByWall, 1, RX6, "isByWall", (some .boolean), 1) 0 [some (.inl v0)] [] h (mo_isByWall_0 v0 h) (szP h) (kP X h) := by
  unfold mo_isByWall_0
  refine im_iload_n (pc := 0) dX6_isByWall_0 rfl rfl ?_
  refine im_bipush (pc := 1) (v := 10) dX6_isByWall_1 (by decide) ?_
  refine im_iremC (pc := 3) (by decide) dX6_isByWall_3 ?_
  refine im_if_eq (pc := 4) (tgt := 31) dX6_isByWall_4 (by decide) ?_ ?_
  · refine im_iconst (pc := 31) (v := 1) dX6_isByWall_31 (by decide) ?_
    refine im_goto (pc := 32) (tgt := 36) dX6_isByWall_32 (by decide) ?_
    exact im_zretTP (pc := 36) (nar_z (Or.inr rfl)) dX6_isByWall_36
  · refine im_iload_n (pc := 7) dX6_isByWall_7 rfl rfl ?_
    refine im_bipush (pc := 8) (v := 10) dX6_isByWall_8 (by decide) ?_
    refine im_iremC (pc := 10) (by decide) dX6_isByWall_10 ?_
    refine im_bipush (pc := 11) (v := 9) dX6_isByWall_11 (by decide) ?_
    refine im_icmp_eq (pc := 13) (tgt := 31) dX6_isByWall_13 (by decide) ?_ ?_
    · refine im_iconst (pc := 31) (v := 1) dX6_isByWall_31 (by decide) ?_
      refine im_goto (pc := 32) (tgt := 36) dX6_isByWall_32 (by decide) ?_
      exact im_zretTP (pc := 36) (nar_z (Or.inr rfl)) dX6_isByWall_36
    · refine im_iload_n (pc := 16) dX6_isByWall_16 rfl rfl ?_
      refine im_bipush (pc := 17) (v := 10) dX6_isByWall_17 (by decide) ?_
      refine im_idivC (pc := 19) (by decide) dX6_isByWall_19 ?_
      refine im_if_eq (pc := 20) (tgt := 31) dX6_isByWall_20 (by decide) ?_ ?_
      · refine im_iconst (pc := 31) (v := 1) dX6_isByWall_31 (by decide) ?_
        refine im_goto (pc := 32) (tgt := 36) dX6_isByWall_32 (by decide) ?_
        exact im_zretTP (pc := 36) (nar_z (Or.inr rfl)) dX6_isByWall_36
      · refine im_iload_n (pc := 23) dX6_isByWall_23 rfl rfl ?_
        refine im_bipush (pc := 24) (v := 10) dX6_isByWall_24 (by decide) ?_
        refine im_idivC (pc := 26) (by decide) dX6_isByWall_26 ?_
        refine im_iconst (pc := 27) (v := 5) dX6_isByWall_27 (by decide) ?_
        refine im_icmp_ne (pc := 28) (tgt := 35) dX6_isByWall_28 (by decide) ?_ ?_
        · refine im_iconst (pc := 35) (v := 0) dX6_isByWall_35 (by decide) ?_
          exact im_zretTP (pc := 36) (nar_z (Or.inl rfl)) dX6_isByWall_36
        · refine im_iconst (pc := 31) (v := 1) dX6_isByWall_31 (by decide) ?_
          refine im_goto (pc := 32) (tgt := 36) dX6_isByWall_32 (by decide) ?_
          exact im_zretTP (pc := 36) (nar_z (Or.inr rfl)) dX6_isByWall_36
noncomputable def mo_isByWall (a0 : Int32) (h : PH) : Option (Int32) := mo_isByWall_0 a0 h
theorem mo_isByWall_im : IM_X6_isByWall mo_isByWall 1 := by
  intro a0 h r e
  exact SpI.ofP (k := 0) (plainFor_of_name (by decide)) rfl (fun X => Im.drop [true] rfl (mo_isByWall_0_ok X a0 h)) e
