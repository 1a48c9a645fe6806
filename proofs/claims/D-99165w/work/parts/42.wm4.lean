set_option maxRecDepth 100000
theorem cl_X6_337 {X : CT} {cc : ByteArray} {nL : Nat} {mn : String} {ret : Option FieldType} {d d0 : Nat} {τ : Type} {pc : Nat} {lv : List (Option PV)} {st : List PV} {h : PH} {sz : τ → Nat × Nat} {K : τ → Prop} {f : Int32 → PH → Option (Int32)} (HR : IM_X6_isByWall f d0) {a0 : Int32} {g : Int32 → Option τ} (hd : d0 + 1 ≤ d) (hdg : decode cc pc = .ok (.invokestatic 337, 3)) (hst : st.length ≤ 8) (kk : ∀ r, Im X (cc, nL, RX6, mn, ret, d) (pc + 3) lv (.inl r :: st) h (g r) sz K) : Im X (cc, nL, RX6, mn, ret, d) pc lv (.inl a0 :: st) h ((f a0 h).bind g) sz K := by
  refine im_cP (y := yX6_isByWall) (cY := cX6_isByWall) (nY := 1) (rY := (some .boolean)) (d' := d0) (av := [.inl a0]) (fun r e hX => ?_) (fun r e => HR _ _ _ e) hd (by decide) hst rfl kk
  exact cal_S (n := 1) hX (lw_S q1605 q1606 q112 q1607) (by decide +kernel) rfl hdg

def IM_X6_holdsWish (f : Option Nat → Int32 → PH → Option (Int32)) (d : Nat) : Prop := ∀ (a0 : Option Nat) (a1 : Int32) (h : PH) (r : Int32), f a0 a1 h = some r → isC [5] a0 h = true ∧ SpI yX6_holdsWish cX6_holdsWish 4 (some .boolean) d [.inr a0, .inl a1] h r h
noncomputable def mo_holdsWish_0 (v0 : Option Nat) (v1 : Int32) (h : PH) : Option (Int32) :=
  (gfr [5] 28 v0 h).bind fun r51 =>
  (ald 0 r51 v1 h).bind fun x52 =>
  (gfr [5] 30 v0 h).bind fun r53 =>
  (ald 0 r53 v1 h).bind fun x54 =>
  (gfr [5] 29 v0 h).bind fun r55 =>
  (ald 0 r55 v1 h).bind fun x56 =>
  (if x56 = 35 then
  (mo_isLaid v0 x52 h).bind fun x59 =>
  (if x59 = 0 then
  some (0)
  else
  (gfr [5] 0 v0 h).bind fun r60 =>
  (ald 0 r60 (48 + x52) h).bind fun x61 =>
  (mo_isByWall x61 h).bind fun x62 =>
  (if x62 = 0 then
  some (0)
  else
  some (1)))
  else
  (if x56 = 43 then
  (mo_areBeside v0 x52 x54 h).bind fun x63 =>
  (zok x63).bind fun x64 => some (x64)
  else
  (if x56 = 45 then
  (mo_areBeside v0 x52 x54 h).bind fun x65 =>
  (if x65 = 0 then
  some (1)
  else
  some (0))
  else
  (mo_isLaid v0 x52 h).bind fun x57 =>
  (if x57 = 0 then
  some (0)
  else
  (mo_besideSet v0 x52 h).bind fun x58 =>
  (if x58 = 0 then
  some (1)
  else
  some (0))))))
theorem mo_holdsWish_0_ok (X : CT) (v0 : Option Nat) (v1 : Int32) (h : PH) : Im X (cX6_holdsWish, 4, RX6, "holdsWish", (some .boolean), 5) 0 [some (.inr v0), some (.inl v1), none, none] [] h (mo_holdsWish_0 v0 v1 h) (szP h) (kP X h) := by
  unfold mo_holdsWish_0
  refine im_aload_n (pc := 0) dX6_holdsWish_0 rfl rfl ?_
  refine im_gr (pc := 1) fl_X6_62 dX6_holdsWish_1 fun r51 => ?_
  refine im_iload_n (pc := 4) dX6_holdsWish_4 rfl rfl ?_
  refine im_iald (pc := 5) dX6_holdsWish_5 fun x52 => ?_
  refine im_istore_n (pc := 6) (lv' := [some (.inr v0), some (.inl v1), some (.inl x52), none]) dX6_holdsWish_6 rfl (by decide) rfl ?_
  refine im_aload_n (pc := 7) dX6_holdsWish_7 rfl rfl ?_
  refine im_gr (pc := 8) fl_X6_68 dX6_holdsWish_8 fun r53 => ?_
  refine im_iload_n (pc := 11) dX6_holdsWish_11 rfl rfl ?_
  refine im_iald (pc := 12) dX6_holdsWish_12 fun x54 => ?_
  refine im_istore_n (pc := 13) (lv' := [some (.inr v0), some (.inl v1), some (.inl x52), some (.inl x54)]) dX6_holdsWish_13 rfl (by decide) rfl ?_
  refine im_aload_n (pc := 14) dX6_holdsWish_14 rfl rfl ?_
  refine im_gr (pc := 15) fl_X6_65 dX6_holdsWish_15 fun r55 => ?_
  refine im_iload_n (pc := 18) dX6_holdsWish_18 rfl rfl ?_
  refine im_iald (pc := 19) dX6_holdsWish_19 fun x56 => ?_
  refine im_lsw (pc := 20) (dt := 107) [(35, 78), (43, 56), (45, 63)] dX6_holdsWish_20 (by decide) (by decide) ⟨_, _, rfl, ?_, ⟨_, _, rfl, ?_, ⟨_, _, rfl, ?_, ?_⟩⟩⟩
  · refine im_aload_n (pc := 78) dX6_holdsWish_78 rfl rfl ?_
    refine im_iload_n (pc := 79) dX6_holdsWish_79 rfl rfl ?_
    refine cl_X6_112 mo_isLaid_im (pc := 80) (by decide) dX6_holdsWish_80 (Nat.le_of_ble_eq_true rfl) fun x59 => ?_
    refine im_if_eq (pc := 83) (tgt := 105) dX6_holdsWish_83 (by decide) ?_ ?_
    · refine im_iconst (pc := 105) (v := 0) dX6_holdsWish_105 (by decide) ?_
      exact im_zretTP (pc := 106) (nar_z (Or.inl rfl)) dX6_holdsWish_106
    · refine im_aload_n (pc := 86) dX6_holdsWish_86 rfl rfl ?_
      refine im_gr (pc := 87) fl_X6_7 dX6_holdsWish_87 fun r60 => ?_
      refine im_bipush (pc := 90) (v := 48) dX6_holdsWish_90 (by decide) ?_
      refine im_iload_n (pc := 92) dX6_holdsWish_92 rfl rfl ?_
      refine im_iadd (pc := 93) dX6_holdsWish_93 ?_
      refine im_iald (pc := 94) dX6_holdsWish_94 fun x61 => ?_
      refine cl_X6_337 mo_isByWall_im (pc := 95) (by decide) dX6_holdsWish_95 (Nat.le_of_ble_eq_true rfl) fun x62 => ?_
      refine im_if_eq (pc := 98) (tgt := 105) dX6_holdsWish_98 (by decide) ?_ ?_
      · refine im_iconst (pc := 105) (v := 0) dX6_holdsWish_105 (by decide) ?_
        exact im_zretTP (pc := 106) (nar_z (Or.inl rfl)) dX6_holdsWish_106
      · refine im_iconst (pc := 101) (v := 1) dX6_holdsWish_101 (by decide) ?_
        refine im_goto (pc := 102) (tgt := 106) dX6_holdsWish_102 (by decide) ?_
        exact im_zretTP (pc := 106) (nar_z (Or.inr rfl)) dX6_holdsWish_106
  · refine im_aload_n (pc := 56) dX6_holdsWish_56 rfl rfl ?_
    refine im_iload_n (pc := 57) dX6_holdsWish_57 rfl rfl ?_
    refine im_iload_n (pc := 58) dX6_holdsWish_58 rfl rfl ?_
    refine cl_X6_123 mo_areBeside_im (pc := 59) (by decide) dX6_holdsWish_59 (Nat.le_of_ble_eq_true rfl) fun x63 => ?_
    refine im_zok fun x64 hz => ?_
    exact im_zretTP (pc := 62) (nar_z hz) dX6_holdsWish_62
  · refine im_aload_n (pc := 63) dX6_holdsWish_63 rfl rfl ?_
    refine im_iload_n (pc := 64) dX6_holdsWish_64 rfl rfl ?_
    refine im_iload_n (pc := 65) dX6_holdsWish_65 rfl rfl ?_
    refine cl_X6_123 mo_areBeside_im (pc := 66) (by decide) dX6_holdsWish_66 (Nat.le_of_ble_eq_true rfl) fun x65 => ?_
    refine im_if_ne (pc := 69) (tgt := 76) dX6_holdsWish_69 (by decide) ?_ ?_
    · refine im_iconst (pc := 76) (v := 0) dX6_holdsWish_76 (by decide) ?_
      exact im_zretTP (pc := 77) (nar_z (Or.inl rfl)) dX6_holdsWish_77
    · refine im_iconst (pc := 72) (v := 1) dX6_holdsWish_72 (by decide) ?_
      refine im_goto (pc := 73) (tgt := 77) dX6_holdsWish_73 (by decide) ?_
      exact im_zretTP (pc := 77) (nar_z (Or.inr rfl)) dX6_holdsWish_77
  · refine im_aload_n (pc := 107) dX6_holdsWish_107 rfl rfl ?_
    refine im_iload_n (pc := 108) dX6_holdsWish_108 rfl rfl ?_
    refine cl_X6_112 mo_isLaid_im (pc := 109) (by decide) dX6_holdsWish_109 (Nat.le_of_ble_eq_true rfl) fun x57 => ?_
    refine im_if_eq (pc := 112) (tgt := 127) dX6_holdsWish_112 (by decide) ?_ ?_
    · refine im_iconst (pc := 127) (v := 0) dX6_holdsWish_127 (by decide) ?_
      exact im_zretTP (pc := 128) (nar_z (Or.inl rfl)) dX6_holdsWish_128
    · refine im_aload_n (pc := 115) dX6_holdsWish_115 rfl rfl ?_
      refine im_iload_n (pc := 116) dX6_holdsWish_116 rfl rfl ?_
      refine cl_X6_244 mo_besideSet_im (pc := 117) (by decide) dX6_holdsWish_117 (Nat.le_of_ble_eq_true rfl) fun x58 => ?_
      refine im_if_ne (pc := 120) (tgt := 127) dX6_holdsWish_120 (by decide) ?_ ?_
      · refine im_iconst (pc := 127) (v := 0) dX6_holdsWish_127 (by decide) ?_
        exact im_zretTP (pc := 128) (nar_z (Or.inl rfl)) dX6_holdsWish_128
      · refine im_iconst (pc := 123) (v := 1) dX6_holdsWish_123 (by decide) ?_
        refine im_goto (pc := 124) (tgt := 128) dX6_holdsWish_124 (by decide) ?_
        exact im_zretTP (pc := 128) (nar_z (Or.inr rfl)) dX6_holdsWish_128
noncomputable def mo_holdsWish (a0 : Option Nat) (a1 : Int32) (h : PH) : Option (Int32) := grd (isC [5] a0 h) (mo_holdsWish_0 a0 a1 h)
theorem mo_holdsWish_im : IM_X6_holdsWish mo_holdsWish 5 := by
  intro a0 a1 h r e
  obtain ⟨e1, e2⟩ := grd_some e
  exact ⟨e1, SpI.ofP (k := 2) (plainFor_of_name (by decide)) rfl (fun X => Im.drop [true, true, false, false] rfl (mo_holdsWish_0_ok X a0 a1 h)) e2⟩
theorem fl_X6_279 : ∀ c ∈ [5], FL RX6 279 c 34 := List.forall_mem_cons.mpr ⟨⟨RX6, TX6, 50, rfl, in_X6, by decide, Or.inl q1211⟩, fun _ h => absurd h List.not_mem_nil⟩
theorem cl_X6_340 {X : CT} {cc : ByteArray} {nL : Nat} {mn : String} {ret : Option FieldType} {d d0 : Nat} {τ : Type} {pc : Nat} {lv : List (Option PV)} {st : List PV} {h : PH} {sz : τ → Nat × Nat} {K : τ → Prop} {f : Option Nat → Int32 → PH → Option (Int32)} (HR : IM_X6_holdsWish f d0) {a0 : Option Nat} {a1 : Int32} {g : Int32 → Option τ} (hd : d0 + 1 ≤ d) (hdg : decode cc pc = .ok (.invokevirtual 340, 3)) (hst : st.length ≤ 8) (kk : ∀ r, Im X (cc, nL, RX6, mn, ret, d) (pc + 3) lv (.inl r :: st) h (g r) sz K) : Im X (cc, nL, RX6, mn, ret, d) pc lv (.inl a1 :: .inr a0 :: st) h ((f a0 a1 h).bind g) sz K := by
  refine im_cP (y := yX6_holdsWish) (cY := cX6_holdsWish) (nY := 4) (rY := (some .boolean)) (d' := d0) (av := [.inr a0, .inl a1]) (fun r e hX => ?_) (fun r e => (HR _ _ _ _ e).2) hd (by decide) hst rfl kk
  obtain ⟨a, c, fs, rfl, ec, hm⟩ := isC_some (HR _ _ _ _ e).1
  cases List.mem_singleton.mp hm
  exact cal_V (n := 1) hX (lw_V q1601 q1603 qs89 q112 q1604) (by decide +kernel) rfl rfl ec hdg

def IM_X6_hold (f : Option Nat → Int32 → PH → Option (Int32)) (d : Nat) : Prop := ∀ (a0 : Option Nat) (a1 : Int32) (h : PH) (r : Int32), f a0 a1 h = some r → isC [5] a0 h = true ∧ SpI yX6_hold cX6_hold 5 (some .int) d [.inr a0, .inl a1] h r h
noncomputable def mo_hold_b24 (v0 : Option Nat) (v1 : Int32) (v2 : Int32) (v3 : Int32) (v4 : Int32) (h : PH) : Option ((Int32 × Int32 × Int32) ⊕ (Int32)) :=
  (if v4 < 0 then
  (if v1 = 0 then
  some (.inr v2)
  else
  some (.inr v3))
  else
  (mo_holdsWish v0 v4 h).bind fun x51 =>
  (if x51 = 0 then
  some (.inl (v2, v4, (v4 + (-1))))
  else
  some (.inl ((v2 + 1), v3, (v4 + (-1))))))
noncomputable def mo_hold_L24 (v0 : Option Nat) (v1 : Int32) (v2 : Int32) (v3 : Int32) (v4 : Int32) (h : PH) : Option (Int32) :=
  iter (fun s : Int32 × Int32 × Int32 => mo_hold_b24 v0 v1 s.1 s.2.1 s.2.2 h) (v2, v3, v4)
theorem mo_hold_b24_ok (X : CT) (v0 : Option Nat) (v1 : Int32) (v2 : Int32) (v3 : Int32) (v4 : Int32) (h : PH) : Im X (cX6_hold, 5, RX6, "hold", (some .int), 6) 24 [some (.inr v0), some (.inl v1), some (.inl v2), some (.inl v3), some (.inl v4)] [] h (mo_hold_b24 v0 v1 v2 v3 v4 h) (ez (fun s : Int32 × Int32 × Int32 => h) (szP h)) (ek X 24 (fun s : Int32 × Int32 × Int32 => [some (.inr v0), some (.inl v1), some (.inl s.1), some (.inl s.2.1), some (.inl s.2.2)]) (fun s : Int32 × Int32 × Int32 => h) (kP X h)) := by
  unfold mo_hold_b24
  refine im_iload (pc := 24) dX6_hold_24 rfl ?_
  refine im_if_lt (pc := 26) (tgt := 54) dX6_hold_26 (by decide) ?_ ?_
  · refine im_iload_n (pc := 54) dX6_hold_54 rfl rfl ?_
    refine im_if_ne (pc := 55) (tgt := 62) dX6_hold_55 (by decide) ?_ ?_
    · refine im_iload_n (pc := 62) dX6_hold_62 rfl rfl ?_
      exact Im.outS (im_iretP (pc := 63) dX6_hold_63)
    · refine im_iload_n (pc := 58) dX6_hold_58 rfl rfl ?_
      refine im_goto (pc := 59) (tgt := 63) dX6_hold_59 (by decide) ?_
      exact Im.outS (im_iretP (pc := 63) dX6_hold_63)
  · refine im_aload_n (pc := 29) dX6_hold_29 rfl rfl ?_
    refine im_iload (pc := 30) dX6_hold_30 rfl ?_
    refine cl_X6_340 mo_holdsWish_im (pc := 32) (by decide) dX6_hold_32 (Nat.le_of_ble_eq_true rfl) fun x51 => ?_
    refine im_if_eq (pc := 35) (tgt := 45) dX6_hold_35 (by decide) ?_ ?_
    · refine im_iload (pc := 45) dX6_hold_45 rfl ?_
      refine im_istore_n (pc := 47) (lv' := [some (.inr v0), some (.inl v1), some (.inl v2), some (.inl v4), some (.inl v4)]) dX6_hold_47 rfl (by decide) rfl ?_
      refine im_iinc (pc := 48) (v := (v4 + (-1))) (lv' := [some (.inr v0), some (.inl v1), some (.inl v2), some (.inl v4), some (.inl (v4 + (-1)))]) dX6_hold_48 rfl rfl (by decide) rfl ?_
      refine im_goto (pc := 51) (tgt := 24) dX6_hold_51 (by decide) ?_
      exact Im.back [true, true, true, true, true] rfl rfl
    · refine im_iload_n (pc := 38) dX6_hold_38 rfl rfl ?_
      refine im_iconst (pc := 39) (v := 1) dX6_hold_39 (by decide) ?_
      refine im_iadd (pc := 40) dX6_hold_40 ?_
      refine im_istore_n (pc := 41) (lv' := [some (.inr v0), some (.inl v1), some (.inl (v2 + 1)), some (.inl v3), some (.inl v4)]) dX6_hold_41 rfl (by decide) rfl ?_
      refine im_goto (pc := 42) (tgt := 48) dX6_hold_42 (by decide) ?_
      refine im_iinc (pc := 48) (v := (v4 + (-1))) (lv' := [some (.inr v0), some (.inl v1), some (.inl (v2 + 1)), some (.inl v3), some (.inl (v4 + (-1)))]) dX6_hold_48 rfl rfl (by decide) rfl ?_
      refine im_goto (pc := 51) (tgt := 24) dX6_hold_51 (by decide) ?_
      exact Im.back [true, true, true, true, true] rfl rfl
theorem mo_hold_L24_ok (X : CT) (v0 : Option Nat) (v1 : Int32) (v2 : Int32) (v3 : Int32) (v4 : Int32) (h : PH) : Im X (cX6_hold, 5, RX6, "hold", (some .int), 6) 24 [some (.inr v0), some (.inl v1), some (.inl v2), some (.inl v3), some (.inl v4)] [] h (mo_hold_L24 v0 v1 v2 v3 v4 h) (szP h) (kP X h) := by
  unfold mo_hold_L24
  exact Im.iter (lv := (fun s : Int32 × Int32 × Int32 => [some (.inr v0), some (.inl v1), some (.inl s.1), some (.inl s.2.1), some (.inl s.2.2)])) (hp := (fun s : Int32 × Int32 × Int32 => h)) (fun s => mo_hold_b24_ok X v0 v1 s.1 s.2.1 s.2.2 h) _ rfl rfl
noncomputable def mo_hold_0 (v0 : Option Nat) (v1 : Int32) (h : PH) : Option (Int32) :=
  (mo_in v1 0 1 h).bind fun x51 =>
  (if x51 = 0 then
  some ((-1))
  else
  (gfi [5] 34 v0 h).bind fun x52 =>
  mo_hold_L24 v0 v1 0 (-2) (x52 - 1) h)
theorem mo_hold_0_ok (X : CT) (v0 : Option Nat) (v1 : Int32) (h : PH) : Im X (cX6_hold, 5, RX6, "hold", (some .int), 6) 0 [some (.inr v0), some (.inl v1), none, none, none] [] h (mo_hold_0 v0 v1 h) (szP h) (kP X h) := by
  unfold mo_hold_0
  refine im_iload_n (pc := 0) dX6_hold_0 rfl rfl ?_
  refine im_iconst (pc := 1) (v := 0) dX6_hold_1 (by decide) ?_
  refine im_iconst (pc := 2) (v := 1) dX6_hold_2 (by decide) ?_
  refine cl_X6_104 mo_in_im (pc := 3) (by decide) dX6_hold_3 (Nat.le_of_ble_eq_true rfl) fun x51 => ?_
  refine im_if_ne (pc := 6) (tgt := 11) dX6_hold_6 (by decide) ?_ ?_
  · refine im_iconst (pc := 11) (v := 0) dX6_hold_11 (by decide) ?_
    refine im_istore_n (pc := 12) (lv' := [some (.inr v0), some (.inl v1), some (.inl 0), none, none]) dX6_hold_12 rfl (by decide) rfl ?_
    refine im_bipush (pc := 13) (v := (-2)) dX6_hold_13 (by decide) ?_
    refine im_istore_n (pc := 15) (lv' := [some (.inr v0), some (.inl v1), some (.inl 0), some (.inl (-2)), none]) dX6_hold_15 rfl (by decide) rfl ?_
    refine im_aload_n (pc := 16) dX6_hold_16 rfl rfl ?_
    refine im_gi (pc := 17) fl_X6_279 dX6_hold_17 fun x52 => ?_
    refine im_iconst (pc := 20) (v := 1) dX6_hold_20 (by decide) ?_
    refine im_isub (pc := 21) dX6_hold_21 ?_
    refine im_istore (pc := 22) (lv' := [some (.inr v0), some (.inl v1), some (.inl 0), some (.inl (-2)), some (.inl (x52 - 1))]) dX6_hold_22 (by decide) rfl ?_
    exact Im.drop [true, true, true, true, true] rfl (mo_hold_L24_ok X v0 v1 0 (-2) (x52 - 1) h)
  · refine im_iconst (pc := 9) (v := (-1)) dX6_hold_9 (by decide) ?_
    exact im_iretP (pc := 10) dX6_hold_10
noncomputable def mo_hold (a0 : Option Nat) (a1 : Int32) (h : PH) : Option (Int32) := grd (isC [5] a0 h) (mo_hold_0 a0 a1 h)
theorem mo_hold_im : IM_X6_hold mo_hold 6 := by
  intro a0 a1 h r e
  obtain ⟨e1, e2⟩ := grd_some e
  exact ⟨e1, SpI.ofP (k := 3) (plainFor_of_name (by decide)) rfl (fun X => Im.drop [true, true, false, false, false] rfl (mo_hold_0_ok X a0 a1 h)) e2⟩
def IM_X6_toldSet (f : Option Nat → PH → Option (Int32)) (d : Nat) : Prop := ∀ (a0 : Option Nat) (h : PH) (r : Int32), f a0 h = some r → isC [5] a0 h = true ∧ SpI yX6_toldSet cX6_toldSet 3 (some .int) d [.inr a0] h r h
noncomputable def mo_toldSet_b4 (v0 : Option Nat) (v1 : Int32) (v2 : Int32) (h : PH) : Option ((Int32 × Int32) ⊕ (Int32)) :=
  (if 16 ≤ v2 then
  some (.inr v1)
  else
  (mo_isTold v0 v2 h).bind fun x51 =>
  (if x51 = 0 then
  some (.inl (v1, (v2 + 1)))
  else
  some (.inl ((v1 ||| ((1 : Int32) <<< (v2 &&& 31))), (v2 + 1)))))
noncomputable def mo_toldSet_L4 (v0 : Option Nat) (v1 : Int32) (v2 : Int32) (h : PH) : Option (Int32) :=
  iter (fun s : Int32 × Int32 => mo_toldSet_b4 v0 s.1 s.2 h) (v1, v2)
theorem mo_toldSet_b4_ok (X : CT) (v0 : Option Nat) (v1 : Int32) (v2 : Int32) (h : PH) : Im X (cX6_toldSet, 3, RX6, "toldSet", (some .int), 3) 4 [some (.inr v0), some (.inl v1), some (.inl v2)] [] h (mo_toldSet_b4 v0 v1 v2 h) (ez (fun s : Int32 × Int32 => h) (szP h)) (ek X 4 (fun s : Int32 × Int32 => [some (.inr v0), some (.inl s.1), some (.inl s.2)]) (fun s : Int32 × Int32 => h) (kP X h)) := by
  unfold mo_toldSet_b4
  refine im_iload_n (pc := 4) dX6_toldSet_4 rfl rfl ?_
  refine im_bipush (pc := 5) (v := 16) dX6_toldSet_5 (by decide) ?_
  refine im_icmp_ge (pc := 7) (tgt := 30) dX6_toldSet_7 (by decide) ?_ ?_
  · refine im_iload_n (pc := 30) dX6_toldSet_30 rfl rfl ?_
    exact Im.outS (im_iretP (pc := 31) dX6_toldSet_31)
  · refine im_aload_n (pc := 10) dX6_toldSet_10 rfl rfl ?_
    refine im_iload_n (pc := 11) dX6_toldSet_11 rfl rfl ?_
    refine cl_X6_108 mo_isTold_im (pc := 12) (by decide) dX6_toldSet_12 (Nat.le_of_ble_eq_true rfl) fun x51 => ?_
    refine im_if_eq (pc := 15) (tgt := 24) dX6_toldSet_15 (by decide) ?_ ?_
    · refine im_iinc (pc := 24) (v := (v2 + 1)) (lv' := [some (.inr v0), some (.inl v1), some (.inl (v2 + 1))]) dX6_toldSet_24 rfl rfl (by decide) rfl ?_
      refine im_goto (pc := 27) (tgt := 4) dX6_toldSet_27 (by decide) ?_
      exact Im.back [true, true, true] rfl rfl
    · refine im_iload_n (pc := 18) dX6_toldSet_18 rfl rfl ?_
      refine im_iconst (pc := 19) (v := 1) dX6_toldSet_19 (by decide) ?_
      refine im_iload_n (pc := 20) dX6_toldSet_20 rfl rfl ?_
      refine im_ishl (pc := 21) dX6_toldSet_21 ?_
      refine im_ior (pc := 22) dX6_toldSet_22 ?_
      refine im_istore_n (pc := 23) (lv' := [some (.inr v0), some (.inl (v1 ||| ((1 : Int32) <<< (v2 &&& 31)))), some (.inl v2)]) dX6_toldSet_23 rfl (by decide) rfl ?_
      refine im_iinc (pc := 24) (v := (v2 + 1)) (lv' := [some (.inr v0), some (.inl (v1 ||| ((1 : Int32) <<< (v2 &&& 31)))), some (.inl (v2 + 1))]) dX6_toldSet_24 rfl rfl (by decide) rfl ?_
      refine im_goto (pc := 27) (tgt := 4) dX6_toldSet_27 (by decide) ?_
      exact Im.back [true, true, true] rfl rfl
theorem mo_toldSet_L4_ok (X : CT) (v0 : Option Nat) (v1 : Int32) (v2 : Int32) (h : PH) : Im X (cX6_toldSet, 3, RX6, "toldSet", (some .int), 3) 4 [some (.inr v0), some (.inl v1), some (.inl v2)] [] h (mo_toldSet_L4 v0 v1 v2 h) (szP h) (kP X h) := by
  unfold mo_toldSet_L4
  exact Im.iter (lv := (fun s : Int32 × Int32 => [some (.inr v0), some (.inl s.1), some (.inl s.2)])) (hp := (fun s : Int32 × Int32 => h)) (fun s => mo_toldSet_b4_ok X v0 s.1 s.2 h) _ rfl rfl
noncomputable def mo_toldSet_0 (v0 : Option Nat) (h : PH) : Option (Int32) :=
  mo_toldSet_L4 v0 0 0 h
theorem mo_toldSet_0_ok (X : CT) (v0 : Option Nat) (h : PH) : Im X (cX6_toldSet, 3, RX6, "toldSet", (some .int), 3) 0 [some (.inr v0), none, none] [] h (mo_toldSet_0 v0 h) (szP h) (kP X h) := by
  unfold mo_toldSet_0
  refine im_iconst (pc := 0) (v := 0) dX6_toldSet_0 (by decide) ?_
  refine im_istore_n (pc := 1) (lv' := [some (.inr v0), some (.inl 0), none]) dX6_toldSet_1 rfl (by decide) rfl ?_
  refine im_iconst (pc := 2) (v := 0) dX6_toldSet_2 (by decide) ?_
  refine im_istore_n (pc := 3) (lv' := [some (.inr v0), some (.inl 0), some (.inl 0)]) dX6_toldSet_3 rfl (by decide) rfl ?_
  exact Im.drop [true, true, true] rfl (mo_toldSet_L4_ok X v0 0 0 h)
noncomputable def mo_toldSet (a0 : Option Nat) (h : PH) : Option (Int32) := grd (isC [5] a0 h) (mo_toldSet_0 a0 h)
theorem mo_toldSet_im : IM_X6_toldSet mo_toldSet 3 := by
  intro a0 h r e
  obtain ⟨e1, e2⟩ := grd_some e
  exact ⟨e1, SpI.ofP (k := 2) (plainFor_of_name (by decide)) rfl (fun X => Im.drop [true, false, false] rfl (mo_toldSet_0_ok X a0 h)) e2⟩
theorem fl_X6_86 : ∀ c ∈ [5], FL RX6 86 c 40 := List.forall_mem_cons.mpr ⟨⟨RX6, TX6, 50, rfl, in_X6, by decide, Or.inl q1217⟩, fun _ h => absurd h List.not_mem_nil⟩
def IM_X6_holdsInRow (f : Option Nat → Int32 → Int32 → PH → Option (Int32)) (d : Nat) : Prop := ∀ (a0 : Option Nat) (a1 : Int32) (a2 : Int32) (h : PH) (r : Int32), f a0 a1 a2 h = some r → isC [5] a0 h = true ∧ SpI yX6_holdsInRow cX6_holdsInRow 5 (some .boolean) d [.inr a0, .inl a1, .inl a2] h r h
noncomputable def mo_holdsInRow_37 (v0 : Option Nat) (v1 : Int32) (v2 : Int32) (v3 : Int32) (s0 : Int32) (h : PH) : Option (Int32) :=
  (if v3 = (-1) then
  some (1)
  else
  (if s0 = (-1) then
  some (1)
  else
  (gfr [5] 29 v0 h).bind fun r51 =>
  (ald 0 r51 v1 h).bind fun x52 =>
  (if x52 = 35 then
  (if v3 = 0 then
  some (1)
  else
  (if v3 = (v2 - 1) then
  some (1)
  else
  some (0)))
  else
  (if x52 = 43 then
  (mo_size (v3 - s0) h).bind fun x53 =>
  (if x53 = 1 then
  some (1)
  else
  some (0))
  else
  (if x52 = 45 then
  (mo_size (v3 - s0) h).bind fun x54 =>
  (if x54 = 1 then
  some (0)
  else
  some (1))
  else
  some (0))))))
theorem mo_holdsInRow_37_ok (X : CT) (v0 : Option Nat) (v1 : Int32) (v2 : Int32) (v3 : Int32) (s0 : Int32) (h : PH) : Im X (cX6_holdsInRow, 5, RX6, "holdsInRow", (some .boolean), 2) 37 [some (.inr v0), some (.inl v1), some (.inl v2), some (.inl v3), none] [.inl s0] h (mo_holdsInRow_37 v0 v1 v2 v3 s0 h) (szP h) (kP X h) := by
  unfold mo_holdsInRow_37
  refine im_istore (pc := 37) (lv' := [some (.inr v0), some (.inl v1), some (.inl v2), some (.inl v3), some (.inl s0)]) dX6_holdsInRow_37 (by decide) rfl ?_
  refine im_iload_n (pc := 39) dX6_holdsInRow_39 rfl rfl ?_
  refine im_iconst (pc := 40) (v := (-1)) dX6_holdsInRow_40 (by decide) ?_
  refine im_icmp_eq (pc := 41) (tgt := 50) dX6_holdsInRow_41 (by decide) ?_ ?_
  · refine im_iconst (pc := 50) (v := 1) dX6_holdsInRow_50 (by decide) ?_
    exact im_zretTP (pc := 51) (nar_z (Or.inr rfl)) dX6_holdsInRow_51
  · refine im_iload (pc := 44) dX6_holdsInRow_44 rfl ?_
    refine im_iconst (pc := 46) (v := (-1)) dX6_holdsInRow_46 (by decide) ?_
    refine im_icmp_ne (pc := 47) (tgt := 52) dX6_holdsInRow_47 (by decide) ?_ ?_
    · refine im_aload_n (pc := 52) dX6_holdsInRow_52 rfl rfl ?_
      refine im_gr (pc := 53) fl_X6_65 dX6_holdsInRow_53 fun r51 => ?_
      refine im_iload_n (pc := 56) dX6_holdsInRow_56 rfl rfl ?_
      refine im_iald (pc := 57) dX6_holdsInRow_57 fun x52 => ?_
      refine im_lsw (pc := 58) (dt := 143) [(35, 126), (43, 92), (45, 109)] dX6_holdsInRow_58 (by decide) (by decide) ⟨_, _, rfl, ?_, ⟨_, _, rfl, ?_, ⟨_, _, rfl, ?_, ?_⟩⟩⟩
      · refine im_iload_n (pc := 126) dX6_holdsInRow_126 rfl rfl ?_
        refine im_if_eq (pc := 127) (tgt := 137) dX6_holdsInRow_127 (by decide) ?_ ?_
        · refine im_iconst (pc := 137) (v := 1) dX6_holdsInRow_137 (by decide) ?_
          refine im_goto (pc := 138) (tgt := 142) dX6_holdsInRow_138 (by decide) ?_
          exact im_zretTP (pc := 142) (nar_z (Or.inr rfl)) dX6_holdsInRow_142
        · refine im_iload_n (pc := 130) dX6_holdsInRow_130 rfl rfl ?_
          refine im_iload_n (pc := 131) dX6_holdsInRow_131 rfl rfl ?_
          refine im_iconst (pc := 132) (v := 1) dX6_holdsInRow_132 (by decide) ?_
          refine im_isub (pc := 133) dX6_holdsInRow_133 ?_
          refine im_icmp_ne (pc := 134) (tgt := 141) dX6_holdsInRow_134 (by decide) ?_ ?_
          · refine im_iconst (pc := 141) (v := 0) dX6_holdsInRow_141 (by decide) ?_
            exact im_zretTP (pc := 142) (nar_z (Or.inl rfl)) dX6_holdsInRow_142
          · refine im_iconst (pc := 137) (v := 1) dX6_holdsInRow_137 (by decide) ?_
            refine im_goto (pc := 138) (tgt := 142) dX6_holdsInRow_138 (by decide) ?_
            exact im_zretTP (pc := 142) (nar_z (Or.inr rfl)) dX6_holdsInRow_142
      · refine im_iload_n (pc := 92) dX6_holdsInRow_92 rfl rfl ?_
        refine im_iload (pc := 93) dX6_holdsInRow_93 rfl ?_
        refine im_isub (pc := 95) dX6_holdsInRow_95 ?_
        refine cl_X6_115 mo_size_im (pc := 96) (by decide) dX6_holdsInRow_96 (Nat.le_of_ble_eq_true rfl) fun x53 => ?_
        refine im_iconst (pc := 99) (v := 1) dX6_holdsInRow_99 (by decide) ?_
        refine im_icmp_ne (pc := 100) (tgt := 107) dX6_holdsInRow_100 (by decide) ?_ ?_
        · refine im_iconst (pc := 107) (v := 0) dX6_holdsInRow_107 (by decide) ?_
          exact im_zretTP (pc := 108) (nar_z (Or.inl rfl)) dX6_holdsInRow_108
        · refine im_iconst (pc := 103) (v := 1) dX6_holdsInRow_103 (by decide) ?_
          refine im_goto (pc := 104) (tgt := 108) dX6_holdsInRow_104 (by decide) ?_
          exact im_zretTP (pc := 108) (nar_z (Or.inr rfl)) dX6_holdsInRow_108
      · refine im_iload_n (pc := 109) dX6_holdsInRow_109 rfl rfl ?_
        refine im_iload (pc := 110) dX6_holdsInRow_110 rfl ?_
        refine im_isub (pc := 112) dX6_holdsInRow_112 ?_
        refine cl_X6_115 mo_size_im (pc := 113) (by decide) dX6_holdsInRow_113 (Nat.le_of_ble_eq_true rfl) fun x54 => ?_
        refine im_iconst (pc := 116) (v := 1) dX6_holdsInRow_116 (by decide) ?_
        refine im_icmp_eq (pc := 117) (tgt := 124) dX6_holdsInRow_117 (by decide) ?_ ?_
        · refine im_iconst (pc := 124) (v := 0) dX6_holdsInRow_124 (by decide) ?_
          exact im_zretTP (pc := 125) (nar_z (Or.inl rfl)) dX6_holdsInRow_125
        · refine im_iconst (pc := 120) (v := 1) dX6_holdsInRow_120 (by decide) ?_
          refine im_goto (pc := 121) (tgt := 125) dX6_holdsInRow_121 (by decide) ?_
          exact im_zretTP (pc := 125) (nar_z (Or.inr rfl)) dX6_holdsInRow_125
      · refine im_iconst (pc := 143) (v := 0) dX6_holdsInRow_143 (by decide) ?_
        exact im_zretTP (pc := 144) (nar_z (Or.inl rfl)) dX6_holdsInRow_144
    · refine im_iconst (pc := 50) (v := 1) dX6_holdsInRow_50 (by decide) ?_
      exact im_zretTP (pc := 51) (nar_z (Or.inr rfl)) dX6_holdsInRow_51
noncomputable def mo_holdsInRow_0 (v0 : Option Nat) (v1 : Int32) (v2 : Int32) (h : PH) : Option (Int32) :=
  (gfr [5] 40 v0 h).bind fun r51 =>
  (gfr [5] 28 v0 h).bind fun r52 =>
  (ald 0 r52 v1 h).bind fun x53 =>
  (ald 0 r51 x53 h).bind fun x54 =>
  (gfr [5] 30 v0 h).bind fun r55 =>
  (ald 0 r55 v1 h).bind fun x56 =>
  (if x56 = (-1) then
  mo_holdsInRow_37 v0 v1 v2 x54 0 h
  else
  (gfr [5] 40 v0 h).bind fun r57 =>
  (gfr [5] 30 v0 h).bind fun r58 =>
  (ald 0 r58 v1 h).bind fun x59 =>
  (ald 0 r57 x59 h).bind fun x60 =>
  mo_holdsInRow_37 v0 v1 v2 x54 x60 h)
theorem mo_holdsInRow_0_ok (X : CT) (v0 : Option Nat) (v1 : Int32) (v2 : Int32) (h : PH) : Im X (cX6_holdsInRow, 5, RX6, "holdsInRow", (some .boolean), 2) 0 [some (.inr v0), some (.inl v1), some (.inl v2), none, none] [] h (mo_holdsInRow_0 v0 v1 v2 h) (szP h) (kP X h) := by
  unfold mo_holdsInRow_0
  refine im_aload_n (pc := 0) dX6_holdsInRow_0 rfl rfl ?_
  refine im_gr (pc := 1) fl_X6_86 dX6_holdsInRow_1 fun r51 => ?_
  refine im_aload_n (pc := 4) dX6_holdsInRow_4 rfl rfl ?_
  refine im_gr (pc := 5) fl_X6_62 dX6_holdsInRow_5 fun r52 => ?_
  refine im_iload_n (pc := 8) dX6_holdsInRow_8 rfl rfl ?_
  refine im_iald (pc := 9) dX6_holdsInRow_9 fun x53 => ?_
  refine im_iald (pc := 10) dX6_holdsInRow_10 fun x54 => ?_
  refine im_istore_n (pc := 11) (lv' := [some (.inr v0), some (.inl v1), some (.inl v2), some (.inl x54), none]) dX6_holdsInRow_11 rfl (by decide) rfl ?_
  refine im_aload_n (pc := 12) dX6_holdsInRow_12 rfl rfl ?_
  refine im_gr (pc := 13) fl_X6_68 dX6_holdsInRow_13 fun r55 => ?_
  refine im_iload_n (pc := 16) dX6_holdsInRow_16 rfl rfl ?_
  refine im_iald (pc := 17) dX6_holdsInRow_17 fun x56 => ?_
  refine im_iconst (pc := 18) (v := (-1)) dX6_holdsInRow_18 (by decide) ?_
  refine im_icmp_ne (pc := 19) (tgt := 26) dX6_holdsInRow_19 (by decide) ?_ ?_
  · refine im_aload_n (pc := 26) dX6_holdsInRow_26 rfl rfl ?_
    refine im_gr (pc := 27) fl_X6_86 dX6_holdsInRow_27 fun r57 => ?_
    refine im_aload_n (pc := 30) dX6_holdsInRow_30 rfl rfl ?_
    refine im_gr (pc := 31) fl_X6_68 dX6_holdsInRow_31 fun r58 => ?_
    refine im_iload_n (pc := 34) dX6_holdsInRow_34 rfl rfl ?_
    refine im_iald (pc := 35) dX6_holdsInRow_35 fun x59 => ?_
    refine im_iald (pc := 36) dX6_holdsInRow_36 fun x60 => ?_
    exact Im.drop [true, true, true, true, false] rfl (mo_holdsInRow_37_ok X v0 v1 v2 x54 x60 h)
  · refine im_iconst (pc := 22) (v := 0) dX6_holdsInRow_22 (by decide) ?_
    refine im_goto (pc := 23) (tgt := 37) dX6_holdsInRow_23 (by decide) ?_
    exact Im.drop [true, true, true, true, false] rfl (mo_holdsInRow_37_ok X v0 v1 v2 x54 0 h)
noncomputable def mo_holdsInRow (a0 : Option Nat) (a1 : Int32) (a2 : Int32) (h : PH) : Option (Int32) := grd (isC [5] a0 h) (mo_holdsInRow_0 a0 a1 a2 h)
theorem mo_holdsInRow_im : IM_X6_holdsInRow mo_holdsInRow 2 := by
  intro a0 a1 a2 h r e
  obtain ⟨e1, e2⟩ := grd_some e
  exact ⟨e1, SpI.ofP (k := 2) (plainFor_of_name (by decide)) rfl (fun X => Im.drop [true, true, true, false, false] rfl (mo_holdsInRow_0_ok X a0 a1 a2 h)) e2⟩
theorem fl_X6_80 : ∀ c ∈ [5], FL RX6 80 c 38 := List.forall_mem_cons.mpr ⟨⟨RX6, TX6, 50, rfl, in_X6, by decide, Or.inl q1215⟩, fun _ h => absurd h List.not_mem_nil⟩
theorem fl_X6_349 : ∀ c ∈ [5], FL RX6 349 c 41 := List.forall_mem_cons.mpr ⟨⟨RX6, TX6, 50, rfl, in_X6, by decide, Or.inl q1218⟩, fun _ h => absurd h List.not_mem_nil⟩
theorem fp_X6_349 : ∀ c ∈ [5], FP RX6 349 c 41 .int := List.forall_mem_cons.mpr ⟨⟨RX6, TX6, 50, rfl, in_X6, by decide, apt_X6, rfl, by decide +kernel, Or.inl q1218⟩, fun _ h => absurd h List.not_mem_nil⟩
theorem cl_X6_346 {X : CT} {cc : ByteArray} {nL : Nat} {mn : String} {ret : Option FieldType} {d d0 : Nat} {τ : Type} {pc : Nat} {lv : List (Option PV)} {st : List PV} {h : PH} {sz : τ → Nat × Nat} {K : τ → Prop} {f : Option Nat → Int32 → Int32 → PH → Option (Int32)} (HR : IM_X6_holdsInRow f d0) {a0 : Option Nat} {a1 : Int32} {a2 : Int32} {g : Int32 → Option τ} (hd : d0 + 1 ≤ d) (hdg : decode cc pc = .ok (.invokevirtual 346, 3)) (hst : st.length ≤ 8) (kk : ∀ r, Im X (cc, nL, RX6, mn, ret, d) (pc + 3) lv (.inl r :: st) h (g r) sz K) : Im X (cc, nL, RX6, mn, ret, d) pc lv (.inl a2 :: .inl a1 :: .inr a0 :: st) h ((f a0 a1 a2 h).bind g) sz K := by
  refine im_cP (y := yX6_holdsInRow) (cY := cX6_holdsInRow) (nY := 5) (rY := (some .boolean)) (d' := d0) (av := [.inr a0, .inl a1, .inl a2]) (fun r e hX => ?_) (fun r e => (HR _ _ _ _ _ e).2) hd (by decide) hst rfl kk
  obtain ⟨a, c, fs, rfl, ec, hm⟩ := isC_some (HR _ _ _ _ _ e).1
  cases List.mem_singleton.mp hm
  exact cal_V (n := 2) hX (lw_V q1621 q1623 qs92 q112 q1624) (by decide +kernel) rfl rfl ec hdg

theorem fl_X6_352 : ∀ c ∈ [5], FL RX6 352 c 42 := List.forall_mem_cons.mpr ⟨⟨RX6, TX6, 50, rfl, in_X6, by decide, Or.inl q1219⟩, fun _ h => absurd h List.not_mem_nil⟩
theorem fp_X6_352 : ∀ c ∈ [5], FP RX6 352 c 42 .int := List.forall_mem_cons.mpr ⟨⟨RX6, TX6, 50, rfl, in_X6, by decide, apt_X6, rfl, by decide +kernel, Or.inl q1219⟩, fun _ h => absurd h List.not_mem_nil⟩
theorem fl_X6_83 : ∀ c ∈ [5], FL RX6 83 c 39 := List.forall_mem_cons.mpr ⟨⟨RX6, TX6, 50, rfl, in_X6, by decide, Or.inl q1216⟩, fun _ h => absurd h List.not_mem_nil⟩
def IM_X6_mayBeOrder (f : Option Nat → Int32 → PH → Option (PH)) (d : Nat) : Prop := ∀ (a0 : Option Nat) (a1 : Int32) (h : PH) (h' : PH), f a0 a1 h = some h' → isC [5] a0 h = true ∧ SpV yX6_mayBeOrder cX6_mayBeOrder 5 none d [.inr a0, .inl a1] h h'
noncomputable def mo_mayBeOrder_b115 (v0 : Option Nat) (v1 : Int32) (v4 : Int32) (h : PH) : Option ((Int32 × PH) ⊕ (PH)) :=
  (if v1 ≤ v4 then
  some (.inr h)
  else
  (gfr [5] 39 v0 h).bind fun r51 =>
  (gfr [5] 38 v0 h).bind fun r52 =>
  (ald 0 r52 v4 h).bind fun x53 =>
  (ast 0 r51 v4 x53 h).bind fun h54 =>
  some (.inl ((v4 + 1), h54)))
noncomputable def mo_mayBeOrder_L115 (v0 : Option Nat) (v1 : Int32) (v4 : Int32) (h : PH) : Option (PH) :=
  iter (fun s : Int32 × PH => mo_mayBeOrder_b115 v0 v1 s.1 s.2) (v4, h)
theorem mo_mayBeOrder_b115_ok (X : CT) (v0 : Option Nat) (v1 : Int32) (v4 : Int32) (h : PH) : Im X (cX6_mayBeOrder, 5, RX6, "mayBeOrder", none, 4) 115 [some (.inr v0), some (.inl v1), none, none, some (.inl v4)] [] h (mo_mayBeOrder_b115 v0 v1 v4 h) (ez (fun s : Int32 × PH => s.2) szV) (ek X 115 (fun s : Int32 × PH => [some (.inr v0), some (.inl v1), none, none, some (.inl s.1)]) (fun s : Int32 × PH => s.2) (kV X)) := by
  unfold mo_mayBeOrder_b115
  refine im_iload (pc := 115) dX6_mayBeOrder_115 rfl ?_
  refine im_iload_n (pc := 117) dX6_mayBeOrder_117 rfl rfl ?_
  refine im_icmp_ge (pc := 118) (tgt := 141) dX6_mayBeOrder_118 (by decide) ?_ ?_
  · exact Im.outS (im_vret (pc := 141) dX6_mayBeOrder_141)
  · refine im_aload_n (pc := 121) dX6_mayBeOrder_121 rfl rfl ?_
    refine im_gr (pc := 122) fl_X6_83 dX6_mayBeOrder_122 fun r51 => ?_
    refine im_iload (pc := 125) dX6_mayBeOrder_125 rfl ?_
    refine im_aload_n (pc := 127) dX6_mayBeOrder_127 rfl rfl ?_
    refine im_gr (pc := 128) fl_X6_80 dX6_mayBeOrder_128 fun r52 => ?_
    refine im_iload (pc := 131) dX6_mayBeOrder_131 rfl ?_
    refine im_iald (pc := 133) dX6_mayBeOrder_133 fun x53 => ?_
    refine im_iast (pc := 134) dX6_mayBeOrder_134 fun h54 => ?_
    refine im_iinc (pc := 135) (v := (v4 + 1)) (lv' := [some (.inr v0), some (.inl v1), none, none, some (.inl (v4 + 1))]) dX6_mayBeOrder_135 rfl rfl (by decide) rfl ?_
    refine im_goto (pc := 138) (tgt := 115) dX6_mayBeOrder_138 (by decide) ?_
    exact Im.back [true, true, false, false, true] rfl rfl
theorem mo_mayBeOrder_L115_ok (X : CT) (v0 : Option Nat) (v1 : Int32) (v4 : Int32) (h : PH) : Im X (cX6_mayBeOrder, 5, RX6, "mayBeOrder", none, 4) 115 [some (.inr v0), some (.inl v1), none, none, some (.inl v4)] [] h (mo_mayBeOrder_L115 v0 v1 v4 h) szV (kV X) := by
  unfold mo_mayBeOrder_L115
  exact Im.iter (lv := (fun s : Int32 × PH => [some (.inr v0), some (.inl v1), none, none, some (.inl s.1)])) (hp := (fun s : Int32 × PH => s.2)) (fun s => mo_mayBeOrder_b115_ok X v0 v1 s.1 s.2) _ rfl rfl
noncomputable def mo_mayBeOrder_98 (v0 : Option Nat) (v1 : Int32) (v2 : Int32) (h : PH) : Option (PH) :=
  (gfi [5] 42 v0 h).bind fun x51 =>
  (if x51 < v2 then
  (pf [5] 42 v0 (.inl v2) h).bind fun h52 =>
  mo_mayBeOrder_L115 v0 v1 0 h52
  else
  some (h))
theorem mo_mayBeOrder_98_ok (X : CT) (v0 : Option Nat) (v1 : Int32) (v2 : Int32) (h : PH) : Im X (cX6_mayBeOrder, 5, RX6, "mayBeOrder", none, 4) 98 [some (.inr v0), some (.inl v1), some (.inl v2), none, none] [] h (mo_mayBeOrder_98 v0 v1 v2 h) szV (kV X) := by
  unfold mo_mayBeOrder_98
  refine im_iload_n (pc := 98) dX6_mayBeOrder_98 rfl rfl ?_
  refine im_aload_n (pc := 99) dX6_mayBeOrder_99 rfl rfl ?_
  refine im_gi (pc := 100) fl_X6_352 dX6_mayBeOrder_100 fun x51 => ?_
  refine im_icmp_gt (pc := 103) (tgt := 107) dX6_mayBeOrder_103 (by decide) ?_ ?_
  · refine im_aload_n (pc := 107) dX6_mayBeOrder_107 rfl rfl ?_
    refine im_iload_n (pc := 108) dX6_mayBeOrder_108 rfl rfl ?_
    refine im_pf (pc := 109) fp_X6_352 (okT_i _) dX6_mayBeOrder_109 fun h52 => ?_
    refine im_iconst (pc := 112) (v := 0) dX6_mayBeOrder_112 (by decide) ?_
    refine im_istore (pc := 113) (lv' := [some (.inr v0), some (.inl v1), some (.inl v2), none, some (.inl 0)]) dX6_mayBeOrder_113 (by decide) rfl ?_
    exact Im.drop [true, true, false, false, true] rfl (mo_mayBeOrder_L115_ok X v0 v1 0 h52)
  · exact im_vret (pc := 106) dX6_mayBeOrder_106
noncomputable def mo_mayBeOrder_b57 (v0 : Option Nat) (v1 : Int32) (v2 : Int32) (v3 : Int32) (v4 : Int32) (h : PH) : Option ((Int32 × Int32) ⊕ (PH)) :=
  (gfi [5] 34 v0 h).bind fun x51 =>
  (if x51 ≤ v4 then
  (if v3 = 0 then
  (mo_mayBeOrder_98 v0 v1 v2 h).map .inr
  else
  (gfi [5] 41 v0 h).bind fun x52 =>
  (pf [5] 41 v0 (.inl (x52 + 1)) h).bind fun h53 =>
  (mo_mayBeOrder_98 v0 v1 v2 h53).map .inr)
  else
  (mo_holdsInRow v0 v4 v1 h).bind fun x54 =>
  (if x54 = 0 then
  some (.inl (0, (v4 + 1)))
  else
  some (.inl (v3, (v4 + 1)))))
noncomputable def mo_mayBeOrder_L57 (v0 : Option Nat) (v1 : Int32) (v2 : Int32) (v3 : Int32) (v4 : Int32) (h : PH) : Option (PH) :=
  iter (fun s : Int32 × Int32 => mo_mayBeOrder_b57 v0 v1 v2 s.1 s.2 h) (v3, v4)
theorem mo_mayBeOrder_b57_ok (X : CT) (v0 : Option Nat) (v1 : Int32) (v2 : Int32) (v3 : Int32) (v4 : Int32) (h : PH) : Im X (cX6_mayBeOrder, 5, RX6, "mayBeOrder", none, 4) 57 [some (.inr v0), some (.inl v1), some (.inl v2), some (.inl v3), some (.inl v4)] [] h (mo_mayBeOrder_b57 v0 v1 v2 v3 v4 h) (ez (fun s : Int32 × Int32 => h) szV) (ek X 57 (fun s : Int32 × Int32 => [some (.inr v0), some (.inl v1), some (.inl v2), some (.inl s.1), some (.inl s.2)]) (fun s : Int32 × Int32 => h) (kV X)) := by
  unfold mo_mayBeOrder_b57
  refine im_iload (pc := 57) dX6_mayBeOrder_57 rfl ?_
  refine im_aload_n (pc := 59) dX6_mayBeOrder_59 rfl rfl ?_
  refine im_gi (pc := 60) fl_X6_279 dX6_mayBeOrder_60 fun x51 => ?_
  refine im_icmp_ge (pc := 63) (tgt := 84) dX6_mayBeOrder_63 (by decide) ?_ ?_
  · refine im_iload_n (pc := 84) dX6_mayBeOrder_84 rfl rfl ?_
    refine im_if_eq (pc := 85) (tgt := 98) dX6_mayBeOrder_85 (by decide) ?_ ?_
    · exact Im.out (Im.drop [true, true, true, false, false] rfl (mo_mayBeOrder_98_ok X v0 v1 v2 h))
    · refine im_aload_n (pc := 88) dX6_mayBeOrder_88 rfl rfl ?_
      refine im_aload_n (pc := 89) dX6_mayBeOrder_89 rfl rfl ?_
      refine im_gi (pc := 90) fl_X6_349 dX6_mayBeOrder_90 fun x52 => ?_
      refine im_iconst (pc := 93) (v := 1) dX6_mayBeOrder_93 (by decide) ?_
      refine im_iadd (pc := 94) dX6_mayBeOrder_94 ?_
      refine im_pf (pc := 95) fp_X6_349 (okT_i _) dX6_mayBeOrder_95 fun h53 => ?_
      exact Im.out (Im.drop [true, true, true, false, false] rfl (mo_mayBeOrder_98_ok X v0 v1 v2 h53))
  · refine im_aload_n (pc := 66) dX6_mayBeOrder_66 rfl rfl ?_
    refine im_iload (pc := 67) dX6_mayBeOrder_67 rfl ?_
    refine im_iload_n (pc := 69) dX6_mayBeOrder_69 rfl rfl ?_
    refine cl_X6_346 mo_holdsInRow_im (pc := 70) (by decide) dX6_mayBeOrder_70 (Nat.le_of_ble_eq_true rfl) fun x54 => ?_
    refine im_if_ne (pc := 73) (tgt := 78) dX6_mayBeOrder_73 (by decide) ?_ ?_
    · refine im_iinc (pc := 78) (v := (v4 + 1)) (lv' := [some (.inr v0), some (.inl v1), some (.inl v2), some (.inl v3), some (.inl (v4 + 1))]) dX6_mayBeOrder_78 rfl rfl (by decide) rfl ?_
      refine im_goto (pc := 81) (tgt := 57) dX6_mayBeOrder_81 (by decide) ?_
      exact Im.back [true, true, true, true, true] rfl rfl
    · refine im_iconst (pc := 76) (v := 0) dX6_mayBeOrder_76 (by decide) ?_
      refine im_istore_n (pc := 77) (lv' := [some (.inr v0), some (.inl v1), some (.inl v2), some (.inl 0), some (.inl v4)]) dX6_mayBeOrder_77 rfl (by decide) rfl ?_
      refine im_iinc (pc := 78) (v := (v4 + 1)) (lv' := [some (.inr v0), some (.inl v1), some (.inl v2), some (.inl 0), some (.inl (v4 + 1))]) dX6_mayBeOrder_78 rfl rfl (by decide) rfl ?_
      refine im_goto (pc := 81) (tgt := 57) dX6_mayBeOrder_81 (by decide) ?_
      exact Im.back [true, true, true, true, true] rfl rfl
theorem mo_mayBeOrder_L57_ok (X : CT) (v0 : Option Nat) (v1 : Int32) (v2 : Int32) (v3 : Int32) (v4 : Int32) (h : PH) : Im X (cX6_mayBeOrder, 5, RX6, "mayBeOrder", none, 4) 57 [some (.inr v0), some (.inl v1), some (.inl v2), some (.inl v3), some (.inl v4)] [] h (mo_mayBeOrder_L57 v0 v1 v2 v3 v4 h) szV (kV X) := by
  unfold mo_mayBeOrder_L57
  exact Im.iter (lv := (fun s : Int32 × Int32 => [some (.inr v0), some (.inl v1), some (.inl v2), some (.inl s.1), some (.inl s.2)])) (hp := (fun s : Int32 × Int32 => h)) (fun s => mo_mayBeOrder_b57_ok X v0 v1 v2 s.1 s.2 h) _ rfl rfl
noncomputable def mo_mayBeOrder_b4 (v0 : Option Nat) (v1 : Int32) (v2 : Int32) (v3 : Int32) (h : PH) : Option ((Int32 × Int32 × PH) ⊕ (PH)) :=
  (if v1 ≤ v3 then
  (mo_mayBeOrder_L57 v0 v1 v2 1 0 h).map .inr
  else
  (gfr [5] 40 v0 h).bind fun r51 =>
  (gfr [5] 38 v0 h).bind fun r52 =>
  (ald 0 r52 v3 h).bind fun x53 =>
  (ast 0 r51 x53 v3 h).bind fun h54 =>
  (if v3 ≤ 0 then
  some (.inl (v2, (v3 + 1), h54))
  else
  (gfr [5] 38 v0 h54).bind fun r55 =>
  (ald 0 r55 (v3 - 1) h54).bind fun x56 =>
  (gfr [5] 38 v0 h54).bind fun r57 =>
  (ald 0 r57 v3 h54).bind fun x58 =>
  (mo_talkOf v0 x56 x58 h54).bind fun x59 =>
  some (.inl ((v2 + x59), (v3 + 1), h54))))
noncomputable def mo_mayBeOrder_L4 (v0 : Option Nat) (v1 : Int32) (v2 : Int32) (v3 : Int32) (h : PH) : Option (PH) :=
  iter (fun s : Int32 × Int32 × PH => mo_mayBeOrder_b4 v0 v1 s.1 s.2.1 s.2.2) (v2, v3, h)
theorem mo_mayBeOrder_b4_ok (X : CT) (v0 : Option Nat) (v1 : Int32) (v2 : Int32) (v3 : Int32) (h : PH) : Im X (cX6_mayBeOrder, 5, RX6, "mayBeOrder", none, 4) 4 [some (.inr v0), some (.inl v1), some (.inl v2), some (.inl v3), none] [] h (mo_mayBeOrder_b4 v0 v1 v2 v3 h) (ez (fun s : Int32 × Int32 × PH => s.2.2) szV) (ek X 4 (fun s : Int32 × Int32 × PH => [some (.inr v0), some (.inl v1), some (.inl s.1), some (.inl s.2.1), none]) (fun s : Int32 × Int32 × PH => s.2.2) (kV X)) := by
  unfold mo_mayBeOrder_b4
  refine im_iload_n (pc := 4) dX6_mayBeOrder_4 rfl rfl ?_
  refine im_iload_n (pc := 5) dX6_mayBeOrder_5 rfl rfl ?_
  refine im_icmp_ge (pc := 6) (tgt := 52) dX6_mayBeOrder_6 (by decide) ?_ ?_
  · refine im_iconst (pc := 52) (v := 1) dX6_mayBeOrder_52 (by decide) ?_
    refine im_istore_n (pc := 53) (lv' := [some (.inr v0), some (.inl v1), some (.inl v2), some (.inl 1), none]) dX6_mayBeOrder_53 rfl (by decide) rfl ?_
    refine im_iconst (pc := 54) (v := 0) dX6_mayBeOrder_54 (by decide) ?_
    refine im_istore (pc := 55) (lv' := [some (.inr v0), some (.inl v1), some (.inl v2), some (.inl 1), some (.inl 0)]) dX6_mayBeOrder_55 (by decide) rfl ?_
    exact Im.out (Im.drop [true, true, true, true, true] rfl (mo_mayBeOrder_L57_ok X v0 v1 v2 1 0 h))
  · refine im_aload_n (pc := 9) dX6_mayBeOrder_9 rfl rfl ?_
    refine im_gr (pc := 10) fl_X6_86 dX6_mayBeOrder_10 fun r51 => ?_
    refine im_aload_n (pc := 13) dX6_mayBeOrder_13 rfl rfl ?_
    refine im_gr (pc := 14) fl_X6_80 dX6_mayBeOrder_14 fun r52 => ?_
    refine im_iload_n (pc := 17) dX6_mayBeOrder_17 rfl rfl ?_
    refine im_iald (pc := 18) dX6_mayBeOrder_18 fun x53 => ?_
    refine im_iload_n (pc := 19) dX6_mayBeOrder_19 rfl rfl ?_
    refine im_iast (pc := 20) dX6_mayBeOrder_20 fun h54 => ?_
    refine im_iload_n (pc := 21) dX6_mayBeOrder_21 rfl rfl ?_
    refine im_if_le (pc := 22) (tgt := 46) dX6_mayBeOrder_22 (by decide) ?_ ?_
    · refine im_iinc (pc := 46) (v := (v3 + 1)) (lv' := [some (.inr v0), some (.inl v1), some (.inl v2), some (.inl (v3 + 1)), none]) dX6_mayBeOrder_46 rfl rfl (by decide) rfl ?_
      refine im_goto (pc := 49) (tgt := 4) dX6_mayBeOrder_49 (by decide) ?_
      exact Im.back [true, true, true, true, false] rfl rfl
    · refine im_iload_n (pc := 25) dX6_mayBeOrder_25 rfl rfl ?_
      refine im_aload_n (pc := 26) dX6_mayBeOrder_26 rfl rfl ?_
      refine im_aload_n (pc := 27) dX6_mayBeOrder_27 rfl rfl ?_
      refine im_gr (pc := 28) fl_X6_80 dX6_mayBeOrder_28 fun r55 => ?_
      refine im_iload_n (pc := 31) dX6_mayBeOrder_31 rfl rfl ?_
      refine im_iconst (pc := 32) (v := 1) dX6_mayBeOrder_32 (by decide) ?_
      refine im_isub (pc := 33) dX6_mayBeOrder_33 ?_
      refine im_iald (pc := 34) dX6_mayBeOrder_34 fun x56 => ?_
      refine im_aload_n (pc := 35) dX6_mayBeOrder_35 rfl rfl ?_
      refine im_gr (pc := 36) fl_X6_80 dX6_mayBeOrder_36 fun r57 => ?_
      refine im_iload_n (pc := 39) dX6_mayBeOrder_39 rfl rfl ?_
      refine im_iald (pc := 40) dX6_mayBeOrder_40 fun x58 => ?_
      refine cl_X6_325 mo_talkOf_im (pc := 41) (by decide) dX6_mayBeOrder_41 (Nat.le_of_ble_eq_true rfl) fun x59 => ?_
      refine im_iadd (pc := 44) dX6_mayBeOrder_44 ?_
      refine im_istore_n (pc := 45) (lv' := [some (.inr v0), some (.inl v1), some (.inl (v2 + x59)), some (.inl v3), none]) dX6_mayBeOrder_45 rfl (by decide) rfl ?_
      refine im_iinc (pc := 46) (v := (v3 + 1)) (lv' := [some (.inr v0), some (.inl v1), some (.inl (v2 + x59)), some (.inl (v3 + 1)), none]) dX6_mayBeOrder_46 rfl rfl (by decide) rfl ?_
      refine im_goto (pc := 49) (tgt := 4) dX6_mayBeOrder_49 (by decide) ?_
      exact Im.back [true, true, true, true, false] rfl rfl
theorem mo_mayBeOrder_L4_ok (X : CT) (v0 : Option Nat) (v1 : Int32) (v2 : Int32) (v3 : Int32) (h : PH) : Im X (cX6_mayBeOrder, 5, RX6, "mayBeOrder", none, 4) 4 [some (.inr v0), some (.inl v1), some (.inl v2), some (.inl v3), none] [] h (mo_mayBeOrder_L4 v0 v1 v2 v3 h) szV (kV X) := by
  unfold mo_mayBeOrder_L4
  exact Im.iter (lv := (fun s : Int32 × Int32 × PH => [some (.inr v0), some (.inl v1), some (.inl s.1), some (.inl s.2.1), none])) (hp := (fun s : Int32 × Int32 × PH => s.2.2)) (fun s => mo_mayBeOrder_b4_ok X v0 v1 s.1 s.2.1 s.2.2) _ rfl rfl
noncomputable def mo_mayBeOrder_0 (v0 : Option Nat) (v1 : Int32) (h : PH) : Option (PH) :=
  mo_mayBeOrder_L4 v0 v1 0 0 h
theorem mo_mayBeOrder_0_ok (X : CT) (v0 : Option Nat) (v1 : Int32) (h : PH) : Im X (cX6_mayBeOrder, 5, RX6, "mayBeOrder", none, 4) 0 [some (.inr v0), some (.inl v1), none, none, none] [] h (mo_mayBeOrder_0 v0 v1 h) szV (kV X) := by
  unfold mo_mayBeOrder_0
  refine im_iconst (pc := 0) (v := 0) dX6_mayBeOrder_0 (by decide) ?_
  refine im_istore_n (pc := 1) (lv' := [some (.inr v0), some (.inl v1), some (.inl 0), none, none]) dX6_mayBeOrder_1 rfl (by decide) rfl ?_
  refine im_iconst (pc := 2) (v := 0) dX6_mayBeOrder_2 (by decide) ?_
  refine im_istore_n (pc := 3) (lv' := [some (.inr v0), some (.inl v1), some (.inl 0), some (.inl 0), none]) dX6_mayBeOrder_3 rfl (by decide) rfl ?_
  exact Im.drop [true, true, true, true, false] rfl (mo_mayBeOrder_L4_ok X v0 v1 0 0 h)
noncomputable def mo_mayBeOrder (a0 : Option Nat) (a1 : Int32) (h : PH) : Option (PH) := grd (isC [5] a0 h) (mo_mayBeOrder_0 a0 a1 h)
theorem mo_mayBeOrder_im : IM_X6_mayBeOrder mo_mayBeOrder 4 := by
  intro a0 a1 h h' e
  obtain ⟨e1, e2⟩ := grd_some e
  exact ⟨e1, SpV.of (k := 3) (plainFor_of_name (by decide)) rfl (fun X => Im.drop [true, true, false, false, false] rfl (mo_mayBeOrder_0_ok X a0 a1 h)) e2⟩
def IM_X6_changesOrder (f : Option Nat → Int32 → Int32 → PH → Option (PH)) (d : Nat) : Prop := ∀ (a0 : Option Nat) (a1 : Int32) (a2 : Int32) (h : PH) (h' : PH), f a0 a1 a2 h = some h' → isC [5] a0 h = true ∧ SpV yX6_changesOrder cX6_changesOrder 4 none d [.inr a0, .inl a1, .inl a2] h h'
noncomputable def mo_changesOrder_0 (v0 : Option Nat) (v1 : Int32) (v2 : Int32) (h : PH) : Option (PH) :=
  (gfr [5] 38 v0 h).bind fun r51 =>
  (ald 0 r51 v1 h).bind fun x52 =>
  (gfr [5] 38 v0 h).bind fun r53 =>
  (gfr [5] 38 v0 h).bind fun r54 =>
  (ald 0 r54 v2 h).bind fun x55 =>
  (ast 0 r53 v1 x55 h).bind fun h56 =>
  (gfr [5] 38 v0 h56).bind fun r57 =>
  (ast 0 r57 v2 x52 h56).bind fun h58 =>
  some (h58)
theorem mo_changesOrder_0_ok (X : CT) (v0 : Option Nat) (v1 : Int32) (v2 : Int32) (h : PH) : Im X (cX6_changesOrder, 4, RX6, "changesOrder", none, 1) 0 [some (.inr v0), some (.inl v1), some (.inl v2), none] [] h (mo_changesOrder_0 v0 v1 v2 h) szV (kV X) := by
  unfold mo_changesOrder_0
  refine im_aload_n (pc := 0) dX6_changesOrder_0 rfl rfl ?_
  refine im_gr (pc := 1) fl_X6_80 dX6_changesOrder_1 fun r51 => ?_
  refine im_iload_n (pc := 4) dX6_changesOrder_4 rfl rfl ?_
  refine im_iald (pc := 5) dX6_changesOrder_5 fun x52 => ?_
  refine im_istore_n (pc := 6) (lv' := [some (.inr v0), some (.inl v1), some (.inl v2), some (.inl x52)]) dX6_changesOrder_6 rfl (by decide) rfl ?_
  refine im_aload_n (pc := 7) dX6_changesOrder_7 rfl rfl ?_
  refine im_gr (pc := 8) fl_X6_80 dX6_changesOrder_8 fun r53 => ?_
  refine im_iload_n (pc := 11) dX6_changesOrder_11 rfl rfl ?_
  refine im_aload_n (pc := 12) dX6_changesOrder_12 rfl rfl ?_
  refine im_gr (pc := 13) fl_X6_80 dX6_changesOrder_13 fun r54 => ?_
  refine im_iload_n (pc := 16) dX6_changesOrder_16 rfl rfl ?_
  refine im_iald (pc := 17) dX6_changesOrder_17 fun x55 => ?_
  refine im_iast (pc := 18) dX6_changesOrder_18 fun h56 => ?_
  refine im_aload_n (pc := 19) dX6_changesOrder_19 rfl rfl ?_
  refine im_gr (pc := 20) fl_X6_80 dX6_changesOrder_20 fun r57 => ?_
  refine im_iload_n (pc := 23) dX6_changesOrder_23 rfl rfl ?_
  refine im_iload_n (pc := 24) dX6_changesOrder_24 rfl rfl ?_
  refine im_iast (pc := 25) dX6_changesOrder_25 fun h58 => ?_
  exact im_vret (pc := 26) dX6_changesOrder_26
noncomputable def mo_changesOrder (a0 : Option Nat) (a1 : Int32) (a2 : Int32) (h : PH) : Option (PH) := grd (isC [5] a0 h) (mo_changesOrder_0 a0 a1 a2 h)
theorem mo_changesOrder_im : IM_X6_changesOrder mo_changesOrder 1 := by
  intro a0 a1 a2 h h' e
  obtain ⟨e1, e2⟩ := grd_some e
  exact ⟨e1, SpV.of (k := 1) (plainFor_of_name (by decide)) rfl (fun X => Im.drop [true, true, true, false] rfl (mo_changesOrder_0_ok X a0 a1 a2 h)) e2⟩
theorem cl_X6_343 {X : CT} {cc : ByteArray} {nL : Nat} {mn : String} {ret : Option FieldType} {d d0 : Nat} {τ : Type} {pc : Nat} {lv : List (Option PV)} {st : List PV} {h : PH} {sz : τ → Nat × Nat} {K : τ → Prop} {f : Option Nat → Int32 → Int32 → PH → Option (PH)} (HR : IM_X6_changesOrder f d0) {a0 : Option Nat} {a1 : Int32} {a2 : Int32} {g : PH → Option τ} (hd : d0 + 1 ≤ d) (hdg : decode cc pc = .ok (.invokevirtual 343, 3)) (hst : st.length ≤ 8) (kk : ∀ h', Im X (cc, nL, RX6, mn, ret, d) (pc + 3) lv st h' (g h') sz K) : Im X (cc, nL, RX6, mn, ret, d) pc lv (.inl a2 :: .inl a1 :: .inr a0 :: st) h ((f a0 a1 a2 h).bind g) sz K := by
  refine im_cV (y := yX6_changesOrder) (cY := cX6_changesOrder) (nY := 4) (rY := none) (d' := d0) (av := [.inr a0, .inl a1, .inl a2]) (fun h' e hX => ?_) (fun h' e => (HR _ _ _ _ _ e).2) hd (by decide) hst rfl kk
  obtain ⟨a, c, fs, rfl, ec, hm⟩ := isC_some (HR _ _ _ _ _ e).1
  cases List.mem_singleton.mp hm
  exact cal_V (n := 2) hX (lw_V q1629 q1631 qs94 q112 q1632) (by decide +kernel) rfl rfl ec hdg

def IM_X6_nextOrder (f : Option Nat → Int32 → PH → Option (Int32 × PH)) (d : Nat) : Prop := ∀ (a0 : Option Nat) (a1 : Int32) (h : PH) (r : Int32) (h' : PH), f a0 a1 h = some (r, h') → isC [5] a0 h = true ∧ SpI yX6_nextOrder cX6_nextOrder 6 (some .boolean) d [.inr a0, .inl a1] h r h'
noncomputable def mo_nextOrder_b80 (v0 : Option Nat) (v4 : Int32) (v5 : Int32) (h : PH) : Option ((Int32 × Int32 × PH) ⊕ (Int32 × PH)) :=
  (if v5 ≤ v4 then
  some (.inr ((1, h)))
  else
  (mo_changesOrder v0 v4 v5 h).bind fun h51 =>
  some (.inl ((v4 + 1), (v5 + (-1)), h51)))
noncomputable def mo_nextOrder_L80 (v0 : Option Nat) (v4 : Int32) (v5 : Int32) (h : PH) : Option (Int32 × PH) :=
  iter (fun s : Int32 × Int32 × PH => mo_nextOrder_b80 v0 s.1 s.2.1 s.2.2) (v4, v5, h)
theorem mo_nextOrder_b80_ok (X : CT) (v0 : Option Nat) (v4 : Int32) (v5 : Int32) (h : PH) : Im X (cX6_nextOrder, 6, RX6, "nextOrder", (some .boolean), 2) 80 [some (.inr v0), none, none, none, some (.inl v4), some (.inl v5)] [] h (mo_nextOrder_b80 v0 v4 v5 h) (ez (fun s : Int32 × Int32 × PH => s.2.2) szI) (ek X 80 (fun s : Int32 × Int32 × PH => [some (.inr v0), none, none, none, some (.inl s.1), some (.inl s.2.1)]) (fun s : Int32 × Int32 × PH => s.2.2) (kI X)) := by
  unfold mo_nextOrder_b80
  refine im_iload (pc := 80) dX6_nextOrder_80 rfl ?_
  refine im_iload (pc := 82) dX6_nextOrder_82 rfl ?_
  refine im_icmp_ge (pc := 84) (tgt := 104) dX6_nextOrder_84 (by decide) ?_ ?_
  · refine im_iconst (pc := 104) (v := 1) dX6_nextOrder_104 (by decide) ?_
    exact Im.outS (im_zretT (pc := 105) (nar_z (Or.inr rfl)) dX6_nextOrder_105)
  · refine im_aload_n (pc := 87) dX6_nextOrder_87 rfl rfl ?_
    refine im_iload (pc := 88) dX6_nextOrder_88 rfl ?_
    refine im_iload (pc := 90) dX6_nextOrder_90 rfl ?_
    refine cl_X6_343 mo_changesOrder_im (pc := 92) (by decide) dX6_nextOrder_92 (Nat.le_of_ble_eq_true rfl) fun h51 => ?_
    refine im_iinc (pc := 95) (v := (v4 + 1)) (lv' := [some (.inr v0), none, none, none, some (.inl (v4 + 1)), some (.inl v5)]) dX6_nextOrder_95 rfl rfl (by decide) rfl ?_
    refine im_iinc (pc := 98) (v := (v5 + (-1))) (lv' := [some (.inr v0), none, none, none, some (.inl (v4 + 1)), some (.inl (v5 + (-1)))]) dX6_nextOrder_98 rfl rfl (by decide) rfl ?_
    refine im_goto (pc := 101) (tgt := 80) dX6_nextOrder_101 (by decide) ?_
    exact Im.back [true, false, false, false, true, true] rfl rfl
theorem mo_nextOrder_L80_ok (X : CT) (v0 : Option Nat) (v4 : Int32) (v5 : Int32) (h : PH) : Im X (cX6_nextOrder, 6, RX6, "nextOrder", (some .boolean), 2) 80 [some (.inr v0), none, none, none, some (.inl v4), some (.inl v5)] [] h (mo_nextOrder_L80 v0 v4 v5 h) szI (kI X) := by
  unfold mo_nextOrder_L80
  exact Im.iter (lv := (fun s : Int32 × Int32 × PH => [some (.inr v0), none, none, none, some (.inl s.1), some (.inl s.2.1)])) (hp := (fun s : Int32 × Int32 × PH => s.2.2)) (fun s => mo_nextOrder_b80_ok X v0 s.1 s.2.1 s.2.2) _ rfl rfl
noncomputable def mo_nextOrder_b42 (v0 : Option Nat) (v1 : Int32) (v2 : Int32) (v3 : Int32) (h : PH) : Option ((Int32) ⊕ (Int32 × PH)) :=
  (gfr [5] 38 v0 h).bind fun r51 =>
  (ald 0 r51 v3 h).bind fun x52 =>
  (gfr [5] 38 v0 h).bind fun r53 =>
  (ald 0 r53 v2 h).bind fun x54 =>
  (if x54 ≤ x52 then
  (mo_changesOrder v0 v2 v3 h).bind fun h55 =>
  (mo_nextOrder_L80 v0 (v2 + 1) (v1 - 1) h55).map .inr
  else
  some (.inl (v3 - 1)))
noncomputable def mo_nextOrder_L42 (v0 : Option Nat) (v1 : Int32) (v2 : Int32) (v3 : Int32) (h : PH) : Option (Int32 × PH) :=
  iter (fun s : Int32 => mo_nextOrder_b42 v0 v1 v2 s h) v3
theorem mo_nextOrder_b42_ok (X : CT) (v0 : Option Nat) (v1 : Int32) (v2 : Int32) (v3 : Int32) (h : PH) : Im X (cX6_nextOrder, 6, RX6, "nextOrder", (some .boolean), 2) 42 [some (.inr v0), some (.inl v1), some (.inl v2), some (.inl v3), none, none] [] h (mo_nextOrder_b42 v0 v1 v2 v3 h) (ez (fun s : Int32 => h) szI) (ek X 42 (fun s : Int32 => [some (.inr v0), some (.inl v1), some (.inl v2), some (.inl s), none, none]) (fun s : Int32 => h) (kI X)) := by
  unfold mo_nextOrder_b42
  refine im_aload_n (pc := 42) dX6_nextOrder_42 rfl rfl ?_
  refine im_gr (pc := 43) fl_X6_80 dX6_nextOrder_43 fun r51 => ?_
  refine im_iload_n (pc := 46) dX6_nextOrder_46 rfl rfl ?_
  refine im_iald (pc := 47) dX6_nextOrder_47 fun x52 => ?_
  refine im_aload_n (pc := 48) dX6_nextOrder_48 rfl rfl ?_
  refine im_gr (pc := 49) fl_X6_80 dX6_nextOrder_49 fun r53 => ?_
  refine im_iload_n (pc := 52) dX6_nextOrder_52 rfl rfl ?_
  refine im_iald (pc := 53) dX6_nextOrder_53 fun x54 => ?_
  refine im_icmp_ge (pc := 54) (tgt := 64) dX6_nextOrder_54 (by decide) ?_ ?_
  · refine im_aload_n (pc := 64) dX6_nextOrder_64 rfl rfl ?_
    refine im_iload_n (pc := 65) dX6_nextOrder_65 rfl rfl ?_
    refine im_iload_n (pc := 66) dX6_nextOrder_66 rfl rfl ?_
    refine cl_X6_343 mo_changesOrder_im (pc := 67) (by decide) dX6_nextOrder_67 (Nat.le_of_ble_eq_true rfl) fun h55 => ?_
    refine im_iload_n (pc := 70) dX6_nextOrder_70 rfl rfl ?_
    refine im_iconst (pc := 71) (v := 1) dX6_nextOrder_71 (by decide) ?_
    refine im_iadd (pc := 72) dX6_nextOrder_72 ?_
    refine im_istore (pc := 73) (lv' := [some (.inr v0), some (.inl v1), some (.inl v2), some (.inl v3), some (.inl (v2 + 1)), none]) dX6_nextOrder_73 (by decide) rfl ?_
    refine im_iload_n (pc := 75) dX6_nextOrder_75 rfl rfl ?_
    refine im_iconst (pc := 76) (v := 1) dX6_nextOrder_76 (by decide) ?_
    refine im_isub (pc := 77) dX6_nextOrder_77 ?_
    refine im_istore (pc := 78) (lv' := [some (.inr v0), some (.inl v1), some (.inl v2), some (.inl v3), some (.inl (v2 + 1)), some (.inl (v1 - 1))]) dX6_nextOrder_78 (by decide) rfl ?_
    exact Im.out (Im.drop [true, false, false, false, true, true] rfl (mo_nextOrder_L80_ok X v0 (v2 + 1) (v1 - 1) h55))
  · refine im_iload_n (pc := 57) dX6_nextOrder_57 rfl rfl ?_
    refine im_iconst (pc := 58) (v := 1) dX6_nextOrder_58 (by decide) ?_
    refine im_isub (pc := 59) dX6_nextOrder_59 ?_
    refine im_istore_n (pc := 60) (lv' := [some (.inr v0), some (.inl v1), some (.inl v2), some (.inl (v3 - 1)), none, none]) dX6_nextOrder_60 rfl (by decide) rfl ?_
    refine im_goto (pc := 61) (tgt := 42) dX6_nextOrder_61 (by decide) ?_
    exact Im.back [true, true, true, true, false, false] rfl rfl
theorem mo_nextOrder_L42_ok (X : CT) (v0 : Option Nat) (v1 : Int32) (v2 : Int32) (v3 : Int32) (h : PH) : Im X (cX6_nextOrder, 6, RX6, "nextOrder", (some .boolean), 2) 42 [some (.inr v0), some (.inl v1), some (.inl v2), some (.inl v3), none, none] [] h (mo_nextOrder_L42 v0 v1 v2 v3 h) szI (kI X) := by
  unfold mo_nextOrder_L42
  exact Im.iter (lv := (fun s : Int32 => [some (.inr v0), some (.inl v1), some (.inl v2), some (.inl s), none, none])) (hp := (fun s : Int32 => h)) (fun s => mo_nextOrder_b42_ok X v0 v1 v2 s h) _ rfl rfl
noncomputable def mo_nextOrder_32 (v0 : Option Nat) (v1 : Int32) (v2 : Int32) (h : PH) : Option (Int32 × PH) :=
  (if 0 ≤ v2 then
  mo_nextOrder_L42 v0 v1 v2 (v1 - 1) h
  else
  some ((0, h)))
theorem mo_nextOrder_32_ok (X : CT) (v0 : Option Nat) (v1 : Int32) (v2 : Int32) (h : PH) : Im X (cX6_nextOrder, 6, RX6, "nextOrder", (some .boolean), 2) 32 [some (.inr v0), some (.inl v1), some (.inl v2), none, none, none] [] h (mo_nextOrder_32 v0 v1 v2 h) szI (kI X) := by
  unfold mo_nextOrder_32
  refine im_iload_n (pc := 32) dX6_nextOrder_32 rfl rfl ?_
  refine im_if_ge (pc := 33) (tgt := 38) dX6_nextOrder_33 (by decide) ?_ ?_
  · refine im_iload_n (pc := 38) dX6_nextOrder_38 rfl rfl ?_
    refine im_iconst (pc := 39) (v := 1) dX6_nextOrder_39 (by decide) ?_
    refine im_isub (pc := 40) dX6_nextOrder_40 ?_
    refine im_istore_n (pc := 41) (lv' := [some (.inr v0), some (.inl v1), some (.inl v2), some (.inl (v1 - 1)), none, none]) dX6_nextOrder_41 rfl (by decide) rfl ?_
    exact Im.drop [true, true, true, true, false, false] rfl (mo_nextOrder_L42_ok X v0 v1 v2 (v1 - 1) h)
  · refine im_iconst (pc := 36) (v := 0) dX6_nextOrder_36 (by decide) ?_
    exact im_zretT (pc := 37) (nar_z (Or.inl rfl)) dX6_nextOrder_37
noncomputable def mo_nextOrder_b4 (v0 : Option Nat) (v1 : Int32) (v2 : Int32) (h : PH) : Option ((Int32) ⊕ (Int32 × PH)) :=
  (if v2 < 0 then
  (mo_nextOrder_32 v0 v1 v2 h).map .inr
  else
  (gfr [5] 38 v0 h).bind fun r51 =>
  (ald 0 r51 v2 h).bind fun x52 =>
  (gfr [5] 38 v0 h).bind fun r53 =>
  (ald 0 r53 (v2 + 1) h).bind fun x54 =>
  (if x52 ≤ x54 then
  (mo_nextOrder_32 v0 v1 v2 h).map .inr
  else
  some (.inl (v2 - 1))))
noncomputable def mo_nextOrder_L4 (v0 : Option Nat) (v1 : Int32) (v2 : Int32) (h : PH) : Option (Int32 × PH) :=
  iter (fun s : Int32 => mo_nextOrder_b4 v0 v1 s h) v2
theorem mo_nextOrder_b4_ok (X : CT) (v0 : Option Nat) (v1 : Int32) (v2 : Int32) (h : PH) : Im X (cX6_nextOrder, 6, RX6, "nextOrder", (some .boolean), 2) 4 [some (.inr v0), some (.inl v1), some (.inl v2), none, none, none] [] h (mo_nextOrder_b4 v0 v1 v2 h) (ez (fun s : Int32 => h) szI) (ek X 4 (fun s : Int32 => [some (.inr v0), some (.inl v1), some (.inl s), none, none, none]) (fun s : Int32 => h) (kI X)) := by
  unfold mo_nextOrder_b4
  refine im_iload_n (pc := 4) dX6_nextOrder_4 rfl rfl ?_
  refine im_if_lt (pc := 5) (tgt := 32) dX6_nextOrder_5 (by decide) ?_ ?_
  · exact Im.out (Im.drop [true, true, true, false, false, false] rfl (mo_nextOrder_32_ok X v0 v1 v2 h))
  · refine im_aload_n (pc := 8) dX6_nextOrder_8 rfl rfl ?_
    refine im_gr (pc := 9) fl_X6_80 dX6_nextOrder_9 fun r51 => ?_
    refine im_iload_n (pc := 12) dX6_nextOrder_12 rfl rfl ?_
    refine im_iald (pc := 13) dX6_nextOrder_13 fun x52 => ?_
    refine im_aload_n (pc := 14) dX6_nextOrder_14 rfl rfl ?_
    refine im_gr (pc := 15) fl_X6_80 dX6_nextOrder_15 fun r53 => ?_
    refine im_iload_n (pc := 18) dX6_nextOrder_18 rfl rfl ?_
    refine im_iconst (pc := 19) (v := 1) dX6_nextOrder_19 (by decide) ?_
    refine im_iadd (pc := 20) dX6_nextOrder_20 ?_
    refine im_iald (pc := 21) dX6_nextOrder_21 fun x54 => ?_
    refine im_icmp_le (pc := 22) (tgt := 32) dX6_nextOrder_22 (by decide) ?_ ?_
    · exact Im.out (Im.drop [true, true, true, false, false, false] rfl (mo_nextOrder_32_ok X v0 v1 v2 h))
    · refine im_iload_n (pc := 25) dX6_nextOrder_25 rfl rfl ?_
      refine im_iconst (pc := 26) (v := 1) dX6_nextOrder_26 (by decide) ?_
      refine im_isub (pc := 27) dX6_nextOrder_27 ?_
      refine im_istore_n (pc := 28) (lv' := [some (.inr v0), some (.inl v1), some (.inl (v2 - 1)), none, none, none]) dX6_nextOrder_28 rfl (by decide) rfl ?_
      refine im_goto (pc := 29) (tgt := 4) dX6_nextOrder_29 (by decide) ?_
      exact Im.back [true, true, true, false, false, false] rfl rfl
theorem mo_nextOrder_L4_ok (X : CT) (v0 : Option Nat) (v1 : Int32) (v2 : Int32) (h : PH) : Im X (cX6_nextOrder, 6, RX6, "nextOrder", (some .boolean), 2) 4 [some (.inr v0), some (.inl v1), some (.inl v2), none, none, none] [] h (mo_nextOrder_L4 v0 v1 v2 h) szI (kI X) := by
  unfold mo_nextOrder_L4
  exact Im.iter (lv := (fun s : Int32 => [some (.inr v0), some (.inl v1), some (.inl s), none, none, none])) (hp := (fun s : Int32 => h)) (fun s => mo_nextOrder_b4_ok X v0 v1 s h) _ rfl rfl
noncomputable def mo_nextOrder_0 (v0 : Option Nat) (v1 : Int32) (h : PH) : Option (Int32 × PH) :=
  mo_nextOrder_L4 v0 v1 (v1 - 2) h
theorem mo_nextOrder_0_ok (X : CT) (v0 : Option Nat) (v1 : Int32) (h : PH) : Im X (cX6_nextOrder, 6, RX6, "nextOrder", (some .boolean), 2) 0 [some (.inr v0), some (.inl v1), none, none, none, none] [] h (mo_nextOrder_0 v0 v1 h) szI (kI X) := by
  unfold mo_nextOrder_0
  refine im_iload_n (pc := 0) dX6_nextOrder_0 rfl rfl ?_
  refine im_iconst (pc := 1) (v := 2) dX6_nextOrder_1 (by decide) ?_
  refine im_isub (pc := 2) dX6_nextOrder_2 ?_
  refine im_istore_n (pc := 3) (lv' := [some (.inr v0), some (.inl v1), some (.inl (v1 - 2)), none, none, none]) dX6_nextOrder_3 rfl (by decide) rfl ?_
  exact Im.drop [true, true, true, false, false, false] rfl (mo_nextOrder_L4_ok X v0 v1 (v1 - 2) h)
noncomputable def mo_nextOrder (a0 : Option Nat) (a1 : Int32) (h : PH) : Option (Int32 × PH) := grd (isC [5] a0 h) (mo_nextOrder_0 a0 a1 h)
theorem mo_nextOrder_im : IM_X6_nextOrder mo_nextOrder 2 := by
  intro a0 a1 h r h' e
  obtain ⟨e1, e2⟩ := grd_some e
  exact ⟨e1, SpI.of (k := 4) (plainFor_of_name (by decide)) rfl (fun X => Im.drop [true, true, false, false, false, false] rfl (mo_nextOrder_0_ok X a0 a1 h)) e2⟩
theorem cl_X6_355 {X : CT} {cc : ByteArray} {nL : Nat} {mn : String} {ret : Option FieldType} {d d0 : Nat} {τ : Type} {pc : Nat} {lv : List (Option PV)} {st : List PV} {h : PH} {sz : τ → Nat × Nat} {K : τ → Prop} {f : Option Nat → PH → Option (Int32)} (HR : IM_X6_toldSet f d0) {a0 : Option Nat} {g : Int32 → Option τ} (hd : d0 + 1 ≤ d) (hdg : decode cc pc = .ok (.invokevirtual 355, 3)) (hst : st.length ≤ 8) (kk : ∀ r, Im X (cc, nL, RX6, mn, ret, d) (pc + 3) lv (.inl r :: st) h (g r) sz K) : Im X (cc, nL, RX6, mn, ret, d) pc lv (.inr a0 :: st) h ((f a0 h).bind g) sz K := by
  refine im_cP (y := yX6_toldSet) (cY := cX6_toldSet) (nY := 3) (rY := (some .int)) (d' := d0) (av := [.inr a0]) (fun r e hX => ?_) (fun r e => (HR _ _ _ e).2) hd (by decide) hst rfl kk
  obtain ⟨a, c, fs, rfl, ec, hm⟩ := isC_some (HR _ _ _ e).1
  cases List.mem_singleton.mp hm
  exact cal_V (n := 0) hX (lw_V q1612 q1614 qs90 q112 q1615) (by decide +kernel) rfl rfl ec hdg

theorem cl_X6_359 {X : CT} {cc : ByteArray} {nL : Nat} {mn : String} {ret : Option FieldType} {d d0 : Nat} {τ : Type} {pc : Nat} {lv : List (Option PV)} {st : List PV} {h : PH} {sz : τ → Nat × Nat} {K : τ → Prop} {f : Option Nat → Int32 → PH → Option (PH)} (HR : IM_X6_mayBeOrder f d0) {a0 : Option Nat} {a1 : Int32} {g : PH → Option τ} (hd : d0 + 1 ≤ d) (hdg : decode cc pc = .ok (.invokevirtual 359, 3)) (hst : st.length ≤ 8) (kk : ∀ h', Im X (cc, nL, RX6, mn, ret, d) (pc + 3) lv st h' (g h') sz K) : Im X (cc, nL, RX6, mn, ret, d) pc lv (.inl a1 :: .inr a0 :: st) h ((f a0 a1 h).bind g) sz K := by
  refine im_cV (y := yX6_mayBeOrder) (cY := cX6_mayBeOrder) (nY := 5) (rY := none) (d' := d0) (av := [.inr a0, .inl a1]) (fun h' e hX => ?_) (fun h' e => (HR _ _ _ _ e).2) hd (by decide) hst rfl kk
  obtain ⟨a, c, fs, rfl, ec, hm⟩ := isC_some (HR _ _ _ _ e).1
  cases List.mem_singleton.mp hm
  exact cal_V (n := 1) hX (lw_V q1617 q1619 qs91 q112 q1620) (by decide +kernel) rfl rfl ec hdg

theorem cl_X6_362 {X : CT} {cc : ByteArray} {nL : Nat} {mn : String} {ret : Option FieldType} {d d0 : Nat} {τ : Type} {pc : Nat} {lv : List (Option PV)} {st : List PV} {h : PH} {sz : τ → Nat × Nat} {K : τ → Prop} {f : Option Nat → Int32 → PH → Option (Int32 × PH)} (HR : IM_X6_nextOrder f d0) {a0 : Option Nat} {a1 : Int32} {g : Int32 → PH → Option τ} (hd : d0 + 1 ≤ d) (hdg : decode cc pc = .ok (.invokevirtual 362, 3)) (hst : st.length ≤ 8) (kk : ∀ r h', Im X (cc, nL, RX6, mn, ret, d) (pc + 3) lv (.inl r :: st) h' (g r h') sz K) : Im X (cc, nL, RX6, mn, ret, d) pc lv (.inl a1 :: .inr a0 :: st) h (bd2 (f a0 a1 h) g) sz K := by
  refine im_cI (y := yX6_nextOrder) (cY := cX6_nextOrder) (nY := 6) (rY := (some .boolean)) (d' := d0) (av := [.inr a0, .inl a1]) (fun r h' e hX => ?_) (fun r h' e => (HR _ _ _ _ _ e).2) hd (by decide) hst rfl kk
  obtain ⟨a, c, fs, rfl, ec, hm⟩ := isC_some (HR _ _ _ _ _ e).1
  cases List.mem_singleton.mp hm
  exact cal_V (n := 1) hX (lw_V q1625 q1627 qs93 q112 q1628) (by decide +kernel) rfl rfl ec hdg

def IM_X6_row (f : Option Nat → Int32 → Int32 → PH → Option (Int32 × PH)) (d : Nat) : Prop := ∀ (a0 : Option Nat) (a1 : Int32) (a2 : Int32) (h : PH) (r : Int32) (h' : PH), f a0 a1 a2 h = some (r, h') → isC [5] a0 h = true ∧ SpI yX6_row cX6_row 5 (some .int) d [.inr a0, .inl a1, .inl a2] h r h'
noncomputable def mo_row_b127 (v0 : Option Nat) (v2 : Int32) (v3 : Int32) (v4 : Int32) (h : PH) : Option ((Int32 × PH) ⊕ (Int32 × PH)) :=
  (if v4 = 0 then
  (if v2 < 100 then
  (if v3 ≤ v2 then
  some (.inr (((-4), h)))
  else
  (gfr [5] 39 v0 h).bind fun r51 =>
  (ald 0 r51 v2 h).bind fun x52 =>
  some (.inr ((x52, h))))
  else
  (if v2 = 100 then
  (gfi [5] 42 v0 h).bind fun x54 =>
  some (.inr ((x54, h)))
  else
  (gfi [5] 41 v0 h).bind fun x53 =>
  some (.inr ((x53, h)))))
  else
  (mo_mayBeOrder v0 v3 h).bind fun h55 =>
  bd2 (mo_nextOrder v0 v3 h55) fun x57 h56 =>
  some (.inl (x57, h56)))
noncomputable def mo_row_L127 (v0 : Option Nat) (v2 : Int32) (v3 : Int32) (v4 : Int32) (h : PH) : Option (Int32 × PH) :=
  iter (fun s : Int32 × PH => mo_row_b127 v0 v2 v3 s.1 s.2) (v4, h)
theorem mo_row_b127_ok (X : CT) (v0 : Option Nat) (v2 : Int32) (v3 : Int32) (v4 : Int32) (h : PH) : Im X (cX6_row, 5, RX6, "row", (some .int), 5) 127 [some (.inr v0), none, some (.inl v2), some (.inl v3), some (.inl v4)] [] h (mo_row_b127 v0 v2 v3 v4 h) (ez (fun s : Int32 × PH => s.2) szI) (ek X 127 (fun s : Int32 × PH => [some (.inr v0), none, some (.inl v2), some (.inl v3), some (.inl s.1)]) (fun s : Int32 × PH => s.2) (kI X)) := by
  unfold mo_row_b127
  refine im_iload (pc := 127) dX6_row_127 rfl ?_
  refine im_if_eq (pc := 129) (tgt := 147) dX6_row_129 (by decide) ?_ ?_
  · refine im_iload_n (pc := 147) dX6_row_147 rfl rfl ?_
    refine im_bipush (pc := 148) (v := 100) dX6_row_148 (by decide) ?_
    refine im_icmp_lt (pc := 150) (tgt := 171) dX6_row_150 (by decide) ?_ ?_
    · refine im_iload_n (pc := 171) dX6_row_171 rfl rfl ?_
      refine im_iload_n (pc := 172) dX6_row_172 rfl rfl ?_
      refine im_icmp_ge (pc := 173) (tgt := 185) dX6_row_173 (by decide) ?_ ?_
      · refine im_bipush (pc := 185) (v := (-4)) dX6_row_185 (by decide) ?_
        exact Im.outS (im_iret (pc := 187) dX6_row_187)
      · refine im_aload_n (pc := 176) dX6_row_176 rfl rfl ?_
        refine im_gr (pc := 177) fl_X6_83 dX6_row_177 fun r51 => ?_
        refine im_iload_n (pc := 180) dX6_row_180 rfl rfl ?_
        refine im_iald (pc := 181) dX6_row_181 fun x52 => ?_
        refine im_goto (pc := 182) (tgt := 187) dX6_row_182 (by decide) ?_
        exact Im.outS (im_iret (pc := 187) dX6_row_187)
    · refine im_iload_n (pc := 153) dX6_row_153 rfl rfl ?_
      refine im_bipush (pc := 154) (v := 100) dX6_row_154 (by decide) ?_
      refine im_icmp_ne (pc := 156) (tgt := 166) dX6_row_156 (by decide) ?_ ?_
      · refine im_aload_n (pc := 166) dX6_row_166 rfl rfl ?_
        refine im_gi (pc := 167) fl_X6_349 dX6_row_167 fun x53 => ?_
        exact Im.outS (im_iret (pc := 170) dX6_row_170)
      · refine im_aload_n (pc := 159) dX6_row_159 rfl rfl ?_
        refine im_gi (pc := 160) fl_X6_352 dX6_row_160 fun x54 => ?_
        refine im_goto (pc := 163) (tgt := 170) dX6_row_163 (by decide) ?_
        exact Im.outS (im_iret (pc := 170) dX6_row_170)
  · refine im_aload_n (pc := 132) dX6_row_132 rfl rfl ?_
    refine im_iload_n (pc := 133) dX6_row_133 rfl rfl ?_
    refine cl_X6_359 mo_mayBeOrder_im (pc := 134) (by decide) dX6_row_134 (Nat.le_of_ble_eq_true rfl) fun h55 => ?_
    refine im_aload_n (pc := 137) dX6_row_137 rfl rfl ?_
    refine im_iload_n (pc := 138) dX6_row_138 rfl rfl ?_
    refine cl_X6_362 mo_nextOrder_im (pc := 139) (by decide) dX6_row_139 (Nat.le_of_ble_eq_true rfl) fun x57 h56 => ?_
    refine im_istore (pc := 142) (lv' := [some (.inr v0), none, some (.inl v2), some (.inl v3), some (.inl x57)]) dX6_row_142 (by decide) rfl ?_
    refine im_goto (pc := 144) (tgt := 127) dX6_row_144 (by decide) ?_
    exact Im.back [true, false, true, true, true] rfl rfl
theorem mo_row_L127_ok (X : CT) (v0 : Option Nat) (v2 : Int32) (v3 : Int32) (v4 : Int32) (h : PH) : Im X (cX6_row, 5, RX6, "row", (some .int), 5) 127 [some (.inr v0), none, some (.inl v2), some (.inl v3), some (.inl v4)] [] h (mo_row_L127 v0 v2 v3 v4 h) szI (kI X) := by
  unfold mo_row_L127
  exact Im.iter (lv := (fun s : Int32 × PH => [some (.inr v0), none, some (.inl v2), some (.inl v3), some (.inl s.1)])) (hp := (fun s : Int32 × PH => s.2)) (fun s => mo_row_b127_ok X v0 v2 v3 s.1 s.2) _ rfl rfl
noncomputable def mo_row_b67 (v0 : Option Nat) (v1 : Int32) (v2 : Int32) (v3 : Int32) (v4 : Int32) (h : PH) : Option ((Int32 × Int32 × PH) ⊕ (Int32 × PH)) :=
  (if 16 ≤ v4 then
  (pf [5] 41 v0 (.inl 0) h).bind fun h51 =>
  (pf [5] 42 v0 (.inl (-1000000)) h51).bind fun h52 =>
  (mo_row_L127 v0 v2 v3 1 h52).map .inr
  else
  (gfr [5] 40 v0 h).bind fun r53 =>
  (ast 0 r53 v4 (-1) h).bind fun h54 =>
  (mo_has v1 v4 h54).bind fun x55 =>
  (if x55 = 0 then
  some (.inl (v3, (v4 + 1), h54))
  else
  (gfr [5] 38 v0 h54).bind fun r56 =>
  (ast 0 r56 v3 v4 h54).bind fun h57 =>
  some (.inl ((v3 + 1), (v4 + 1), h57))))
noncomputable def mo_row_L67 (v0 : Option Nat) (v1 : Int32) (v2 : Int32) (v3 : Int32) (v4 : Int32) (h : PH) : Option (Int32 × PH) :=
  iter (fun s : Int32 × Int32 × PH => mo_row_b67 v0 v1 v2 s.1 s.2.1 s.2.2) (v3, v4, h)
theorem mo_row_b67_ok (X : CT) (v0 : Option Nat) (v1 : Int32) (v2 : Int32) (v3 : Int32) (v4 : Int32) (h : PH) : Im X (cX6_row, 5, RX6, "row", (some .int), 5) 67 [some (.inr v0), some (.inl v1), some (.inl v2), some (.inl v3), some (.inl v4)] [] h (mo_row_b67 v0 v1 v2 v3 v4 h) (ez (fun s : Int32 × Int32 × PH => s.2.2) szI) (ek X 67 (fun s : Int32 × Int32 × PH => [some (.inr v0), some (.inl v1), some (.inl v2), some (.inl s.1), some (.inl s.2.1)]) (fun s : Int32 × Int32 × PH => s.2.2) (kI X)) := by
  unfold mo_row_b67
  refine im_iload (pc := 67) dX6_row_67 rfl ?_
  refine im_bipush (pc := 69) (v := 16) dX6_row_69 (by decide) ?_
  refine im_icmp_ge (pc := 71) (tgt := 112) dX6_row_71 (by decide) ?_ ?_
  · refine im_aload_n (pc := 112) dX6_row_112 rfl rfl ?_
    refine im_iconst (pc := 113) (v := 0) dX6_row_113 (by decide) ?_
    refine im_pf (pc := 114) fp_X6_349 (okT_i _) dX6_row_114 fun h51 => ?_
    refine im_aload_n (pc := 117) dX6_row_117 rfl rfl ?_
    refine im_ldcw (pc := 118) q1616 dX6_row_118 ?_
    refine im_pf (pc := 121) fp_X6_352 (okT_i _) dX6_row_121 fun h52 => ?_
    refine im_iconst (pc := 124) (v := 1) dX6_row_124 (by decide) ?_
    refine im_istore (pc := 125) (lv' := [some (.inr v0), some (.inl v1), some (.inl v2), some (.inl v3), some (.inl 1)]) dX6_row_125 (by decide) rfl ?_
    exact Im.out (Im.drop [true, false, true, true, true] rfl (mo_row_L127_ok X v0 v2 v3 1 h52))
  · refine im_aload_n (pc := 74) dX6_row_74 rfl rfl ?_
    refine im_gr (pc := 75) fl_X6_86 dX6_row_75 fun r53 => ?_
    refine im_iload (pc := 78) dX6_row_78 rfl ?_
    refine im_iconst (pc := 80) (v := (-1)) dX6_row_80 (by decide) ?_
    refine im_iast (pc := 81) dX6_row_81 fun h54 => ?_
    refine im_iload_n (pc := 82) dX6_row_82 rfl rfl ?_
    refine im_iload (pc := 83) dX6_row_83 rfl ?_
    refine cl_X6_288 mo_has_im (pc := 85) (by decide) dX6_row_85 (Nat.le_of_ble_eq_true rfl) fun x55 => ?_
    refine im_if_ne (pc := 88) (tgt := 94) dX6_row_88 (by decide) ?_ ?_
    · refine im_aload_n (pc := 94) dX6_row_94 rfl rfl ?_
      refine im_gr (pc := 95) fl_X6_80 dX6_row_95 fun r56 => ?_
      refine im_iload_n (pc := 98) dX6_row_98 rfl rfl ?_
      refine im_iload (pc := 99) dX6_row_99 rfl ?_
      refine im_iast (pc := 101) dX6_row_101 fun h57 => ?_
      refine im_iload_n (pc := 102) dX6_row_102 rfl rfl ?_
      refine im_iconst (pc := 103) (v := 1) dX6_row_103 (by decide) ?_
      refine im_iadd (pc := 104) dX6_row_104 ?_
      refine im_istore_n (pc := 105) (lv' := [some (.inr v0), some (.inl v1), some (.inl v2), some (.inl (v3 + 1)), some (.inl v4)]) dX6_row_105 rfl (by decide) rfl ?_
      refine im_iinc (pc := 106) (v := (v4 + 1)) (lv' := [some (.inr v0), some (.inl v1), some (.inl v2), some (.inl (v3 + 1)), some (.inl (v4 + 1))]) dX6_row_106 rfl rfl (by decide) rfl ?_
      refine im_goto (pc := 109) (tgt := 67) dX6_row_109 (by decide) ?_
      exact Im.back [true, true, true, true, true] rfl rfl
    · refine im_goto (pc := 91) (tgt := 106) dX6_row_91 (by decide) ?_
      refine im_iinc (pc := 106) (v := (v4 + 1)) (lv' := [some (.inr v0), some (.inl v1), some (.inl v2), some (.inl v3), some (.inl (v4 + 1))]) dX6_row_106 rfl rfl (by decide) rfl ?_
      refine im_goto (pc := 109) (tgt := 67) dX6_row_109 (by decide) ?_
      exact Im.back [true, true, true, true, true] rfl rfl
theorem mo_row_L67_ok (X : CT) (v0 : Option Nat) (v1 : Int32) (v2 : Int32) (v3 : Int32) (v4 : Int32) (h : PH) : Im X (cX6_row, 5, RX6, "row", (some .int), 5) 67 [some (.inr v0), some (.inl v1), some (.inl v2), some (.inl v3), some (.inl v4)] [] h (mo_row_L67 v0 v1 v2 v3 v4 h) szI (kI X) := by
  unfold mo_row_L67
  exact Im.iter (lv := (fun s : Int32 × Int32 × PH => [some (.inr v0), some (.inl v1), some (.inl v2), some (.inl s.1), some (.inl s.2.1)])) (hp := (fun s : Int32 × Int32 × PH => s.2.2)) (fun s => mo_row_b67_ok X v0 v1 v2 s.1 s.2.1 s.2.2) _ rfl rfl
noncomputable def mo_row_48 (v0 : Option Nat) (v1 : Int32) (v2 : Int32) (h : PH) : Option (Int32 × PH) :=
  (mo_toldSet v0 h).bind fun x51 =>
  (if (v1 &&& (x51 ^^^ (-1))) = 0 then
  mo_row_L67 v0 v1 v2 0 0 h
  else
  some (((-2), h)))
theorem mo_row_48_ok (X : CT) (v0 : Option Nat) (v1 : Int32) (v2 : Int32) (h : PH) : Im X (cX6_row, 5, RX6, "row", (some .int), 5) 48 [some (.inr v0), some (.inl v1), some (.inl v2), none, none] [] h (mo_row_48 v0 v1 v2 h) szI (kI X) := by
  unfold mo_row_48
  refine im_iload_n (pc := 48) dX6_row_48 rfl rfl ?_
  refine im_aload_n (pc := 49) dX6_row_49 rfl rfl ?_
  refine cl_X6_355 mo_toldSet_im (pc := 50) (by decide) dX6_row_50 (Nat.le_of_ble_eq_true rfl) fun x51 => ?_
  refine im_iconst (pc := 53) (v := (-1)) dX6_row_53 (by decide) ?_
  refine im_ixor (pc := 54) dX6_row_54 ?_
  refine im_iand (pc := 55) dX6_row_55 ?_
  refine im_if_eq (pc := 56) (tgt := 62) dX6_row_56 (by decide) ?_ ?_
  · refine im_iconst (pc := 62) (v := 0) dX6_row_62 (by decide) ?_
    refine im_istore_n (pc := 63) (lv' := [some (.inr v0), some (.inl v1), some (.inl v2), some (.inl 0), none]) dX6_row_63 rfl (by decide) rfl ?_
    refine im_iconst (pc := 64) (v := 0) dX6_row_64 (by decide) ?_
    refine im_istore (pc := 65) (lv' := [some (.inr v0), some (.inl v1), some (.inl v2), some (.inl 0), some (.inl 0)]) dX6_row_65 (by decide) rfl ?_
    exact Im.drop [true, true, true, true, true] rfl (mo_row_L67_ok X v0 v1 v2 0 0 h)
  · refine im_bipush (pc := 59) (v := (-2)) dX6_row_59 (by decide) ?_
    exact im_iret (pc := 61) dX6_row_61
noncomputable def mo_row_0 (v0 : Option Nat) (v1 : Int32) (v2 : Int32) (h : PH) : Option (Int32 × PH) :=
  (mo_in v1 0 65535 h).bind fun x51 =>
  (if x51 = 0 then
  some (((-1000), h))
  else
  (mo_bits v1 h).bind fun x52 =>
  (mo_in x52 2 7 h).bind fun x53 =>
  (if x53 = 0 then
  some (((-1000), h))
  else
  (mo_in v2 0 6 h).bind fun x54 =>
  (if x54 = 0 then
  (mo_in v2 100 101 h).bind fun x55 =>
  (if x55 = 0 then
  some (((-1000), h))
  else
  mo_row_48 v0 v1 v2 h)
  else
  mo_row_48 v0 v1 v2 h)))
theorem mo_row_0_ok (X : CT) (v0 : Option Nat) (v1 : Int32) (v2 : Int32) (h : PH) : Im X (cX6_row, 5, RX6, "row", (some .int), 5) 0 [some (.inr v0), some (.inl v1), some (.inl v2), none, none] [] h (mo_row_0 v0 v1 v2 h) szI (kI X) := by
  unfold mo_row_0
  refine im_iload_n (pc := 0) dX6_row_0 rfl rfl ?_
  refine im_iconst (pc := 1) (v := 0) dX6_row_1 (by decide) ?_
  refine im_ldc (pc := 2) q1335 dX6_row_2 ?_
  refine cl_X6_104 mo_in_im (pc := 4) (by decide) dX6_row_4 (Nat.le_of_ble_eq_true rfl) fun x51 => ?_
  refine im_if_eq (pc := 7) (tgt := 44) dX6_row_7 (by decide) ?_ ?_
  · refine im_sipush (pc := 44) (v := (-1000)) dX6_row_44 (by decide) ?_
    exact im_iret (pc := 47) dX6_row_47
  · refine im_iload_n (pc := 10) dX6_row_10 rfl rfl ?_
    refine cl_X6_126 mo_bits_im (pc := 11) (by decide) dX6_row_11 (Nat.le_of_ble_eq_true rfl) fun x52 => ?_
    refine im_iconst (pc := 14) (v := 2) dX6_row_14 (by decide) ?_
    refine im_bipush (pc := 15) (v := 7) dX6_row_15 (by decide) ?_
    refine cl_X6_104 mo_in_im (pc := 17) (by decide) dX6_row_17 (Nat.le_of_ble_eq_true rfl) fun x53 => ?_
    refine im_if_eq (pc := 20) (tgt := 44) dX6_row_20 (by decide) ?_ ?_
    · refine im_sipush (pc := 44) (v := (-1000)) dX6_row_44 (by decide) ?_
      exact im_iret (pc := 47) dX6_row_47
    · refine im_iload_n (pc := 23) dX6_row_23 rfl rfl ?_
      refine im_iconst (pc := 24) (v := 0) dX6_row_24 (by decide) ?_
      refine im_bipush (pc := 25) (v := 6) dX6_row_25 (by decide) ?_
      refine cl_X6_104 mo_in_im (pc := 27) (by decide) dX6_row_27 (Nat.le_of_ble_eq_true rfl) fun x54 => ?_
      refine im_if_ne (pc := 30) (tgt := 48) dX6_row_30 (by decide) ?_ ?_
      · exact Im.drop [true, true, true, false, false] rfl (mo_row_48_ok X v0 v1 v2 h)
      · refine im_iload_n (pc := 33) dX6_row_33 rfl rfl ?_
        refine im_bipush (pc := 34) (v := 100) dX6_row_34 (by decide) ?_
        refine im_bipush (pc := 36) (v := 101) dX6_row_36 (by decide) ?_
        refine cl_X6_104 mo_in_im (pc := 38) (by decide) dX6_row_38 (Nat.le_of_ble_eq_true rfl) fun x55 => ?_
        refine im_if_ne (pc := 41) (tgt := 48) dX6_row_41 (by decide) ?_ ?_
        · exact Im.drop [true, true, true, false, false] rfl (mo_row_48_ok X v0 v1 v2 h)
        · refine im_sipush (pc := 44) (v := (-1000)) dX6_row_44 (by decide) ?_
          exact im_iret (pc := 47) dX6_row_47
noncomputable def mo_row (a0 : Option Nat) (a1 : Int32) (a2 : Int32) (h : PH) : Option (Int32 × PH) := grd (isC [5] a0 h) (mo_row_0 a0 a1 a2 h)
theorem mo_row_im : IM_X6_row mo_row 5 := by
  intro a0 a1 a2 h r h' e
  obtain ⟨e1, e2⟩ := grd_some e
  exact ⟨e1, SpI.of (k := 2) (plainFor_of_name (by decide)) rfl (fun X => Im.drop [true, true, true, false, false] rfl (mo_row_0_ok X a0 a1 a2 h)) e2⟩
theorem fl_X6_365 : ∀ c ∈ [5], FL RX6 365 c 45 := List.forall_mem_cons.mpr ⟨⟨RX6, TX6, 50, rfl, in_X6, by decide, Or.inl q1222⟩, fun _ h => absurd h List.not_mem_nil⟩
theorem fl_X6_92 : ∀ c ∈ [5], FL RX6 92 c 44 := List.forall_mem_cons.mpr ⟨⟨RX6, TX6, 50, rfl, in_X6, by decide, Or.inl q1221⟩, fun _ h => absurd h List.not_mem_nil⟩
theorem fl_X6_89 : ∀ c ∈ [5], FL RX6 89 c 43 := List.forall_mem_cons.mpr ⟨⟨RX6, TX6, 50, rfl, in_X6, by decide, Or.inl q1220⟩, fun _ h => absurd h List.not_mem_nil⟩
def IM_X6_laysCouples (f : Option Nat → PH → Option (PH)) (d : Nat) : Prop := ∀ (a0 : Option Nat) (h : PH) (h' : PH), f a0 h = some h' → isC [5] a0 h = true ∧ SpV yX6_laysCouples cX6_laysCouples 4 none d [.inr a0] h h'
noncomputable def mo_laysCouples_b31 (v0 : Option Nat) (v1 : Int32) (v2 : Int32) (v3 : Int32) (h : PH) : Option ((Int32 × PH) ⊕ ((Int32 × PH) ⊕ ((Int32 × PH) ⊕ (PH)))) :=
  (if v2 ≤ v3 then
  some (.inr (.inl ((v2 + 1), h)))
  else
  (mo_has v1 v2 h).bind fun x51 =>
  (if x51 = 0 then
  some (.inl ((v3 + 1), h))
  else
  (mo_has v1 v3 h).bind fun x52 =>
  (if x52 = 0 then
  some (.inl ((v3 + 1), h))
  else
  (gfr [5] 43 v0 h).bind fun r53 =>
  (ald 0 r53 v2 h).bind fun x54 =>
  (gfr [5] 43 v0 h).bind fun r55 =>
  (ald 0 r55 v3 h).bind fun x56 =>
  (mo_talkOf v0 x54 x56 h).bind fun x57 =>
  (if 0 < x57 then
  (gfr [5] 44 v0 h).bind fun r58 =>
  (gfr [5] 44 v0 h).bind fun r59 =>
  (ald 0 r59 v1 h).bind fun x60 =>
  (gfr [5] 43 v0 h).bind fun r61 =>
  (ald 0 r61 v2 h).bind fun x62 =>
  (gfr [5] 43 v0 h).bind fun r63 =>
  (ald 0 r63 v3 h).bind fun x64 =>
  (mo_talkOf v0 x62 x64 h).bind fun x65 =>
  (gfr [5] 44 v0 h).bind fun r66 =>
  (ald 0 r66 ((v1 &&& (((1 : Int32) <<< (v2 &&& 31)) ^^^ (-1))) &&& (((1 : Int32) <<< (v3 &&& 31)) ^^^ (-1))) h).bind fun x67 =>
  (mo_max x60 (x65 + x67) h).bind fun x68 =>
  (ast 0 r58 v1 x68 h).bind fun h69 =>
  some (.inl ((v3 + 1), h69))
  else
  some (.inl ((v3 + 1), h))))))
noncomputable def mo_laysCouples_L31 (v0 : Option Nat) (v1 : Int32) (v2 : Int32) (v3 : Int32) (h : PH) : Option ((Int32 × PH) ⊕ ((Int32 × PH) ⊕ (PH))) :=
  iter (fun s : Int32 × PH => mo_laysCouples_b31 v0 v1 v2 s.1 s.2) (v3, h)
theorem mo_laysCouples_b31_ok (X : CT) (v0 : Option Nat) (v1 : Int32) (v2 : Int32) (v3 : Int32) (h : PH) : Im X (cX6_laysCouples, 4, RX6, "laysCouples", none, 4) 31 [some (.inr v0), some (.inl v1), some (.inl v2), some (.inl v3)] [] h (mo_laysCouples_b31 v0 v1 v2 v3 h) (ez (fun s : Int32 × PH => s.2) (ez (fun s : Int32 × PH => s.2) (ez (fun s : Int32 × PH => s.2) szV))) (ek X 31 (fun s : Int32 × PH => [some (.inr v0), some (.inl v1), some (.inl v2), some (.inl s.1)]) (fun s : Int32 × PH => s.2) (ek X 21 (fun s : Int32 × PH => [some (.inr v0), some (.inl v1), some (.inl s.1), none]) (fun s : Int32 × PH => s.2) (ek X 2 (fun s : Int32 × PH => [some (.inr v0), some (.inl s.1), none, none]) (fun s : Int32 × PH => s.2) (kV X)))) := by
  unfold mo_laysCouples_b31
  refine im_iload_n (pc := 31) dX6_laysCouples_31 rfl rfl ?_
  refine im_iload_n (pc := 32) dX6_laysCouples_32 rfl rfl ?_
  refine im_icmp_ge (pc := 33) (tgt := 130) dX6_laysCouples_33 (by decide) ?_ ?_
  · refine im_iinc (pc := 130) (v := (v2 + 1)) (lv' := [some (.inr v0), some (.inl v1), some (.inl (v2 + 1)), some (.inl v3)]) dX6_laysCouples_130 rfl rfl (by decide) rfl ?_
    refine im_goto (pc := 133) (tgt := 21) dX6_laysCouples_133 (by decide) ?_
    exact Im.outS (Im.back [true, true, true, false] rfl rfl)
  · refine im_iload_n (pc := 36) dX6_laysCouples_36 rfl rfl ?_
    refine im_iload_n (pc := 37) dX6_laysCouples_37 rfl rfl ?_
    refine cl_X6_288 mo_has_im (pc := 38) (by decide) dX6_laysCouples_38 (Nat.le_of_ble_eq_true rfl) fun x51 => ?_
    refine im_if_eq (pc := 41) (tgt := 124) dX6_laysCouples_41 (by decide) ?_ ?_
    · refine im_iinc (pc := 124) (v := (v3 + 1)) (lv' := [some (.inr v0), some (.inl v1), some (.inl v2), some (.inl (v3 + 1))]) dX6_laysCouples_124 rfl rfl (by decide) rfl ?_
      refine im_goto (pc := 127) (tgt := 31) dX6_laysCouples_127 (by decide) ?_
      exact Im.back [true, true, true, true] rfl rfl
    · refine im_iload_n (pc := 44) dX6_laysCouples_44 rfl rfl ?_
      refine im_iload_n (pc := 45) dX6_laysCouples_45 rfl rfl ?_
      refine cl_X6_288 mo_has_im (pc := 46) (by decide) dX6_laysCouples_46 (Nat.le_of_ble_eq_true rfl) fun x52 => ?_
      refine im_if_eq (pc := 49) (tgt := 124) dX6_laysCouples_49 (by decide) ?_ ?_
      · refine im_iinc (pc := 124) (v := (v3 + 1)) (lv' := [some (.inr v0), some (.inl v1), some (.inl v2), some (.inl (v3 + 1))]) dX6_laysCouples_124 rfl rfl (by decide) rfl ?_
        refine im_goto (pc := 127) (tgt := 31) dX6_laysCouples_127 (by decide) ?_
        exact Im.back [true, true, true, true] rfl rfl
      · refine im_aload_n (pc := 52) dX6_laysCouples_52 rfl rfl ?_
        refine im_aload_n (pc := 53) dX6_laysCouples_53 rfl rfl ?_
        refine im_gr (pc := 54) fl_X6_89 dX6_laysCouples_54 fun r53 => ?_
        refine im_iload_n (pc := 57) dX6_laysCouples_57 rfl rfl ?_
        refine im_iald (pc := 58) dX6_laysCouples_58 fun x54 => ?_
        refine im_aload_n (pc := 59) dX6_laysCouples_59 rfl rfl ?_
        refine im_gr (pc := 60) fl_X6_89 dX6_laysCouples_60 fun r55 => ?_
        refine im_iload_n (pc := 63) dX6_laysCouples_63 rfl rfl ?_
        refine im_iald (pc := 64) dX6_laysCouples_64 fun x56 => ?_
        refine cl_X6_325 mo_talkOf_im (pc := 65) (by decide) dX6_laysCouples_65 (Nat.le_of_ble_eq_true rfl) fun x57 => ?_
        refine im_if_gt (pc := 68) (tgt := 74) dX6_laysCouples_68 (by decide) ?_ ?_
        · refine im_aload_n (pc := 74) dX6_laysCouples_74 rfl rfl ?_
          refine im_gr (pc := 75) fl_X6_92 dX6_laysCouples_75 fun r58 => ?_
          refine im_iload_n (pc := 78) dX6_laysCouples_78 rfl rfl ?_
          refine im_aload_n (pc := 79) dX6_laysCouples_79 rfl rfl ?_
          refine im_gr (pc := 80) fl_X6_92 dX6_laysCouples_80 fun r59 => ?_
          refine im_iload_n (pc := 83) dX6_laysCouples_83 rfl rfl ?_
          refine im_iald (pc := 84) dX6_laysCouples_84 fun x60 => ?_
          refine im_aload_n (pc := 85) dX6_laysCouples_85 rfl rfl ?_
          refine im_aload_n (pc := 86) dX6_laysCouples_86 rfl rfl ?_
          refine im_gr (pc := 87) fl_X6_89 dX6_laysCouples_87 fun r61 => ?_
          refine im_iload_n (pc := 90) dX6_laysCouples_90 rfl rfl ?_
          refine im_iald (pc := 91) dX6_laysCouples_91 fun x62 => ?_
          refine im_aload_n (pc := 92) dX6_laysCouples_92 rfl rfl ?_
          refine im_gr (pc := 93) fl_X6_89 dX6_laysCouples_93 fun r63 => ?_
          refine im_iload_n (pc := 96) dX6_laysCouples_96 rfl rfl ?_
          refine im_iald (pc := 97) dX6_laysCouples_97 fun x64 => ?_
          refine cl_X6_325 mo_talkOf_im (pc := 98) (by decide) dX6_laysCouples_98 (Nat.le_of_ble_eq_true rfl) fun x65 => ?_
          refine im_aload_n (pc := 101) dX6_laysCouples_101 rfl rfl ?_
          refine im_gr (pc := 102) fl_X6_92 dX6_laysCouples_102 fun r66 => ?_
          refine im_iload_n (pc := 105) dX6_laysCouples_105 rfl rfl ?_
          refine im_iconst (pc := 106) (v := 1) dX6_laysCouples_106 (by decide) ?_
          refine im_iload_n (pc := 107) dX6_laysCouples_107 rfl rfl ?_
          refine im_ishl (pc := 108) dX6_laysCouples_108 ?_
          refine im_iconst (pc := 109) (v := (-1)) dX6_laysCouples_109 (by decide) ?_
          refine im_ixor (pc := 110) dX6_laysCouples_110 ?_
          refine im_iand (pc := 111) dX6_laysCouples_111 ?_
          refine im_iconst (pc := 112) (v := 1) dX6_laysCouples_112 (by decide) ?_
          refine im_iload_n (pc := 113) dX6_laysCouples_113 rfl rfl ?_
          refine im_ishl (pc := 114) dX6_laysCouples_114 ?_
          refine im_iconst (pc := 115) (v := (-1)) dX6_laysCouples_115 (by decide) ?_
          refine im_ixor (pc := 116) dX6_laysCouples_116 ?_
          refine im_iand (pc := 117) dX6_laysCouples_117 ?_
          refine im_iald (pc := 118) dX6_laysCouples_118 fun x67 => ?_
          refine im_iadd (pc := 119) dX6_laysCouples_119 ?_
          refine cl_X6_310 mo_max_im (pc := 120) (by decide) dX6_laysCouples_120 (Nat.le_of_ble_eq_true rfl) fun x68 => ?_
          refine im_iast (pc := 123) dX6_laysCouples_123 fun h69 => ?_
          refine im_iinc (pc := 124) (v := (v3 + 1)) (lv' := [some (.inr v0), some (.inl v1), some (.inl v2), some (.inl (v3 + 1))]) dX6_laysCouples_124 rfl rfl (by decide) rfl ?_
          refine im_goto (pc := 127) (tgt := 31) dX6_laysCouples_127 (by decide) ?_
          exact Im.back [true, true, true, true] rfl rfl
        · refine im_goto (pc := 71) (tgt := 124) dX6_laysCouples_71 (by decide) ?_
          refine im_iinc (pc := 124) (v := (v3 + 1)) (lv' := [some (.inr v0), some (.inl v1), some (.inl v2), some (.inl (v3 + 1))]) dX6_laysCouples_124 rfl rfl (by decide) rfl ?_
          refine im_goto (pc := 127) (tgt := 31) dX6_laysCouples_127 (by decide) ?_
          exact Im.back [true, true, true, true] rfl rfl
theorem mo_laysCouples_L31_ok (X : CT) (v0 : Option Nat) (v1 : Int32) (v2 : Int32) (v3 : Int32) (h : PH) : Im X (cX6_laysCouples, 4, RX6, "laysCouples", none, 4) 31 [some (.inr v0), some (.inl v1), some (.inl v2), some (.inl v3)] [] h (mo_laysCouples_L31 v0 v1 v2 v3 h) (ez (fun s : Int32 × PH => s.2) (ez (fun s : Int32 × PH => s.2) szV)) (ek X 21 (fun s : Int32 × PH => [some (.inr v0), some (.inl v1), some (.inl s.1), none]) (fun s : Int32 × PH => s.2) (ek X 2 (fun s : Int32 × PH => [some (.inr v0), some (.inl s.1), none, none]) (fun s : Int32 × PH => s.2) (kV X))) := by
  unfold mo_laysCouples_L31
  exact Im.iter (lv := (fun s : Int32 × PH => [some (.inr v0), some (.inl v1), some (.inl v2), some (.inl s.1)])) (hp := (fun s : Int32 × PH => s.2)) (fun s => mo_laysCouples_b31_ok X v0 v1 v2 s.1 s.2) _ rfl rfl
noncomputable def mo_laysCouples_b21 (v0 : Option Nat) (v1 : Int32) (v2 : Int32) (h : PH) : Option ((Int32 × PH) ⊕ ((Int32 × PH) ⊕ (PH))) :=
  (gfi [5] 45 v0 h).bind fun x51 =>
  (if x51 ≤ v2 then
  some (.inr (.inl ((v1 + 1), h)))
  else
  mo_laysCouples_L31 v0 v1 v2 0 h)
noncomputable def mo_laysCouples_L21 (v0 : Option Nat) (v1 : Int32) (v2 : Int32) (h : PH) : Option ((Int32 × PH) ⊕ (PH)) :=
  iter (fun s : Int32 × PH => mo_laysCouples_b21 v0 v1 s.1 s.2) (v2, h)
theorem mo_laysCouples_b21_ok (X : CT) (v0 : Option Nat) (v1 : Int32) (v2 : Int32) (h : PH) : Im X (cX6_laysCouples, 4, RX6, "laysCouples", none, 4) 21 [some (.inr v0), some (.inl v1), some (.inl v2), none] [] h (mo_laysCouples_b21 v0 v1 v2 h) (ez (fun s : Int32 × PH => s.2) (ez (fun s : Int32 × PH => s.2) szV)) (ek X 21 (fun s : Int32 × PH => [some (.inr v0), some (.inl v1), some (.inl s.1), none]) (fun s : Int32 × PH => s.2) (ek X 2 (fun s : Int32 × PH => [some (.inr v0), some (.inl s.1), none, none]) (fun s : Int32 × PH => s.2) (kV X))) := by
  unfold mo_laysCouples_b21
  refine im_iload_n (pc := 21) dX6_laysCouples_21 rfl rfl ?_
  refine im_aload_n (pc := 22) dX6_laysCouples_22 rfl rfl ?_
  refine im_gi (pc := 23) fl_X6_365 dX6_laysCouples_23 fun x51 => ?_
  refine im_icmp_ge (pc := 26) (tgt := 136) dX6_laysCouples_26 (by decide) ?_ ?_
  · refine im_iinc (pc := 136) (v := (v1 + 1)) (lv' := [some (.inr v0), some (.inl (v1 + 1)), some (.inl v2), none]) dX6_laysCouples_136 rfl rfl (by decide) rfl ?_
    refine im_goto (pc := 139) (tgt := 2) dX6_laysCouples_139 (by decide) ?_
    exact Im.outS (Im.back [true, true, false, false] rfl rfl)
  · refine im_iconst (pc := 29) (v := 0) dX6_laysCouples_29 (by decide) ?_
    refine im_istore_n (pc := 30) (lv' := [some (.inr v0), some (.inl v1), some (.inl v2), some (.inl 0)]) dX6_laysCouples_30 rfl (by decide) rfl ?_
    exact Im.drop [true, true, true, true] rfl (mo_laysCouples_L31_ok X v0 v1 v2 0 h)
theorem mo_laysCouples_L21_ok (X : CT) (v0 : Option Nat) (v1 : Int32) (v2 : Int32) (h : PH) : Im X (cX6_laysCouples, 4, RX6, "laysCouples", none, 4) 21 [some (.inr v0), some (.inl v1), some (.inl v2), none] [] h (mo_laysCouples_L21 v0 v1 v2 h) (ez (fun s : Int32 × PH => s.2) szV) (ek X 2 (fun s : Int32 × PH => [some (.inr v0), some (.inl s.1), none, none]) (fun s : Int32 × PH => s.2) (kV X)) := by
  unfold mo_laysCouples_L21
  exact Im.iter (lv := (fun s : Int32 × PH => [some (.inr v0), some (.inl v1), some (.inl s.1), none])) (hp := (fun s : Int32 × PH => s.2)) (fun s => mo_laysCouples_b21_ok X v0 v1 s.1 s.2) _ rfl rfl
noncomputable def mo_laysCouples_b2 (v0 : Option Nat) (v1 : Int32) (h : PH) : Option ((Int32 × PH) ⊕ (PH)) :=
  (gfi [5] 45 v0 h).bind fun x51 =>
  (if ((1 : Int32) <<< (x51 &&& 31)) ≤ v1 then
  some (.inr h)
  else
  (gfr [5] 44 v0 h).bind fun r52 =>
  (ast 0 r52 v1 0 h).bind fun h53 =>
  mo_laysCouples_L21 v0 v1 0 h53)
noncomputable def mo_laysCouples_L2 (v0 : Option Nat) (v1 : Int32) (h : PH) : Option (PH) :=
  iter (fun s : Int32 × PH => mo_laysCouples_b2 v0 s.1 s.2) (v1, h)
theorem mo_laysCouples_b2_ok (X : CT) (v0 : Option Nat) (v1 : Int32) (h : PH) : Im X (cX6_laysCouples, 4, RX6, "laysCouples", none, 4) 2 [some (.inr v0), some (.inl v1), none, none] [] h (mo_laysCouples_b2 v0 v1 h) (ez (fun s : Int32 × PH => s.2) szV) (ek X 2 (fun s : Int32 × PH => [some (.inr v0), some (.inl s.1), none, none]) (fun s : Int32 × PH => s.2) (kV X)) := by
  unfold mo_laysCouples_b2
  refine im_iload_n (pc := 2) dX6_laysCouples_2 rfl rfl ?_
  refine im_iconst (pc := 3) (v := 1) dX6_laysCouples_3 (by decide) ?_
  refine im_aload_n (pc := 4) dX6_laysCouples_4 rfl rfl ?_
  refine im_gi (pc := 5) fl_X6_365 dX6_laysCouples_5 fun x51 => ?_
  refine im_ishl (pc := 8) dX6_laysCouples_8 ?_
  refine im_icmp_ge (pc := 9) (tgt := 142) dX6_laysCouples_9 (by decide) ?_ ?_
  · exact Im.outS (im_vret (pc := 142) dX6_laysCouples_142)
  · refine im_aload_n (pc := 12) dX6_laysCouples_12 rfl rfl ?_
    refine im_gr (pc := 13) fl_X6_92 dX6_laysCouples_13 fun r52 => ?_
    refine im_iload_n (pc := 16) dX6_laysCouples_16 rfl rfl ?_
    refine im_iconst (pc := 17) (v := 0) dX6_laysCouples_17 (by decide) ?_
    refine im_iast (pc := 18) dX6_laysCouples_18 fun h53 => ?_
    refine im_iconst (pc := 19) (v := 0) dX6_laysCouples_19 (by decide) ?_
    refine im_istore_n (pc := 20) (lv' := [some (.inr v0), some (.inl v1), some (.inl 0), none]) dX6_laysCouples_20 rfl (by decide) rfl ?_
    exact Im.drop [true, true, true, false] rfl (mo_laysCouples_L21_ok X v0 v1 0 h53)
theorem mo_laysCouples_L2_ok (X : CT) (v0 : Option Nat) (v1 : Int32) (h : PH) : Im X (cX6_laysCouples, 4, RX6, "laysCouples", none, 4) 2 [some (.inr v0), some (.inl v1), none, none] [] h (mo_laysCouples_L2 v0 v1 h) szV (kV X) := by
  unfold mo_laysCouples_L2
  exact Im.iter (lv := (fun s : Int32 × PH => [some (.inr v0), some (.inl s.1), none, none])) (hp := (fun s : Int32 × PH => s.2)) (fun s => mo_laysCouples_b2_ok X v0 s.1 s.2) _ rfl rfl
noncomputable def mo_laysCouples_0 (v0 : Option Nat) (h : PH) : Option (PH) :=
  mo_laysCouples_L2 v0 0 h
theorem mo_laysCouples_0_ok (X : CT) (v0 : Option Nat) (h : PH) : Im X (cX6_laysCouples, 4, RX6, "laysCouples", none, 4) 0 [some (.inr v0), none, none, none] [] h (mo_laysCouples_0 v0 h) szV (kV X) := by
  unfold mo_laysCouples_0
  refine im_iconst (pc := 0) (v := 0) dX6_laysCouples_0 (by decide) ?_
  refine im_istore_n (pc := 1) (lv' := [some (.inr v0), some (.inl 0), none, none]) dX6_laysCouples_1 rfl (by decide) rfl ?_
  exact Im.drop [true, true, false, false] rfl (mo_laysCouples_L2_ok X v0 0 h)
noncomputable def mo_laysCouples (a0 : Option Nat) (h : PH) : Option (PH) := grd (isC [5] a0 h) (mo_laysCouples_0 a0 h)
theorem mo_laysCouples_im : IM_X6_laysCouples mo_laysCouples 4 := by
  intro a0 h h' e
  obtain ⟨e1, e2⟩ := grd_some e
  exact ⟨e1, SpV.of (k := 3) (plainFor_of_name (by decide)) rfl (fun X => Im.drop [true, false, false, false] rfl (mo_laysCouples_0_ok X a0 h)) e2⟩
def IM_X6_isWith (f : Option Nat → Int32 → PH → Option (Int32)) (d : Nat) : Prop := ∀ (a0 : Option Nat) (a1 : Int32) (h : PH) (r : Int32), f a0 a1 h = some r → isC [5] a0 h = true ∧ SpI yX6_isWith cX6_isWith 6 (some .int) d [.inr a0, .inl a1] h r h
noncomputable def mo_isWith_156 (v0 : Option Nat) (v1 : Int32) (v2 : Int32) (v3 : Int32) (v4 : Int32) (h : PH) : Option ((Int32 × Int32) ⊕ (Int32)) :=
  (gfr [5] 43 v0 h).bind fun r51 =>
  (ald 0 r51 v3 h).bind fun x52 =>
  (if x52 = v1 then
  (if v4 = (-1) then
  some (.inr ((-2)))
  else
  (gfr [5] 43 v0 h).bind fun r57 =>
  (ald 0 r57 v4 h).bind fun x58 =>
  some (.inr x58))
  else
  (if v4 = (-1) then
  some (.inl (v2, (v3 + 1)))
  else
  (gfr [5] 43 v0 h).bind fun r53 =>
  (ald 0 r53 v4 h).bind fun x54 =>
  (if x54 = v1 then
  (gfr [5] 43 v0 h).bind fun r55 =>
  (ald 0 r55 v3 h).bind fun x56 =>
  some (.inr x56)
  else
  some (.inl (v2, (v3 + 1))))))
theorem mo_isWith_156_ok (X : CT) (v0 : Option Nat) (v1 : Int32) (v2 : Int32) (v3 : Int32) (v4 : Int32) (h : PH) : Im X (cX6_isWith, 6, RX6, "isWith", (some .int), 4) 156 [some (.inr v0), some (.inl v1), some (.inl v2), some (.inl v3), some (.inl v4), none] [] h (mo_isWith_156 v0 v1 v2 v3 v4 h) (ez (fun s : Int32 × Int32 => h) (szP h)) (ek X 11 (fun s : Int32 × Int32 => [some (.inr v0), some (.inl v1), some (.inl s.1), some (.inl s.2), none, none]) (fun s : Int32 × Int32 => h) (kP X h)) := by
  unfold mo_isWith_156
  refine im_aload_n (pc := 156) dX6_isWith_156 rfl rfl ?_
  refine im_gr (pc := 157) fl_X6_89 dX6_isWith_157 fun r51 => ?_
  refine im_iload_n (pc := 160) dX6_isWith_160 rfl rfl ?_
  refine im_iald (pc := 161) dX6_isWith_161 fun x52 => ?_
  refine im_iload_n (pc := 162) dX6_isWith_162 rfl rfl ?_
  refine im_icmp_ne (pc := 163) (tgt := 185) dX6_isWith_163 (by decide) ?_ ?_
  · refine im_iload (pc := 185) dX6_isWith_185 rfl ?_
    refine im_iconst (pc := 187) (v := (-1)) dX6_isWith_187 (by decide) ?_
    refine im_icmp_eq (pc := 188) (tgt := 209) dX6_isWith_188 (by decide) ?_ ?_
    · refine im_iinc (pc := 209) (v := (v3 + 1)) (lv' := [some (.inr v0), some (.inl v1), some (.inl v2), some (.inl (v3 + 1)), some (.inl v4), none]) dX6_isWith_209 rfl rfl (by decide) rfl ?_
      refine im_goto (pc := 212) (tgt := 11) dX6_isWith_212 (by decide) ?_
      exact Im.back [true, true, true, true, false, false] rfl rfl
    · refine im_aload_n (pc := 191) dX6_isWith_191 rfl rfl ?_
      refine im_gr (pc := 192) fl_X6_89 dX6_isWith_192 fun r53 => ?_
      refine im_iload (pc := 195) dX6_isWith_195 rfl ?_
      refine im_iald (pc := 197) dX6_isWith_197 fun x54 => ?_
      refine im_iload_n (pc := 198) dX6_isWith_198 rfl rfl ?_
      refine im_icmp_ne (pc := 199) (tgt := 209) dX6_isWith_199 (by decide) ?_ ?_
      · refine im_iinc (pc := 209) (v := (v3 + 1)) (lv' := [some (.inr v0), some (.inl v1), some (.inl v2), some (.inl (v3 + 1)), some (.inl v4), none]) dX6_isWith_209 rfl rfl (by decide) rfl ?_
        refine im_goto (pc := 212) (tgt := 11) dX6_isWith_212 (by decide) ?_
        exact Im.back [true, true, true, true, false, false] rfl rfl
      · refine im_aload_n (pc := 202) dX6_isWith_202 rfl rfl ?_
        refine im_gr (pc := 203) fl_X6_89 dX6_isWith_203 fun r55 => ?_
        refine im_iload_n (pc := 206) dX6_isWith_206 rfl rfl ?_
        refine im_iald (pc := 207) dX6_isWith_207 fun x56 => ?_
        exact Im.outS (im_iretP (pc := 208) dX6_isWith_208)
  · refine im_iload (pc := 166) dX6_isWith_166 rfl ?_
    refine im_iconst (pc := 168) (v := (-1)) dX6_isWith_168 (by decide) ?_
    refine im_icmp_ne (pc := 169) (tgt := 177) dX6_isWith_169 (by decide) ?_ ?_
    · refine im_aload_n (pc := 177) dX6_isWith_177 rfl rfl ?_
      refine im_gr (pc := 178) fl_X6_89 dX6_isWith_178 fun r57 => ?_
      refine im_iload (pc := 181) dX6_isWith_181 rfl ?_
      refine im_iald (pc := 183) dX6_isWith_183 fun x58 => ?_
      exact Im.outS (im_iretP (pc := 184) dX6_isWith_184)
    · refine im_bipush (pc := 172) (v := (-2)) dX6_isWith_172 (by decide) ?_
      refine im_goto (pc := 174) (tgt := 184) dX6_isWith_174 (by decide) ?_
      exact Im.outS (im_iretP (pc := 184) dX6_isWith_184)
noncomputable def mo_isWith_b49 (v0 : Option Nat) (v1 : Int32) (v2 : Int32) (v3 : Int32) (v4 : Int32) (v5 : Int32) (h : PH) : Option ((Int32 × Int32) ⊕ ((Int32 × Int32) ⊕ (Int32))) :=
  (if v5 ≤ v3 then
  (if v4 = (-1) then
  (mo_isWith_156 v0 v1 v2 v3 v4 h).map .inr
  else
  (some (v2 &&& (((1 : Int32) <<< (v4 &&& 31)) ^^^ (-1)))).bind fun x51 =>
  (mo_isWith_156 v0 v1 x51 v3 v4 h).map .inr)
  else
  (mo_has v2 v5 h).bind fun x52 =>
  (if x52 = 0 then
  some (.inl (v4, (v5 + (-1))))
  else
  (gfr [5] 43 v0 h).bind fun r53 =>
  (ald 0 r53 v3 h).bind fun x54 =>
  (gfr [5] 43 v0 h).bind fun r55 =>
  (ald 0 r55 v5 h).bind fun x56 =>
  (mo_talkOf v0 x54 x56 h).bind fun x57 =>
  (if 0 < x57 then
  (gfr [5] 43 v0 h).bind fun r58 =>
  (ald 0 r58 v3 h).bind fun x59 =>
  (gfr [5] 43 v0 h).bind fun r60 =>
  (ald 0 r60 v5 h).bind fun x61 =>
  (mo_talkOf v0 x59 x61 h).bind fun x62 =>
  (gfr [5] 44 v0 h).bind fun r63 =>
  (ald 0 r63 (v2 &&& (((1 : Int32) <<< (v5 &&& 31)) ^^^ (-1))) h).bind fun x64 =>
  (gfr [5] 44 v0 h).bind fun r65 =>
  (ald 0 r65 (v2 ||| ((1 : Int32) <<< (v3 &&& 31))) h).bind fun x66 =>
  (if (x62 + x64) = x66 then
  some (.inl (v5, (v5 + (-1))))
  else
  some (.inl (v4, (v5 + (-1)))))
  else
  some (.inl (v4, (v5 + (-1)))))))
noncomputable def mo_isWith_L49 (v0 : Option Nat) (v1 : Int32) (v2 : Int32) (v3 : Int32) (v4 : Int32) (v5 : Int32) (h : PH) : Option ((Int32 × Int32) ⊕ (Int32)) :=
  iter (fun s : Int32 × Int32 => mo_isWith_b49 v0 v1 v2 v3 s.1 s.2 h) (v4, v5)
theorem mo_isWith_b49_ok (X : CT) (v0 : Option Nat) (v1 : Int32) (v2 : Int32) (v3 : Int32) (v4 : Int32) (v5 : Int32) (h : PH) : Im X (cX6_isWith, 6, RX6, "isWith", (some .int), 4) 49 [some (.inr v0), some (.inl v1), some (.inl v2), some (.inl v3), some (.inl v4), some (.inl v5)] [] h (mo_isWith_b49 v0 v1 v2 v3 v4 v5 h) (ez (fun s : Int32 × Int32 => h) (ez (fun s : Int32 × Int32 => h) (szP h))) (ek X 49 (fun s : Int32 × Int32 => [some (.inr v0), some (.inl v1), some (.inl v2), some (.inl v3), some (.inl s.1), some (.inl s.2)]) (fun s : Int32 × Int32 => h) (ek X 11 (fun s : Int32 × Int32 => [some (.inr v0), some (.inl v1), some (.inl s.1), some (.inl s.2), none, none]) (fun s : Int32 × Int32 => h) (kP X h))) := by
  unfold mo_isWith_b49
  refine im_iload (pc := 49) dX6_isWith_49 rfl ?_
  refine im_iload_n (pc := 51) dX6_isWith_51 rfl rfl ?_
  refine im_icmp_le (pc := 52) (tgt := 141) dX6_isWith_52 (by decide) ?_ ?_
  · refine im_iload (pc := 141) dX6_isWith_141 rfl ?_
    refine im_iconst (pc := 143) (v := (-1)) dX6_isWith_143 (by decide) ?_
    refine im_icmp_eq (pc := 144) (tgt := 156) dX6_isWith_144 (by decide) ?_ ?_
    · exact Im.out (Im.drop [true, true, true, true, true, false] rfl (mo_isWith_156_ok X v0 v1 v2 v3 v4 h))
    · refine im_iload_n (pc := 147) dX6_isWith_147 rfl rfl ?_
      refine im_iconst (pc := 148) (v := 1) dX6_isWith_148 (by decide) ?_
      refine im_iload (pc := 149) dX6_isWith_149 rfl ?_
      refine im_ishl (pc := 151) dX6_isWith_151 ?_
      refine im_iconst (pc := 152) (v := (-1)) dX6_isWith_152 (by decide) ?_
      refine im_ixor (pc := 153) dX6_isWith_153 ?_
      refine im_iand (pc := 154) dX6_isWith_154 ?_
      refine im_let fun x51 => ?_
      refine im_istore_n (pc := 155) (lv' := [some (.inr v0), some (.inl v1), some (.inl x51), some (.inl v3), some (.inl v4), some (.inl v5)]) dX6_isWith_155 rfl (by decide) rfl ?_
      exact Im.out (Im.drop [true, true, true, true, true, false] rfl (mo_isWith_156_ok X v0 v1 x51 v3 v4 h))
  · refine im_iload_n (pc := 55) dX6_isWith_55 rfl rfl ?_
    refine im_iload (pc := 56) dX6_isWith_56 rfl ?_
    refine cl_X6_288 mo_has_im (pc := 58) (by decide) dX6_isWith_58 (Nat.le_of_ble_eq_true rfl) fun x52 => ?_
    refine im_if_eq (pc := 61) (tgt := 135) dX6_isWith_61 (by decide) ?_ ?_
    · refine im_iinc (pc := 135) (v := (v5 + (-1))) (lv' := [some (.inr v0), some (.inl v1), some (.inl v2), some (.inl v3), some (.inl v4), some (.inl (v5 + (-1)))]) dX6_isWith_135 rfl rfl (by decide) rfl ?_
      refine im_goto (pc := 138) (tgt := 49) dX6_isWith_138 (by decide) ?_
      exact Im.back [true, true, true, true, true, true] rfl rfl
    · refine im_aload_n (pc := 64) dX6_isWith_64 rfl rfl ?_
      refine im_aload_n (pc := 65) dX6_isWith_65 rfl rfl ?_
      refine im_gr (pc := 66) fl_X6_89 dX6_isWith_66 fun r53 => ?_
      refine im_iload_n (pc := 69) dX6_isWith_69 rfl rfl ?_
      refine im_iald (pc := 70) dX6_isWith_70 fun x54 => ?_
      refine im_aload_n (pc := 71) dX6_isWith_71 rfl rfl ?_
      refine im_gr (pc := 72) fl_X6_89 dX6_isWith_72 fun r55 => ?_
      refine im_iload (pc := 75) dX6_isWith_75 rfl ?_
      refine im_iald (pc := 77) dX6_isWith_77 fun x56 => ?_
      refine cl_X6_325 mo_talkOf_im (pc := 78) (by decide) dX6_isWith_78 (Nat.le_of_ble_eq_true rfl) fun x57 => ?_
      refine im_if_gt (pc := 81) (tgt := 87) dX6_isWith_81 (by decide) ?_ ?_
      · refine im_aload_n (pc := 87) dX6_isWith_87 rfl rfl ?_
        refine im_aload_n (pc := 88) dX6_isWith_88 rfl rfl ?_
        refine im_gr (pc := 89) fl_X6_89 dX6_isWith_89 fun r58 => ?_
        refine im_iload_n (pc := 92) dX6_isWith_92 rfl rfl ?_
        refine im_iald (pc := 93) dX6_isWith_93 fun x59 => ?_
        refine im_aload_n (pc := 94) dX6_isWith_94 rfl rfl ?_
        refine im_gr (pc := 95) fl_X6_89 dX6_isWith_95 fun r60 => ?_
        refine im_iload (pc := 98) dX6_isWith_98 rfl ?_
        refine im_iald (pc := 100) dX6_isWith_100 fun x61 => ?_
        refine cl_X6_325 mo_talkOf_im (pc := 101) (by decide) dX6_isWith_101 (Nat.le_of_ble_eq_true rfl) fun x62 => ?_
        refine im_aload_n (pc := 104) dX6_isWith_104 rfl rfl ?_
        refine im_gr (pc := 105) fl_X6_92 dX6_isWith_105 fun r63 => ?_
        refine im_iload_n (pc := 108) dX6_isWith_108 rfl rfl ?_
        refine im_iconst (pc := 109) (v := 1) dX6_isWith_109 (by decide) ?_
        refine im_iload (pc := 110) dX6_isWith_110 rfl ?_
        refine im_ishl (pc := 112) dX6_isWith_112 ?_
        refine im_iconst (pc := 113) (v := (-1)) dX6_isWith_113 (by decide) ?_
        refine im_ixor (pc := 114) dX6_isWith_114 ?_
        refine im_iand (pc := 115) dX6_isWith_115 ?_
        refine im_iald (pc := 116) dX6_isWith_116 fun x64 => ?_
        refine im_iadd (pc := 117) dX6_isWith_117 ?_
        refine im_aload_n (pc := 118) dX6_isWith_118 rfl rfl ?_
        refine im_gr (pc := 119) fl_X6_92 dX6_isWith_119 fun r65 => ?_
        refine im_iload_n (pc := 122) dX6_isWith_122 rfl rfl ?_
        refine im_iconst (pc := 123) (v := 1) dX6_isWith_123 (by decide) ?_
        refine im_iload_n (pc := 124) dX6_isWith_124 rfl rfl ?_
        refine im_ishl (pc := 125) dX6_isWith_125 ?_
        refine im_ior (pc := 126) dX6_isWith_126 ?_
        refine im_iald (pc := 127) dX6_isWith_127 fun x66 => ?_
        refine im_icmp_ne (pc := 128) (tgt := 135) dX6_isWith_128 (by decide) ?_ ?_
        · refine im_iinc (pc := 135) (v := (v5 + (-1))) (lv' := [some (.inr v0), some (.inl v1), some (.inl v2), some (.inl v3), some (.inl v4), some (.inl (v5 + (-1)))]) dX6_isWith_135 rfl rfl (by decide) rfl ?_
          refine im_goto (pc := 138) (tgt := 49) dX6_isWith_138 (by decide) ?_
          exact Im.back [true, true, true, true, true, true] rfl rfl
        · refine im_iload (pc := 131) dX6_isWith_131 rfl ?_
          refine im_istore (pc := 133) (lv' := [some (.inr v0), some (.inl v1), some (.inl v2), some (.inl v3), some (.inl v5), some (.inl v5)]) dX6_isWith_133 (by decide) rfl ?_
          refine im_iinc (pc := 135) (v := (v5 + (-1))) (lv' := [some (.inr v0), some (.inl v1), some (.inl v2), some (.inl v3), some (.inl v5), some (.inl (v5 + (-1)))]) dX6_isWith_135 rfl rfl (by decide) rfl ?_
          refine im_goto (pc := 138) (tgt := 49) dX6_isWith_138 (by decide) ?_
          exact Im.back [true, true, true, true, true, true] rfl rfl
      · refine im_goto (pc := 84) (tgt := 135) dX6_isWith_84 (by decide) ?_
        refine im_iinc (pc := 135) (v := (v5 + (-1))) (lv' := [some (.inr v0), some (.inl v1), some (.inl v2), some (.inl v3), some (.inl v4), some (.inl (v5 + (-1)))]) dX6_isWith_135 rfl rfl (by decide) rfl ?_
        refine im_goto (pc := 138) (tgt := 49) dX6_isWith_138 (by decide) ?_
        exact Im.back [true, true, true, true, true, true] rfl rfl
theorem mo_isWith_L49_ok (X : CT) (v0 : Option Nat) (v1 : Int32) (v2 : Int32) (v3 : Int32) (v4 : Int32) (v5 : Int32) (h : PH) : Im X (cX6_isWith, 6, RX6, "isWith", (some .int), 4) 49 [some (.inr v0), some (.inl v1), some (.inl v2), some (.inl v3), some (.inl v4), some (.inl v5)] [] h (mo_isWith_L49 v0 v1 v2 v3 v4 v5 h) (ez (fun s : Int32 × Int32 => h) (szP h)) (ek X 11 (fun s : Int32 × Int32 => [some (.inr v0), some (.inl v1), some (.inl s.1), some (.inl s.2), none, none]) (fun s : Int32 × Int32 => h) (kP X h)) := by
  unfold mo_isWith_L49
  exact Im.iter (lv := (fun s : Int32 × Int32 => [some (.inr v0), some (.inl v1), some (.inl v2), some (.inl v3), some (.inl s.1), some (.inl s.2)])) (hp := (fun s : Int32 × Int32 => h)) (fun s => mo_isWith_b49_ok X v0 v1 v2 v3 s.1 s.2 h) _ rfl rfl
noncomputable def mo_isWith_b11 (v0 : Option Nat) (v1 : Int32) (v2 : Int32) (v3 : Int32) (h : PH) : Option ((Int32 × Int32) ⊕ (Int32)) :=
  (gfi [5] 45 v0 h).bind fun x51 =>
  (if x51 ≤ v3 then
  some (.inr ((-2)))
  else
  (mo_has v2 v3 h).bind fun x52 =>
  (if x52 = 0 then
  some (.inl (v2, (v3 + 1)))
  else
  (some (v2 &&& (((1 : Int32) <<< (v3 &&& 31)) ^^^ (-1)))).bind fun x53 =>
  (gfi [5] 45 v0 h).bind fun x54 =>
  mo_isWith_L49 v0 v1 x53 v3 (-1) (x54 - 1) h))
noncomputable def mo_isWith_L11 (v0 : Option Nat) (v1 : Int32) (v2 : Int32) (v3 : Int32) (h : PH) : Option (Int32) :=
  iter (fun s : Int32 × Int32 => mo_isWith_b11 v0 v1 s.1 s.2 h) (v2, v3)
theorem mo_isWith_b11_ok (X : CT) (v0 : Option Nat) (v1 : Int32) (v2 : Int32) (v3 : Int32) (h : PH) : Im X (cX6_isWith, 6, RX6, "isWith", (some .int), 4) 11 [some (.inr v0), some (.inl v1), some (.inl v2), some (.inl v3), none, none] [] h (mo_isWith_b11 v0 v1 v2 v3 h) (ez (fun s : Int32 × Int32 => h) (szP h)) (ek X 11 (fun s : Int32 × Int32 => [some (.inr v0), some (.inl v1), some (.inl s.1), some (.inl s.2), none, none]) (fun s : Int32 × Int32 => h) (kP X h)) := by
  unfold mo_isWith_b11
  refine im_iload_n (pc := 11) dX6_isWith_11 rfl rfl ?_
  refine im_aload_n (pc := 12) dX6_isWith_12 rfl rfl ?_
  refine im_gi (pc := 13) fl_X6_365 dX6_isWith_13 fun x51 => ?_
  refine im_icmp_ge (pc := 16) (tgt := 215) dX6_isWith_16 (by decide) ?_ ?_
  · refine im_bipush (pc := 215) (v := (-2)) dX6_isWith_215 (by decide) ?_
    exact Im.outS (im_iretP (pc := 217) dX6_isWith_217)
  · refine im_iload_n (pc := 19) dX6_isWith_19 rfl rfl ?_
    refine im_iload_n (pc := 20) dX6_isWith_20 rfl rfl ?_
    refine cl_X6_288 mo_has_im (pc := 21) (by decide) dX6_isWith_21 (Nat.le_of_ble_eq_true rfl) fun x52 => ?_
    refine im_if_ne (pc := 24) (tgt := 30) dX6_isWith_24 (by decide) ?_ ?_
    · refine im_iload_n (pc := 30) dX6_isWith_30 rfl rfl ?_
      refine im_iconst (pc := 31) (v := 1) dX6_isWith_31 (by decide) ?_
      refine im_iload_n (pc := 32) dX6_isWith_32 rfl rfl ?_
      refine im_ishl (pc := 33) dX6_isWith_33 ?_
      refine im_iconst (pc := 34) (v := (-1)) dX6_isWith_34 (by decide) ?_
      refine im_ixor (pc := 35) dX6_isWith_35 ?_
      refine im_iand (pc := 36) dX6_isWith_36 ?_
      refine im_let fun x53 => ?_
      refine im_istore_n (pc := 37) (lv' := [some (.inr v0), some (.inl v1), some (.inl x53), some (.inl v3), none, none]) dX6_isWith_37 rfl (by decide) rfl ?_
      refine im_iconst (pc := 38) (v := (-1)) dX6_isWith_38 (by decide) ?_
      refine im_istore (pc := 39) (lv' := [some (.inr v0), some (.inl v1), some (.inl x53), some (.inl v3), some (.inl (-1)), none]) dX6_isWith_39 (by decide) rfl ?_
      refine im_aload_n (pc := 41) dX6_isWith_41 rfl rfl ?_
      refine im_gi (pc := 42) fl_X6_365 dX6_isWith_42 fun x54 => ?_
      refine im_iconst (pc := 45) (v := 1) dX6_isWith_45 (by decide) ?_
      refine im_isub (pc := 46) dX6_isWith_46 ?_
      refine im_istore (pc := 47) (lv' := [some (.inr v0), some (.inl v1), some (.inl x53), some (.inl v3), some (.inl (-1)), some (.inl (x54 - 1))]) dX6_isWith_47 (by decide) rfl ?_
      exact Im.drop [true, true, true, true, true, true] rfl (mo_isWith_L49_ok X v0 v1 x53 v3 (-1) (x54 - 1) h)
    · refine im_goto (pc := 27) (tgt := 209) dX6_isWith_27 (by decide) ?_
      refine im_iinc (pc := 209) (v := (v3 + 1)) (lv' := [some (.inr v0), some (.inl v1), some (.inl v2), some (.inl (v3 + 1)), none, none]) dX6_isWith_209 rfl rfl (by decide) rfl ?_
      refine im_goto (pc := 212) (tgt := 11) dX6_isWith_212 (by decide) ?_
      exact Im.back [true, true, true, true, false, false] rfl rfl
theorem mo_isWith_L11_ok (X : CT) (v0 : Option Nat) (v1 : Int32) (v2 : Int32) (v3 : Int32) (h : PH) : Im X (cX6_isWith, 6, RX6, "isWith", (some .int), 4) 11 [some (.inr v0), some (.inl v1), some (.inl v2), some (.inl v3), none, none] [] h (mo_isWith_L11 v0 v1 v2 v3 h) (szP h) (kP X h) := by
  unfold mo_isWith_L11
  exact Im.iter (lv := (fun s : Int32 × Int32 => [some (.inr v0), some (.inl v1), some (.inl s.1), some (.inl s.2), none, none])) (hp := (fun s : Int32 × Int32 => h)) (fun s => mo_isWith_b11_ok X v0 v1 s.1 s.2 h) _ rfl rfl
noncomputable def mo_isWith_0 (v0 : Option Nat) (v1 : Int32) (h : PH) : Option (Int32) :=
  (gfi [5] 45 v0 h).bind fun x51 =>
  mo_isWith_L11 v0 v1 (((1 : Int32) <<< (x51 &&& 31)) - 1) 0 h
theorem mo_isWith_0_ok (X : CT) (v0 : Option Nat) (v1 : Int32) (h : PH) : Im X (cX6_isWith, 6, RX6, "isWith", (some .int), 4) 0 [some (.inr v0), some (.inl v1), none, none, none, none] [] h (mo_isWith_0 v0 v1 h) (szP h) (kP X h) := by
  unfold mo_isWith_0
  refine im_iconst (pc := 0) (v := 1) dX6_isWith_0 (by decide) ?_
  refine im_aload_n (pc := 1) dX6_isWith_1 rfl rfl ?_
  refine im_gi (pc := 2) fl_X6_365 dX6_isWith_2 fun x51 => ?_
  refine im_ishl (pc := 5) dX6_isWith_5 ?_
  refine im_iconst (pc := 6) (v := 1) dX6_isWith_6 (by decide) ?_
  refine im_isub (pc := 7) dX6_isWith_7 ?_
  refine im_istore_n (pc := 8) (lv' := [some (.inr v0), some (.inl v1), some (.inl (((1 : Int32) <<< (x51 &&& 31)) - 1)), none, none, none]) dX6_isWith_8 rfl (by decide) rfl ?_
  refine im_iconst (pc := 9) (v := 0) dX6_isWith_9 (by decide) ?_
  refine im_istore_n (pc := 10) (lv' := [some (.inr v0), some (.inl v1), some (.inl (((1 : Int32) <<< (x51 &&& 31)) - 1)), some (.inl 0), none, none]) dX6_isWith_10 rfl (by decide) rfl ?_
  exact Im.drop [true, true, true, true, false, false] rfl (mo_isWith_L11_ok X v0 v1 (((1 : Int32) <<< (x51 &&& 31)) - 1) 0 h)
noncomputable def mo_isWith (a0 : Option Nat) (a1 : Int32) (h : PH) : Option (Int32) := grd (isC [5] a0 h) (mo_isWith_0 a0 a1 h)
theorem mo_isWith_im : IM_X6_isWith mo_isWith 4 := by
  intro a0 a1 h r e
  obtain ⟨e1, e2⟩ := grd_some e
  exact ⟨e1, SpI.ofP (k := 4) (plainFor_of_name (by decide)) rfl (fun X => Im.drop [true, true, false, false, false, false] rfl (mo_isWith_0_ok X a0 a1 h)) e2⟩
theorem fp_X6_365 : ∀ c ∈ [5], FP RX6 365 c 45 .int := List.forall_mem_cons.mpr ⟨⟨RX6, TX6, 50, rfl, in_X6, by decide, apt_X6, rfl, by decide +kernel, Or.inl q1222⟩, fun _ h => absurd h List.not_mem_nil⟩
theorem cl_X6_368 {X : CT} {cc : ByteArray} {nL : Nat} {mn : String} {ret : Option FieldType} {d d0 : Nat} {τ : Type} {pc : Nat} {lv : List (Option PV)} {st : List PV} {h : PH} {sz : τ → Nat × Nat} {K : τ → Prop} {f : Option Nat → PH → Option (PH)} (HR : IM_X6_laysCouples f d0) {a0 : Option Nat} {g : PH → Option τ} (hd : d0 + 1 ≤ d) (hdg : decode cc pc = .ok (.invokevirtual 368, 3)) (hst : st.length ≤ 8) (kk : ∀ h', Im X (cc, nL, RX6, mn, ret, d) (pc + 3) lv st h' (g h') sz K) : Im X (cc, nL, RX6, mn, ret, d) pc lv (.inr a0 :: st) h ((f a0 h).bind g) sz K := by
  refine im_cV (y := yX6_laysCouples) (cY := cX6_laysCouples) (nY := 4) (rY := none) (d' := d0) (av := [.inr a0]) (fun h' e hX => ?_) (fun h' e => (HR _ _ _ e).2) hd (by decide) hst rfl kk
  obtain ⟨a, c, fs, rfl, ec, hm⟩ := isC_some (HR _ _ _ e).1
  cases List.mem_singleton.mp hm
  exact cal_V (n := 0) hX (lw_V q1637 q1639 qs95 q112 q1640) (by decide +kernel) rfl rfl ec hdg

theorem cl_X6_371 {X : CT} {cc : ByteArray} {nL : Nat} {mn : String} {ret : Option FieldType} {d d0 : Nat} {τ : Type} {pc : Nat} {lv : List (Option PV)} {st : List PV} {h : PH} {sz : τ → Nat × Nat} {K : τ → Prop} {f : Option Nat → Int32 → PH → Option (Int32)} (HR : IM_X6_isWith f d0) {a0 : Option Nat} {a1 : Int32} {g : Int32 → Option τ} (hd : d0 + 1 ≤ d) (hdg : decode cc pc = .ok (.invokevirtual 371, 3)) (hst : st.length ≤ 8) (kk : ∀ r, Im X (cc, nL, RX6, mn, ret, d) (pc + 3) lv (.inl r :: st) h (g r) sz K) : Im X (cc, nL, RX6, mn, ret, d) pc lv (.inl a1 :: .inr a0 :: st) h ((f a0 a1 h).bind g) sz K := by
  refine im_cP (y := yX6_isWith) (cY := cX6_isWith) (nY := 6) (rY := (some .int)) (d' := d0) (av := [.inr a0, .inl a1]) (fun r e hX => ?_) (fun r e => (HR _ _ _ _ e).2) hd (by decide) hst rfl kk
  obtain ⟨a, c, fs, rfl, ec, hm⟩ := isC_some (HR _ _ _ _ e).1
  cases List.mem_singleton.mp hm
  exact cal_V (n := 1) hX (lw_V q1641 q1643 qs96 q112 q1644) (by decide +kernel) rfl rfl ec hdg

def IM_X6_couples (f : Option Nat → Int32 → Int32 → PH → Option (Int32 × PH)) (d : Nat) : Prop := ∀ (a0 : Option Nat) (a1 : Int32) (a2 : Int32) (h : PH) (r : Int32) (h' : PH), f a0 a1 a2 h = some (r, h') → isC [5] a0 h = true ∧ SpI yX6_couples cX6_couples 4 (some .int) d [.inr a0, .inl a1, .inl a2] h r h'
noncomputable def mo_couples_b78 (v0 : Option Nat) (v1 : Int32) (v2 : Int32) (v3 : Int32) (h : PH) : Option ((Int32 × PH) ⊕ (Int32 × PH)) :=
  (if 16 ≤ v3 then
  (mo_laysCouples v0 h).bind fun h51 =>
  (if v2 = 100 then
  (gfr [5] 44 v0 h51).bind fun r53 =>
  (gfi [5] 45 v0 h51).bind fun x54 =>
  (ald 0 r53 (((1 : Int32) <<< (x54 &&& 31)) - 1) h51).bind fun x55 =>
  some (.inr ((x55, h51)))
  else
  (mo_isWith v0 v2 h51).bind fun x52 =>
  some (.inr ((x52, h51))))
  else
  (mo_has v1 v3 h).bind fun x56 =>
  (if x56 = 0 then
  some (.inl ((v3 + 1), h))
  else
  (gfr [5] 43 v0 h).bind fun r57 =>
  (gfi [5] 45 v0 h).bind fun x58 =>
  (ast 0 r57 x58 v3 h).bind fun h59 =>
  (gfi [5] 45 v0 h59).bind fun x60 =>
  (pf [5] 45 v0 (.inl (x60 + 1)) h59).bind fun h61 =>
  some (.inl ((v3 + 1), h61))))
noncomputable def mo_couples_L78 (v0 : Option Nat) (v1 : Int32) (v2 : Int32) (v3 : Int32) (h : PH) : Option (Int32 × PH) :=
  iter (fun s : Int32 × PH => mo_couples_b78 v0 v1 v2 s.1 s.2) (v3, h)
theorem mo_couples_b78_ok (X : CT) (v0 : Option Nat) (v1 : Int32) (v2 : Int32) (v3 : Int32) (h : PH) : Im X (cX6_couples, 4, RX6, "couples", (some .int), 5) 78 [some (.inr v0), some (.inl v1), some (.inl v2), some (.inl v3)] [] h (mo_couples_b78 v0 v1 v2 v3 h) (ez (fun s : Int32 × PH => s.2) szI) (ek X 78 (fun s : Int32 × PH => [some (.inr v0), some (.inl v1), some (.inl v2), some (.inl s.1)]) (fun s : Int32 × PH => s.2) (kI X)) := by
  unfold mo_couples_b78
  refine im_iload_n (pc := 78) dX6_couples_78 rfl rfl ?_
  refine im_bipush (pc := 79) (v := 16) dX6_couples_79 (by decide) ?_
  refine im_icmp_ge (pc := 81) (tgt := 121) dX6_couples_81 (by decide) ?_ ?_
  · refine im_aload_n (pc := 121) dX6_couples_121 rfl rfl ?_
    refine cl_X6_368 mo_laysCouples_im (pc := 122) (by decide) dX6_couples_122 (Nat.le_of_ble_eq_true rfl) fun h51 => ?_
    refine im_iload_n (pc := 125) dX6_couples_125 rfl rfl ?_
    refine im_bipush (pc := 126) (v := 100) dX6_couples_126 (by decide) ?_
    refine im_icmp_ne (pc := 128) (tgt := 147) dX6_couples_128 (by decide) ?_ ?_
    · refine im_aload_n (pc := 147) dX6_couples_147 rfl rfl ?_
      refine im_iload_n (pc := 148) dX6_couples_148 rfl rfl ?_
      refine cl_X6_371 mo_isWith_im (pc := 149) (by decide) dX6_couples_149 (Nat.le_of_ble_eq_true rfl) fun x52 => ?_
      exact Im.outS (im_iret (pc := 152) dX6_couples_152)
    · refine im_aload_n (pc := 131) dX6_couples_131 rfl rfl ?_
      refine im_gr (pc := 132) fl_X6_92 dX6_couples_132 fun r53 => ?_
      refine im_iconst (pc := 135) (v := 1) dX6_couples_135 (by decide) ?_
      refine im_aload_n (pc := 136) dX6_couples_136 rfl rfl ?_
      refine im_gi (pc := 137) fl_X6_365 dX6_couples_137 fun x54 => ?_
      refine im_ishl (pc := 140) dX6_couples_140 ?_
      refine im_iconst (pc := 141) (v := 1) dX6_couples_141 (by decide) ?_
      refine im_isub (pc := 142) dX6_couples_142 ?_
      refine im_iald (pc := 143) dX6_couples_143 fun x55 => ?_
      refine im_goto (pc := 144) (tgt := 152) dX6_couples_144 (by decide) ?_
      exact Im.outS (im_iret (pc := 152) dX6_couples_152)
  · refine im_iload_n (pc := 84) dX6_couples_84 rfl rfl ?_
    refine im_iload_n (pc := 85) dX6_couples_85 rfl rfl ?_
    refine cl_X6_288 mo_has_im (pc := 86) (by decide) dX6_couples_86 (Nat.le_of_ble_eq_true rfl) fun x56 => ?_
    refine im_if_ne (pc := 89) (tgt := 95) dX6_couples_89 (by decide) ?_ ?_
    · refine im_aload_n (pc := 95) dX6_couples_95 rfl rfl ?_
      refine im_gr (pc := 96) fl_X6_89 dX6_couples_96 fun r57 => ?_
      refine im_aload_n (pc := 99) dX6_couples_99 rfl rfl ?_
      refine im_gi (pc := 100) fl_X6_365 dX6_couples_100 fun x58 => ?_
      refine im_iload_n (pc := 103) dX6_couples_103 rfl rfl ?_
      refine im_iast (pc := 104) dX6_couples_104 fun h59 => ?_
      refine im_aload_n (pc := 105) dX6_couples_105 rfl rfl ?_
      refine im_aload_n (pc := 106) dX6_couples_106 rfl rfl ?_
      refine im_gi (pc := 107) fl_X6_365 dX6_couples_107 fun x60 => ?_
      refine im_iconst (pc := 110) (v := 1) dX6_couples_110 (by decide) ?_
      refine im_iadd (pc := 111) dX6_couples_111 ?_
      refine im_pf (pc := 112) fp_X6_365 (okT_i _) dX6_couples_112 fun h61 => ?_
      refine im_iinc (pc := 115) (v := (v3 + 1)) (lv' := [some (.inr v0), some (.inl v1), some (.inl v2), some (.inl (v3 + 1))]) dX6_couples_115 rfl rfl (by decide) rfl ?_
      refine im_goto (pc := 118) (tgt := 78) dX6_couples_118 (by decide) ?_
      exact Im.back [true, true, true, true] rfl rfl
    · refine im_goto (pc := 92) (tgt := 115) dX6_couples_92 (by decide) ?_
      refine im_iinc (pc := 115) (v := (v3 + 1)) (lv' := [some (.inr v0), some (.inl v1), some (.inl v2), some (.inl (v3 + 1))]) dX6_couples_115 rfl rfl (by decide) rfl ?_
      refine im_goto (pc := 118) (tgt := 78) dX6_couples_118 (by decide) ?_
      exact Im.back [true, true, true, true] rfl rfl
theorem mo_couples_L78_ok (X : CT) (v0 : Option Nat) (v1 : Int32) (v2 : Int32) (v3 : Int32) (h : PH) : Im X (cX6_couples, 4, RX6, "couples", (some .int), 5) 78 [some (.inr v0), some (.inl v1), some (.inl v2), some (.inl v3)] [] h (mo_couples_L78 v0 v1 v2 v3 h) szI (kI X) := by
  unfold mo_couples_L78
  exact Im.iter (lv := (fun s : Int32 × PH => [some (.inr v0), some (.inl v1), some (.inl v2), some (.inl s.1)])) (hp := (fun s : Int32 × PH => s.2)) (fun s => mo_couples_b78_ok X v0 v1 v2 s.1 s.2) _ rfl rfl
noncomputable def mo_couples_71 (v0 : Option Nat) (v1 : Int32) (v2 : Int32) (h : PH) : Option (Int32 × PH) :=
  (pf [5] 45 v0 (.inl 0) h).bind fun h51 =>
  mo_couples_L78 v0 v1 v2 0 h51
theorem mo_couples_71_ok (X : CT) (v0 : Option Nat) (v1 : Int32) (v2 : Int32) (h : PH) : Im X (cX6_couples, 4, RX6, "couples", (some .int), 5) 71 [some (.inr v0), some (.inl v1), some (.inl v2), none] [] h (mo_couples_71 v0 v1 v2 h) szI (kI X) := by
  unfold mo_couples_71
  refine im_aload_n (pc := 71) dX6_couples_71 rfl rfl ?_
  refine im_iconst (pc := 72) (v := 0) dX6_couples_72 (by decide) ?_
  refine im_pf (pc := 73) fp_X6_365 (okT_i _) dX6_couples_73 fun h51 => ?_
  refine im_iconst (pc := 76) (v := 0) dX6_couples_76 (by decide) ?_
  refine im_istore_n (pc := 77) (lv' := [some (.inr v0), some (.inl v1), some (.inl v2), some (.inl 0)]) dX6_couples_77 rfl (by decide) rfl ?_
  exact Im.drop [true, true, true, true] rfl (mo_couples_L78_ok X v0 v1 v2 0 h51)
noncomputable def mo_couples_43 (v0 : Option Nat) (v1 : Int32) (v2 : Int32) (h : PH) : Option (Int32 × PH) :=
  (mo_toldSet v0 h).bind fun x51 =>
  (if (v1 &&& (x51 ^^^ (-1))) = 0 then
  (if v2 = 100 then
  mo_couples_71 v0 v1 v2 h
  else
  (mo_has v1 v2 h).bind fun x52 =>
  (if x52 = 0 then
  some (((-3), h))
  else
  mo_couples_71 v0 v1 v2 h))
  else
  some (((-3), h)))
theorem mo_couples_43_ok (X : CT) (v0 : Option Nat) (v1 : Int32) (v2 : Int32) (h : PH) : Im X (cX6_couples, 4, RX6, "couples", (some .int), 5) 43 [some (.inr v0), some (.inl v1), some (.inl v2), none] [] h (mo_couples_43 v0 v1 v2 h) szI (kI X) := by
  unfold mo_couples_43
  refine im_iload_n (pc := 43) dX6_couples_43 rfl rfl ?_
  refine im_aload_n (pc := 44) dX6_couples_44 rfl rfl ?_
  refine cl_X6_355 mo_toldSet_im (pc := 45) (by decide) dX6_couples_45 (Nat.le_of_ble_eq_true rfl) fun x51 => ?_
  refine im_iconst (pc := 48) (v := (-1)) dX6_couples_48 (by decide) ?_
  refine im_ixor (pc := 49) dX6_couples_49 ?_
  refine im_iand (pc := 50) dX6_couples_50 ?_
  refine im_if_ne (pc := 51) (tgt := 68) dX6_couples_51 (by decide) ?_ ?_
  · refine im_bipush (pc := 68) (v := (-3)) dX6_couples_68 (by decide) ?_
    exact im_iret (pc := 70) dX6_couples_70
  · refine im_iload_n (pc := 54) dX6_couples_54 rfl rfl ?_
    refine im_bipush (pc := 55) (v := 100) dX6_couples_55 (by decide) ?_
    refine im_icmp_eq (pc := 57) (tgt := 71) dX6_couples_57 (by decide) ?_ ?_
    · exact Im.drop [true, true, true, false] rfl (mo_couples_71_ok X v0 v1 v2 h)
    · refine im_iload_n (pc := 60) dX6_couples_60 rfl rfl ?_
      refine im_iload_n (pc := 61) dX6_couples_61 rfl rfl ?_
      refine cl_X6_288 mo_has_im (pc := 62) (by decide) dX6_couples_62 (Nat.le_of_ble_eq_true rfl) fun x52 => ?_
      refine im_if_ne (pc := 65) (tgt := 71) dX6_couples_65 (by decide) ?_ ?_
      · exact Im.drop [true, true, true, false] rfl (mo_couples_71_ok X v0 v1 v2 h)
      · refine im_bipush (pc := 68) (v := (-3)) dX6_couples_68 (by decide) ?_
        exact im_iret (pc := 70) dX6_couples_70
noncomputable def mo_couples_0 (v0 : Option Nat) (v1 : Int32) (v2 : Int32) (h : PH) : Option (Int32 × PH) :=
  (mo_in v1 0 65535 h).bind fun x51 =>
  (if x51 = 0 then
  some (((-1000), h))
  else
  (mo_bits v1 h).bind fun x52 =>
  (mo_in x52 2 10 h).bind fun x53 =>
  (if x53 = 0 then
  some (((-1000), h))
  else
  (mo_in v2 0 15 h).bind fun x54 =>
  (if x54 = 0 then
  (if v2 = 100 then
  mo_couples_43 v0 v1 v2 h
  else
  some (((-1000), h)))
  else
  mo_couples_43 v0 v1 v2 h)))
theorem mo_couples_0_ok (X : CT) (v0 : Option Nat) (v1 : Int32) (v2 : Int32) (h : PH) : Im X (cX6_couples, 4, RX6, "couples", (some .int), 5) 0 [some (.inr v0), some (.inl v1), some (.inl v2), none] [] h (mo_couples_0 v0 v1 v2 h) szI (kI X) := by
  unfold mo_couples_0
  refine im_iload_n (pc := 0) dX6_couples_0 rfl rfl ?_
  refine im_iconst (pc := 1) (v := 0) dX6_couples_1 (by decide) ?_
  refine im_ldc (pc := 2) q1335 dX6_couples_2 ?_
  refine cl_X6_104 mo_in_im (pc := 4) (by decide) dX6_couples_4 (Nat.le_of_ble_eq_true rfl) fun x51 => ?_
  refine im_if_eq (pc := 7) (tgt := 39) dX6_couples_7 (by decide) ?_ ?_
  · refine im_sipush (pc := 39) (v := (-1000)) dX6_couples_39 (by decide) ?_
    exact im_iret (pc := 42) dX6_couples_42
  · refine im_iload_n (pc := 10) dX6_couples_10 rfl rfl ?_
    refine cl_X6_126 mo_bits_im (pc := 11) (by decide) dX6_couples_11 (Nat.le_of_ble_eq_true rfl) fun x52 => ?_
    refine im_iconst (pc := 14) (v := 2) dX6_couples_14 (by decide) ?_
    refine im_bipush (pc := 15) (v := 10) dX6_couples_15 (by decide) ?_
    refine cl_X6_104 mo_in_im (pc := 17) (by decide) dX6_couples_17 (Nat.le_of_ble_eq_true rfl) fun x53 => ?_
    refine im_if_eq (pc := 20) (tgt := 39) dX6_couples_20 (by decide) ?_ ?_
    · refine im_sipush (pc := 39) (v := (-1000)) dX6_couples_39 (by decide) ?_
      exact im_iret (pc := 42) dX6_couples_42
    · refine im_iload_n (pc := 23) dX6_couples_23 rfl rfl ?_
      refine im_iconst (pc := 24) (v := 0) dX6_couples_24 (by decide) ?_
      refine im_bipush (pc := 25) (v := 15) dX6_couples_25 (by decide) ?_
      refine cl_X6_104 mo_in_im (pc := 27) (by decide) dX6_couples_27 (Nat.le_of_ble_eq_true rfl) fun x54 => ?_
      refine im_if_ne (pc := 30) (tgt := 43) dX6_couples_30 (by decide) ?_ ?_
      · exact Im.drop [true, true, true, false] rfl (mo_couples_43_ok X v0 v1 v2 h)
      · refine im_iload_n (pc := 33) dX6_couples_33 rfl rfl ?_
        refine im_bipush (pc := 34) (v := 100) dX6_couples_34 (by decide) ?_
        refine im_icmp_eq (pc := 36) (tgt := 43) dX6_couples_36 (by decide) ?_ ?_
        · exact Im.drop [true, true, true, false] rfl (mo_couples_43_ok X v0 v1 v2 h)
        · refine im_sipush (pc := 39) (v := (-1000)) dX6_couples_39 (by decide) ?_
          exact im_iret (pc := 42) dX6_couples_42
noncomputable def mo_couples (a0 : Option Nat) (a1 : Int32) (a2 : Int32) (h : PH) : Option (Int32 × PH) := grd (isC [5] a0 h) (mo_couples_0 a0 a1 a2 h)
theorem mo_couples_im : IM_X6_couples mo_couples 5 := by
  intro a0 a1 a2 h r h' e
  obtain ⟨e1, e2⟩ := grd_some e
  exact ⟨e1, SpI.of (k := 1) (plainFor_of_name (by decide)) rfl (fun X => Im.drop [true, true, true, false] rfl (mo_couples_0_ok X a0 a1 a2 h)) e2⟩
