set_option maxRecDepth 100000
def IM_X6_andBeside (f : Option Nat → Int32 → PH → Option (Int32)) (d : Nat) : Prop := ∀ (a0 : Option Nat) (a1 : Int32) (h : PH) (r : Int32), f a0 a1 h = some r → isC [5] a0 h = true ∧ SpI yX6_andBeside cX6_andBeside 4 (some .int) d [.inr a0, .inl a1] h r h
noncomputable def mo_andBeside_b4 (v0 : Option Nat) (v1 : Int32) (v2 : Int32) (v3 : Int32) (h : PH) : Option ((Int32 × Int32) ⊕ (Int32)) :=
  (if 16 ≤ v3 then
  some (.inr v2)
  else
  (mo_has v1 v3 h).bind fun x51 =>
  (if x51 = 0 then
  some (.inl (v2, (v3 + 1)))
  else
  (mo_besideSet v0 v3 h).bind fun x52 =>
  some (.inl ((v2 ||| x52), (v3 + 1)))))
noncomputable def mo_andBeside_L4 (v0 : Option Nat) (v1 : Int32) (v2 : Int32) (v3 : Int32) (h : PH) : Option (Int32) :=
  iter (fun s : Int32 × Int32 => mo_andBeside_b4 v0 v1 s.1 s.2 h) (v2, v3)
theorem mo_andBeside_b4_ok (X : CT) (v0 : Option Nat) (v1 : Int32) (v2 : Int32) (v3 : Int32) (h : PH) : Im X (cX6_andBeside, 4, RX6, "andBeside", (some .int), 5) 4 [some (.inr v0), some (.inl v1), some (.inl v2), some (.inl v3)] [] h (mo_andBeside_b4 v0 v1 v2 v3 h) (ez (fun s : Int32 × Int32 => h) (szP h)) (ek X 4 (fun s : Int32 × Int32 => [some (.inr v0), some (.inl v1), some (.inl s.1), some (.inl s.2)]) (fun s : Int32 × Int32 => h) (kP X h)) := by
  unfold mo_andBeside_b4
  refine im_iload_n (pc := 4) dX6_andBeside_4 rfl rfl ?_
  refine im_bipush (pc := 5) (v := 16) dX6_andBeside_5 (by decide) ?_
  refine im_icmp_ge (pc := 7) (tgt := 32) dX6_andBeside_7 (by decide) ?_ ?_
  · refine im_iload_n (pc := 32) dX6_andBeside_32 rfl rfl ?_
    exact Im.outS (im_iretP (pc := 33) dX6_andBeside_33)
  · refine im_iload_n (pc := 10) dX6_andBeside_10 rfl rfl ?_
    refine im_iload_n (pc := 11) dX6_andBeside_11 rfl rfl ?_
    refine cl_X6_288 mo_has_im (pc := 12) (by decide) dX6_andBeside_12 (Nat.le_of_ble_eq_true rfl) fun x51 => ?_
    refine im_if_eq (pc := 15) (tgt := 26) dX6_andBeside_15 (by decide) ?_ ?_
    · refine im_iinc (pc := 26) (v := (v3 + 1)) (lv' := [some (.inr v0), some (.inl v1), some (.inl v2), some (.inl (v3 + 1))]) dX6_andBeside_26 rfl rfl (by decide) rfl ?_
      refine im_goto (pc := 29) (tgt := 4) dX6_andBeside_29 (by decide) ?_
      exact Im.back [true, true, true, true] rfl rfl
    · refine im_iload_n (pc := 18) dX6_andBeside_18 rfl rfl ?_
      refine im_aload_n (pc := 19) dX6_andBeside_19 rfl rfl ?_
      refine im_iload_n (pc := 20) dX6_andBeside_20 rfl rfl ?_
      refine cl_X6_244 mo_besideSet_im (pc := 21) (by decide) dX6_andBeside_21 (Nat.le_of_ble_eq_true rfl) fun x52 => ?_
      refine im_ior (pc := 24) dX6_andBeside_24 ?_
      refine im_istore_n (pc := 25) (lv' := [some (.inr v0), some (.inl v1), some (.inl (v2 ||| x52)), some (.inl v3)]) dX6_andBeside_25 rfl (by decide) rfl ?_
      refine im_iinc (pc := 26) (v := (v3 + 1)) (lv' := [some (.inr v0), some (.inl v1), some (.inl (v2 ||| x52)), some (.inl (v3 + 1))]) dX6_andBeside_26 rfl rfl (by decide) rfl ?_
      refine im_goto (pc := 29) (tgt := 4) dX6_andBeside_29 (by decide) ?_
      exact Im.back [true, true, true, true] rfl rfl
theorem mo_andBeside_L4_ok (X : CT) (v0 : Option Nat) (v1 : Int32) (v2 : Int32) (v3 : Int32) (h : PH) : Im X (cX6_andBeside, 4, RX6, "andBeside", (some .int), 5) 4 [some (.inr v0), some (.inl v1), some (.inl v2), some (.inl v3)] [] h (mo_andBeside_L4 v0 v1 v2 v3 h) (szP h) (kP X h) := by
  unfold mo_andBeside_L4
  exact Im.iter (lv := (fun s : Int32 × Int32 => [some (.inr v0), some (.inl v1), some (.inl s.1), some (.inl s.2)])) (hp := (fun s : Int32 × Int32 => h)) (fun s => mo_andBeside_b4_ok X v0 v1 s.1 s.2 h) _ rfl rfl
noncomputable def mo_andBeside_0 (v0 : Option Nat) (v1 : Int32) (h : PH) : Option (Int32) :=
  mo_andBeside_L4 v0 v1 v1 0 h
theorem mo_andBeside_0_ok (X : CT) (v0 : Option Nat) (v1 : Int32) (h : PH) : Im X (cX6_andBeside, 4, RX6, "andBeside", (some .int), 5) 0 [some (.inr v0), some (.inl v1), none, none] [] h (mo_andBeside_0 v0 v1 h) (szP h) (kP X h) := by
  unfold mo_andBeside_0
  refine im_iload_n (pc := 0) dX6_andBeside_0 rfl rfl ?_
  refine im_istore_n (pc := 1) (lv' := [some (.inr v0), some (.inl v1), some (.inl v1), none]) dX6_andBeside_1 rfl (by decide) rfl ?_
  refine im_iconst (pc := 2) (v := 0) dX6_andBeside_2 (by decide) ?_
  refine im_istore_n (pc := 3) (lv' := [some (.inr v0), some (.inl v1), some (.inl v1), some (.inl 0)]) dX6_andBeside_3 rfl (by decide) rfl ?_
  exact Im.drop [true, true, true, true] rfl (mo_andBeside_L4_ok X v0 v1 v1 0 h)
noncomputable def mo_andBeside (a0 : Option Nat) (a1 : Int32) (h : PH) : Option (Int32) := grd (isC [5] a0 h) (mo_andBeside_0 a0 a1 h)
theorem mo_andBeside_im : IM_X6_andBeside mo_andBeside 5 := by
  intro a0 a1 h r e
  obtain ⟨e1, e2⟩ := grd_some e
  exact ⟨e1, SpI.ofP (k := 2) (plainFor_of_name (by decide)) rfl (fun X => Im.drop [true, true, false, false] rfl (mo_andBeside_0_ok X a0 a1 h)) e2⟩
theorem cl_X6_374 {X : CT} {cc : ByteArray} {nL : Nat} {mn : String} {ret : Option FieldType} {d d0 : Nat} {τ : Type} {pc : Nat} {lv : List (Option PV)} {st : List PV} {h : PH} {sz : τ → Nat × Nat} {K : τ → Prop} {f : Option Nat → Int32 → PH → Option (Int32)} (HR : IM_X6_andBeside f d0) {a0 : Option Nat} {a1 : Int32} {g : Int32 → Option τ} (hd : d0 + 1 ≤ d) (hdg : decode cc pc = .ok (.invokevirtual 374, 3)) (hst : st.length ≤ 8) (kk : ∀ r, Im X (cc, nL, RX6, mn, ret, d) (pc + 3) lv (.inl r :: st) h (g r) sz K) : Im X (cc, nL, RX6, mn, ret, d) pc lv (.inl a1 :: .inr a0 :: st) h ((f a0 a1 h).bind g) sz K := by
  refine im_cP (y := yX6_andBeside) (cY := cX6_andBeside) (nY := 4) (rY := (some .int)) (d' := d0) (av := [.inr a0, .inl a1]) (fun r e hX => ?_) (fun r e => (HR _ _ _ _ e).2) hd (by decide) hst rfl kk
  obtain ⟨a, c, fs, rfl, ec, hm⟩ := isC_some (HR _ _ _ _ e).1
  cases List.mem_singleton.mp hm
  exact cal_V (n := 1) hX (lw_V q1649 q1651 qs97 q112 q1652) (by decide +kernel) rfl rfl ec hdg

def IM_X6_heard (f : Option Nat → Int32 → Int32 → PH → Option (Int32)) (d : Nat) : Prop := ∀ (a0 : Option Nat) (a1 : Int32) (a2 : Int32) (h : PH) (r : Int32), f a0 a1 a2 h = some r → isC [5] a0 h = true ∧ SpI yX6_heard cX6_heard 5 (some .int) d [.inr a0, .inl a1, .inl a2] h r h
noncomputable def mo_heard_b75 (v0 : Option Nat) (v2 : Int32) (v3 : Int32) (v4 : Int32) (h : PH) : Option ((Int32 × Int32) ⊕ (Int32)) :=
  (mo_andBeside v0 v3 h).bind fun x51 =>
  (if x51 = v3 then
  (if v2 = 0 then
  some (.inr v4)
  else
  some (.inr v3))
  else
  (mo_andBeside v0 v3 h).bind fun x52 =>
  some (.inl (x52, (v4 + 1))))
noncomputable def mo_heard_L75 (v0 : Option Nat) (v2 : Int32) (v3 : Int32) (v4 : Int32) (h : PH) : Option (Int32) :=
  iter (fun s : Int32 × Int32 => mo_heard_b75 v0 v2 s.1 s.2 h) (v3, v4)
theorem mo_heard_b75_ok (X : CT) (v0 : Option Nat) (v2 : Int32) (v3 : Int32) (v4 : Int32) (h : PH) : Im X (cX6_heard, 5, RX6, "heard", (some .int), 6) 75 [some (.inr v0), none, some (.inl v2), some (.inl v3), some (.inl v4)] [] h (mo_heard_b75 v0 v2 v3 v4 h) (ez (fun s : Int32 × Int32 => h) (szP h)) (ek X 75 (fun s : Int32 × Int32 => [some (.inr v0), none, some (.inl v2), some (.inl s.1), some (.inl s.2)]) (fun s : Int32 × Int32 => h) (kP X h)) := by
  unfold mo_heard_b75
  refine im_aload_n (pc := 75) dX6_heard_75 rfl rfl ?_
  refine im_iload_n (pc := 76) dX6_heard_76 rfl rfl ?_
  refine cl_X6_374 mo_andBeside_im (pc := 77) (by decide) dX6_heard_77 (Nat.le_of_ble_eq_true rfl) fun x51 => ?_
  refine im_iload_n (pc := 80) dX6_heard_80 rfl rfl ?_
  refine im_icmp_eq (pc := 81) (tgt := 99) dX6_heard_81 (by decide) ?_ ?_
  · refine im_iload_n (pc := 99) dX6_heard_99 rfl rfl ?_
    refine im_if_ne (pc := 100) (tgt := 108) dX6_heard_100 (by decide) ?_ ?_
    · refine im_iload_n (pc := 108) dX6_heard_108 rfl rfl ?_
      exact Im.outS (im_iretP (pc := 109) dX6_heard_109)
    · refine im_iload (pc := 103) dX6_heard_103 rfl ?_
      refine im_goto (pc := 105) (tgt := 109) dX6_heard_105 (by decide) ?_
      exact Im.outS (im_iretP (pc := 109) dX6_heard_109)
  · refine im_aload_n (pc := 84) dX6_heard_84 rfl rfl ?_
    refine im_iload_n (pc := 85) dX6_heard_85 rfl rfl ?_
    refine cl_X6_374 mo_andBeside_im (pc := 86) (by decide) dX6_heard_86 (Nat.le_of_ble_eq_true rfl) fun x52 => ?_
    refine im_istore_n (pc := 89) (lv' := [some (.inr v0), none, some (.inl v2), some (.inl x52), some (.inl v4)]) dX6_heard_89 rfl (by decide) rfl ?_
    refine im_iload (pc := 90) dX6_heard_90 rfl ?_
    refine im_iconst (pc := 92) (v := 1) dX6_heard_92 (by decide) ?_
    refine im_iadd (pc := 93) dX6_heard_93 ?_
    refine im_istore (pc := 94) (lv' := [some (.inr v0), none, some (.inl v2), some (.inl x52), some (.inl (v4 + 1))]) dX6_heard_94 (by decide) rfl ?_
    refine im_goto (pc := 96) (tgt := 75) dX6_heard_96 (by decide) ?_
    exact Im.back [true, false, true, true, true] rfl rfl
theorem mo_heard_L75_ok (X : CT) (v0 : Option Nat) (v2 : Int32) (v3 : Int32) (v4 : Int32) (h : PH) : Im X (cX6_heard, 5, RX6, "heard", (some .int), 6) 75 [some (.inr v0), none, some (.inl v2), some (.inl v3), some (.inl v4)] [] h (mo_heard_L75 v0 v2 v3 v4 h) (szP h) (kP X h) := by
  unfold mo_heard_L75
  exact Im.iter (lv := (fun s : Int32 × Int32 => [some (.inr v0), none, some (.inl v2), some (.inl s.1), some (.inl s.2)])) (hp := (fun s : Int32 × Int32 => h)) (fun s => mo_heard_b75_ok X v0 v2 s.1 s.2 h) _ rfl rfl
noncomputable def mo_heard_b26 (v0 : Option Nat) (v1 : Int32) (v2 : Int32) (v3 : Int32) (v4 : Int32) (h : PH) : Option ((Int32 × Int32) ⊕ (Int32)) :=
  (if 16 ≤ v4 then
  (mo_heard_L75 v0 v2 v3 0 h).map .inr
  else
  (mo_isTold v0 v4 h).bind fun x51 =>
  (if x51 = 0 then
  some (.inl (v3, (v4 + 1)))
  else
  (gfr [5] 0 v0 h).bind fun r52 =>
  (ald 0 r52 (16 + v4) h).bind fun x53 =>
  (mo_has x53 v1 h).bind fun x54 =>
  (if x54 = 0 then
  some (.inl (v3, (v4 + 1)))
  else
  some (.inl ((v3 ||| ((1 : Int32) <<< (v4 &&& 31))), (v4 + 1))))))
noncomputable def mo_heard_L26 (v0 : Option Nat) (v1 : Int32) (v2 : Int32) (v3 : Int32) (v4 : Int32) (h : PH) : Option (Int32) :=
  iter (fun s : Int32 × Int32 => mo_heard_b26 v0 v1 v2 s.1 s.2 h) (v3, v4)
theorem mo_heard_b26_ok (X : CT) (v0 : Option Nat) (v1 : Int32) (v2 : Int32) (v3 : Int32) (v4 : Int32) (h : PH) : Im X (cX6_heard, 5, RX6, "heard", (some .int), 6) 26 [some (.inr v0), some (.inl v1), some (.inl v2), some (.inl v3), some (.inl v4)] [] h (mo_heard_b26 v0 v1 v2 v3 v4 h) (ez (fun s : Int32 × Int32 => h) (szP h)) (ek X 26 (fun s : Int32 × Int32 => [some (.inr v0), some (.inl v1), some (.inl v2), some (.inl s.1), some (.inl s.2)]) (fun s : Int32 × Int32 => h) (kP X h)) := by
  unfold mo_heard_b26
  refine im_iload (pc := 26) dX6_heard_26 rfl ?_
  refine im_bipush (pc := 28) (v := 16) dX6_heard_28 (by decide) ?_
  refine im_icmp_ge (pc := 30) (tgt := 72) dX6_heard_30 (by decide) ?_ ?_
  · refine im_iconst (pc := 72) (v := 0) dX6_heard_72 (by decide) ?_
    refine im_istore (pc := 73) (lv' := [some (.inr v0), some (.inl v1), some (.inl v2), some (.inl v3), some (.inl 0)]) dX6_heard_73 (by decide) rfl ?_
    exact Im.out (Im.drop [true, false, true, true, true] rfl (mo_heard_L75_ok X v0 v2 v3 0 h))
  · refine im_aload_n (pc := 33) dX6_heard_33 rfl rfl ?_
    refine im_iload (pc := 34) dX6_heard_34 rfl ?_
    refine cl_X6_108 mo_isTold_im (pc := 36) (by decide) dX6_heard_36 (Nat.le_of_ble_eq_true rfl) fun x51 => ?_
    refine im_if_eq (pc := 39) (tgt := 66) dX6_heard_39 (by decide) ?_ ?_
    · refine im_iinc (pc := 66) (v := (v4 + 1)) (lv' := [some (.inr v0), some (.inl v1), some (.inl v2), some (.inl v3), some (.inl (v4 + 1))]) dX6_heard_66 rfl rfl (by decide) rfl ?_
      refine im_goto (pc := 69) (tgt := 26) dX6_heard_69 (by decide) ?_
      exact Im.back [true, true, true, true, true] rfl rfl
    · refine im_aload_n (pc := 42) dX6_heard_42 rfl rfl ?_
      refine im_gr (pc := 43) fl_X6_7 dX6_heard_43 fun r52 => ?_
      refine im_bipush (pc := 46) (v := 16) dX6_heard_46 (by decide) ?_
      refine im_iload (pc := 48) dX6_heard_48 rfl ?_
      refine im_iadd (pc := 50) dX6_heard_50 ?_
      refine im_iald (pc := 51) dX6_heard_51 fun x53 => ?_
      refine im_iload_n (pc := 52) dX6_heard_52 rfl rfl ?_
      refine cl_X6_288 mo_has_im (pc := 53) (by decide) dX6_heard_53 (Nat.le_of_ble_eq_true rfl) fun x54 => ?_
      refine im_if_eq (pc := 56) (tgt := 66) dX6_heard_56 (by decide) ?_ ?_
      · refine im_iinc (pc := 66) (v := (v4 + 1)) (lv' := [some (.inr v0), some (.inl v1), some (.inl v2), some (.inl v3), some (.inl (v4 + 1))]) dX6_heard_66 rfl rfl (by decide) rfl ?_
        refine im_goto (pc := 69) (tgt := 26) dX6_heard_69 (by decide) ?_
        exact Im.back [true, true, true, true, true] rfl rfl
      · refine im_iload_n (pc := 59) dX6_heard_59 rfl rfl ?_
        refine im_iconst (pc := 60) (v := 1) dX6_heard_60 (by decide) ?_
        refine im_iload (pc := 61) dX6_heard_61 rfl ?_
        refine im_ishl (pc := 63) dX6_heard_63 ?_
        refine im_ior (pc := 64) dX6_heard_64 ?_
        refine im_istore_n (pc := 65) (lv' := [some (.inr v0), some (.inl v1), some (.inl v2), some (.inl (v3 ||| ((1 : Int32) <<< (v4 &&& 31)))), some (.inl v4)]) dX6_heard_65 rfl (by decide) rfl ?_
        refine im_iinc (pc := 66) (v := (v4 + 1)) (lv' := [some (.inr v0), some (.inl v1), some (.inl v2), some (.inl (v3 ||| ((1 : Int32) <<< (v4 &&& 31)))), some (.inl (v4 + 1))]) dX6_heard_66 rfl rfl (by decide) rfl ?_
        refine im_goto (pc := 69) (tgt := 26) dX6_heard_69 (by decide) ?_
        exact Im.back [true, true, true, true, true] rfl rfl
theorem mo_heard_L26_ok (X : CT) (v0 : Option Nat) (v1 : Int32) (v2 : Int32) (v3 : Int32) (v4 : Int32) (h : PH) : Im X (cX6_heard, 5, RX6, "heard", (some .int), 6) 26 [some (.inr v0), some (.inl v1), some (.inl v2), some (.inl v3), some (.inl v4)] [] h (mo_heard_L26 v0 v1 v2 v3 v4 h) (szP h) (kP X h) := by
  unfold mo_heard_L26
  exact Im.iter (lv := (fun s : Int32 × Int32 => [some (.inr v0), some (.inl v1), some (.inl v2), some (.inl s.1), some (.inl s.2)])) (hp := (fun s : Int32 × Int32 => h)) (fun s => mo_heard_b26_ok X v0 v1 v2 s.1 s.2 h) _ rfl rfl
noncomputable def mo_heard_0 (v0 : Option Nat) (v1 : Int32) (v2 : Int32) (h : PH) : Option (Int32) :=
  (mo_in v1 0 15 h).bind fun x51 =>
  (if x51 = 0 then
  some ((-1))
  else
  (mo_in v2 0 1 h).bind fun x52 =>
  (if x52 = 0 then
  some ((-1))
  else
  mo_heard_L26 v0 v1 v2 0 0 h))
theorem mo_heard_0_ok (X : CT) (v0 : Option Nat) (v1 : Int32) (v2 : Int32) (h : PH) : Im X (cX6_heard, 5, RX6, "heard", (some .int), 6) 0 [some (.inr v0), some (.inl v1), some (.inl v2), none, none] [] h (mo_heard_0 v0 v1 v2 h) (szP h) (kP X h) := by
  unfold mo_heard_0
  refine im_iload_n (pc := 0) dX6_heard_0 rfl rfl ?_
  refine im_iconst (pc := 1) (v := 0) dX6_heard_1 (by decide) ?_
  refine im_bipush (pc := 2) (v := 15) dX6_heard_2 (by decide) ?_
  refine cl_X6_104 mo_in_im (pc := 4) (by decide) dX6_heard_4 (Nat.le_of_ble_eq_true rfl) fun x51 => ?_
  refine im_if_eq (pc := 7) (tgt := 19) dX6_heard_7 (by decide) ?_ ?_
  · refine im_iconst (pc := 19) (v := (-1)) dX6_heard_19 (by decide) ?_
    exact im_iretP (pc := 20) dX6_heard_20
  · refine im_iload_n (pc := 10) dX6_heard_10 rfl rfl ?_
    refine im_iconst (pc := 11) (v := 0) dX6_heard_11 (by decide) ?_
    refine im_iconst (pc := 12) (v := 1) dX6_heard_12 (by decide) ?_
    refine cl_X6_104 mo_in_im (pc := 13) (by decide) dX6_heard_13 (Nat.le_of_ble_eq_true rfl) fun x52 => ?_
    refine im_if_ne (pc := 16) (tgt := 21) dX6_heard_16 (by decide) ?_ ?_
    · refine im_iconst (pc := 21) (v := 0) dX6_heard_21 (by decide) ?_
      refine im_istore_n (pc := 22) (lv' := [some (.inr v0), some (.inl v1), some (.inl v2), some (.inl 0), none]) dX6_heard_22 rfl (by decide) rfl ?_
      refine im_iconst (pc := 23) (v := 0) dX6_heard_23 (by decide) ?_
      refine im_istore (pc := 24) (lv' := [some (.inr v0), some (.inl v1), some (.inl v2), some (.inl 0), some (.inl 0)]) dX6_heard_24 (by decide) rfl ?_
      exact Im.drop [true, true, true, true, true] rfl (mo_heard_L26_ok X v0 v1 v2 0 0 h)
    · refine im_iconst (pc := 19) (v := (-1)) dX6_heard_19 (by decide) ?_
      exact im_iretP (pc := 20) dX6_heard_20
noncomputable def mo_heard (a0 : Option Nat) (a1 : Int32) (a2 : Int32) (h : PH) : Option (Int32) := grd (isC [5] a0 h) (mo_heard_0 a0 a1 a2 h)
theorem mo_heard_im : IM_X6_heard mo_heard 6 := by
  intro a0 a1 a2 h r e
  obtain ⟨e1, e2⟩ := grd_some e
  exact ⟨e1, SpI.ofP (k := 2) (plainFor_of_name (by decide)) rfl (fun X => Im.drop [true, true, true, false, false] rfl (mo_heard_0_ok X a0 a1 a2 h)) e2⟩
def IM_X6_circleOf (f : Option Nat → Int32 → PH → Option (Int32)) (d : Nat) : Prop := ∀ (a0 : Option Nat) (a1 : Int32) (h : PH) (r : Int32), f a0 a1 h = some r → isC [5] a0 h = true ∧ SpI yX6_circleOf cX6_circleOf 3 (some .int) d [.inr a0, .inl a1] h r h
noncomputable def mo_circleOf_b4 (v0 : Option Nat) (v2 : Int32) (h : PH) : Option ((Int32) ⊕ (Int32)) :=
  (mo_andBeside v0 v2 h).bind fun x51 =>
  (if x51 = v2 then
  some (.inr v2)
  else
  (mo_andBeside v0 v2 h).bind fun x52 =>
  some (.inl x52))
noncomputable def mo_circleOf_L4 (v0 : Option Nat) (v2 : Int32) (h : PH) : Option (Int32) :=
  iter (fun s : Int32 => mo_circleOf_b4 v0 s h) v2
theorem mo_circleOf_b4_ok (X : CT) (v0 : Option Nat) (v2 : Int32) (h : PH) : Im X (cX6_circleOf, 3, RX6, "circleOf", (some .int), 6) 4 [some (.inr v0), none, some (.inl v2)] [] h (mo_circleOf_b4 v0 v2 h) (ez (fun s : Int32 => h) (szP h)) (ek X 4 (fun s : Int32 => [some (.inr v0), none, some (.inl s)]) (fun s : Int32 => h) (kP X h)) := by
  unfold mo_circleOf_b4
  refine im_aload_n (pc := 4) dX6_circleOf_4 rfl rfl ?_
  refine im_iload_n (pc := 5) dX6_circleOf_5 rfl rfl ?_
  refine cl_X6_374 mo_andBeside_im (pc := 6) (by decide) dX6_circleOf_6 (Nat.le_of_ble_eq_true rfl) fun x51 => ?_
  refine im_iload_n (pc := 9) dX6_circleOf_9 rfl rfl ?_
  refine im_icmp_eq (pc := 10) (tgt := 22) dX6_circleOf_10 (by decide) ?_ ?_
  · refine im_iload_n (pc := 22) dX6_circleOf_22 rfl rfl ?_
    exact Im.outS (im_iretP (pc := 23) dX6_circleOf_23)
  · refine im_aload_n (pc := 13) dX6_circleOf_13 rfl rfl ?_
    refine im_iload_n (pc := 14) dX6_circleOf_14 rfl rfl ?_
    refine cl_X6_374 mo_andBeside_im (pc := 15) (by decide) dX6_circleOf_15 (Nat.le_of_ble_eq_true rfl) fun x52 => ?_
    refine im_istore_n (pc := 18) (lv' := [some (.inr v0), none, some (.inl x52)]) dX6_circleOf_18 rfl (by decide) rfl ?_
    refine im_goto (pc := 19) (tgt := 4) dX6_circleOf_19 (by decide) ?_
    exact Im.back [true, false, true] rfl rfl
theorem mo_circleOf_L4_ok (X : CT) (v0 : Option Nat) (v2 : Int32) (h : PH) : Im X (cX6_circleOf, 3, RX6, "circleOf", (some .int), 6) 4 [some (.inr v0), none, some (.inl v2)] [] h (mo_circleOf_L4 v0 v2 h) (szP h) (kP X h) := by
  unfold mo_circleOf_L4
  exact Im.iter (lv := (fun s : Int32 => [some (.inr v0), none, some (.inl s)])) (hp := (fun s : Int32 => h)) (fun s => mo_circleOf_b4_ok X v0 s h) _ rfl rfl
noncomputable def mo_circleOf_0 (v0 : Option Nat) (v1 : Int32) (h : PH) : Option (Int32) :=
  mo_circleOf_L4 v0 ((1 : Int32) <<< (v1 &&& 31)) h
theorem mo_circleOf_0_ok (X : CT) (v0 : Option Nat) (v1 : Int32) (h : PH) : Im X (cX6_circleOf, 3, RX6, "circleOf", (some .int), 6) 0 [some (.inr v0), some (.inl v1), none] [] h (mo_circleOf_0 v0 v1 h) (szP h) (kP X h) := by
  unfold mo_circleOf_0
  refine im_iconst (pc := 0) (v := 1) dX6_circleOf_0 (by decide) ?_
  refine im_iload_n (pc := 1) dX6_circleOf_1 rfl rfl ?_
  refine im_ishl (pc := 2) dX6_circleOf_2 ?_
  refine im_istore_n (pc := 3) (lv' := [some (.inr v0), some (.inl v1), some (.inl ((1 : Int32) <<< (v1 &&& 31)))]) dX6_circleOf_3 rfl (by decide) rfl ?_
  exact Im.drop [true, false, true] rfl (mo_circleOf_L4_ok X v0 ((1 : Int32) <<< (v1 &&& 31)) h)
noncomputable def mo_circleOf (a0 : Option Nat) (a1 : Int32) (h : PH) : Option (Int32) := grd (isC [5] a0 h) (mo_circleOf_0 a0 a1 h)
theorem mo_circleOf_im : IM_X6_circleOf mo_circleOf 6 := by
  intro a0 a1 h r e
  obtain ⟨e1, e2⟩ := grd_some e
  exact ⟨e1, SpI.ofP (k := 1) (plainFor_of_name (by decide)) rfl (fun X => Im.drop [true, true, false] rfl (mo_circleOf_0_ok X a0 a1 h)) e2⟩
def IM_X6_laidSet (f : Option Nat → PH → Option (Int32)) (d : Nat) : Prop := ∀ (a0 : Option Nat) (h : PH) (r : Int32), f a0 h = some r → isC [5] a0 h = true ∧ SpI yX6_laidSet cX6_laidSet 3 (some .int) d [.inr a0] h r h
noncomputable def mo_laidSet_b4 (v0 : Option Nat) (v1 : Int32) (v2 : Int32) (h : PH) : Option ((Int32 × Int32) ⊕ (Int32)) :=
  (if 16 ≤ v2 then
  some (.inr v1)
  else
  (mo_isLaid v0 v2 h).bind fun x51 =>
  (if x51 = 0 then
  some (.inl (v1, (v2 + 1)))
  else
  some (.inl ((v1 ||| ((1 : Int32) <<< (v2 &&& 31))), (v2 + 1)))))
noncomputable def mo_laidSet_L4 (v0 : Option Nat) (v1 : Int32) (v2 : Int32) (h : PH) : Option (Int32) :=
  iter (fun s : Int32 × Int32 => mo_laidSet_b4 v0 s.1 s.2 h) (v1, v2)
theorem mo_laidSet_b4_ok (X : CT) (v0 : Option Nat) (v1 : Int32) (v2 : Int32) (h : PH) : Im X (cX6_laidSet, 3, RX6, "laidSet", (some .int), 2) 4 [some (.inr v0), some (.inl v1), some (.inl v2)] [] h (mo_laidSet_b4 v0 v1 v2 h) (ez (fun s : Int32 × Int32 => h) (szP h)) (ek X 4 (fun s : Int32 × Int32 => [some (.inr v0), some (.inl s.1), some (.inl s.2)]) (fun s : Int32 × Int32 => h) (kP X h)) := by
  unfold mo_laidSet_b4
  refine im_iload_n (pc := 4) dX6_laidSet_4 rfl rfl ?_
  refine im_bipush (pc := 5) (v := 16) dX6_laidSet_5 (by decide) ?_
  refine im_icmp_ge (pc := 7) (tgt := 30) dX6_laidSet_7 (by decide) ?_ ?_
  · refine im_iload_n (pc := 30) dX6_laidSet_30 rfl rfl ?_
    exact Im.outS (im_iretP (pc := 31) dX6_laidSet_31)
  · refine im_aload_n (pc := 10) dX6_laidSet_10 rfl rfl ?_
    refine im_iload_n (pc := 11) dX6_laidSet_11 rfl rfl ?_
    refine cl_X6_112 mo_isLaid_im (pc := 12) (by decide) dX6_laidSet_12 (Nat.le_of_ble_eq_true rfl) fun x51 => ?_
    refine im_if_eq (pc := 15) (tgt := 24) dX6_laidSet_15 (by decide) ?_ ?_
    · refine im_iinc (pc := 24) (v := (v2 + 1)) (lv' := [some (.inr v0), some (.inl v1), some (.inl (v2 + 1))]) dX6_laidSet_24 rfl rfl (by decide) rfl ?_
      refine im_goto (pc := 27) (tgt := 4) dX6_laidSet_27 (by decide) ?_
      exact Im.back [true, true, true] rfl rfl
    · refine im_iload_n (pc := 18) dX6_laidSet_18 rfl rfl ?_
      refine im_iconst (pc := 19) (v := 1) dX6_laidSet_19 (by decide) ?_
      refine im_iload_n (pc := 20) dX6_laidSet_20 rfl rfl ?_
      refine im_ishl (pc := 21) dX6_laidSet_21 ?_
      refine im_ior (pc := 22) dX6_laidSet_22 ?_
      refine im_istore_n (pc := 23) (lv' := [some (.inr v0), some (.inl (v1 ||| ((1 : Int32) <<< (v2 &&& 31)))), some (.inl v2)]) dX6_laidSet_23 rfl (by decide) rfl ?_
      refine im_iinc (pc := 24) (v := (v2 + 1)) (lv' := [some (.inr v0), some (.inl (v1 ||| ((1 : Int32) <<< (v2 &&& 31)))), some (.inl (v2 + 1))]) dX6_laidSet_24 rfl rfl (by decide) rfl ?_
      refine im_goto (pc := 27) (tgt := 4) dX6_laidSet_27 (by decide) ?_
      exact Im.back [true, true, true] rfl rfl
theorem mo_laidSet_L4_ok (X : CT) (v0 : Option Nat) (v1 : Int32) (v2 : Int32) (h : PH) : Im X (cX6_laidSet, 3, RX6, "laidSet", (some .int), 2) 4 [some (.inr v0), some (.inl v1), some (.inl v2)] [] h (mo_laidSet_L4 v0 v1 v2 h) (szP h) (kP X h) := by
  unfold mo_laidSet_L4
  exact Im.iter (lv := (fun s : Int32 × Int32 => [some (.inr v0), some (.inl s.1), some (.inl s.2)])) (hp := (fun s : Int32 × Int32 => h)) (fun s => mo_laidSet_b4_ok X v0 s.1 s.2 h) _ rfl rfl
noncomputable def mo_laidSet_0 (v0 : Option Nat) (h : PH) : Option (Int32) :=
  mo_laidSet_L4 v0 0 0 h
theorem mo_laidSet_0_ok (X : CT) (v0 : Option Nat) (h : PH) : Im X (cX6_laidSet, 3, RX6, "laidSet", (some .int), 2) 0 [some (.inr v0), none, none] [] h (mo_laidSet_0 v0 h) (szP h) (kP X h) := by
  unfold mo_laidSet_0
  refine im_iconst (pc := 0) (v := 0) dX6_laidSet_0 (by decide) ?_
  refine im_istore_n (pc := 1) (lv' := [some (.inr v0), some (.inl 0), none]) dX6_laidSet_1 rfl (by decide) rfl ?_
  refine im_iconst (pc := 2) (v := 0) dX6_laidSet_2 (by decide) ?_
  refine im_istore_n (pc := 3) (lv' := [some (.inr v0), some (.inl 0), some (.inl 0)]) dX6_laidSet_3 rfl (by decide) rfl ?_
  exact Im.drop [true, true, true] rfl (mo_laidSet_L4_ok X v0 0 0 h)
noncomputable def mo_laidSet (a0 : Option Nat) (h : PH) : Option (Int32) := grd (isC [5] a0 h) (mo_laidSet_0 a0 h)
theorem mo_laidSet_im : IM_X6_laidSet mo_laidSet 2 := by
  intro a0 h r e
  obtain ⟨e1, e2⟩ := grd_some e
  exact ⟨e1, SpI.ofP (k := 2) (plainFor_of_name (by decide)) rfl (fun X => Im.drop [true, false, false] rfl (mo_laidSet_0_ok X a0 h)) e2⟩
theorem cl_X6_380 {X : CT} {cc : ByteArray} {nL : Nat} {mn : String} {ret : Option FieldType} {d d0 : Nat} {τ : Type} {pc : Nat} {lv : List (Option PV)} {st : List PV} {h : PH} {sz : τ → Nat × Nat} {K : τ → Prop} {f : Option Nat → PH → Option (Int32)} (HR : IM_X6_laidSet f d0) {a0 : Option Nat} {g : Int32 → Option τ} (hd : d0 + 1 ≤ d) (hdg : decode cc pc = .ok (.invokevirtual 380, 3)) (hst : st.length ≤ 8) (kk : ∀ r, Im X (cc, nL, RX6, mn, ret, d) (pc + 3) lv (.inl r :: st) h (g r) sz K) : Im X (cc, nL, RX6, mn, ret, d) pc lv (.inr a0 :: st) h ((f a0 h).bind g) sz K := by
  refine im_cP (y := yX6_laidSet) (cY := cX6_laidSet) (nY := 3) (rY := (some .int)) (d' := d0) (av := [.inr a0]) (fun r e hX => ?_) (fun r e => (HR _ _ _ e).2) hd (by decide) hst rfl kk
  obtain ⟨a, c, fs, rfl, ec, hm⟩ := isC_some (HR _ _ _ e).1
  cases List.mem_singleton.mp hm
  exact cal_V (n := 0) hX (lw_V q1661 q1663 qs99 q112 q1664) (by decide +kernel) rfl rfl ec hdg

theorem cl_X6_377 {X : CT} {cc : ByteArray} {nL : Nat} {mn : String} {ret : Option FieldType} {d d0 : Nat} {τ : Type} {pc : Nat} {lv : List (Option PV)} {st : List PV} {h : PH} {sz : τ → Nat × Nat} {K : τ → Prop} {f : Option Nat → Int32 → PH → Option (Int32)} (HR : IM_X6_circleOf f d0) {a0 : Option Nat} {a1 : Int32} {g : Int32 → Option τ} (hd : d0 + 1 ≤ d) (hdg : decode cc pc = .ok (.invokevirtual 377, 3)) (hst : st.length ≤ 8) (kk : ∀ r, Im X (cc, nL, RX6, mn, ret, d) (pc + 3) lv (.inl r :: st) h (g r) sz K) : Im X (cc, nL, RX6, mn, ret, d) pc lv (.inl a1 :: .inr a0 :: st) h ((f a0 a1 h).bind g) sz K := by
  refine im_cP (y := yX6_circleOf) (cY := cX6_circleOf) (nY := 3) (rY := (some .int)) (d' := d0) (av := [.inr a0, .inl a1]) (fun r e hX => ?_) (fun r e => (HR _ _ _ _ e).2) hd (by decide) hst rfl kk
  obtain ⟨a, c, fs, rfl, ec, hm⟩ := isC_some (HR _ _ _ _ e).1
  cases List.mem_singleton.mp hm
  exact cal_V (n := 1) hX (lw_V q1657 q1659 qs98 q112 q1660) (by decide +kernel) rfl rfl ec hdg

def IM_X6_circles (f : Option Nat → Int32 → PH → Option (Int32)) (d : Nat) : Prop := ∀ (a0 : Option Nat) (a1 : Int32) (h : PH) (r : Int32), f a0 a1 h = some r → isC [5] a0 h = true ∧ SpI yX6_circles cX6_circles 5 (some .int) d [.inr a0, .inl a1] h r h
noncomputable def mo_circles_b50 (v0 : Option Nat) (v2 : Int32) (v3 : Int32) (v4 : Int32) (h : PH) : Option ((Int32 × Int32 × Int32) ⊕ (Int32)) :=
  (if 16 ≤ v4 then
  some (.inr v3)
  else
  (mo_has v2 v4 h).bind fun x51 =>
  (if x51 = 0 then
  some (.inl (v2, v3, (v4 + 1)))
  else
  (mo_circleOf v0 v4 h).bind fun x52 =>
  some (.inl ((v2 &&& (x52 ^^^ (-1))), (v3 + 1), (v4 + 1)))))
noncomputable def mo_circles_L50 (v0 : Option Nat) (v2 : Int32) (v3 : Int32) (v4 : Int32) (h : PH) : Option (Int32) :=
  iter (fun s : Int32 × Int32 × Int32 => mo_circles_b50 v0 s.1 s.2.1 s.2.2 h) (v2, v3, v4)
theorem mo_circles_b50_ok (X : CT) (v0 : Option Nat) (v2 : Int32) (v3 : Int32) (v4 : Int32) (h : PH) : Im X (cX6_circles, 5, RX6, "circles", (some .int), 7) 50 [some (.inr v0), none, some (.inl v2), some (.inl v3), some (.inl v4)] [] h (mo_circles_b50 v0 v2 v3 v4 h) (ez (fun s : Int32 × Int32 × Int32 => h) (szP h)) (ek X 50 (fun s : Int32 × Int32 × Int32 => [some (.inr v0), none, some (.inl s.1), some (.inl s.2.1), some (.inl s.2.2)]) (fun s : Int32 × Int32 × Int32 => h) (kP X h)) := by
  unfold mo_circles_b50
  refine im_iload (pc := 50) dX6_circles_50 rfl ?_
  refine im_bipush (pc := 52) (v := 16) dX6_circles_52 (by decide) ?_
  refine im_icmp_ge (pc := 54) (tgt := 90) dX6_circles_54 (by decide) ?_ ?_
  · refine im_iload_n (pc := 90) dX6_circles_90 rfl rfl ?_
    exact Im.outS (im_iretP (pc := 91) dX6_circles_91)
  · refine im_iload_n (pc := 57) dX6_circles_57 rfl rfl ?_
    refine im_iload (pc := 58) dX6_circles_58 rfl ?_
    refine cl_X6_288 mo_has_im (pc := 60) (by decide) dX6_circles_60 (Nat.le_of_ble_eq_true rfl) fun x51 => ?_
    refine im_if_ne (pc := 63) (tgt := 69) dX6_circles_63 (by decide) ?_ ?_
    · refine im_iload_n (pc := 69) dX6_circles_69 rfl rfl ?_
      refine im_aload_n (pc := 70) dX6_circles_70 rfl rfl ?_
      refine im_iload (pc := 71) dX6_circles_71 rfl ?_
      refine cl_X6_377 mo_circleOf_im (pc := 73) (by decide) dX6_circles_73 (Nat.le_of_ble_eq_true rfl) fun x52 => ?_
      refine im_iconst (pc := 76) (v := (-1)) dX6_circles_76 (by decide) ?_
      refine im_ixor (pc := 77) dX6_circles_77 ?_
      refine im_iand (pc := 78) dX6_circles_78 ?_
      refine im_istore_n (pc := 79) (lv' := [some (.inr v0), none, some (.inl (v2 &&& (x52 ^^^ (-1)))), some (.inl v3), some (.inl v4)]) dX6_circles_79 rfl (by decide) rfl ?_
      refine im_iload_n (pc := 80) dX6_circles_80 rfl rfl ?_
      refine im_iconst (pc := 81) (v := 1) dX6_circles_81 (by decide) ?_
      refine im_iadd (pc := 82) dX6_circles_82 ?_
      refine im_istore_n (pc := 83) (lv' := [some (.inr v0), none, some (.inl (v2 &&& (x52 ^^^ (-1)))), some (.inl (v3 + 1)), some (.inl v4)]) dX6_circles_83 rfl (by decide) rfl ?_
      refine im_iinc (pc := 84) (v := (v4 + 1)) (lv' := [some (.inr v0), none, some (.inl (v2 &&& (x52 ^^^ (-1)))), some (.inl (v3 + 1)), some (.inl (v4 + 1))]) dX6_circles_84 rfl rfl (by decide) rfl ?_
      refine im_goto (pc := 87) (tgt := 50) dX6_circles_87 (by decide) ?_
      exact Im.back [true, false, true, true, true] rfl rfl
    · refine im_goto (pc := 66) (tgt := 84) dX6_circles_66 (by decide) ?_
      refine im_iinc (pc := 84) (v := (v4 + 1)) (lv' := [some (.inr v0), none, some (.inl v2), some (.inl v3), some (.inl (v4 + 1))]) dX6_circles_84 rfl rfl (by decide) rfl ?_
      refine im_goto (pc := 87) (tgt := 50) dX6_circles_87 (by decide) ?_
      exact Im.back [true, false, true, true, true] rfl rfl
theorem mo_circles_L50_ok (X : CT) (v0 : Option Nat) (v2 : Int32) (v3 : Int32) (v4 : Int32) (h : PH) : Im X (cX6_circles, 5, RX6, "circles", (some .int), 7) 50 [some (.inr v0), none, some (.inl v2), some (.inl v3), some (.inl v4)] [] h (mo_circles_L50 v0 v2 v3 v4 h) (szP h) (kP X h) := by
  unfold mo_circles_L50
  exact Im.iter (lv := (fun s : Int32 × Int32 × Int32 => [some (.inr v0), none, some (.inl s.1), some (.inl s.2.1), some (.inl s.2.2)])) (hp := (fun s : Int32 × Int32 × Int32 => h)) (fun s => mo_circles_b50_ok X v0 s.1 s.2.1 s.2.2 h) _ rfl rfl
noncomputable def mo_circles_16 (v0 : Option Nat) (v1 : Int32) (h : PH) : Option (Int32) :=
  (if v1 = 100 then
  (mo_laidSet v0 h).bind fun x51 =>
  mo_circles_L50 v0 x51 0 0 h
  else
  (mo_isLaid v0 v1 h).bind fun x52 =>
  (if x52 = 0 then
  some (0)
  else
  (mo_circleOf v0 v1 h).bind fun x53 =>
  some (x53)))
theorem mo_circles_16_ok (X : CT) (v0 : Option Nat) (v1 : Int32) (h : PH) : Im X (cX6_circles, 5, RX6, "circles", (some .int), 7) 16 [some (.inr v0), some (.inl v1), none, none, none] [] h (mo_circles_16 v0 v1 h) (szP h) (kP X h) := by
  unfold mo_circles_16
  refine im_iload_n (pc := 16) dX6_circles_16 rfl rfl ?_
  refine im_bipush (pc := 17) (v := 100) dX6_circles_17 (by decide) ?_
  refine im_icmp_eq (pc := 19) (tgt := 40) dX6_circles_19 (by decide) ?_ ?_
  · refine im_aload_n (pc := 40) dX6_circles_40 rfl rfl ?_
    refine cl_X6_380 mo_laidSet_im (pc := 41) (by decide) dX6_circles_41 (Nat.le_of_ble_eq_true rfl) fun x51 => ?_
    refine im_istore_n (pc := 44) (lv' := [some (.inr v0), some (.inl v1), some (.inl x51), none, none]) dX6_circles_44 rfl (by decide) rfl ?_
    refine im_iconst (pc := 45) (v := 0) dX6_circles_45 (by decide) ?_
    refine im_istore_n (pc := 46) (lv' := [some (.inr v0), some (.inl v1), some (.inl x51), some (.inl 0), none]) dX6_circles_46 rfl (by decide) rfl ?_
    refine im_iconst (pc := 47) (v := 0) dX6_circles_47 (by decide) ?_
    refine im_istore (pc := 48) (lv' := [some (.inr v0), some (.inl v1), some (.inl x51), some (.inl 0), some (.inl 0)]) dX6_circles_48 (by decide) rfl ?_
    exact Im.drop [true, false, true, true, true] rfl (mo_circles_L50_ok X v0 x51 0 0 h)
  · refine im_aload_n (pc := 22) dX6_circles_22 rfl rfl ?_
    refine im_iload_n (pc := 23) dX6_circles_23 rfl rfl ?_
    refine cl_X6_112 mo_isLaid_im (pc := 24) (by decide) dX6_circles_24 (Nat.le_of_ble_eq_true rfl) fun x52 => ?_
    refine im_if_eq (pc := 27) (tgt := 38) dX6_circles_27 (by decide) ?_ ?_
    · refine im_iconst (pc := 38) (v := 0) dX6_circles_38 (by decide) ?_
      exact im_iretP (pc := 39) dX6_circles_39
    · refine im_aload_n (pc := 30) dX6_circles_30 rfl rfl ?_
      refine im_iload_n (pc := 31) dX6_circles_31 rfl rfl ?_
      refine cl_X6_377 mo_circleOf_im (pc := 32) (by decide) dX6_circles_32 (Nat.le_of_ble_eq_true rfl) fun x53 => ?_
      refine im_goto (pc := 35) (tgt := 39) dX6_circles_35 (by decide) ?_
      exact im_iretP (pc := 39) dX6_circles_39
noncomputable def mo_circles_0 (v0 : Option Nat) (v1 : Int32) (h : PH) : Option (Int32) :=
  (if v1 = 100 then
  mo_circles_16 v0 v1 h
  else
  (mo_isTold v0 v1 h).bind fun x51 =>
  (if x51 = 0 then
  some ((-1))
  else
  mo_circles_16 v0 v1 h))
theorem mo_circles_0_ok (X : CT) (v0 : Option Nat) (v1 : Int32) (h : PH) : Im X (cX6_circles, 5, RX6, "circles", (some .int), 7) 0 [some (.inr v0), some (.inl v1), none, none, none] [] h (mo_circles_0 v0 v1 h) (szP h) (kP X h) := by
  unfold mo_circles_0
  refine im_iload_n (pc := 0) dX6_circles_0 rfl rfl ?_
  refine im_bipush (pc := 1) (v := 100) dX6_circles_1 (by decide) ?_
  refine im_icmp_eq (pc := 3) (tgt := 16) dX6_circles_3 (by decide) ?_ ?_
  · exact Im.drop [true, true, false, false, false] rfl (mo_circles_16_ok X v0 v1 h)
  · refine im_aload_n (pc := 6) dX6_circles_6 rfl rfl ?_
    refine im_iload_n (pc := 7) dX6_circles_7 rfl rfl ?_
    refine cl_X6_108 mo_isTold_im (pc := 8) (by decide) dX6_circles_8 (Nat.le_of_ble_eq_true rfl) fun x51 => ?_
    refine im_if_ne (pc := 11) (tgt := 16) dX6_circles_11 (by decide) ?_ ?_
    · exact Im.drop [true, true, false, false, false] rfl (mo_circles_16_ok X v0 v1 h)
    · refine im_iconst (pc := 14) (v := (-1)) dX6_circles_14 (by decide) ?_
      exact im_iretP (pc := 15) dX6_circles_15
noncomputable def mo_circles (a0 : Option Nat) (a1 : Int32) (h : PH) : Option (Int32) := grd (isC [5] a0 h) (mo_circles_0 a0 a1 h)
theorem mo_circles_im : IM_X6_circles mo_circles 7 := by
  intro a0 a1 h r e
  obtain ⟨e1, e2⟩ := grd_some e
  exact ⟨e1, SpI.ofP (k := 3) (plainFor_of_name (by decide)) rfl (fun X => Im.drop [true, true, false, false, false] rfl (mo_circles_0_ok X a0 a1 h)) e2⟩
def IM_X6_from (f : Option Nat → Int32 → Int32 → PH → Option (Int32)) (d : Nat) : Prop := ∀ (a0 : Option Nat) (a1 : Int32) (a2 : Int32) (h : PH) (r : Int32), f a0 a1 a2 h = some r → isC [5] a0 h = true ∧ SpI yX6_from cX6_from 5 (some .int) d [.inr a0, .inl a1, .inl a2] h r h
noncomputable def mo_from_b56 (v0 : Option Nat) (v2 : Int32) (v3 : Int32) (v4 : Int32) (h : PH) : Option ((Int32 × Int32) ⊕ (Int32)) :=
  (mo_has v3 v2 h).bind fun x51 =>
  (if x51 = 0 then
  (mo_andBeside v0 v3 h).bind fun x52 =>
  some (.inl (x52, (v4 + 1)))
  else
  some (.inr v4))
noncomputable def mo_from_L56 (v0 : Option Nat) (v2 : Int32) (v3 : Int32) (v4 : Int32) (h : PH) : Option (Int32) :=
  iter (fun s : Int32 × Int32 => mo_from_b56 v0 v2 s.1 s.2 h) (v3, v4)
theorem mo_from_b56_ok (X : CT) (v0 : Option Nat) (v2 : Int32) (v3 : Int32) (v4 : Int32) (h : PH) : Im X (cX6_from, 5, RX6, "from", (some .int), 7) 56 [some (.inr v0), none, some (.inl v2), some (.inl v3), some (.inl v4)] [] h (mo_from_b56 v0 v2 v3 v4 h) (ez (fun s : Int32 × Int32 => h) (szP h)) (ek X 56 (fun s : Int32 × Int32 => [some (.inr v0), none, some (.inl v2), some (.inl s.1), some (.inl s.2)]) (fun s : Int32 × Int32 => h) (kP X h)) := by
  unfold mo_from_b56
  refine im_iload_n (pc := 56) dX6_from_56 rfl rfl ?_
  refine im_iload_n (pc := 57) dX6_from_57 rfl rfl ?_
  refine cl_X6_288 mo_has_im (pc := 58) (by decide) dX6_from_58 (Nat.le_of_ble_eq_true rfl) fun x51 => ?_
  refine im_if_ne (pc := 61) (tgt := 79) dX6_from_61 (by decide) ?_ ?_
  · refine im_iload (pc := 79) dX6_from_79 rfl ?_
    exact Im.outS (im_iretP (pc := 81) dX6_from_81)
  · refine im_aload_n (pc := 64) dX6_from_64 rfl rfl ?_
    refine im_iload_n (pc := 65) dX6_from_65 rfl rfl ?_
    refine cl_X6_374 mo_andBeside_im (pc := 66) (by decide) dX6_from_66 (Nat.le_of_ble_eq_true rfl) fun x52 => ?_
    refine im_istore_n (pc := 69) (lv' := [some (.inr v0), none, some (.inl v2), some (.inl x52), some (.inl v4)]) dX6_from_69 rfl (by decide) rfl ?_
    refine im_iload (pc := 70) dX6_from_70 rfl ?_
    refine im_iconst (pc := 72) (v := 1) dX6_from_72 (by decide) ?_
    refine im_iadd (pc := 73) dX6_from_73 ?_
    refine im_istore (pc := 74) (lv' := [some (.inr v0), none, some (.inl v2), some (.inl x52), some (.inl (v4 + 1))]) dX6_from_74 (by decide) rfl ?_
    refine im_goto (pc := 76) (tgt := 56) dX6_from_76 (by decide) ?_
    exact Im.back [true, false, true, true, true] rfl rfl
theorem mo_from_L56_ok (X : CT) (v0 : Option Nat) (v2 : Int32) (v3 : Int32) (v4 : Int32) (h : PH) : Im X (cX6_from, 5, RX6, "from", (some .int), 7) 56 [some (.inr v0), none, some (.inl v2), some (.inl v3), some (.inl v4)] [] h (mo_from_L56 v0 v2 v3 v4 h) (szP h) (kP X h) := by
  unfold mo_from_L56
  exact Im.iter (lv := (fun s : Int32 × Int32 => [some (.inr v0), none, some (.inl v2), some (.inl s.1), some (.inl s.2)])) (hp := (fun s : Int32 × Int32 => h)) (fun s => mo_from_b56_ok X v0 v2 s.1 s.2 h) _ rfl rfl
noncomputable def mo_from_0 (v0 : Option Nat) (v1 : Int32) (v2 : Int32) (h : PH) : Option (Int32) :=
  (mo_isTold v0 v1 h).bind fun x51 =>
  (if x51 = 0 then
  some ((-1))
  else
  (mo_isTold v0 v2 h).bind fun x52 =>
  (if x52 = 0 then
  some ((-1))
  else
  (mo_isLaid v0 v1 h).bind fun x53 =>
  (if x53 = 0 then
  some ((-2))
  else
  (mo_isLaid v0 v2 h).bind fun x54 =>
  (if x54 = 0 then
  some ((-2))
  else
  (mo_circleOf v0 v1 h).bind fun x55 =>
  (mo_has x55 v2 h).bind fun x56 =>
  (if x56 = 0 then
  some ((-2))
  else
  mo_from_L56 v0 v2 ((1 : Int32) <<< (v1 &&& 31)) 0 h)))))
theorem mo_from_0_ok (X : CT) (v0 : Option Nat) (v1 : Int32) (v2 : Int32) (h : PH) : Im X (cX6_from, 5, RX6, "from", (some .int), 7) 0 [some (.inr v0), some (.inl v1), some (.inl v2), none, none] [] h (mo_from_0 v0 v1 v2 h) (szP h) (kP X h) := by
  unfold mo_from_0
  refine im_aload_n (pc := 0) dX6_from_0 rfl rfl ?_
  refine im_iload_n (pc := 1) dX6_from_1 rfl rfl ?_
  refine cl_X6_108 mo_isTold_im (pc := 2) (by decide) dX6_from_2 (Nat.le_of_ble_eq_true rfl) fun x51 => ?_
  refine im_if_eq (pc := 5) (tgt := 16) dX6_from_5 (by decide) ?_ ?_
  · refine im_iconst (pc := 16) (v := (-1)) dX6_from_16 (by decide) ?_
    exact im_iretP (pc := 17) dX6_from_17
  · refine im_aload_n (pc := 8) dX6_from_8 rfl rfl ?_
    refine im_iload_n (pc := 9) dX6_from_9 rfl rfl ?_
    refine cl_X6_108 mo_isTold_im (pc := 10) (by decide) dX6_from_10 (Nat.le_of_ble_eq_true rfl) fun x52 => ?_
    refine im_if_ne (pc := 13) (tgt := 18) dX6_from_13 (by decide) ?_ ?_
    · refine im_aload_n (pc := 18) dX6_from_18 rfl rfl ?_
      refine im_iload_n (pc := 19) dX6_from_19 rfl rfl ?_
      refine cl_X6_112 mo_isLaid_im (pc := 20) (by decide) dX6_from_20 (Nat.le_of_ble_eq_true rfl) fun x53 => ?_
      refine im_if_eq (pc := 23) (tgt := 46) dX6_from_23 (by decide) ?_ ?_
      · refine im_bipush (pc := 46) (v := (-2)) dX6_from_46 (by decide) ?_
        exact im_iretP (pc := 48) dX6_from_48
      · refine im_aload_n (pc := 26) dX6_from_26 rfl rfl ?_
        refine im_iload_n (pc := 27) dX6_from_27 rfl rfl ?_
        refine cl_X6_112 mo_isLaid_im (pc := 28) (by decide) dX6_from_28 (Nat.le_of_ble_eq_true rfl) fun x54 => ?_
        refine im_if_eq (pc := 31) (tgt := 46) dX6_from_31 (by decide) ?_ ?_
        · refine im_bipush (pc := 46) (v := (-2)) dX6_from_46 (by decide) ?_
          exact im_iretP (pc := 48) dX6_from_48
        · refine im_aload_n (pc := 34) dX6_from_34 rfl rfl ?_
          refine im_iload_n (pc := 35) dX6_from_35 rfl rfl ?_
          refine cl_X6_377 mo_circleOf_im (pc := 36) (by decide) dX6_from_36 (Nat.le_of_ble_eq_true rfl) fun x55 => ?_
          refine im_iload_n (pc := 39) dX6_from_39 rfl rfl ?_
          refine cl_X6_288 mo_has_im (pc := 40) (by decide) dX6_from_40 (Nat.le_of_ble_eq_true rfl) fun x56 => ?_
          refine im_if_ne (pc := 43) (tgt := 49) dX6_from_43 (by decide) ?_ ?_
          · refine im_iconst (pc := 49) (v := 1) dX6_from_49 (by decide) ?_
            refine im_iload_n (pc := 50) dX6_from_50 rfl rfl ?_
            refine im_ishl (pc := 51) dX6_from_51 ?_
            refine im_istore_n (pc := 52) (lv' := [some (.inr v0), some (.inl v1), some (.inl v2), some (.inl ((1 : Int32) <<< (v1 &&& 31))), none]) dX6_from_52 rfl (by decide) rfl ?_
            refine im_iconst (pc := 53) (v := 0) dX6_from_53 (by decide) ?_
            refine im_istore (pc := 54) (lv' := [some (.inr v0), some (.inl v1), some (.inl v2), some (.inl ((1 : Int32) <<< (v1 &&& 31))), some (.inl 0)]) dX6_from_54 (by decide) rfl ?_
            exact Im.drop [true, false, true, true, true] rfl (mo_from_L56_ok X v0 v2 ((1 : Int32) <<< (v1 &&& 31)) 0 h)
          · refine im_bipush (pc := 46) (v := (-2)) dX6_from_46 (by decide) ?_
            exact im_iretP (pc := 48) dX6_from_48
    · refine im_iconst (pc := 16) (v := (-1)) dX6_from_16 (by decide) ?_
      exact im_iretP (pc := 17) dX6_from_17
noncomputable def mo_from (a0 : Option Nat) (a1 : Int32) (a2 : Int32) (h : PH) : Option (Int32) := grd (isC [5] a0 h) (mo_from_0 a0 a1 a2 h)
theorem mo_from_im : IM_X6_from mo_from 7 := by
  intro a0 a1 a2 h r e
  obtain ⟨e1, e2⟩ := grd_some e
  exact ⟨e1, SpI.ofP (k := 2) (plainFor_of_name (by decide)) rfl (fun X => Im.drop [true, true, true, false, false] rfl (mo_from_0_ok X a0 a1 a2 h)) e2⟩
def IM_X6_octet (f : Option Nat → Int32 → PH → Option (Int32)) (d : Nat) : Prop := ∀ (a0 : Option Nat) (a1 : Int32) (h : PH) (r : Int32), f a0 a1 h = some r → isC [5] a0 h = true ∧ SpI yX6_octet cX6_octet 2 (some .int) d [.inr a0, .inl a1] h r h
noncomputable def mo_octet_0 (v0 : Option Nat) (v1 : Int32) (h : PH) : Option (Int32) :=
  (gfr [5] 3 v0 h).bind fun r51 =>
  (ald 1 r51 v1 h).bind fun x52 =>
  some ((x52 &&& 255))
theorem mo_octet_0_ok (X : CT) (v0 : Option Nat) (v1 : Int32) (h : PH) : Im X (cX6_octet, 2, RX6, "octet", (some .int), 1) 0 [some (.inr v0), some (.inl v1)] [] h (mo_octet_0 v0 v1 h) (szP h) (kP X h) := by
  unfold mo_octet_0
  refine im_aload_n (pc := 0) dX6_octet_0 rfl rfl ?_
  refine im_gr (pc := 1) fl_X6_19 dX6_octet_1 fun r51 => ?_
  refine im_iload_n (pc := 4) dX6_octet_4 rfl rfl ?_
  refine im_bald (pc := 5) dX6_octet_5 fun x52 => ?_
  refine im_sipush (pc := 6) (v := 255) dX6_octet_6 (by decide) ?_
  refine im_iand (pc := 9) dX6_octet_9 ?_
  exact im_iretP (pc := 10) dX6_octet_10
noncomputable def mo_octet (a0 : Option Nat) (a1 : Int32) (h : PH) : Option (Int32) := grd (isC [5] a0 h) (mo_octet_0 a0 a1 h)
theorem mo_octet_im : IM_X6_octet mo_octet 1 := by
  intro a0 a1 h r e
  obtain ⟨e1, e2⟩ := grd_some e
  exact ⟨e1, SpI.ofP (k := 0) (plainFor_of_name (by decide)) rfl (fun X => Im.drop [true, true] rfl (mo_octet_0_ok X a0 a1 h)) e2⟩
theorem cl_X6_383 {X : CT} {cc : ByteArray} {nL : Nat} {mn : String} {ret : Option FieldType} {d d0 : Nat} {τ : Type} {pc : Nat} {lv : List (Option PV)} {st : List PV} {h : PH} {sz : τ → Nat × Nat} {K : τ → Prop} {f : Option Nat → Int32 → PH → Option (Int32)} (HR : IM_X6_octet f d0) {a0 : Option Nat} {a1 : Int32} {g : Int32 → Option τ} (hd : d0 + 1 ≤ d) (hdg : decode cc pc = .ok (.invokevirtual 383, 3)) (hst : st.length ≤ 8) (kk : ∀ r, Im X (cc, nL, RX6, mn, ret, d) (pc + 3) lv (.inl r :: st) h (g r) sz K) : Im X (cc, nL, RX6, mn, ret, d) pc lv (.inl a1 :: .inr a0 :: st) h ((f a0 a1 h).bind g) sz K := by
  refine im_cP (y := yX6_octet) (cY := cX6_octet) (nY := 2) (rY := (some .int)) (d' := d0) (av := [.inr a0, .inl a1]) (fun r e hX => ?_) (fun r e => (HR _ _ _ _ e).2) hd (by decide) hst rfl kk
  obtain ⟨a, c, fs, rfl, ec, hm⟩ := isC_some (HR _ _ _ _ e).1
  cases List.mem_singleton.mp hm
  exact cal_V (n := 1) hX (lw_V q1677 q1679 qs101 q112 q1680) (by decide +kernel) rfl rfl ec hdg

def IM_X6_sayingOf (f : Option Nat → Int32 → PH → Option (Int32)) (d : Nat) : Prop := ∀ (a0 : Option Nat) (a1 : Int32) (h : PH) (r : Int32), f a0 a1 h = some r → isC [5] a0 h = true ∧ SpI yX6_sayingOf cX6_sayingOf 2 (some .int) d [.inr a0, .inl a1] h r h
noncomputable def mo_sayingOf_0 (v0 : Option Nat) (v1 : Int32) (h : PH) : Option (Int32) :=
  (mo_octet v0 (2 * v1) h).bind fun x51 =>
  (mo_octet v0 ((2 * v1) + 1) h).bind fun x52 =>
  some (((256 * x51) + x52))
theorem mo_sayingOf_0_ok (X : CT) (v0 : Option Nat) (v1 : Int32) (h : PH) : Im X (cX6_sayingOf, 2, RX6, "sayingOf", (some .int), 2) 0 [some (.inr v0), some (.inl v1)] [] h (mo_sayingOf_0 v0 v1 h) (szP h) (kP X h) := by
  unfold mo_sayingOf_0
  refine im_sipush (pc := 0) (v := 256) dX6_sayingOf_0 (by decide) ?_
  refine im_aload_n (pc := 3) dX6_sayingOf_3 rfl rfl ?_
  refine im_iconst (pc := 4) (v := 2) dX6_sayingOf_4 (by decide) ?_
  refine im_iload_n (pc := 5) dX6_sayingOf_5 rfl rfl ?_
  refine im_imul (pc := 6) dX6_sayingOf_6 ?_
  refine cl_X6_383 mo_octet_im (pc := 7) (by decide) dX6_sayingOf_7 (Nat.le_of_ble_eq_true rfl) fun x51 => ?_
  refine im_imul (pc := 10) dX6_sayingOf_10 ?_
  refine im_aload_n (pc := 11) dX6_sayingOf_11 rfl rfl ?_
  refine im_iconst (pc := 12) (v := 2) dX6_sayingOf_12 (by decide) ?_
  refine im_iload_n (pc := 13) dX6_sayingOf_13 rfl rfl ?_
  refine im_imul (pc := 14) dX6_sayingOf_14 ?_
  refine im_iconst (pc := 15) (v := 1) dX6_sayingOf_15 (by decide) ?_
  refine im_iadd (pc := 16) dX6_sayingOf_16 ?_
  refine cl_X6_383 mo_octet_im (pc := 17) (by decide) dX6_sayingOf_17 (Nat.le_of_ble_eq_true rfl) fun x52 => ?_
  refine im_iadd (pc := 20) dX6_sayingOf_20 ?_
  exact im_iretP (pc := 21) dX6_sayingOf_21
noncomputable def mo_sayingOf (a0 : Option Nat) (a1 : Int32) (h : PH) : Option (Int32) := grd (isC [5] a0 h) (mo_sayingOf_0 a0 a1 h)
theorem mo_sayingOf_im : IM_X6_sayingOf mo_sayingOf 2 := by
  intro a0 a1 h r e
  obtain ⟨e1, e2⟩ := grd_some e
  exact ⟨e1, SpI.ofP (k := 0) (plainFor_of_name (by decide)) rfl (fun X => Im.drop [true, true] rfl (mo_sayingOf_0_ok X a0 a1 h)) e2⟩
theorem fl_X6_95 : ∀ c ∈ [5], FL RX6 95 c 46 := List.forall_mem_cons.mpr ⟨⟨RX6, TX6, 50, rfl, in_X6, by decide, Or.inl q1223⟩, fun _ h => absurd h List.not_mem_nil⟩
theorem cl_X6_386 {X : CT} {cc : ByteArray} {nL : Nat} {mn : String} {ret : Option FieldType} {d d0 : Nat} {τ : Type} {pc : Nat} {lv : List (Option PV)} {st : List PV} {h : PH} {sz : τ → Nat × Nat} {K : τ → Prop} {f : Option Nat → Int32 → PH → Option (Int32)} (HR : IM_X6_sayingOf f d0) {a0 : Option Nat} {a1 : Int32} {g : Int32 → Option τ} (hd : d0 + 1 ≤ d) (hdg : decode cc pc = .ok (.invokevirtual 386, 3)) (hst : st.length ≤ 8) (kk : ∀ r, Im X (cc, nL, RX6, mn, ret, d) (pc + 3) lv (.inl r :: st) h (g r) sz K) : Im X (cc, nL, RX6, mn, ret, d) pc lv (.inl a1 :: .inr a0 :: st) h ((f a0 a1 h).bind g) sz K := by
  refine im_cP (y := yX6_sayingOf) (cY := cX6_sayingOf) (nY := 2) (rY := (some .int)) (d' := d0) (av := [.inr a0, .inl a1]) (fun r e hX => ?_) (fun r e => (HR _ _ _ _ e).2) hd (by decide) hst rfl kk
  obtain ⟨a, c, fs, rfl, ec, hm⟩ := isC_some (HR _ _ _ _ e).1
  cases List.mem_singleton.mp hm
  exact cal_V (n := 1) hX (lw_V q1673 q1675 qs100 q112 q1676) (by decide +kernel) rfl rfl ec hdg

def IM_X6_thread (f : Option Nat → Int32 → Int32 → PH → Option (Int32 × PH)) (d : Nat) : Prop := ∀ (a0 : Option Nat) (a1 : Int32) (a2 : Int32) (h : PH) (r : Int32) (h' : PH), f a0 a1 a2 h = some (r, h') → isC [5] a0 h = true ∧ SpI yX6_thread cX6_thread 7 (some .int) d [.inr a0, .inl a1, .inl a2] h r h'
noncomputable def mo_thread_b69 (v0 : Option Nat) (v1 : Int32) (v2 : Int32) (v3 : Int32) (v4 : Int32) (v5 : Int32) (h : PH) : Option ((Int32 × PH) ⊕ ((Int32 × Int32 × PH) ⊕ (Int32 × PH))) :=
  (if v1 ≤ v5 then
  (gfr [5] 46 v0 h).bind fun r51 =>
  (ald 0 r51 v4 h).bind fun x52 =>
  (mo_max v3 x52 h).bind fun x53 =>
  some (.inr (.inl (x53, (v4 + (-1)), h)))
  else
  (mo_sayingOf v0 v4 h).bind fun x54 =>
  (mo_sayingOf v0 v5 h).bind fun x55 =>
  (if (x54 &&& x55) = 0 then
  some (.inl ((v5 + 1), h))
  else
  (gfr [5] 46 v0 h).bind fun r56 =>
  (gfr [5] 46 v0 h).bind fun r57 =>
  (ald 0 r57 v4 h).bind fun x58 =>
  (gfr [5] 46 v0 h).bind fun r59 =>
  (ald 0 r59 v5 h).bind fun x60 =>
  (mo_max x58 (x60 + 1) h).bind fun x61 =>
  (ast 0 r56 v4 x61 h).bind fun h62 =>
  some (.inl ((v5 + 1), h62))))
noncomputable def mo_thread_L69 (v0 : Option Nat) (v1 : Int32) (v2 : Int32) (v3 : Int32) (v4 : Int32) (v5 : Int32) (h : PH) : Option ((Int32 × Int32 × PH) ⊕ (Int32 × PH)) :=
  iter (fun s : Int32 × PH => mo_thread_b69 v0 v1 v2 v3 v4 s.1 s.2) (v5, h)
theorem mo_thread_b69_ok (X : CT) (v0 : Option Nat) (v1 : Int32) (v2 : Int32) (v3 : Int32) (v4 : Int32) (v5 : Int32) (h : PH) : Im X (cX6_thread, 7, RX6, "thread", (some .int), 3) 69 [some (.inr v0), some (.inl v1), some (.inl v2), some (.inl v3), some (.inl v4), some (.inl v5), none] [] h (mo_thread_b69 v0 v1 v2 v3 v4 v5 h) (ez (fun s : Int32 × PH => s.2) (ez (fun s : Int32 × Int32 × PH => s.2.2) szI)) (ek X 69 (fun s : Int32 × PH => [some (.inr v0), some (.inl v1), some (.inl v2), some (.inl v3), some (.inl v4), some (.inl s.1), none]) (fun s : Int32 × PH => s.2) (ek X 50 (fun s : Int32 × Int32 × PH => [some (.inr v0), some (.inl v1), some (.inl v2), some (.inl s.1), some (.inl s.2.1), none, none]) (fun s : Int32 × Int32 × PH => s.2.2) (kI X))) := by
  unfold mo_thread_b69
  refine im_iload (pc := 69) dX6_thread_69 rfl ?_
  refine im_iload_n (pc := 71) dX6_thread_71 rfl rfl ?_
  refine im_icmp_ge (pc := 72) (tgt := 123) dX6_thread_72 (by decide) ?_ ?_
  · refine im_iload_n (pc := 123) dX6_thread_123 rfl rfl ?_
    refine im_aload_n (pc := 124) dX6_thread_124 rfl rfl ?_
    refine im_gr (pc := 125) fl_X6_95 dX6_thread_125 fun r51 => ?_
    refine im_iload (pc := 128) dX6_thread_128 rfl ?_
    refine im_iald (pc := 130) dX6_thread_130 fun x52 => ?_
    refine cl_X6_310 mo_max_im (pc := 131) (by decide) dX6_thread_131 (Nat.le_of_ble_eq_true rfl) fun x53 => ?_
    refine im_istore_n (pc := 134) (lv' := [some (.inr v0), some (.inl v1), some (.inl v2), some (.inl x53), some (.inl v4), some (.inl v5), none]) dX6_thread_134 rfl (by decide) rfl ?_
    refine im_iinc (pc := 135) (v := (v4 + (-1))) (lv' := [some (.inr v0), some (.inl v1), some (.inl v2), some (.inl x53), some (.inl (v4 + (-1))), some (.inl v5), none]) dX6_thread_135 rfl rfl (by decide) rfl ?_
    refine im_goto (pc := 138) (tgt := 50) dX6_thread_138 (by decide) ?_
    exact Im.outS (Im.back [true, true, true, true, true, false, false] rfl rfl)
  · refine im_aload_n (pc := 75) dX6_thread_75 rfl rfl ?_
    refine im_iload (pc := 76) dX6_thread_76 rfl ?_
    refine cl_X6_386 mo_sayingOf_im (pc := 78) (by decide) dX6_thread_78 (Nat.le_of_ble_eq_true rfl) fun x54 => ?_
    refine im_aload_n (pc := 81) dX6_thread_81 rfl rfl ?_
    refine im_iload (pc := 82) dX6_thread_82 rfl ?_
    refine cl_X6_386 mo_sayingOf_im (pc := 84) (by decide) dX6_thread_84 (Nat.le_of_ble_eq_true rfl) fun x55 => ?_
    refine im_iand (pc := 87) dX6_thread_87 ?_
    refine im_if_eq (pc := 88) (tgt := 117) dX6_thread_88 (by decide) ?_ ?_
    · refine im_iinc (pc := 117) (v := (v5 + 1)) (lv' := [some (.inr v0), some (.inl v1), some (.inl v2), some (.inl v3), some (.inl v4), some (.inl (v5 + 1)), none]) dX6_thread_117 rfl rfl (by decide) rfl ?_
      refine im_goto (pc := 120) (tgt := 69) dX6_thread_120 (by decide) ?_
      exact Im.back [true, true, true, true, true, true, false] rfl rfl
    · refine im_aload_n (pc := 91) dX6_thread_91 rfl rfl ?_
      refine im_gr (pc := 92) fl_X6_95 dX6_thread_92 fun r56 => ?_
      refine im_iload (pc := 95) dX6_thread_95 rfl ?_
      refine im_aload_n (pc := 97) dX6_thread_97 rfl rfl ?_
      refine im_gr (pc := 98) fl_X6_95 dX6_thread_98 fun r57 => ?_
      refine im_iload (pc := 101) dX6_thread_101 rfl ?_
      refine im_iald (pc := 103) dX6_thread_103 fun x58 => ?_
      refine im_aload_n (pc := 104) dX6_thread_104 rfl rfl ?_
      refine im_gr (pc := 105) fl_X6_95 dX6_thread_105 fun r59 => ?_
      refine im_iload (pc := 108) dX6_thread_108 rfl ?_
      refine im_iald (pc := 110) dX6_thread_110 fun x60 => ?_
      refine im_iconst (pc := 111) (v := 1) dX6_thread_111 (by decide) ?_
      refine im_iadd (pc := 112) dX6_thread_112 ?_
      refine cl_X6_310 mo_max_im (pc := 113) (by decide) dX6_thread_113 (Nat.le_of_ble_eq_true rfl) fun x61 => ?_
      refine im_iast (pc := 116) dX6_thread_116 fun h62 => ?_
      refine im_iinc (pc := 117) (v := (v5 + 1)) (lv' := [some (.inr v0), some (.inl v1), some (.inl v2), some (.inl v3), some (.inl v4), some (.inl (v5 + 1)), none]) dX6_thread_117 rfl rfl (by decide) rfl ?_
      refine im_goto (pc := 120) (tgt := 69) dX6_thread_120 (by decide) ?_
      exact Im.back [true, true, true, true, true, true, false] rfl rfl
theorem mo_thread_L69_ok (X : CT) (v0 : Option Nat) (v1 : Int32) (v2 : Int32) (v3 : Int32) (v4 : Int32) (v5 : Int32) (h : PH) : Im X (cX6_thread, 7, RX6, "thread", (some .int), 3) 69 [some (.inr v0), some (.inl v1), some (.inl v2), some (.inl v3), some (.inl v4), some (.inl v5), none] [] h (mo_thread_L69 v0 v1 v2 v3 v4 v5 h) (ez (fun s : Int32 × Int32 × PH => s.2.2) szI) (ek X 50 (fun s : Int32 × Int32 × PH => [some (.inr v0), some (.inl v1), some (.inl v2), some (.inl s.1), some (.inl s.2.1), none, none]) (fun s : Int32 × Int32 × PH => s.2.2) (kI X)) := by
  unfold mo_thread_L69
  exact Im.iter (lv := (fun s : Int32 × PH => [some (.inr v0), some (.inl v1), some (.inl v2), some (.inl v3), some (.inl v4), some (.inl s.1), none])) (hp := (fun s : Int32 × PH => s.2)) (fun s => mo_thread_b69_ok X v0 v1 v2 v3 v4 s.1 s.2) _ rfl rfl
noncomputable def mo_thread_b195 (v0 : Option Nat) (v2 : Int32) (v3 : Int32) (v4 : Int32) (v5 : Int32) (v6 : Int32) (h : PH) : Option ((Int32) ⊕ ((Int32 × Int32) ⊕ (Int32 × PH))) :=
  (gfr [5] 46 v0 h).bind fun r51 =>
  (ald 0 r51 v6 h).bind fun x52 =>
  (if x52 = (v3 - v5) then
  (mo_sayingOf v0 v4 h).bind fun x53 =>
  (mo_sayingOf v0 v6 h).bind fun x54 =>
  (if (x53 &&& x54) = 0 then
  some (.inl (v6 + 1))
  else
  some (.inr (.inl (v6, (v5 + 1)))))
  else
  some (.inl (v6 + 1)))
noncomputable def mo_thread_L195 (v0 : Option Nat) (v2 : Int32) (v3 : Int32) (v4 : Int32) (v5 : Int32) (v6 : Int32) (h : PH) : Option ((Int32 × Int32) ⊕ (Int32 × PH)) :=
  iter (fun s : Int32 => mo_thread_b195 v0 v2 v3 v4 v5 s h) v6
theorem mo_thread_b195_ok (X : CT) (v0 : Option Nat) (v2 : Int32) (v3 : Int32) (v4 : Int32) (v5 : Int32) (v6 : Int32) (h : PH) : Im X (cX6_thread, 7, RX6, "thread", (some .int), 3) 195 [some (.inr v0), none, some (.inl v2), some (.inl v3), some (.inl v4), some (.inl v5), some (.inl v6)] [] h (mo_thread_b195 v0 v2 v3 v4 v5 v6 h) (ez (fun s : Int32 => h) (ez (fun s : Int32 × Int32 => h) szI)) (ek X 195 (fun s : Int32 => [some (.inr v0), none, some (.inl v2), some (.inl v3), some (.inl v4), some (.inl v5), some (.inl s)]) (fun s : Int32 => h) (ek X 183 (fun s : Int32 × Int32 => [some (.inr v0), none, some (.inl v2), some (.inl v3), some (.inl s.1), some (.inl s.2), none]) (fun s : Int32 × Int32 => h) (kI X))) := by
  unfold mo_thread_b195
  refine im_aload_n (pc := 195) dX6_thread_195 rfl rfl ?_
  refine im_gr (pc := 196) fl_X6_95 dX6_thread_196 fun r51 => ?_
  refine im_iload (pc := 199) dX6_thread_199 rfl ?_
  refine im_iald (pc := 201) dX6_thread_201 fun x52 => ?_
  refine im_iload_n (pc := 202) dX6_thread_202 rfl rfl ?_
  refine im_iload (pc := 203) dX6_thread_203 rfl ?_
  refine im_isub (pc := 205) dX6_thread_205 ?_
  refine im_icmp_ne (pc := 206) (tgt := 225) dX6_thread_206 (by decide) ?_ ?_
  · refine im_iload (pc := 225) dX6_thread_225 rfl ?_
    refine im_iconst (pc := 227) (v := 1) dX6_thread_227 (by decide) ?_
    refine im_iadd (pc := 228) dX6_thread_228 ?_
    refine im_istore (pc := 229) (lv' := [some (.inr v0), none, some (.inl v2), some (.inl v3), some (.inl v4), some (.inl v5), some (.inl (v6 + 1))]) dX6_thread_229 (by decide) rfl ?_
    refine im_goto (pc := 231) (tgt := 195) dX6_thread_231 (by decide) ?_
    exact Im.back [true, false, true, true, true, true, true] rfl rfl
  · refine im_aload_n (pc := 209) dX6_thread_209 rfl rfl ?_
    refine im_iload (pc := 210) dX6_thread_210 rfl ?_
    refine cl_X6_386 mo_sayingOf_im (pc := 212) (by decide) dX6_thread_212 (Nat.le_of_ble_eq_true rfl) fun x53 => ?_
    refine im_aload_n (pc := 215) dX6_thread_215 rfl rfl ?_
    refine im_iload (pc := 216) dX6_thread_216 rfl ?_
    refine cl_X6_386 mo_sayingOf_im (pc := 218) (by decide) dX6_thread_218 (Nat.le_of_ble_eq_true rfl) fun x54 => ?_
    refine im_iand (pc := 221) dX6_thread_221 ?_
    refine im_if_ne (pc := 222) (tgt := 234) dX6_thread_222 (by decide) ?_ ?_
    · refine im_iload (pc := 234) dX6_thread_234 rfl ?_
      refine im_istore (pc := 236) (lv' := [some (.inr v0), none, some (.inl v2), some (.inl v3), some (.inl v6), some (.inl v5), some (.inl v6)]) dX6_thread_236 (by decide) rfl ?_
      refine im_iinc (pc := 238) (v := (v5 + 1)) (lv' := [some (.inr v0), none, some (.inl v2), some (.inl v3), some (.inl v6), some (.inl (v5 + 1)), some (.inl v6)]) dX6_thread_238 rfl rfl (by decide) rfl ?_
      refine im_goto (pc := 241) (tgt := 183) dX6_thread_241 (by decide) ?_
      exact Im.outS (Im.back [true, false, true, true, true, true, false] rfl rfl)
    · refine im_iload (pc := 225) dX6_thread_225 rfl ?_
      refine im_iconst (pc := 227) (v := 1) dX6_thread_227 (by decide) ?_
      refine im_iadd (pc := 228) dX6_thread_228 ?_
      refine im_istore (pc := 229) (lv' := [some (.inr v0), none, some (.inl v2), some (.inl v3), some (.inl v4), some (.inl v5), some (.inl (v6 + 1))]) dX6_thread_229 (by decide) rfl ?_
      refine im_goto (pc := 231) (tgt := 195) dX6_thread_231 (by decide) ?_
      exact Im.back [true, false, true, true, true, true, true] rfl rfl
theorem mo_thread_L195_ok (X : CT) (v0 : Option Nat) (v2 : Int32) (v3 : Int32) (v4 : Int32) (v5 : Int32) (v6 : Int32) (h : PH) : Im X (cX6_thread, 7, RX6, "thread", (some .int), 3) 195 [some (.inr v0), none, some (.inl v2), some (.inl v3), some (.inl v4), some (.inl v5), some (.inl v6)] [] h (mo_thread_L195 v0 v2 v3 v4 v5 v6 h) (ez (fun s : Int32 × Int32 => h) szI) (ek X 183 (fun s : Int32 × Int32 => [some (.inr v0), none, some (.inl v2), some (.inl v3), some (.inl s.1), some (.inl s.2), none]) (fun s : Int32 × Int32 => h) (kI X)) := by
  unfold mo_thread_L195
  exact Im.iter (lv := (fun s : Int32 => [some (.inr v0), none, some (.inl v2), some (.inl v3), some (.inl v4), some (.inl v5), some (.inl s)])) (hp := (fun s : Int32 => h)) (fun s => mo_thread_b195_ok X v0 v2 v3 v4 v5 s h) _ rfl rfl
noncomputable def mo_thread_b183 (v0 : Option Nat) (v2 : Int32) (v3 : Int32) (v4 : Int32) (v5 : Int32) (h : PH) : Option ((Int32 × Int32) ⊕ (Int32 × PH)) :=
  (if v2 < v5 then
  some (.inr ((v4, h)))
  else
  mo_thread_L195 v0 v2 v3 v4 v5 (v4 + 1) h)
noncomputable def mo_thread_L183 (v0 : Option Nat) (v2 : Int32) (v3 : Int32) (v4 : Int32) (v5 : Int32) (h : PH) : Option (Int32 × PH) :=
  iter (fun s : Int32 × Int32 => mo_thread_b183 v0 v2 v3 s.1 s.2 h) (v4, v5)
theorem mo_thread_b183_ok (X : CT) (v0 : Option Nat) (v2 : Int32) (v3 : Int32) (v4 : Int32) (v5 : Int32) (h : PH) : Im X (cX6_thread, 7, RX6, "thread", (some .int), 3) 183 [some (.inr v0), none, some (.inl v2), some (.inl v3), some (.inl v4), some (.inl v5), none] [] h (mo_thread_b183 v0 v2 v3 v4 v5 h) (ez (fun s : Int32 × Int32 => h) szI) (ek X 183 (fun s : Int32 × Int32 => [some (.inr v0), none, some (.inl v2), some (.inl v3), some (.inl s.1), some (.inl s.2), none]) (fun s : Int32 × Int32 => h) (kI X)) := by
  unfold mo_thread_b183
  refine im_iload (pc := 183) dX6_thread_183 rfl ?_
  refine im_iload_n (pc := 185) dX6_thread_185 rfl rfl ?_
  refine im_icmp_gt (pc := 186) (tgt := 244) dX6_thread_186 (by decide) ?_ ?_
  · refine im_iload (pc := 244) dX6_thread_244 rfl ?_
    exact Im.outS (im_iret (pc := 246) dX6_thread_246)
  · refine im_iload (pc := 189) dX6_thread_189 rfl ?_
    refine im_iconst (pc := 191) (v := 1) dX6_thread_191 (by decide) ?_
    refine im_iadd (pc := 192) dX6_thread_192 ?_
    refine im_istore (pc := 193) (lv' := [some (.inr v0), none, some (.inl v2), some (.inl v3), some (.inl v4), some (.inl v5), some (.inl (v4 + 1))]) dX6_thread_193 (by decide) rfl ?_
    exact Im.drop [true, false, true, true, true, true, true] rfl (mo_thread_L195_ok X v0 v2 v3 v4 v5 (v4 + 1) h)
theorem mo_thread_L183_ok (X : CT) (v0 : Option Nat) (v2 : Int32) (v3 : Int32) (v4 : Int32) (v5 : Int32) (h : PH) : Im X (cX6_thread, 7, RX6, "thread", (some .int), 3) 183 [some (.inr v0), none, some (.inl v2), some (.inl v3), some (.inl v4), some (.inl v5), none] [] h (mo_thread_L183 v0 v2 v3 v4 v5 h) szI (kI X) := by
  unfold mo_thread_L183
  exact Im.iter (lv := (fun s : Int32 × Int32 => [some (.inr v0), none, some (.inl v2), some (.inl v3), some (.inl s.1), some (.inl s.2), none])) (hp := (fun s : Int32 × Int32 => h)) (fun s => mo_thread_b183_ok X v0 v2 v3 s.1 s.2 h) _ rfl rfl
noncomputable def mo_thread_b160 (v0 : Option Nat) (v2 : Int32) (v3 : Int32) (v4 : Int32) (h : PH) : Option ((Int32) ⊕ (Int32 × PH)) :=
  (gfr [5] 46 v0 h).bind fun r51 =>
  (ald 0 r51 v4 h).bind fun x52 =>
  (if x52 = v3 then
  (mo_thread_L183 v0 v2 v3 v4 1 h).map .inr
  else
  some (.inl (v4 + 1)))
noncomputable def mo_thread_L160 (v0 : Option Nat) (v2 : Int32) (v3 : Int32) (v4 : Int32) (h : PH) : Option (Int32 × PH) :=
  iter (fun s : Int32 => mo_thread_b160 v0 v2 v3 s h) v4
theorem mo_thread_b160_ok (X : CT) (v0 : Option Nat) (v2 : Int32) (v3 : Int32) (v4 : Int32) (h : PH) : Im X (cX6_thread, 7, RX6, "thread", (some .int), 3) 160 [some (.inr v0), none, some (.inl v2), some (.inl v3), some (.inl v4), none, none] [] h (mo_thread_b160 v0 v2 v3 v4 h) (ez (fun s : Int32 => h) szI) (ek X 160 (fun s : Int32 => [some (.inr v0), none, some (.inl v2), some (.inl v3), some (.inl s), none, none]) (fun s : Int32 => h) (kI X)) := by
  unfold mo_thread_b160
  refine im_aload_n (pc := 160) dX6_thread_160 rfl rfl ?_
  refine im_gr (pc := 161) fl_X6_95 dX6_thread_161 fun r51 => ?_
  refine im_iload (pc := 164) dX6_thread_164 rfl ?_
  refine im_iald (pc := 166) dX6_thread_166 fun x52 => ?_
  refine im_iload_n (pc := 167) dX6_thread_167 rfl rfl ?_
  refine im_icmp_eq (pc := 168) (tgt := 180) dX6_thread_168 (by decide) ?_ ?_
  · refine im_iconst (pc := 180) (v := 1) dX6_thread_180 (by decide) ?_
    refine im_istore (pc := 181) (lv' := [some (.inr v0), none, some (.inl v2), some (.inl v3), some (.inl v4), some (.inl 1), none]) dX6_thread_181 (by decide) rfl ?_
    exact Im.out (Im.drop [true, false, true, true, true, true, false] rfl (mo_thread_L183_ok X v0 v2 v3 v4 1 h))
  · refine im_iload (pc := 171) dX6_thread_171 rfl ?_
    refine im_iconst (pc := 173) (v := 1) dX6_thread_173 (by decide) ?_
    refine im_iadd (pc := 174) dX6_thread_174 ?_
    refine im_istore (pc := 175) (lv' := [some (.inr v0), none, some (.inl v2), some (.inl v3), some (.inl (v4 + 1)), none, none]) dX6_thread_175 (by decide) rfl ?_
    refine im_goto (pc := 177) (tgt := 160) dX6_thread_177 (by decide) ?_
    exact Im.back [true, false, true, true, true, false, false] rfl rfl
theorem mo_thread_L160_ok (X : CT) (v0 : Option Nat) (v2 : Int32) (v3 : Int32) (v4 : Int32) (h : PH) : Im X (cX6_thread, 7, RX6, "thread", (some .int), 3) 160 [some (.inr v0), none, some (.inl v2), some (.inl v3), some (.inl v4), none, none] [] h (mo_thread_L160 v0 v2 v3 v4 h) szI (kI X) := by
  unfold mo_thread_L160
  exact Im.iter (lv := (fun s : Int32 => [some (.inr v0), none, some (.inl v2), some (.inl v3), some (.inl s), none, none])) (hp := (fun s : Int32 => h)) (fun s => mo_thread_b160_ok X v0 v2 v3 s h) _ rfl rfl
noncomputable def mo_thread_b50 (v0 : Option Nat) (v1 : Int32) (v2 : Int32) (v3 : Int32) (v4 : Int32) (h : PH) : Option ((Int32 × Int32 × PH) ⊕ (Int32 × PH)) :=
  (if v4 < 0 then
  (if v2 = 100 then
  some (.inr ((v3, h)))
  else
  (if v2 < v3 then
  (mo_thread_L160 v0 v2 v3 0 h).map .inr
  else
  some (.inr (((-4), h)))))
  else
  (gfr [5] 46 v0 h).bind fun r51 =>
  (ast 0 r51 v4 1 h).bind fun h52 =>
  mo_thread_L69 v0 v1 v2 v3 v4 (v4 + 1) h52)
noncomputable def mo_thread_L50 (v0 : Option Nat) (v1 : Int32) (v2 : Int32) (v3 : Int32) (v4 : Int32) (h : PH) : Option (Int32 × PH) :=
  iter (fun s : Int32 × Int32 × PH => mo_thread_b50 v0 v1 v2 s.1 s.2.1 s.2.2) (v3, v4, h)
theorem mo_thread_b50_ok (X : CT) (v0 : Option Nat) (v1 : Int32) (v2 : Int32) (v3 : Int32) (v4 : Int32) (h : PH) : Im X (cX6_thread, 7, RX6, "thread", (some .int), 3) 50 [some (.inr v0), some (.inl v1), some (.inl v2), some (.inl v3), some (.inl v4), none, none] [] h (mo_thread_b50 v0 v1 v2 v3 v4 h) (ez (fun s : Int32 × Int32 × PH => s.2.2) szI) (ek X 50 (fun s : Int32 × Int32 × PH => [some (.inr v0), some (.inl v1), some (.inl v2), some (.inl s.1), some (.inl s.2.1), none, none]) (fun s : Int32 × Int32 × PH => s.2.2) (kI X)) := by
  unfold mo_thread_b50
  refine im_iload (pc := 50) dX6_thread_50 rfl ?_
  refine im_if_lt (pc := 52) (tgt := 141) dX6_thread_52 (by decide) ?_ ?_
  · refine im_iload_n (pc := 141) dX6_thread_141 rfl rfl ?_
    refine im_bipush (pc := 142) (v := 100) dX6_thread_142 (by decide) ?_
    refine im_icmp_ne (pc := 144) (tgt := 149) dX6_thread_144 (by decide) ?_ ?_
    · refine im_iload_n (pc := 149) dX6_thread_149 rfl rfl ?_
      refine im_iload_n (pc := 150) dX6_thread_150 rfl rfl ?_
      refine im_icmp_lt (pc := 151) (tgt := 157) dX6_thread_151 (by decide) ?_ ?_
      · refine im_iconst (pc := 157) (v := 0) dX6_thread_157 (by decide) ?_
        refine im_istore (pc := 158) (lv' := [some (.inr v0), some (.inl v1), some (.inl v2), some (.inl v3), some (.inl 0), none, none]) dX6_thread_158 (by decide) rfl ?_
        exact Im.out (Im.drop [true, false, true, true, true, false, false] rfl (mo_thread_L160_ok X v0 v2 v3 0 h))
      · refine im_bipush (pc := 154) (v := (-4)) dX6_thread_154 (by decide) ?_
        exact Im.outS (im_iret (pc := 156) dX6_thread_156)
    · refine im_iload_n (pc := 147) dX6_thread_147 rfl rfl ?_
      exact Im.outS (im_iret (pc := 148) dX6_thread_148)
  · refine im_aload_n (pc := 55) dX6_thread_55 rfl rfl ?_
    refine im_gr (pc := 56) fl_X6_95 dX6_thread_56 fun r51 => ?_
    refine im_iload (pc := 59) dX6_thread_59 rfl ?_
    refine im_iconst (pc := 61) (v := 1) dX6_thread_61 (by decide) ?_
    refine im_iast (pc := 62) dX6_thread_62 fun h52 => ?_
    refine im_iload (pc := 63) dX6_thread_63 rfl ?_
    refine im_iconst (pc := 65) (v := 1) dX6_thread_65 (by decide) ?_
    refine im_iadd (pc := 66) dX6_thread_66 ?_
    refine im_istore (pc := 67) (lv' := [some (.inr v0), some (.inl v1), some (.inl v2), some (.inl v3), some (.inl v4), some (.inl (v4 + 1)), none]) dX6_thread_67 (by decide) rfl ?_
    exact Im.drop [true, true, true, true, true, true, false] rfl (mo_thread_L69_ok X v0 v1 v2 v3 v4 (v4 + 1) h52)
theorem mo_thread_L50_ok (X : CT) (v0 : Option Nat) (v1 : Int32) (v2 : Int32) (v3 : Int32) (v4 : Int32) (h : PH) : Im X (cX6_thread, 7, RX6, "thread", (some .int), 3) 50 [some (.inr v0), some (.inl v1), some (.inl v2), some (.inl v3), some (.inl v4), none, none] [] h (mo_thread_L50 v0 v1 v2 v3 v4 h) szI (kI X) := by
  unfold mo_thread_L50
  exact Im.iter (lv := (fun s : Int32 × Int32 × PH => [some (.inr v0), some (.inl v1), some (.inl v2), some (.inl s.1), some (.inl s.2.1), none, none])) (hp := (fun s : Int32 × Int32 × PH => s.2.2)) (fun s => mo_thread_b50_ok X v0 v1 v2 s.1 s.2.1 s.2.2) _ rfl rfl
noncomputable def mo_thread_26 (v0 : Option Nat) (v1 : Int32) (v2 : Int32) (h : PH) : Option (Int32 × PH) :=
  (gfi [5] 4 v0 h).bind fun x51 =>
  (if (2 * v1) ≤ x51 then
  (pf [5] 4 v0 (.inl 0) h).bind fun h52 =>
  mo_thread_L50 v0 v1 v2 0 (v1 - 1) h52
  else
  some (((-1), h)))
theorem mo_thread_26_ok (X : CT) (v0 : Option Nat) (v1 : Int32) (v2 : Int32) (h : PH) : Im X (cX6_thread, 7, RX6, "thread", (some .int), 3) 26 [some (.inr v0), some (.inl v1), some (.inl v2), none, none, none, none] [] h (mo_thread_26 v0 v1 v2 h) szI (kI X) := by
  unfold mo_thread_26
  refine im_iconst (pc := 26) (v := 2) dX6_thread_26 (by decide) ?_
  refine im_iload_n (pc := 27) dX6_thread_27 rfl rfl ?_
  refine im_imul (pc := 28) dX6_thread_28 ?_
  refine im_aload_n (pc := 29) dX6_thread_29 rfl rfl ?_
  refine im_gi (pc := 30) fl_X6_134 dX6_thread_30 fun x51 => ?_
  refine im_icmp_le (pc := 33) (tgt := 38) dX6_thread_33 (by decide) ?_ ?_
  · refine im_aload_n (pc := 38) dX6_thread_38 rfl rfl ?_
    refine im_iconst (pc := 39) (v := 0) dX6_thread_39 (by decide) ?_
    refine im_pf (pc := 40) fp_X6_134 (okT_i _) dX6_thread_40 fun h52 => ?_
    refine im_iconst (pc := 43) (v := 0) dX6_thread_43 (by decide) ?_
    refine im_istore_n (pc := 44) (lv' := [some (.inr v0), some (.inl v1), some (.inl v2), some (.inl 0), none, none, none]) dX6_thread_44 rfl (by decide) rfl ?_
    refine im_iload_n (pc := 45) dX6_thread_45 rfl rfl ?_
    refine im_iconst (pc := 46) (v := 1) dX6_thread_46 (by decide) ?_
    refine im_isub (pc := 47) dX6_thread_47 ?_
    refine im_istore (pc := 48) (lv' := [some (.inr v0), some (.inl v1), some (.inl v2), some (.inl 0), some (.inl (v1 - 1)), none, none]) dX6_thread_48 (by decide) rfl ?_
    exact Im.drop [true, true, true, true, true, false, false] rfl (mo_thread_L50_ok X v0 v1 v2 0 (v1 - 1) h52)
  · refine im_iconst (pc := 36) (v := (-1)) dX6_thread_36 (by decide) ?_
    exact im_iret (pc := 37) dX6_thread_37
noncomputable def mo_thread_0 (v0 : Option Nat) (v1 : Int32) (v2 : Int32) (h : PH) : Option (Int32 × PH) :=
  (mo_in v1 1 20 h).bind fun x51 =>
  (if x51 = 0 then
  some (((-1), h))
  else
  (mo_in v2 0 19 h).bind fun x52 =>
  (if x52 = 0 then
  (if v2 = 100 then
  mo_thread_26 v0 v1 v2 h
  else
  some (((-1), h)))
  else
  mo_thread_26 v0 v1 v2 h))
theorem mo_thread_0_ok (X : CT) (v0 : Option Nat) (v1 : Int32) (v2 : Int32) (h : PH) : Im X (cX6_thread, 7, RX6, "thread", (some .int), 3) 0 [some (.inr v0), some (.inl v1), some (.inl v2), none, none, none, none] [] h (mo_thread_0 v0 v1 v2 h) szI (kI X) := by
  unfold mo_thread_0
  refine im_iload_n (pc := 0) dX6_thread_0 rfl rfl ?_
  refine im_iconst (pc := 1) (v := 1) dX6_thread_1 (by decide) ?_
  refine im_bipush (pc := 2) (v := 20) dX6_thread_2 (by decide) ?_
  refine cl_X6_104 mo_in_im (pc := 4) (by decide) dX6_thread_4 (Nat.le_of_ble_eq_true rfl) fun x51 => ?_
  refine im_if_eq (pc := 7) (tgt := 36) dX6_thread_7 (by decide) ?_ ?_
  · refine im_iconst (pc := 36) (v := (-1)) dX6_thread_36 (by decide) ?_
    exact im_iret (pc := 37) dX6_thread_37
  · refine im_iload_n (pc := 10) dX6_thread_10 rfl rfl ?_
    refine im_iconst (pc := 11) (v := 0) dX6_thread_11 (by decide) ?_
    refine im_bipush (pc := 12) (v := 19) dX6_thread_12 (by decide) ?_
    refine cl_X6_104 mo_in_im (pc := 14) (by decide) dX6_thread_14 (Nat.le_of_ble_eq_true rfl) fun x52 => ?_
    refine im_if_ne (pc := 17) (tgt := 26) dX6_thread_17 (by decide) ?_ ?_
    · exact Im.drop [true, true, true, false, false, false, false] rfl (mo_thread_26_ok X v0 v1 v2 h)
    · refine im_iload_n (pc := 20) dX6_thread_20 rfl rfl ?_
      refine im_bipush (pc := 21) (v := 100) dX6_thread_21 (by decide) ?_
      refine im_icmp_ne (pc := 23) (tgt := 36) dX6_thread_23 (by decide) ?_ ?_
      · refine im_iconst (pc := 36) (v := (-1)) dX6_thread_36 (by decide) ?_
        exact im_iret (pc := 37) dX6_thread_37
      · exact Im.drop [true, true, true, false, false, false, false] rfl (mo_thread_26_ok X v0 v1 v2 h)
noncomputable def mo_thread (a0 : Option Nat) (a1 : Int32) (a2 : Int32) (h : PH) : Option (Int32 × PH) := grd (isC [5] a0 h) (mo_thread_0 a0 a1 a2 h)
theorem mo_thread_im : IM_X6_thread mo_thread 3 := by
  intro a0 a1 a2 h r h' e
  obtain ⟨e1, e2⟩ := grd_some e
  exact ⟨e1, SpI.of (k := 4) (plainFor_of_name (by decide)) rfl (fun X => Im.drop [true, true, true, false, false, false, false] rfl (mo_thread_0_ok X a0 a1 a2 h)) e2⟩
def IM_X6_good (f : Option Nat → Int32 → Int32 → PH → Option (Int32)) (d : Nat) : Prop := ∀ (a0 : Option Nat) (a1 : Int32) (a2 : Int32) (h : PH) (r : Int32), f a0 a1 a2 h = some r → isC [5] a0 h = true ∧ SpI yX6_good cX6_good 10 (some .int) d [.inr a0, .inl a1, .inl a2] h r h
noncomputable def mo_good_95 (v0 : Option Nat) (v1 : Int32) (v2 : Int32) (v3 : Int32) (v4 : Int32) (v5 : Int32) (v6 : Int32) (v8 : Int32) (s0 : Int32) (s1 : Int32) (h : PH) : Option ((Int32 × Int32 × Int32 × Int32 × Int32) ⊕ ((Int32 × Int32 × Int32 × Int32) ⊕ (Int32))) :=
  (if v5 < (s1 + s0) then
  some (.inl (v6, v8, (s1 + s0), (s1 + s0), (v8 + 1)))
  else
  some (.inl (v3, v4, v5, (s1 + s0), (v8 + 1))))
theorem mo_good_95_ok (X : CT) (v0 : Option Nat) (v1 : Int32) (v2 : Int32) (v3 : Int32) (v4 : Int32) (v5 : Int32) (v6 : Int32) (v8 : Int32) (s0 : Int32) (s1 : Int32) (h : PH) : Im X (cX6_good, 10, RX6, "good", (some .int), 5) 95 [some (.inr v0), some (.inl v1), some (.inl v2), some (.inl v3), some (.inl v4), some (.inl v5), some (.inl v6), none, some (.inl v8), none] [.inl s0, .inl s1] h (mo_good_95 v0 v1 v2 v3 v4 v5 v6 v8 s0 s1 h) (ez (fun s : Int32 × Int32 × Int32 × Int32 × Int32 => h) (ez (fun s : Int32 × Int32 × Int32 × Int32 => h) (szP h))) (ek X 49 (fun s : Int32 × Int32 × Int32 × Int32 × Int32 => [some (.inr v0), some (.inl v1), some (.inl v2), some (.inl s.1), some (.inl s.2.1), some (.inl s.2.2.1), some (.inl v6), some (.inl s.2.2.2.1), some (.inl s.2.2.2.2), none]) (fun s : Int32 × Int32 × Int32 × Int32 × Int32 => h) (ek X 35 (fun s : Int32 × Int32 × Int32 × Int32 => [some (.inr v0), some (.inl v1), some (.inl v2), some (.inl s.1), some (.inl s.2.1), some (.inl s.2.2.1), some (.inl s.2.2.2), none, none, none]) (fun s : Int32 × Int32 × Int32 × Int32 => h) (kP X h))) := by
  unfold mo_good_95
  refine im_iadd (pc := 95) dX6_good_95 ?_
  refine im_istore (pc := 96) (lv' := [some (.inr v0), some (.inl v1), some (.inl v2), some (.inl v3), some (.inl v4), some (.inl v5), some (.inl v6), some (.inl (s1 + s0)), some (.inl v8), none]) dX6_good_96 (by decide) rfl ?_
  refine im_iload (pc := 98) dX6_good_98 rfl ?_
  refine im_iload (pc := 100) dX6_good_100 rfl ?_
  refine im_icmp_gt (pc := 102) (tgt := 108) dX6_good_102 (by decide) ?_ ?_
  · refine im_iload (pc := 108) dX6_good_108 rfl ?_
    refine im_istore (pc := 110) (lv' := [some (.inr v0), some (.inl v1), some (.inl v2), some (.inl v3), some (.inl v4), some (.inl (s1 + s0)), some (.inl v6), some (.inl (s1 + s0)), some (.inl v8), none]) dX6_good_110 (by decide) rfl ?_
    refine im_iload (pc := 112) dX6_good_112 rfl ?_
    refine im_istore_n (pc := 114) (lv' := [some (.inr v0), some (.inl v1), some (.inl v2), some (.inl v6), some (.inl v4), some (.inl (s1 + s0)), some (.inl v6), some (.inl (s1 + s0)), some (.inl v8), none]) dX6_good_114 rfl (by decide) rfl ?_
    refine im_iload (pc := 115) dX6_good_115 rfl ?_
    refine im_istore (pc := 117) (lv' := [some (.inr v0), some (.inl v1), some (.inl v2), some (.inl v6), some (.inl v8), some (.inl (s1 + s0)), some (.inl v6), some (.inl (s1 + s0)), some (.inl v8), none]) dX6_good_117 (by decide) rfl ?_
    refine im_iinc (pc := 119) (v := (v8 + 1)) (lv' := [some (.inr v0), some (.inl v1), some (.inl v2), some (.inl v6), some (.inl v8), some (.inl (s1 + s0)), some (.inl v6), some (.inl (s1 + s0)), some (.inl (v8 + 1)), none]) dX6_good_119 rfl rfl (by decide) rfl ?_
    refine im_goto (pc := 122) (tgt := 49) dX6_good_122 (by decide) ?_
    exact Im.back [true, true, true, true, true, true, true, true, true, false] rfl rfl
  · refine im_goto (pc := 105) (tgt := 119) dX6_good_105 (by decide) ?_
    refine im_iinc (pc := 119) (v := (v8 + 1)) (lv' := [some (.inr v0), some (.inl v1), some (.inl v2), some (.inl v3), some (.inl v4), some (.inl v5), some (.inl v6), some (.inl (s1 + s0)), some (.inl (v8 + 1)), none]) dX6_good_119 rfl rfl (by decide) rfl ?_
    refine im_goto (pc := 122) (tgt := 49) dX6_good_122 (by decide) ?_
    exact Im.back [true, true, true, true, true, true, true, true, true, false] rfl rfl
noncomputable def mo_good_b49 (v0 : Option Nat) (v1 : Int32) (v2 : Int32) (v3 : Int32) (v4 : Int32) (v5 : Int32) (v6 : Int32) (v7 : Int32) (v8 : Int32) (h : PH) : Option ((Int32 × Int32 × Int32 × Int32 × Int32) ⊕ ((Int32 × Int32 × Int32 × Int32) ⊕ (Int32))) :=
  (if 10 ≤ v8 then
  some (.inr (.inl (v3, v4, v5, (v6 + 1))))
  else
  (mo_whoLies v0 ((10 * v1) + v8) h).bind fun x51 =>
  (if x51 = (-2) then
  mo_good_95 v0 v1 v2 v3 v4 v5 v6 v8 0 v7 h
  else
  (mo_talkAt v0 x51 ((10 * v1) + v8) h).bind fun x52 =>
  mo_good_95 v0 v1 v2 v3 v4 v5 v6 v8 x52 v7 h))
noncomputable def mo_good_L49 (v0 : Option Nat) (v1 : Int32) (v2 : Int32) (v3 : Int32) (v4 : Int32) (v5 : Int32) (v6 : Int32) (v7 : Int32) (v8 : Int32) (h : PH) : Option ((Int32 × Int32 × Int32 × Int32) ⊕ (Int32)) :=
  iter (fun s : Int32 × Int32 × Int32 × Int32 × Int32 => mo_good_b49 v0 v1 v2 s.1 s.2.1 s.2.2.1 v6 s.2.2.2.1 s.2.2.2.2 h) (v3, v4, v5, v7, v8)
theorem mo_good_b49_ok (X : CT) (v0 : Option Nat) (v1 : Int32) (v2 : Int32) (v3 : Int32) (v4 : Int32) (v5 : Int32) (v6 : Int32) (v7 : Int32) (v8 : Int32) (h : PH) : Im X (cX6_good, 10, RX6, "good", (some .int), 5) 49 [some (.inr v0), some (.inl v1), some (.inl v2), some (.inl v3), some (.inl v4), some (.inl v5), some (.inl v6), some (.inl v7), some (.inl v8), none] [] h (mo_good_b49 v0 v1 v2 v3 v4 v5 v6 v7 v8 h) (ez (fun s : Int32 × Int32 × Int32 × Int32 × Int32 => h) (ez (fun s : Int32 × Int32 × Int32 × Int32 => h) (szP h))) (ek X 49 (fun s : Int32 × Int32 × Int32 × Int32 × Int32 => [some (.inr v0), some (.inl v1), some (.inl v2), some (.inl s.1), some (.inl s.2.1), some (.inl s.2.2.1), some (.inl v6), some (.inl s.2.2.2.1), some (.inl s.2.2.2.2), none]) (fun s : Int32 × Int32 × Int32 × Int32 × Int32 => h) (ek X 35 (fun s : Int32 × Int32 × Int32 × Int32 => [some (.inr v0), some (.inl v1), some (.inl v2), some (.inl s.1), some (.inl s.2.1), some (.inl s.2.2.1), some (.inl s.2.2.2), none, none, none]) (fun s : Int32 × Int32 × Int32 × Int32 => h) (kP X h))) := by
  unfold mo_good_b49
  refine im_iload (pc := 49) dX6_good_49 rfl ?_
  refine im_bipush (pc := 51) (v := 10) dX6_good_51 (by decide) ?_
  refine im_icmp_ge (pc := 53) (tgt := 125) dX6_good_53 (by decide) ?_ ?_
  · refine im_iinc (pc := 125) (v := (v6 + 1)) (lv' := [some (.inr v0), some (.inl v1), some (.inl v2), some (.inl v3), some (.inl v4), some (.inl v5), some (.inl (v6 + 1)), some (.inl v7), some (.inl v8), none]) dX6_good_125 rfl rfl (by decide) rfl ?_
    refine im_goto (pc := 128) (tgt := 35) dX6_good_128 (by decide) ?_
    exact Im.outS (Im.back [true, true, true, true, true, true, true, false, false, false] rfl rfl)
  · refine im_aload_n (pc := 56) dX6_good_56 rfl rfl ?_
    refine im_bipush (pc := 57) (v := 10) dX6_good_57 (by decide) ?_
    refine im_iload_n (pc := 59) dX6_good_59 rfl rfl ?_
    refine im_imul (pc := 60) dX6_good_60 ?_
    refine im_iload (pc := 61) dX6_good_61 rfl ?_
    refine im_iadd (pc := 63) dX6_good_63 ?_
    refine cl_X6_247 mo_whoLies_im (pc := 64) (by decide) dX6_good_64 (Nat.le_of_ble_eq_true rfl) fun x51 => ?_
    refine im_istore (pc := 67) (lv' := [some (.inr v0), some (.inl v1), some (.inl v2), some (.inl v3), some (.inl v4), some (.inl v5), some (.inl v6), some (.inl v7), some (.inl v8), some (.inl x51)]) dX6_good_67 (by decide) rfl ?_
    refine im_iload (pc := 69) dX6_good_69 rfl ?_
    refine im_iload (pc := 71) dX6_good_71 rfl ?_
    refine im_bipush (pc := 73) (v := (-2)) dX6_good_73 (by decide) ?_
    refine im_icmp_ne (pc := 75) (tgt := 82) dX6_good_75 (by decide) ?_ ?_
    · refine im_aload_n (pc := 82) dX6_good_82 rfl rfl ?_
      refine im_iload (pc := 83) dX6_good_83 rfl ?_
      refine im_bipush (pc := 85) (v := 10) dX6_good_85 (by decide) ?_
      refine im_iload_n (pc := 87) dX6_good_87 rfl rfl ?_
      refine im_imul (pc := 88) dX6_good_88 ?_
      refine im_iload (pc := 89) dX6_good_89 rfl ?_
      refine im_iadd (pc := 91) dX6_good_91 ?_
      refine cl_X6_328 mo_talkAt_im (pc := 92) (by decide) dX6_good_92 (Nat.le_of_ble_eq_true rfl) fun x52 => ?_
      exact Im.drop [true, true, true, true, true, true, true, false, true, false] rfl (mo_good_95_ok X v0 v1 v2 v3 v4 v5 v6 v8 x52 v7 h)
    · refine im_iconst (pc := 78) (v := 0) dX6_good_78 (by decide) ?_
      refine im_goto (pc := 79) (tgt := 95) dX6_good_79 (by decide) ?_
      exact Im.drop [true, true, true, true, true, true, true, false, true, false] rfl (mo_good_95_ok X v0 v1 v2 v3 v4 v5 v6 v8 0 v7 h)
theorem mo_good_L49_ok (X : CT) (v0 : Option Nat) (v1 : Int32) (v2 : Int32) (v3 : Int32) (v4 : Int32) (v5 : Int32) (v6 : Int32) (v7 : Int32) (v8 : Int32) (h : PH) : Im X (cX6_good, 10, RX6, "good", (some .int), 5) 49 [some (.inr v0), some (.inl v1), some (.inl v2), some (.inl v3), some (.inl v4), some (.inl v5), some (.inl v6), some (.inl v7), some (.inl v8), none] [] h (mo_good_L49 v0 v1 v2 v3 v4 v5 v6 v7 v8 h) (ez (fun s : Int32 × Int32 × Int32 × Int32 => h) (szP h)) (ek X 35 (fun s : Int32 × Int32 × Int32 × Int32 => [some (.inr v0), some (.inl v1), some (.inl v2), some (.inl s.1), some (.inl s.2.1), some (.inl s.2.2.1), some (.inl s.2.2.2), none, none, none]) (fun s : Int32 × Int32 × Int32 × Int32 => h) (kP X h)) := by
  unfold mo_good_L49
  exact Im.iter (lv := (fun s : Int32 × Int32 × Int32 × Int32 × Int32 => [some (.inr v0), some (.inl v1), some (.inl v2), some (.inl s.1), some (.inl s.2.1), some (.inl s.2.2.1), some (.inl v6), some (.inl s.2.2.2.1), some (.inl s.2.2.2.2), none])) (hp := (fun s : Int32 × Int32 × Int32 × Int32 × Int32 => h)) (fun s => mo_good_b49_ok X v0 v1 v2 s.1 s.2.1 s.2.2.1 v6 s.2.2.2.1 s.2.2.2.2 h) _ rfl rfl
noncomputable def mo_good_b35 (v0 : Option Nat) (v1 : Int32) (v2 : Int32) (v3 : Int32) (v4 : Int32) (v5 : Int32) (v6 : Int32) (h : PH) : Option ((Int32 × Int32 × Int32 × Int32) ⊕ (Int32)) :=
  (if 10 ≤ v6 then
  (if v2 = 0 then
  some (.inr v3)
  else
  (if v2 = 1 then
  some (.inr v4)
  else
  some (.inr v5)))
  else
  mo_good_L49 v0 v1 v2 v3 v4 v5 v6 0 v6 h)
noncomputable def mo_good_L35 (v0 : Option Nat) (v1 : Int32) (v2 : Int32) (v3 : Int32) (v4 : Int32) (v5 : Int32) (v6 : Int32) (h : PH) : Option (Int32) :=
  iter (fun s : Int32 × Int32 × Int32 × Int32 => mo_good_b35 v0 v1 v2 s.1 s.2.1 s.2.2.1 s.2.2.2 h) (v3, v4, v5, v6)
theorem mo_good_b35_ok (X : CT) (v0 : Option Nat) (v1 : Int32) (v2 : Int32) (v3 : Int32) (v4 : Int32) (v5 : Int32) (v6 : Int32) (h : PH) : Im X (cX6_good, 10, RX6, "good", (some .int), 5) 35 [some (.inr v0), some (.inl v1), some (.inl v2), some (.inl v3), some (.inl v4), some (.inl v5), some (.inl v6), none, none, none] [] h (mo_good_b35 v0 v1 v2 v3 v4 v5 v6 h) (ez (fun s : Int32 × Int32 × Int32 × Int32 => h) (szP h)) (ek X 35 (fun s : Int32 × Int32 × Int32 × Int32 => [some (.inr v0), some (.inl v1), some (.inl v2), some (.inl s.1), some (.inl s.2.1), some (.inl s.2.2.1), some (.inl s.2.2.2), none, none, none]) (fun s : Int32 × Int32 × Int32 × Int32 => h) (kP X h)) := by
  unfold mo_good_b35
  refine im_iload (pc := 35) dX6_good_35 rfl ?_
  refine im_bipush (pc := 37) (v := 10) dX6_good_37 (by decide) ?_
  refine im_icmp_ge (pc := 39) (tgt := 131) dX6_good_39 (by decide) ?_ ?_
  · refine im_iload_n (pc := 131) dX6_good_131 rfl rfl ?_
    refine im_if_ne (pc := 132) (tgt := 139) dX6_good_132 (by decide) ?_ ?_
    · refine im_iload_n (pc := 139) dX6_good_139 rfl rfl ?_
      refine im_iconst (pc := 140) (v := 1) dX6_good_140 (by decide) ?_
      refine im_icmp_ne (pc := 141) (tgt := 149) dX6_good_141 (by decide) ?_ ?_
      · refine im_iload (pc := 149) dX6_good_149 rfl ?_
        exact Im.outS (im_iretP (pc := 151) dX6_good_151)
      · refine im_iload (pc := 144) dX6_good_144 rfl ?_
        refine im_goto (pc := 146) (tgt := 151) dX6_good_146 (by decide) ?_
        exact Im.outS (im_iretP (pc := 151) dX6_good_151)
    · refine im_iload_n (pc := 135) dX6_good_135 rfl rfl ?_
      refine im_goto (pc := 136) (tgt := 151) dX6_good_136 (by decide) ?_
      exact Im.outS (im_iretP (pc := 151) dX6_good_151)
  · refine im_iconst (pc := 42) (v := 0) dX6_good_42 (by decide) ?_
    refine im_istore (pc := 43) (lv' := [some (.inr v0), some (.inl v1), some (.inl v2), some (.inl v3), some (.inl v4), some (.inl v5), some (.inl v6), some (.inl 0), none, none]) dX6_good_43 (by decide) rfl ?_
    refine im_iload (pc := 45) dX6_good_45 rfl ?_
    refine im_istore (pc := 47) (lv' := [some (.inr v0), some (.inl v1), some (.inl v2), some (.inl v3), some (.inl v4), some (.inl v5), some (.inl v6), some (.inl 0), some (.inl v6), none]) dX6_good_47 (by decide) rfl ?_
    exact Im.drop [true, true, true, true, true, true, true, true, true, false] rfl (mo_good_L49_ok X v0 v1 v2 v3 v4 v5 v6 0 v6 h)
theorem mo_good_L35_ok (X : CT) (v0 : Option Nat) (v1 : Int32) (v2 : Int32) (v3 : Int32) (v4 : Int32) (v5 : Int32) (v6 : Int32) (h : PH) : Im X (cX6_good, 10, RX6, "good", (some .int), 5) 35 [some (.inr v0), some (.inl v1), some (.inl v2), some (.inl v3), some (.inl v4), some (.inl v5), some (.inl v6), none, none, none] [] h (mo_good_L35 v0 v1 v2 v3 v4 v5 v6 h) (szP h) (kP X h) := by
  unfold mo_good_L35
  exact Im.iter (lv := (fun s : Int32 × Int32 × Int32 × Int32 => [some (.inr v0), some (.inl v1), some (.inl v2), some (.inl s.1), some (.inl s.2.1), some (.inl s.2.2.1), some (.inl s.2.2.2), none, none, none])) (hp := (fun s : Int32 × Int32 × Int32 × Int32 => h)) (fun s => mo_good_b35_ok X v0 v1 v2 s.1 s.2.1 s.2.2.1 s.2.2.2 h) _ rfl rfl
noncomputable def mo_good_0 (v0 : Option Nat) (v1 : Int32) (v2 : Int32) (h : PH) : Option (Int32) :=
  (mo_in v1 0 5 h).bind fun x51 =>
  (if x51 = 0 then
  some ((-1000))
  else
  (mo_in v2 0 2 h).bind fun x52 =>
  (if x52 = 0 then
  some ((-1000))
  else
  mo_good_L35 v0 v1 v2 0 0 (-1000000) 0 h))
theorem mo_good_0_ok (X : CT) (v0 : Option Nat) (v1 : Int32) (v2 : Int32) (h : PH) : Im X (cX6_good, 10, RX6, "good", (some .int), 5) 0 [some (.inr v0), some (.inl v1), some (.inl v2), none, none, none, none, none, none, none] [] h (mo_good_0 v0 v1 v2 h) (szP h) (kP X h) := by
  unfold mo_good_0
  refine im_iload_n (pc := 0) dX6_good_0 rfl rfl ?_
  refine im_iconst (pc := 1) (v := 0) dX6_good_1 (by decide) ?_
  refine im_iconst (pc := 2) (v := 5) dX6_good_2 (by decide) ?_
  refine cl_X6_104 mo_in_im (pc := 3) (by decide) dX6_good_3 (Nat.le_of_ble_eq_true rfl) fun x51 => ?_
  refine im_if_eq (pc := 6) (tgt := 18) dX6_good_6 (by decide) ?_ ?_
  · refine im_sipush (pc := 18) (v := (-1000)) dX6_good_18 (by decide) ?_
    exact im_iretP (pc := 21) dX6_good_21
  · refine im_iload_n (pc := 9) dX6_good_9 rfl rfl ?_
    refine im_iconst (pc := 10) (v := 0) dX6_good_10 (by decide) ?_
    refine im_iconst (pc := 11) (v := 2) dX6_good_11 (by decide) ?_
    refine cl_X6_104 mo_in_im (pc := 12) (by decide) dX6_good_12 (Nat.le_of_ble_eq_true rfl) fun x52 => ?_
    refine im_if_ne (pc := 15) (tgt := 22) dX6_good_15 (by decide) ?_ ?_
    · refine im_iconst (pc := 22) (v := 0) dX6_good_22 (by decide) ?_
      refine im_istore_n (pc := 23) (lv' := [some (.inr v0), some (.inl v1), some (.inl v2), some (.inl 0), none, none, none, none, none, none]) dX6_good_23 rfl (by decide) rfl ?_
      refine im_iconst (pc := 24) (v := 0) dX6_good_24 (by decide) ?_
      refine im_istore (pc := 25) (lv' := [some (.inr v0), some (.inl v1), some (.inl v2), some (.inl 0), some (.inl 0), none, none, none, none, none]) dX6_good_25 (by decide) rfl ?_
      refine im_ldcw (pc := 27) q1616 dX6_good_27 ?_
      refine im_istore (pc := 30) (lv' := [some (.inr v0), some (.inl v1), some (.inl v2), some (.inl 0), some (.inl 0), some (.inl (-1000000)), none, none, none, none]) dX6_good_30 (by decide) rfl ?_
      refine im_iconst (pc := 32) (v := 0) dX6_good_32 (by decide) ?_
      refine im_istore (pc := 33) (lv' := [some (.inr v0), some (.inl v1), some (.inl v2), some (.inl 0), some (.inl 0), some (.inl (-1000000)), some (.inl 0), none, none, none]) dX6_good_33 (by decide) rfl ?_
      exact Im.drop [true, true, true, true, true, true, true, false, false, false] rfl (mo_good_L35_ok X v0 v1 v2 0 0 (-1000000) 0 h)
    · refine im_sipush (pc := 18) (v := (-1000)) dX6_good_18 (by decide) ?_
      exact im_iretP (pc := 21) dX6_good_21
noncomputable def mo_good (a0 : Option Nat) (a1 : Int32) (a2 : Int32) (h : PH) : Option (Int32) := grd (isC [5] a0 h) (mo_good_0 a0 a1 a2 h)
theorem mo_good_im : IM_X6_good mo_good 5 := by
  intro a0 a1 a2 h r e
  obtain ⟨e1, e2⟩ := grd_some e
  exact ⟨e1, SpI.ofP (k := 7) (plainFor_of_name (by decide)) rfl (fun X => Im.drop [true, true, true, false, false, false, false, false, false, false] rfl (mo_good_0_ok X a0 a1 a2 h)) e2⟩
theorem fl_X6_98 : ∀ c ∈ [5], FL RX6 98 c 47 := List.forall_mem_cons.mpr ⟨⟨RX6, TX6, 50, rfl, in_X6, by decide, Or.inl q1224⟩, fun _ h => absurd h List.not_mem_nil⟩
theorem fl_X6_101 : ∀ c ∈ [5], FL RX6 101 c 48 := List.forall_mem_cons.mpr ⟨⟨RX6, TX6, 50, rfl, in_X6, by decide, Or.inl q1225⟩, fun _ h => absurd h List.not_mem_nil⟩
def IM_X6_walksFrom (f : Option Nat → Int32 → PH → Option (Int32 × PH)) (d : Nat) : Prop := ∀ (a0 : Option Nat) (a1 : Int32) (h : PH) (r : Int32) (h' : PH), f a0 a1 h = some (r, h') → isC [5] a0 h = true ∧ SpI yX6_walksFrom cX6_walksFrom 5 (some .int) d [.inr a0, .inl a1] h r h'
noncomputable def mo_walksFrom_b59 (v0 : Option Nat) (v2 : Int32) (v3 : Int32) (v4 : Int32) (h : PH) : Option ((Int32 × Int32 × PH) ⊕ ((Int32 × Int32 × PH) ⊕ (Int32 × PH))) :=
  (if 60 ≤ v4 then
  some (.inr (.inl (v2, (v3 + 1), h)))
  else
  (gfr [5] 48 v0 h).bind fun r51 =>
  (ald 0 r51 v3 h).bind fun x52 =>
  (mo_areNext x52 v4 h).bind fun x53 =>
  (if x53 = 0 then
  some (.inl (v2, (v4 + 1), h))
  else
  (gfr [5] 47 v0 h).bind fun r54 =>
  (ald 0 r54 v4 h).bind fun x55 =>
  (if x55 = (-1) then
  (mo_whoLies v0 v4 h).bind fun x56 =>
  (if x56 = (-2) then
  (gfr [5] 47 v0 h).bind fun r57 =>
  (gfr [5] 47 v0 h).bind fun r58 =>
  (gfr [5] 48 v0 h).bind fun r59 =>
  (ald 0 r59 v3 h).bind fun x60 =>
  (ald 0 r58 x60 h).bind fun x61 =>
  (ast 0 r57 v4 (x61 + 1) h).bind fun h62 =>
  (gfr [5] 48 v0 h62).bind fun r63 =>
  (ast 0 r63 v2 v4 h62).bind fun h64 =>
  some (.inl ((v2 + 1), (v4 + 1), h64))
  else
  some (.inl (v2, (v4 + 1), h)))
  else
  some (.inl (v2, (v4 + 1), h)))))
noncomputable def mo_walksFrom_L59 (v0 : Option Nat) (v2 : Int32) (v3 : Int32) (v4 : Int32) (h : PH) : Option ((Int32 × Int32 × PH) ⊕ (Int32 × PH)) :=
  iter (fun s : Int32 × Int32 × PH => mo_walksFrom_b59 v0 s.1 v3 s.2.1 s.2.2) (v2, v4, h)
theorem mo_walksFrom_b59_ok (X : CT) (v0 : Option Nat) (v2 : Int32) (v3 : Int32) (v4 : Int32) (h : PH) : Im X (cX6_walksFrom, 5, RX6, "walksFrom", (some .int), 3) 59 [some (.inr v0), none, some (.inl v2), some (.inl v3), some (.inl v4)] [] h (mo_walksFrom_b59 v0 v2 v3 v4 h) (ez (fun s : Int32 × Int32 × PH => s.2.2) (ez (fun s : Int32 × Int32 × PH => s.2.2) szI)) (ek X 59 (fun s : Int32 × Int32 × PH => [some (.inr v0), none, some (.inl s.1), some (.inl v3), some (.inl s.2.1)]) (fun s : Int32 × Int32 × PH => s.2.2) (ek X 51 (fun s : Int32 × Int32 × PH => [some (.inr v0), none, some (.inl s.1), some (.inl s.2.1), none]) (fun s : Int32 × Int32 × PH => s.2.2) (kI X))) := by
  unfold mo_walksFrom_b59
  refine im_iload (pc := 59) dX6_walksFrom_59 rfl ?_
  refine im_bipush (pc := 61) (v := 60) dX6_walksFrom_61 (by decide) ?_
  refine im_icmp_ge (pc := 63) (tgt := 143) dX6_walksFrom_63 (by decide) ?_ ?_
  · refine im_iinc (pc := 143) (v := (v3 + 1)) (lv' := [some (.inr v0), none, some (.inl v2), some (.inl (v3 + 1)), some (.inl v4)]) dX6_walksFrom_143 rfl rfl (by decide) rfl ?_
    refine im_goto (pc := 146) (tgt := 51) dX6_walksFrom_146 (by decide) ?_
    exact Im.outS (Im.back [true, false, true, true, false] rfl rfl)
  · refine im_aload_n (pc := 66) dX6_walksFrom_66 rfl rfl ?_
    refine im_gr (pc := 67) fl_X6_101 dX6_walksFrom_67 fun r51 => ?_
    refine im_iload_n (pc := 70) dX6_walksFrom_70 rfl rfl ?_
    refine im_iald (pc := 71) dX6_walksFrom_71 fun x52 => ?_
    refine im_iload (pc := 72) dX6_walksFrom_72 rfl ?_
    refine cl_X6_119 mo_areNext_im (pc := 74) (by decide) dX6_walksFrom_74 (Nat.le_of_ble_eq_true rfl) fun x53 => ?_
    refine im_if_eq (pc := 77) (tgt := 137) dX6_walksFrom_77 (by decide) ?_ ?_
    · refine im_iinc (pc := 137) (v := (v4 + 1)) (lv' := [some (.inr v0), none, some (.inl v2), some (.inl v3), some (.inl (v4 + 1))]) dX6_walksFrom_137 rfl rfl (by decide) rfl ?_
      refine im_goto (pc := 140) (tgt := 59) dX6_walksFrom_140 (by decide) ?_
      exact Im.back [true, false, true, true, true] rfl rfl
    · refine im_aload_n (pc := 80) dX6_walksFrom_80 rfl rfl ?_
      refine im_gr (pc := 81) fl_X6_98 dX6_walksFrom_81 fun r54 => ?_
      refine im_iload (pc := 84) dX6_walksFrom_84 rfl ?_
      refine im_iald (pc := 86) dX6_walksFrom_86 fun x55 => ?_
      refine im_iconst (pc := 87) (v := (-1)) dX6_walksFrom_87 (by decide) ?_
      refine im_icmp_ne (pc := 88) (tgt := 137) dX6_walksFrom_88 (by decide) ?_ ?_
      · refine im_iinc (pc := 137) (v := (v4 + 1)) (lv' := [some (.inr v0), none, some (.inl v2), some (.inl v3), some (.inl (v4 + 1))]) dX6_walksFrom_137 rfl rfl (by decide) rfl ?_
        refine im_goto (pc := 140) (tgt := 59) dX6_walksFrom_140 (by decide) ?_
        exact Im.back [true, false, true, true, true] rfl rfl
      · refine im_aload_n (pc := 91) dX6_walksFrom_91 rfl rfl ?_
        refine im_iload (pc := 92) dX6_walksFrom_92 rfl ?_
        refine cl_X6_247 mo_whoLies_im (pc := 94) (by decide) dX6_walksFrom_94 (Nat.le_of_ble_eq_true rfl) fun x56 => ?_
        refine im_bipush (pc := 97) (v := (-2)) dX6_walksFrom_97 (by decide) ?_
        refine im_icmp_eq (pc := 99) (tgt := 105) dX6_walksFrom_99 (by decide) ?_ ?_
        · refine im_aload_n (pc := 105) dX6_walksFrom_105 rfl rfl ?_
          refine im_gr (pc := 106) fl_X6_98 dX6_walksFrom_106 fun r57 => ?_
          refine im_iload (pc := 109) dX6_walksFrom_109 rfl ?_
          refine im_aload_n (pc := 111) dX6_walksFrom_111 rfl rfl ?_
          refine im_gr (pc := 112) fl_X6_98 dX6_walksFrom_112 fun r58 => ?_
          refine im_aload_n (pc := 115) dX6_walksFrom_115 rfl rfl ?_
          refine im_gr (pc := 116) fl_X6_101 dX6_walksFrom_116 fun r59 => ?_
          refine im_iload_n (pc := 119) dX6_walksFrom_119 rfl rfl ?_
          refine im_iald (pc := 120) dX6_walksFrom_120 fun x60 => ?_
          refine im_iald (pc := 121) dX6_walksFrom_121 fun x61 => ?_
          refine im_iconst (pc := 122) (v := 1) dX6_walksFrom_122 (by decide) ?_
          refine im_iadd (pc := 123) dX6_walksFrom_123 ?_
          refine im_iast (pc := 124) dX6_walksFrom_124 fun h62 => ?_
          refine im_aload_n (pc := 125) dX6_walksFrom_125 rfl rfl ?_
          refine im_gr (pc := 126) fl_X6_101 dX6_walksFrom_126 fun r63 => ?_
          refine im_iload_n (pc := 129) dX6_walksFrom_129 rfl rfl ?_
          refine im_iload (pc := 130) dX6_walksFrom_130 rfl ?_
          refine im_iast (pc := 132) dX6_walksFrom_132 fun h64 => ?_
          refine im_iload_n (pc := 133) dX6_walksFrom_133 rfl rfl ?_
          refine im_iconst (pc := 134) (v := 1) dX6_walksFrom_134 (by decide) ?_
          refine im_iadd (pc := 135) dX6_walksFrom_135 ?_
          refine im_istore_n (pc := 136) (lv' := [some (.inr v0), none, some (.inl (v2 + 1)), some (.inl v3), some (.inl v4)]) dX6_walksFrom_136 rfl (by decide) rfl ?_
          refine im_iinc (pc := 137) (v := (v4 + 1)) (lv' := [some (.inr v0), none, some (.inl (v2 + 1)), some (.inl v3), some (.inl (v4 + 1))]) dX6_walksFrom_137 rfl rfl (by decide) rfl ?_
          refine im_goto (pc := 140) (tgt := 59) dX6_walksFrom_140 (by decide) ?_
          exact Im.back [true, false, true, true, true] rfl rfl
        · refine im_goto (pc := 102) (tgt := 137) dX6_walksFrom_102 (by decide) ?_
          refine im_iinc (pc := 137) (v := (v4 + 1)) (lv' := [some (.inr v0), none, some (.inl v2), some (.inl v3), some (.inl (v4 + 1))]) dX6_walksFrom_137 rfl rfl (by decide) rfl ?_
          refine im_goto (pc := 140) (tgt := 59) dX6_walksFrom_140 (by decide) ?_
          exact Im.back [true, false, true, true, true] rfl rfl
theorem mo_walksFrom_L59_ok (X : CT) (v0 : Option Nat) (v2 : Int32) (v3 : Int32) (v4 : Int32) (h : PH) : Im X (cX6_walksFrom, 5, RX6, "walksFrom", (some .int), 3) 59 [some (.inr v0), none, some (.inl v2), some (.inl v3), some (.inl v4)] [] h (mo_walksFrom_L59 v0 v2 v3 v4 h) (ez (fun s : Int32 × Int32 × PH => s.2.2) szI) (ek X 51 (fun s : Int32 × Int32 × PH => [some (.inr v0), none, some (.inl s.1), some (.inl s.2.1), none]) (fun s : Int32 × Int32 × PH => s.2.2) (kI X)) := by
  unfold mo_walksFrom_L59
  exact Im.iter (lv := (fun s : Int32 × Int32 × PH => [some (.inr v0), none, some (.inl s.1), some (.inl v3), some (.inl s.2.1)])) (hp := (fun s : Int32 × Int32 × PH => s.2.2)) (fun s => mo_walksFrom_b59_ok X v0 s.1 v3 s.2.1 s.2.2) _ rfl rfl
noncomputable def mo_walksFrom_b51 (v0 : Option Nat) (v2 : Int32) (v3 : Int32) (h : PH) : Option ((Int32 × Int32 × PH) ⊕ (Int32 × PH)) :=
  (if v2 ≤ v3 then
  some (.inr ((v2, h)))
  else
  mo_walksFrom_L59 v0 v2 v3 0 h)
noncomputable def mo_walksFrom_L51 (v0 : Option Nat) (v2 : Int32) (v3 : Int32) (h : PH) : Option (Int32 × PH) :=
  iter (fun s : Int32 × Int32 × PH => mo_walksFrom_b51 v0 s.1 s.2.1 s.2.2) (v2, v3, h)
theorem mo_walksFrom_b51_ok (X : CT) (v0 : Option Nat) (v2 : Int32) (v3 : Int32) (h : PH) : Im X (cX6_walksFrom, 5, RX6, "walksFrom", (some .int), 3) 51 [some (.inr v0), none, some (.inl v2), some (.inl v3), none] [] h (mo_walksFrom_b51 v0 v2 v3 h) (ez (fun s : Int32 × Int32 × PH => s.2.2) szI) (ek X 51 (fun s : Int32 × Int32 × PH => [some (.inr v0), none, some (.inl s.1), some (.inl s.2.1), none]) (fun s : Int32 × Int32 × PH => s.2.2) (kI X)) := by
  unfold mo_walksFrom_b51
  refine im_iload_n (pc := 51) dX6_walksFrom_51 rfl rfl ?_
  refine im_iload_n (pc := 52) dX6_walksFrom_52 rfl rfl ?_
  refine im_icmp_ge (pc := 53) (tgt := 149) dX6_walksFrom_53 (by decide) ?_ ?_
  · refine im_iload_n (pc := 149) dX6_walksFrom_149 rfl rfl ?_
    exact Im.outS (im_iret (pc := 150) dX6_walksFrom_150)
  · refine im_iconst (pc := 56) (v := 0) dX6_walksFrom_56 (by decide) ?_
    refine im_istore (pc := 57) (lv' := [some (.inr v0), none, some (.inl v2), some (.inl v3), some (.inl 0)]) dX6_walksFrom_57 (by decide) rfl ?_
    exact Im.drop [true, false, true, true, true] rfl (mo_walksFrom_L59_ok X v0 v2 v3 0 h)
theorem mo_walksFrom_L51_ok (X : CT) (v0 : Option Nat) (v2 : Int32) (v3 : Int32) (h : PH) : Im X (cX6_walksFrom, 5, RX6, "walksFrom", (some .int), 3) 51 [some (.inr v0), none, some (.inl v2), some (.inl v3), none] [] h (mo_walksFrom_L51 v0 v2 v3 h) szI (kI X) := by
  unfold mo_walksFrom_L51
  exact Im.iter (lv := (fun s : Int32 × Int32 × PH => [some (.inr v0), none, some (.inl s.1), some (.inl s.2.1), none])) (hp := (fun s : Int32 × Int32 × PH => s.2.2)) (fun s => mo_walksFrom_b51_ok X v0 s.1 s.2.1 s.2.2) _ rfl rfl
noncomputable def mo_walksFrom_b2 (v0 : Option Nat) (v1 : Int32) (v2 : Int32) (h : PH) : Option ((Int32 × PH) ⊕ (Int32 × PH)) :=
  (if 60 ≤ v2 then
  (mo_whoLies v0 v1 h).bind fun x51 =>
  (if x51 = (-2) then
  (gfr [5] 47 v0 h).bind fun r52 =>
  (ast 0 r52 v1 0 h).bind fun h53 =>
  (gfr [5] 48 v0 h53).bind fun r54 =>
  (ast 0 r54 0 v1 h53).bind fun h55 =>
  (mo_walksFrom_L51 v0 1 0 h55).map .inr
  else
  some (.inr ((0, h))))
  else
  (gfr [5] 47 v0 h).bind fun r56 =>
  (ast 0 r56 v2 (-1) h).bind fun h57 =>
  some (.inl ((v2 + 1), h57)))
noncomputable def mo_walksFrom_L2 (v0 : Option Nat) (v1 : Int32) (v2 : Int32) (h : PH) : Option (Int32 × PH) :=
  iter (fun s : Int32 × PH => mo_walksFrom_b2 v0 v1 s.1 s.2) (v2, h)
theorem mo_walksFrom_b2_ok (X : CT) (v0 : Option Nat) (v1 : Int32) (v2 : Int32) (h : PH) : Im X (cX6_walksFrom, 5, RX6, "walksFrom", (some .int), 3) 2 [some (.inr v0), some (.inl v1), some (.inl v2), none, none] [] h (mo_walksFrom_b2 v0 v1 v2 h) (ez (fun s : Int32 × PH => s.2) szI) (ek X 2 (fun s : Int32 × PH => [some (.inr v0), some (.inl v1), some (.inl s.1), none, none]) (fun s : Int32 × PH => s.2) (kI X)) := by
  unfold mo_walksFrom_b2
  refine im_iload_n (pc := 2) dX6_walksFrom_2 rfl rfl ?_
  refine im_bipush (pc := 3) (v := 60) dX6_walksFrom_3 (by decide) ?_
  refine im_icmp_ge (pc := 5) (tgt := 21) dX6_walksFrom_5 (by decide) ?_ ?_
  · refine im_aload_n (pc := 21) dX6_walksFrom_21 rfl rfl ?_
    refine im_iload_n (pc := 22) dX6_walksFrom_22 rfl rfl ?_
    refine cl_X6_247 mo_whoLies_im (pc := 23) (by decide) dX6_walksFrom_23 (Nat.le_of_ble_eq_true rfl) fun x51 => ?_
    refine im_bipush (pc := 26) (v := (-2)) dX6_walksFrom_26 (by decide) ?_
    refine im_icmp_eq (pc := 28) (tgt := 33) dX6_walksFrom_28 (by decide) ?_ ?_
    · refine im_aload_n (pc := 33) dX6_walksFrom_33 rfl rfl ?_
      refine im_gr (pc := 34) fl_X6_98 dX6_walksFrom_34 fun r52 => ?_
      refine im_iload_n (pc := 37) dX6_walksFrom_37 rfl rfl ?_
      refine im_iconst (pc := 38) (v := 0) dX6_walksFrom_38 (by decide) ?_
      refine im_iast (pc := 39) dX6_walksFrom_39 fun h53 => ?_
      refine im_aload_n (pc := 40) dX6_walksFrom_40 rfl rfl ?_
      refine im_gr (pc := 41) fl_X6_101 dX6_walksFrom_41 fun r54 => ?_
      refine im_iconst (pc := 44) (v := 0) dX6_walksFrom_44 (by decide) ?_
      refine im_iload_n (pc := 45) dX6_walksFrom_45 rfl rfl ?_
      refine im_iast (pc := 46) dX6_walksFrom_46 fun h55 => ?_
      refine im_iconst (pc := 47) (v := 1) dX6_walksFrom_47 (by decide) ?_
      refine im_istore_n (pc := 48) (lv' := [some (.inr v0), some (.inl v1), some (.inl 1), none, none]) dX6_walksFrom_48 rfl (by decide) rfl ?_
      refine im_iconst (pc := 49) (v := 0) dX6_walksFrom_49 (by decide) ?_
      refine im_istore_n (pc := 50) (lv' := [some (.inr v0), some (.inl v1), some (.inl 1), some (.inl 0), none]) dX6_walksFrom_50 rfl (by decide) rfl ?_
      exact Im.out (Im.drop [true, false, true, true, false] rfl (mo_walksFrom_L51_ok X v0 1 0 h55))
    · refine im_iconst (pc := 31) (v := 0) dX6_walksFrom_31 (by decide) ?_
      exact Im.outS (im_iret (pc := 32) dX6_walksFrom_32)
  · refine im_aload_n (pc := 8) dX6_walksFrom_8 rfl rfl ?_
    refine im_gr (pc := 9) fl_X6_98 dX6_walksFrom_9 fun r56 => ?_
    refine im_iload_n (pc := 12) dX6_walksFrom_12 rfl rfl ?_
    refine im_iconst (pc := 13) (v := (-1)) dX6_walksFrom_13 (by decide) ?_
    refine im_iast (pc := 14) dX6_walksFrom_14 fun h57 => ?_
    refine im_iinc (pc := 15) (v := (v2 + 1)) (lv' := [some (.inr v0), some (.inl v1), some (.inl (v2 + 1)), none, none]) dX6_walksFrom_15 rfl rfl (by decide) rfl ?_
    refine im_goto (pc := 18) (tgt := 2) dX6_walksFrom_18 (by decide) ?_
    exact Im.back [true, true, true, false, false] rfl rfl
theorem mo_walksFrom_L2_ok (X : CT) (v0 : Option Nat) (v1 : Int32) (v2 : Int32) (h : PH) : Im X (cX6_walksFrom, 5, RX6, "walksFrom", (some .int), 3) 2 [some (.inr v0), some (.inl v1), some (.inl v2), none, none] [] h (mo_walksFrom_L2 v0 v1 v2 h) szI (kI X) := by
  unfold mo_walksFrom_L2
  exact Im.iter (lv := (fun s : Int32 × PH => [some (.inr v0), some (.inl v1), some (.inl s.1), none, none])) (hp := (fun s : Int32 × PH => s.2)) (fun s => mo_walksFrom_b2_ok X v0 v1 s.1 s.2) _ rfl rfl
noncomputable def mo_walksFrom_0 (v0 : Option Nat) (v1 : Int32) (h : PH) : Option (Int32 × PH) :=
  mo_walksFrom_L2 v0 v1 0 h
theorem mo_walksFrom_0_ok (X : CT) (v0 : Option Nat) (v1 : Int32) (h : PH) : Im X (cX6_walksFrom, 5, RX6, "walksFrom", (some .int), 3) 0 [some (.inr v0), some (.inl v1), none, none, none] [] h (mo_walksFrom_0 v0 v1 h) szI (kI X) := by
  unfold mo_walksFrom_0
  refine im_iconst (pc := 0) (v := 0) dX6_walksFrom_0 (by decide) ?_
  refine im_istore_n (pc := 1) (lv' := [some (.inr v0), some (.inl v1), some (.inl 0), none, none]) dX6_walksFrom_1 rfl (by decide) rfl ?_
  exact Im.drop [true, true, true, false, false] rfl (mo_walksFrom_L2_ok X v0 v1 0 h)
noncomputable def mo_walksFrom (a0 : Option Nat) (a1 : Int32) (h : PH) : Option (Int32 × PH) := grd (isC [5] a0 h) (mo_walksFrom_0 a0 a1 h)
theorem mo_walksFrom_im : IM_X6_walksFrom mo_walksFrom 3 := by
  intro a0 a1 h r h' e
  obtain ⟨e1, e2⟩ := grd_some e
  exact ⟨e1, SpI.of (k := 3) (plainFor_of_name (by decide)) rfl (fun X => Im.drop [true, true, false, false, false] rfl (mo_walksFrom_0_ok X a0 a1 h)) e2⟩
def IM_X6_isSilent (f : Option Nat → Int32 → PH → Option (Int32)) (d : Nat) : Prop := ∀ (a0 : Option Nat) (a1 : Int32) (h : PH) (r : Int32), f a0 a1 h = some r → isC [5] a0 h = true ∧ SpI yX6_isSilent cX6_isSilent 3 (some .boolean) d [.inr a0, .inl a1] h r h
noncomputable def mo_isSilent_b14 (v0 : Option Nat) (v1 : Int32) (v2 : Int32) (h : PH) : Option ((Int32) ⊕ (Int32)) :=
  (if 60 ≤ v2 then
  some (.inr 1)
  else
  (mo_areNext v1 v2 h).bind fun x51 =>
  (if x51 = 0 then
  some (.inl (v2 + 1))
  else
  (mo_whoLies v0 v2 h).bind fun x52 =>
  (if x52 = (-2) then
  some (.inl (v2 + 1))
  else
  some (.inr 0))))
noncomputable def mo_isSilent_L14 (v0 : Option Nat) (v1 : Int32) (v2 : Int32) (h : PH) : Option (Int32) :=
  iter (fun s : Int32 => mo_isSilent_b14 v0 v1 s h) v2
theorem mo_isSilent_b14_ok (X : CT) (v0 : Option Nat) (v1 : Int32) (v2 : Int32) (h : PH) : Im X (cX6_isSilent, 3, RX6, "isSilent", (some .boolean), 3) 14 [some (.inr v0), some (.inl v1), some (.inl v2)] [] h (mo_isSilent_b14 v0 v1 v2 h) (ez (fun s : Int32 => h) (szP h)) (ek X 14 (fun s : Int32 => [some (.inr v0), some (.inl v1), some (.inl s)]) (fun s : Int32 => h) (kP X h)) := by
  unfold mo_isSilent_b14
  refine im_iload_n (pc := 14) dX6_isSilent_14 rfl rfl ?_
  refine im_bipush (pc := 15) (v := 60) dX6_isSilent_15 (by decide) ?_
  refine im_icmp_ge (pc := 17) (tgt := 46) dX6_isSilent_17 (by decide) ?_ ?_
  · refine im_iconst (pc := 46) (v := 1) dX6_isSilent_46 (by decide) ?_
    exact Im.outS (im_zretTP (pc := 47) (nar_z (Or.inr rfl)) dX6_isSilent_47)
  · refine im_iload_n (pc := 20) dX6_isSilent_20 rfl rfl ?_
    refine im_iload_n (pc := 21) dX6_isSilent_21 rfl rfl ?_
    refine cl_X6_119 mo_areNext_im (pc := 22) (by decide) dX6_isSilent_22 (Nat.le_of_ble_eq_true rfl) fun x51 => ?_
    refine im_if_eq (pc := 25) (tgt := 40) dX6_isSilent_25 (by decide) ?_ ?_
    · refine im_iinc (pc := 40) (v := (v2 + 1)) (lv' := [some (.inr v0), some (.inl v1), some (.inl (v2 + 1))]) dX6_isSilent_40 rfl rfl (by decide) rfl ?_
      refine im_goto (pc := 43) (tgt := 14) dX6_isSilent_43 (by decide) ?_
      exact Im.back [true, true, true] rfl rfl
    · refine im_aload_n (pc := 28) dX6_isSilent_28 rfl rfl ?_
      refine im_iload_n (pc := 29) dX6_isSilent_29 rfl rfl ?_
      refine cl_X6_247 mo_whoLies_im (pc := 30) (by decide) dX6_isSilent_30 (Nat.le_of_ble_eq_true rfl) fun x52 => ?_
      refine im_bipush (pc := 33) (v := (-2)) dX6_isSilent_33 (by decide) ?_
      refine im_icmp_eq (pc := 35) (tgt := 40) dX6_isSilent_35 (by decide) ?_ ?_
      · refine im_iinc (pc := 40) (v := (v2 + 1)) (lv' := [some (.inr v0), some (.inl v1), some (.inl (v2 + 1))]) dX6_isSilent_40 rfl rfl (by decide) rfl ?_
        refine im_goto (pc := 43) (tgt := 14) dX6_isSilent_43 (by decide) ?_
        exact Im.back [true, true, true] rfl rfl
      · refine im_iconst (pc := 38) (v := 0) dX6_isSilent_38 (by decide) ?_
        exact Im.outS (im_zretTP (pc := 39) (nar_z (Or.inl rfl)) dX6_isSilent_39)
theorem mo_isSilent_L14_ok (X : CT) (v0 : Option Nat) (v1 : Int32) (v2 : Int32) (h : PH) : Im X (cX6_isSilent, 3, RX6, "isSilent", (some .boolean), 3) 14 [some (.inr v0), some (.inl v1), some (.inl v2)] [] h (mo_isSilent_L14 v0 v1 v2 h) (szP h) (kP X h) := by
  unfold mo_isSilent_L14
  exact Im.iter (lv := (fun s : Int32 => [some (.inr v0), some (.inl v1), some (.inl s)])) (hp := (fun s : Int32 => h)) (fun s => mo_isSilent_b14_ok X v0 v1 s h) _ rfl rfl
noncomputable def mo_isSilent_0 (v0 : Option Nat) (v1 : Int32) (h : PH) : Option (Int32) :=
  (mo_whoLies v0 v1 h).bind fun x51 =>
  (if x51 = (-2) then
  mo_isSilent_L14 v0 v1 0 h
  else
  some (0))
theorem mo_isSilent_0_ok (X : CT) (v0 : Option Nat) (v1 : Int32) (h : PH) : Im X (cX6_isSilent, 3, RX6, "isSilent", (some .boolean), 3) 0 [some (.inr v0), some (.inl v1), none] [] h (mo_isSilent_0 v0 v1 h) (szP h) (kP X h) := by
  unfold mo_isSilent_0
  refine im_aload_n (pc := 0) dX6_isSilent_0 rfl rfl ?_
  refine im_iload_n (pc := 1) dX6_isSilent_1 rfl rfl ?_
  refine cl_X6_247 mo_whoLies_im (pc := 2) (by decide) dX6_isSilent_2 (Nat.le_of_ble_eq_true rfl) fun x51 => ?_
  refine im_bipush (pc := 5) (v := (-2)) dX6_isSilent_5 (by decide) ?_
  refine im_icmp_eq (pc := 7) (tgt := 12) dX6_isSilent_7 (by decide) ?_ ?_
  · refine im_iconst (pc := 12) (v := 0) dX6_isSilent_12 (by decide) ?_
    refine im_istore_n (pc := 13) (lv' := [some (.inr v0), some (.inl v1), some (.inl 0)]) dX6_isSilent_13 rfl (by decide) rfl ?_
    exact Im.drop [true, true, true] rfl (mo_isSilent_L14_ok X v0 v1 0 h)
  · refine im_iconst (pc := 10) (v := 0) dX6_isSilent_10 (by decide) ?_
    exact im_zretTP (pc := 11) (nar_z (Or.inl rfl)) dX6_isSilent_11
noncomputable def mo_isSilent (a0 : Option Nat) (a1 : Int32) (h : PH) : Option (Int32) := grd (isC [5] a0 h) (mo_isSilent_0 a0 a1 h)
theorem mo_isSilent_im : IM_X6_isSilent mo_isSilent 3 := by
  intro a0 a1 h r e
  obtain ⟨e1, e2⟩ := grd_some e
  exact ⟨e1, SpI.ofP (k := 1) (plainFor_of_name (by decide)) rfl (fun X => Im.drop [true, true, false] rfl (mo_isSilent_0_ok X a0 a1 h)) e2⟩
theorem cl_X6_389 {X : CT} {cc : ByteArray} {nL : Nat} {mn : String} {ret : Option FieldType} {d d0 : Nat} {τ : Type} {pc : Nat} {lv : List (Option PV)} {st : List PV} {h : PH} {sz : τ → Nat × Nat} {K : τ → Prop} {f : Option Nat → Int32 → PH → Option (Int32 × PH)} (HR : IM_X6_walksFrom f d0) {a0 : Option Nat} {a1 : Int32} {g : Int32 → PH → Option τ} (hd : d0 + 1 ≤ d) (hdg : decode cc pc = .ok (.invokevirtual 389, 3)) (hst : st.length ≤ 8) (kk : ∀ r h', Im X (cc, nL, RX6, mn, ret, d) (pc + 3) lv (.inl r :: st) h' (g r h') sz K) : Im X (cc, nL, RX6, mn, ret, d) pc lv (.inl a1 :: .inr a0 :: st) h (bd2 (f a0 a1 h) g) sz K := by
  refine im_cI (y := yX6_walksFrom) (cY := cX6_walksFrom) (nY := 5) (rY := (some .int)) (d' := d0) (av := [.inr a0, .inl a1]) (fun r h' e hX => ?_) (fun r h' e => (HR _ _ _ _ _ e).2) hd (by decide) hst rfl kk
  obtain ⟨a, c, fs, rfl, ec, hm⟩ := isC_some (HR _ _ _ _ _ e).1
  cases List.mem_singleton.mp hm
  exact cal_V (n := 1) hX (lw_V q1689 q1691 qs102 q112 q1692) (by decide +kernel) rfl rfl ec hdg

theorem cl_X6_392 {X : CT} {cc : ByteArray} {nL : Nat} {mn : String} {ret : Option FieldType} {d d0 : Nat} {τ : Type} {pc : Nat} {lv : List (Option PV)} {st : List PV} {h : PH} {sz : τ → Nat × Nat} {K : τ → Prop} {f : Option Nat → Int32 → PH → Option (Int32)} (HR : IM_X6_isSilent f d0) {a0 : Option Nat} {a1 : Int32} {g : Int32 → Option τ} (hd : d0 + 1 ≤ d) (hdg : decode cc pc = .ok (.invokevirtual 392, 3)) (hst : st.length ≤ 8) (kk : ∀ r, Im X (cc, nL, RX6, mn, ret, d) (pc + 3) lv (.inl r :: st) h (g r) sz K) : Im X (cc, nL, RX6, mn, ret, d) pc lv (.inl a1 :: .inr a0 :: st) h ((f a0 a1 h).bind g) sz K := by
  refine im_cP (y := yX6_isSilent) (cY := cX6_isSilent) (nY := 3) (rY := (some .boolean)) (d' := d0) (av := [.inr a0, .inl a1]) (fun r e hX => ?_) (fun r e => (HR _ _ _ _ e).2) hd (by decide) hst rfl kk
  obtain ⟨a, c, fs, rfl, ec, hm⟩ := isC_some (HR _ _ _ _ e).1
  cases List.mem_singleton.mp hm
  exact cal_V (n := 1) hX (lw_V q1693 q1695 qs103 q112 q1696) (by decide +kernel) rfl rfl ec hdg

def IM_X6_silent (f : Option Nat → Int32 → PH → Option (Int32 × PH)) (d : Nat) : Prop := ∀ (a0 : Option Nat) (a1 : Int32) (h : PH) (r : Int32) (h' : PH), f a0 a1 h = some (r, h') → isC [5] a0 h = true ∧ SpI yX6_silent cX6_silent 6 (some .int) d [.inr a0, .inl a1] h r h'
noncomputable def mo_silent_46 (v0 : Option Nat) (v1 : Int32) (v2 : Int32) (v3 : Int32) (v4 : Int32) (v5 : Int32) (h : PH) : Option ((Int32 × Int32 × Int32 × Int32 × PH) ⊕ (Int32 × PH)) :=
  (mo_isSilent v0 v5 h).bind fun x51 =>
  (if x51 = 0 then
  some (.inl (v2, v3, v4, (v5 + (-1)), h))
  else
  some (.inl ((v2 + 1), v5, v4, (v5 + (-1)), h)))
theorem mo_silent_46_ok (X : CT) (v0 : Option Nat) (v1 : Int32) (v2 : Int32) (v3 : Int32) (v4 : Int32) (v5 : Int32) (h : PH) : Im X (cX6_silent, 6, RX6, "silent", (some .int), 4) 46 [some (.inr v0), some (.inl v1), some (.inl v2), some (.inl v3), some (.inl v4), some (.inl v5)] [] h (mo_silent_46 v0 v1 v2 v3 v4 v5 h) (ez (fun s : Int32 × Int32 × Int32 × Int32 × PH => s.2.2.2.2) szI) (ek X 23 (fun s : Int32 × Int32 × Int32 × Int32 × PH => [some (.inr v0), some (.inl v1), some (.inl s.1), some (.inl s.2.1), some (.inl s.2.2.1), some (.inl s.2.2.2.1)]) (fun s : Int32 × Int32 × Int32 × Int32 × PH => s.2.2.2.2) (kI X)) := by
  unfold mo_silent_46
  refine im_aload_n (pc := 46) dX6_silent_46 rfl rfl ?_
  refine im_iload (pc := 47) dX6_silent_47 rfl ?_
  refine cl_X6_392 mo_isSilent_im (pc := 49) (by decide) dX6_silent_49 (Nat.le_of_ble_eq_true rfl) fun x51 => ?_
  refine im_if_ne (pc := 52) (tgt := 58) dX6_silent_52 (by decide) ?_ ?_
  · refine im_iload_n (pc := 58) dX6_silent_58 rfl rfl ?_
    refine im_iconst (pc := 59) (v := 1) dX6_silent_59 (by decide) ?_
    refine im_iadd (pc := 60) dX6_silent_60 ?_
    refine im_istore_n (pc := 61) (lv' := [some (.inr v0), some (.inl v1), some (.inl (v2 + 1)), some (.inl v3), some (.inl v4), some (.inl v5)]) dX6_silent_61 rfl (by decide) rfl ?_
    refine im_iload (pc := 62) dX6_silent_62 rfl ?_
    refine im_istore_n (pc := 64) (lv' := [some (.inr v0), some (.inl v1), some (.inl (v2 + 1)), some (.inl v5), some (.inl v4), some (.inl v5)]) dX6_silent_64 rfl (by decide) rfl ?_
    refine im_iinc (pc := 65) (v := (v5 + (-1))) (lv' := [some (.inr v0), some (.inl v1), some (.inl (v2 + 1)), some (.inl v5), some (.inl v4), some (.inl (v5 + (-1)))]) dX6_silent_65 rfl rfl (by decide) rfl ?_
    refine im_goto (pc := 68) (tgt := 23) dX6_silent_68 (by decide) ?_
    exact Im.back [true, true, true, true, true, true] rfl rfl
  · refine im_goto (pc := 55) (tgt := 65) dX6_silent_55 (by decide) ?_
    refine im_iinc (pc := 65) (v := (v5 + (-1))) (lv' := [some (.inr v0), some (.inl v1), some (.inl v2), some (.inl v3), some (.inl v4), some (.inl (v5 + (-1)))]) dX6_silent_65 rfl rfl (by decide) rfl ?_
    refine im_goto (pc := 68) (tgt := 23) dX6_silent_68 (by decide) ?_
    exact Im.back [true, true, true, true, true, true] rfl rfl
noncomputable def mo_silent_b23 (v0 : Option Nat) (v1 : Int32) (v2 : Int32) (v3 : Int32) (v4 : Int32) (v5 : Int32) (h : PH) : Option ((Int32 × Int32 × Int32 × Int32 × PH) ⊕ (Int32 × PH)) :=
  (if v5 < 0 then
  (if v1 = 0 then
  some (.inr ((v2, h)))
  else
  (if v1 = 1 then
  some (.inr ((v3, h)))
  else
  some (.inr ((v4, h)))))
  else
  (if v1 = 2 then
  bd2 (mo_walksFrom v0 v5 h) fun x52 h51 =>
  (mo_max v4 x52 h51).bind fun x53 =>
  mo_silent_46 v0 v1 v2 v3 x53 v5 h51
  else
  mo_silent_46 v0 v1 v2 v3 v4 v5 h))
noncomputable def mo_silent_L23 (v0 : Option Nat) (v1 : Int32) (v2 : Int32) (v3 : Int32) (v4 : Int32) (v5 : Int32) (h : PH) : Option (Int32 × PH) :=
  iter (fun s : Int32 × Int32 × Int32 × Int32 × PH => mo_silent_b23 v0 v1 s.1 s.2.1 s.2.2.1 s.2.2.2.1 s.2.2.2.2) (v2, v3, v4, v5, h)
theorem mo_silent_b23_ok (X : CT) (v0 : Option Nat) (v1 : Int32) (v2 : Int32) (v3 : Int32) (v4 : Int32) (v5 : Int32) (h : PH) : Im X (cX6_silent, 6, RX6, "silent", (some .int), 4) 23 [some (.inr v0), some (.inl v1), some (.inl v2), some (.inl v3), some (.inl v4), some (.inl v5)] [] h (mo_silent_b23 v0 v1 v2 v3 v4 v5 h) (ez (fun s : Int32 × Int32 × Int32 × Int32 × PH => s.2.2.2.2) szI) (ek X 23 (fun s : Int32 × Int32 × Int32 × Int32 × PH => [some (.inr v0), some (.inl v1), some (.inl s.1), some (.inl s.2.1), some (.inl s.2.2.1), some (.inl s.2.2.2.1)]) (fun s : Int32 × Int32 × Int32 × Int32 × PH => s.2.2.2.2) (kI X)) := by
  unfold mo_silent_b23
  refine im_iload (pc := 23) dX6_silent_23 rfl ?_
  refine im_if_lt (pc := 25) (tgt := 71) dX6_silent_25 (by decide) ?_ ?_
  · refine im_iload_n (pc := 71) dX6_silent_71 rfl rfl ?_
    refine im_if_ne (pc := 72) (tgt := 79) dX6_silent_72 (by decide) ?_ ?_
    · refine im_iload_n (pc := 79) dX6_silent_79 rfl rfl ?_
      refine im_iconst (pc := 80) (v := 1) dX6_silent_80 (by decide) ?_
      refine im_icmp_ne (pc := 81) (tgt := 88) dX6_silent_81 (by decide) ?_ ?_
      · refine im_iload (pc := 88) dX6_silent_88 rfl ?_
        exact Im.outS (im_iret (pc := 90) dX6_silent_90)
      · refine im_iload_n (pc := 84) dX6_silent_84 rfl rfl ?_
        refine im_goto (pc := 85) (tgt := 90) dX6_silent_85 (by decide) ?_
        exact Im.outS (im_iret (pc := 90) dX6_silent_90)
    · refine im_iload_n (pc := 75) dX6_silent_75 rfl rfl ?_
      refine im_goto (pc := 76) (tgt := 90) dX6_silent_76 (by decide) ?_
      exact Im.outS (im_iret (pc := 90) dX6_silent_90)
  · refine im_iload_n (pc := 28) dX6_silent_28 rfl rfl ?_
    refine im_iconst (pc := 29) (v := 2) dX6_silent_29 (by decide) ?_
    refine im_icmp_ne (pc := 30) (tgt := 46) dX6_silent_30 (by decide) ?_ ?_
    · exact Im.drop [true, true, true, true, true, true] rfl (mo_silent_46_ok X v0 v1 v2 v3 v4 v5 h)
    · refine im_iload (pc := 33) dX6_silent_33 rfl ?_
      refine im_aload_n (pc := 35) dX6_silent_35 rfl rfl ?_
      refine im_iload (pc := 36) dX6_silent_36 rfl ?_
      refine cl_X6_389 mo_walksFrom_im (pc := 38) (by decide) dX6_silent_38 (Nat.le_of_ble_eq_true rfl) fun x52 h51 => ?_
      refine cl_X6_310 mo_max_im (pc := 41) (by decide) dX6_silent_41 (Nat.le_of_ble_eq_true rfl) fun x53 => ?_
      refine im_istore (pc := 44) (lv' := [some (.inr v0), some (.inl v1), some (.inl v2), some (.inl v3), some (.inl x53), some (.inl v5)]) dX6_silent_44 (by decide) rfl ?_
      exact Im.drop [true, true, true, true, true, true] rfl (mo_silent_46_ok X v0 v1 v2 v3 x53 v5 h51)
theorem mo_silent_L23_ok (X : CT) (v0 : Option Nat) (v1 : Int32) (v2 : Int32) (v3 : Int32) (v4 : Int32) (v5 : Int32) (h : PH) : Im X (cX6_silent, 6, RX6, "silent", (some .int), 4) 23 [some (.inr v0), some (.inl v1), some (.inl v2), some (.inl v3), some (.inl v4), some (.inl v5)] [] h (mo_silent_L23 v0 v1 v2 v3 v4 v5 h) szI (kI X) := by
  unfold mo_silent_L23
  exact Im.iter (lv := (fun s : Int32 × Int32 × Int32 × Int32 × PH => [some (.inr v0), some (.inl v1), some (.inl s.1), some (.inl s.2.1), some (.inl s.2.2.1), some (.inl s.2.2.2.1)])) (hp := (fun s : Int32 × Int32 × Int32 × Int32 × PH => s.2.2.2.2)) (fun s => mo_silent_b23_ok X v0 v1 s.1 s.2.1 s.2.2.1 s.2.2.2.1 s.2.2.2.2) _ rfl rfl
noncomputable def mo_silent_0 (v0 : Option Nat) (v1 : Int32) (h : PH) : Option (Int32 × PH) :=
  (mo_in v1 0 2 h).bind fun x51 =>
  (if x51 = 0 then
  some (((-1), h))
  else
  mo_silent_L23 v0 v1 0 (-2) 0 59 h)
theorem mo_silent_0_ok (X : CT) (v0 : Option Nat) (v1 : Int32) (h : PH) : Im X (cX6_silent, 6, RX6, "silent", (some .int), 4) 0 [some (.inr v0), some (.inl v1), none, none, none, none] [] h (mo_silent_0 v0 v1 h) szI (kI X) := by
  unfold mo_silent_0
  refine im_iload_n (pc := 0) dX6_silent_0 rfl rfl ?_
  refine im_iconst (pc := 1) (v := 0) dX6_silent_1 (by decide) ?_
  refine im_iconst (pc := 2) (v := 2) dX6_silent_2 (by decide) ?_
  refine cl_X6_104 mo_in_im (pc := 3) (by decide) dX6_silent_3 (Nat.le_of_ble_eq_true rfl) fun x51 => ?_
  refine im_if_ne (pc := 6) (tgt := 11) dX6_silent_6 (by decide) ?_ ?_
  · refine im_iconst (pc := 11) (v := 0) dX6_silent_11 (by decide) ?_
    refine im_istore_n (pc := 12) (lv' := [some (.inr v0), some (.inl v1), some (.inl 0), none, none, none]) dX6_silent_12 rfl (by decide) rfl ?_
    refine im_bipush (pc := 13) (v := (-2)) dX6_silent_13 (by decide) ?_
    refine im_istore_n (pc := 15) (lv' := [some (.inr v0), some (.inl v1), some (.inl 0), some (.inl (-2)), none, none]) dX6_silent_15 rfl (by decide) rfl ?_
    refine im_iconst (pc := 16) (v := 0) dX6_silent_16 (by decide) ?_
    refine im_istore (pc := 17) (lv' := [some (.inr v0), some (.inl v1), some (.inl 0), some (.inl (-2)), some (.inl 0), none]) dX6_silent_17 (by decide) rfl ?_
    refine im_bipush (pc := 19) (v := 59) dX6_silent_19 (by decide) ?_
    refine im_istore (pc := 21) (lv' := [some (.inr v0), some (.inl v1), some (.inl 0), some (.inl (-2)), some (.inl 0), some (.inl 59)]) dX6_silent_21 (by decide) rfl ?_
    exact Im.drop [true, true, true, true, true, true] rfl (mo_silent_L23_ok X v0 v1 0 (-2) 0 59 h)
  · refine im_iconst (pc := 9) (v := (-1)) dX6_silent_9 (by decide) ?_
    exact im_iret (pc := 10) dX6_silent_10
noncomputable def mo_silent (a0 : Option Nat) (a1 : Int32) (h : PH) : Option (Int32 × PH) := grd (isC [5] a0 h) (mo_silent_0 a0 a1 h)
theorem mo_silent_im : IM_X6_silent mo_silent 4 := by
  intro a0 a1 h r h' e
  obtain ⟨e1, e2⟩ := grd_some e
  exact ⟨e1, SpI.of (k := 4) (plainFor_of_name (by decide)) rfl (fun X => Im.drop [true, true, false, false, false, false] rfl (mo_silent_0_ok X a0 a1 h)) e2⟩
def IM_X6_stepsBeside (f : Option Nat → Int32 → PH → Option (Int32)) (d : Nat) : Prop := ∀ (a0 : Option Nat) (a1 : Int32) (h : PH) (r : Int32), f a0 a1 h = some r → isC [5] a0 h = true ∧ SpI yX6_stepsBeside cX6_stepsBeside 4 (some .int) d [.inr a0, .inl a1] h r h
noncomputable def mo_stepsBeside_b5 (v0 : Option Nat) (v1 : Int32) (v2 : Int32) (v3 : Int32) (h : PH) : Option ((Int32 × Int32) ⊕ (Int32)) :=
  (if 60 ≤ v3 then
  some (.inr v2)
  else
  (mo_areNext v1 v3 h).bind fun x51 =>
  (if x51 = 0 then
  some (.inl (v2, (v3 + 1)))
  else
  (gfr [5] 47 v0 h).bind fun r52 =>
  (ald 0 r52 v3 h).bind fun x53 =>
  (if x53 = (-1) then
  some (.inl (v2, (v3 + 1)))
  else
  (if v2 = (-2) then
  (gfr [5] 47 v0 h).bind fun r54 =>
  (ald 0 r54 v3 h).bind fun x55 =>
  some (.inl (x55, (v3 + 1)))
  else
  (gfr [5] 47 v0 h).bind fun r56 =>
  (ald 0 r56 v3 h).bind fun x57 =>
  (if v2 ≤ x57 then
  some (.inl (v2, (v3 + 1)))
  else
  (gfr [5] 47 v0 h).bind fun r58 =>
  (ald 0 r58 v3 h).bind fun x59 =>
  some (.inl (x59, (v3 + 1))))))))
noncomputable def mo_stepsBeside_L5 (v0 : Option Nat) (v1 : Int32) (v2 : Int32) (v3 : Int32) (h : PH) : Option (Int32) :=
  iter (fun s : Int32 × Int32 => mo_stepsBeside_b5 v0 v1 s.1 s.2 h) (v2, v3)
theorem mo_stepsBeside_b5_ok (X : CT) (v0 : Option Nat) (v1 : Int32) (v2 : Int32) (v3 : Int32) (h : PH) : Im X (cX6_stepsBeside, 4, RX6, "stepsBeside", (some .int), 3) 5 [some (.inr v0), some (.inl v1), some (.inl v2), some (.inl v3)] [] h (mo_stepsBeside_b5 v0 v1 v2 v3 h) (ez (fun s : Int32 × Int32 => h) (szP h)) (ek X 5 (fun s : Int32 × Int32 => [some (.inr v0), some (.inl v1), some (.inl s.1), some (.inl s.2)]) (fun s : Int32 × Int32 => h) (kP X h)) := by
  unfold mo_stepsBeside_b5
  refine im_iload_n (pc := 5) dX6_stepsBeside_5 rfl rfl ?_
  refine im_bipush (pc := 6) (v := 60) dX6_stepsBeside_6 (by decide) ?_
  refine im_icmp_ge (pc := 8) (tgt := 58) dX6_stepsBeside_8 (by decide) ?_ ?_
  · refine im_iload_n (pc := 58) dX6_stepsBeside_58 rfl rfl ?_
    exact Im.outS (im_iretP (pc := 59) dX6_stepsBeside_59)
  · refine im_iload_n (pc := 11) dX6_stepsBeside_11 rfl rfl ?_
    refine im_iload_n (pc := 12) dX6_stepsBeside_12 rfl rfl ?_
    refine cl_X6_119 mo_areNext_im (pc := 13) (by decide) dX6_stepsBeside_13 (Nat.le_of_ble_eq_true rfl) fun x51 => ?_
    refine im_if_eq (pc := 16) (tgt := 52) dX6_stepsBeside_16 (by decide) ?_ ?_
    · refine im_iinc (pc := 52) (v := (v3 + 1)) (lv' := [some (.inr v0), some (.inl v1), some (.inl v2), some (.inl (v3 + 1))]) dX6_stepsBeside_52 rfl rfl (by decide) rfl ?_
      refine im_goto (pc := 55) (tgt := 5) dX6_stepsBeside_55 (by decide) ?_
      exact Im.back [true, true, true, true] rfl rfl
    · refine im_aload_n (pc := 19) dX6_stepsBeside_19 rfl rfl ?_
      refine im_gr (pc := 20) fl_X6_98 dX6_stepsBeside_20 fun r52 => ?_
      refine im_iload_n (pc := 23) dX6_stepsBeside_23 rfl rfl ?_
      refine im_iald (pc := 24) dX6_stepsBeside_24 fun x53 => ?_
      refine im_iconst (pc := 25) (v := (-1)) dX6_stepsBeside_25 (by decide) ?_
      refine im_icmp_eq (pc := 26) (tgt := 52) dX6_stepsBeside_26 (by decide) ?_ ?_
      · refine im_iinc (pc := 52) (v := (v3 + 1)) (lv' := [some (.inr v0), some (.inl v1), some (.inl v2), some (.inl (v3 + 1))]) dX6_stepsBeside_52 rfl rfl (by decide) rfl ?_
        refine im_goto (pc := 55) (tgt := 5) dX6_stepsBeside_55 (by decide) ?_
        exact Im.back [true, true, true, true] rfl rfl
      · refine im_iload_n (pc := 29) dX6_stepsBeside_29 rfl rfl ?_
        refine im_bipush (pc := 30) (v := (-2)) dX6_stepsBeside_30 (by decide) ?_
        refine im_icmp_eq (pc := 32) (tgt := 45) dX6_stepsBeside_32 (by decide) ?_ ?_
        · refine im_aload_n (pc := 45) dX6_stepsBeside_45 rfl rfl ?_
          refine im_gr (pc := 46) fl_X6_98 dX6_stepsBeside_46 fun r54 => ?_
          refine im_iload_n (pc := 49) dX6_stepsBeside_49 rfl rfl ?_
          refine im_iald (pc := 50) dX6_stepsBeside_50 fun x55 => ?_
          refine im_istore_n (pc := 51) (lv' := [some (.inr v0), some (.inl v1), some (.inl x55), some (.inl v3)]) dX6_stepsBeside_51 rfl (by decide) rfl ?_
          refine im_iinc (pc := 52) (v := (v3 + 1)) (lv' := [some (.inr v0), some (.inl v1), some (.inl x55), some (.inl (v3 + 1))]) dX6_stepsBeside_52 rfl rfl (by decide) rfl ?_
          refine im_goto (pc := 55) (tgt := 5) dX6_stepsBeside_55 (by decide) ?_
          exact Im.back [true, true, true, true] rfl rfl
        · refine im_aload_n (pc := 35) dX6_stepsBeside_35 rfl rfl ?_
          refine im_gr (pc := 36) fl_X6_98 dX6_stepsBeside_36 fun r56 => ?_
          refine im_iload_n (pc := 39) dX6_stepsBeside_39 rfl rfl ?_
          refine im_iald (pc := 40) dX6_stepsBeside_40 fun x57 => ?_
          refine im_iload_n (pc := 41) dX6_stepsBeside_41 rfl rfl ?_
          refine im_icmp_ge (pc := 42) (tgt := 52) dX6_stepsBeside_42 (by decide) ?_ ?_
          · refine im_iinc (pc := 52) (v := (v3 + 1)) (lv' := [some (.inr v0), some (.inl v1), some (.inl v2), some (.inl (v3 + 1))]) dX6_stepsBeside_52 rfl rfl (by decide) rfl ?_
            refine im_goto (pc := 55) (tgt := 5) dX6_stepsBeside_55 (by decide) ?_
            exact Im.back [true, true, true, true] rfl rfl
          · refine im_aload_n (pc := 45) dX6_stepsBeside_45 rfl rfl ?_
            refine im_gr (pc := 46) fl_X6_98 dX6_stepsBeside_46 fun r58 => ?_
            refine im_iload_n (pc := 49) dX6_stepsBeside_49 rfl rfl ?_
            refine im_iald (pc := 50) dX6_stepsBeside_50 fun x59 => ?_
            refine im_istore_n (pc := 51) (lv' := [some (.inr v0), some (.inl v1), some (.inl x59), some (.inl v3)]) dX6_stepsBeside_51 rfl (by decide) rfl ?_
            refine im_iinc (pc := 52) (v := (v3 + 1)) (lv' := [some (.inr v0), some (.inl v1), some (.inl x59), some (.inl (v3 + 1))]) dX6_stepsBeside_52 rfl rfl (by decide) rfl ?_
            refine im_goto (pc := 55) (tgt := 5) dX6_stepsBeside_55 (by decide) ?_
            exact Im.back [true, true, true, true] rfl rfl
theorem mo_stepsBeside_L5_ok (X : CT) (v0 : Option Nat) (v1 : Int32) (v2 : Int32) (v3 : Int32) (h : PH) : Im X (cX6_stepsBeside, 4, RX6, "stepsBeside", (some .int), 3) 5 [some (.inr v0), some (.inl v1), some (.inl v2), some (.inl v3)] [] h (mo_stepsBeside_L5 v0 v1 v2 v3 h) (szP h) (kP X h) := by
  unfold mo_stepsBeside_L5
  exact Im.iter (lv := (fun s : Int32 × Int32 => [some (.inr v0), some (.inl v1), some (.inl s.1), some (.inl s.2)])) (hp := (fun s : Int32 × Int32 => h)) (fun s => mo_stepsBeside_b5_ok X v0 v1 s.1 s.2 h) _ rfl rfl
noncomputable def mo_stepsBeside_0 (v0 : Option Nat) (v1 : Int32) (h : PH) : Option (Int32) :=
  mo_stepsBeside_L5 v0 v1 (-2) 0 h
theorem mo_stepsBeside_0_ok (X : CT) (v0 : Option Nat) (v1 : Int32) (h : PH) : Im X (cX6_stepsBeside, 4, RX6, "stepsBeside", (some .int), 3) 0 [some (.inr v0), some (.inl v1), none, none] [] h (mo_stepsBeside_0 v0 v1 h) (szP h) (kP X h) := by
  unfold mo_stepsBeside_0
  refine im_bipush (pc := 0) (v := (-2)) dX6_stepsBeside_0 (by decide) ?_
  refine im_istore_n (pc := 2) (lv' := [some (.inr v0), some (.inl v1), some (.inl (-2)), none]) dX6_stepsBeside_2 rfl (by decide) rfl ?_
  refine im_iconst (pc := 3) (v := 0) dX6_stepsBeside_3 (by decide) ?_
  refine im_istore_n (pc := 4) (lv' := [some (.inr v0), some (.inl v1), some (.inl (-2)), some (.inl 0)]) dX6_stepsBeside_4 rfl (by decide) rfl ?_
  exact Im.drop [true, true, true, true] rfl (mo_stepsBeside_L5_ok X v0 v1 (-2) 0 h)
noncomputable def mo_stepsBeside (a0 : Option Nat) (a1 : Int32) (h : PH) : Option (Int32) := grd (isC [5] a0 h) (mo_stepsBeside_0 a0 a1 h)
theorem mo_stepsBeside_im : IM_X6_stepsBeside mo_stepsBeside 3 := by
  intro a0 a1 h r e
  obtain ⟨e1, e2⟩ := grd_some e
  exact ⟨e1, SpI.ofP (k := 2) (plainFor_of_name (by decide)) rfl (fun X => Im.drop [true, true, false, false] rfl (mo_stepsBeside_0_ok X a0 a1 h)) e2⟩
