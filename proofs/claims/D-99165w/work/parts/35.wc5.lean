set_option maxRecDepth 100000
def IM_X0_told (f : Int32 → Int32 → Int32 → Int32 → PH → Option (Int32)) (d : Nat) : Prop := ∀ (a0 : Int32) (a1 : Int32) (a2 : Int32) (a3 : Int32) (h : PH) (r : Int32), f a0 a1 a2 a3 h = some r → SpI yX0_told cX0_told 4 (some .int) d [.inl a0, .inl a1, .inl a2, .inl a3] h r h
noncomputable def tp_told_0 (v0 : Int32) (v1 : Int32) (v2 : Int32) (v3 : Int32) (h : PH) : Option (Int32) :=
  (if v2 = 0 then
  some ((-2))
  else
  (if v3 = 0 then
  some (v0)
  else
  (if v3 = 1 then
  some (v1)
  else
  some (v2))))
theorem tp_told_0_ok (X : CT) (v0 : Int32) (v1 : Int32) (v2 : Int32) (v3 : Int32) (h : PH) : Im X (cX0_told, 4, RX0, "told", (some .int), 1) 0 [some (.inl v0), some (.inl v1), some (.inl v2), some (.inl v3)] [] h (tp_told_0 v0 v1 v2 v3 h) (szP h) (kP X h) := by
  unfold tp_told_0
  refine im_iload_n (pc := 0) dX0_told_0 rfl rfl ?_
  refine im_if_ne (pc := 1) (tgt := 9) dX0_told_1 (by decide) ?_ ?_
  · refine im_iload_n (pc := 9) dX0_told_9 rfl rfl ?_
    refine im_if_ne (pc := 10) (tgt := 17) dX0_told_10 (by decide) ?_ ?_
    · refine im_iload_n (pc := 17) dX0_told_17 rfl rfl ?_
      refine im_iconst (pc := 18) (v := 1) dX0_told_18 (by decide) ?_
      refine im_icmp_ne (pc := 19) (tgt := 26) dX0_told_19 (by decide) ?_ ?_
      · refine im_iload_n (pc := 26) dX0_told_26 rfl rfl ?_
        exact im_iretP (pc := 27) dX0_told_27
      · refine im_iload_n (pc := 22) dX0_told_22 rfl rfl ?_
        refine im_goto (pc := 23) (tgt := 27) dX0_told_23 (by decide) ?_
        exact im_iretP (pc := 27) dX0_told_27
    · refine im_iload_n (pc := 13) dX0_told_13 rfl rfl ?_
      refine im_goto (pc := 14) (tgt := 27) dX0_told_14 (by decide) ?_
      exact im_iretP (pc := 27) dX0_told_27
  · refine im_bipush (pc := 4) (v := (-2)) dX0_told_4 (by decide) ?_
    refine im_goto (pc := 6) (tgt := 27) dX0_told_6 (by decide) ?_
    exact im_iretP (pc := 27) dX0_told_27
noncomputable def tp_told (a0 : Int32) (a1 : Int32) (a2 : Int32) (a3 : Int32) (h : PH) : Option (Int32) := tp_told_0 a0 a1 a2 a3 h
theorem tp_told_im : IM_X0_told tp_told 1 := by
  intro a0 a1 a2 a3 h r e
  exact SpI.ofP (k := 0) (plainFor_of_name (by decide)) rfl (fun X => Im.drop [true, true, true, true] rfl (tp_told_0_ok X a0 a1 a2 a3 h)) e
theorem cl_X0_224 {X : CT} {cc : ByteArray} {nL : Nat} {mn : String} {ret : Option FieldType} {d d0 : Nat} {τ : Type} {pc : Nat} {lv : List (Option PV)} {st : List PV} {h : PH} {sz : τ → Nat × Nat} {K : τ → Prop} {f : Int32 → Int32 → Int32 → Int32 → PH → Option (Int32)} (HR : IM_X0_told f d0) {a0 : Int32} {a1 : Int32} {a2 : Int32} {a3 : Int32} {g : Int32 → Option τ} (hd : d0 + 1 ≤ d) (hdg : decode cc pc = .ok (.invokestatic 224, 3)) (hst : st.length ≤ 8) (kk : ∀ r, Im X (cc, nL, RX0, mn, ret, d) (pc + 3) lv (.inl r :: st) h (g r) sz K) : Im X (cc, nL, RX0, mn, ret, d) pc lv (.inl a3 :: .inl a2 :: .inl a1 :: .inl a0 :: st) h ((f a0 a1 a2 a3 h).bind g) sz K := by
  refine im_cP (y := yX0_told) (cY := cX0_told) (nY := 4) (rY := (some .int)) (d' := d0) (av := [.inl a0, .inl a1, .inl a2, .inl a3]) (fun r e hX => ?_) (fun r e => HR _ _ _ _ _ _ e) hd (by decide) hst rfl kk
  exact cal_S (n := 4) hX (lw_S q1004 q1005 q106 q1006) (by decide +kernel) rfl hdg

def IM_X0_move (f : Option Nat → Int32 → PH → Option (Int32)) (d : Nat) : Prop := ∀ (a0 : Option Nat) (a1 : Int32) (h : PH) (r : Int32), f a0 a1 h = some r → isC [0] a0 h = true ∧ SpI yX0_move cX0_move 8 (some .int) d [.inr a0, .inl a1] h r h
noncomputable def tp_move_b70 (v0 : Option Nat) (v1 : Int32) (v2 : Int32) (v3 : Int32) (v4 : Int32) (v5 : Int32) (v6 : Int32) (v7 : Int32) (h : PH) : Option ((Int32 × Int32 × Int32 × Int32) ⊕ ((Int32 × Int32 × Int32 × Int32) ⊕ (Int32))) :=
  (if 60 ≤ v7 then
  some (.inr (.inl (v2, v3, v4, (v5 + 1))))
  else
  (gfr [0] 1 v0 h).bind fun r51 =>
  (yd_whoLiesAt r51 v7 h).bind fun x52 =>
  (if x52 = (-1) then
  (tp_talkAt v0 v5 v7 h).bind fun x53 =>
  (if v4 < (x53 - v6) then
  (tp_talkAt v0 v5 v7 h).bind fun x54 =>
  some (.inl (v5, v7, (x54 - v6), (v7 + 1)))
  else
  some (.inl (v2, v3, v4, (v7 + 1))))
  else
  some (.inl (v2, v3, v4, (v7 + 1)))))
noncomputable def tp_move_L70 (v0 : Option Nat) (v1 : Int32) (v2 : Int32) (v3 : Int32) (v4 : Int32) (v5 : Int32) (v6 : Int32) (v7 : Int32) (h : PH) : Option ((Int32 × Int32 × Int32 × Int32) ⊕ (Int32)) :=
  iter (fun s : Int32 × Int32 × Int32 × Int32 => tp_move_b70 v0 v1 s.1 s.2.1 s.2.2.1 v5 v6 s.2.2.2 h) (v2, v3, v4, v7)
theorem tp_move_b70_ok (X : CT) (v0 : Option Nat) (v1 : Int32) (v2 : Int32) (v3 : Int32) (v4 : Int32) (v5 : Int32) (v6 : Int32) (v7 : Int32) (h : PH) : Im X (cX0_move, 8, RX0, "move", (some .int), 6) 70 [some (.inr v0), some (.inl v1), some (.inl v2), some (.inl v3), some (.inl v4), some (.inl v5), some (.inl v6), some (.inl v7)] [] h (tp_move_b70 v0 v1 v2 v3 v4 v5 v6 v7 h) (ez (fun s : Int32 × Int32 × Int32 × Int32 => h) (ez (fun s : Int32 × Int32 × Int32 × Int32 => h) (szP h))) (ek X 70 (fun s : Int32 × Int32 × Int32 × Int32 => [some (.inr v0), some (.inl v1), some (.inl s.1), some (.inl s.2.1), some (.inl s.2.2.1), some (.inl v5), some (.inl v6), some (.inl s.2.2.2)]) (fun s : Int32 × Int32 × Int32 × Int32 => h) (ek X 20 (fun s : Int32 × Int32 × Int32 × Int32 => [some (.inr v0), some (.inl v1), some (.inl s.1), some (.inl s.2.1), some (.inl s.2.2.1), some (.inl s.2.2.2), none, none]) (fun s : Int32 × Int32 × Int32 × Int32 => h) (kP X h))) := by
  unfold tp_move_b70
  refine im_iload (pc := 70) dX0_move_70 rfl ?_
  refine im_bipush (pc := 72) (v := 60) dX0_move_72 (by decide) ?_
  refine im_icmp_ge (pc := 74) (tgt := 134) dX0_move_74 (by decide) ?_ ?_
  · refine im_iinc (pc := 134) (v := (v5 + 1)) (lv' := [some (.inr v0), some (.inl v1), some (.inl v2), some (.inl v3), some (.inl v4), some (.inl (v5 + 1)), some (.inl v6), some (.inl v7)]) dX0_move_134 rfl rfl (by decide) rfl ?_
    refine im_goto (pc := 137) (tgt := 20) dX0_move_137 (by decide) ?_
    exact Im.outS (Im.back [true, true, true, true, true, true, false, false] rfl rfl)
  · refine im_aload_n (pc := 77) dX0_move_77 rfl rfl ?_
    refine im_gr (pc := 78) fl_X0_63 dX0_move_78 fun r51 => ?_
    refine im_iload (pc := 81) dX0_move_81 rfl ?_
    refine cl_X0_218 yd_whoLiesAt_im (pc := 83) (by decide) dX0_move_83 (Nat.le_of_ble_eq_true rfl) fun x52 => ?_
    refine im_iconst (pc := 86) (v := (-1)) dX0_move_86 (by decide) ?_
    refine im_icmp_ne (pc := 87) (tgt := 128) dX0_move_87 (by decide) ?_ ?_
    · refine im_iinc (pc := 128) (v := (v7 + 1)) (lv' := [some (.inr v0), some (.inl v1), some (.inl v2), some (.inl v3), some (.inl v4), some (.inl v5), some (.inl v6), some (.inl (v7 + 1))]) dX0_move_128 rfl rfl (by decide) rfl ?_
      refine im_goto (pc := 131) (tgt := 70) dX0_move_131 (by decide) ?_
      exact Im.back [true, true, true, true, true, true, true, true] rfl rfl
    · refine im_aload_n (pc := 90) dX0_move_90 rfl rfl ?_
      refine im_iload (pc := 91) dX0_move_91 rfl ?_
      refine im_iload (pc := 93) dX0_move_93 rfl ?_
      refine cl_X0_221 tp_talkAt_im (pc := 95) (by decide) dX0_move_95 (Nat.le_of_ble_eq_true rfl) fun x53 => ?_
      refine im_iload (pc := 98) dX0_move_98 rfl ?_
      refine im_isub (pc := 100) dX0_move_100 ?_
      refine im_iload (pc := 101) dX0_move_101 rfl ?_
      refine im_icmp_gt (pc := 103) (tgt := 109) dX0_move_103 (by decide) ?_ ?_
      · refine im_iload (pc := 109) dX0_move_109 rfl ?_
        refine im_istore_n (pc := 111) (lv' := [some (.inr v0), some (.inl v1), some (.inl v5), some (.inl v3), some (.inl v4), some (.inl v5), some (.inl v6), some (.inl v7)]) dX0_move_111 rfl (by decide) rfl ?_
        refine im_iload (pc := 112) dX0_move_112 rfl ?_
        refine im_istore_n (pc := 114) (lv' := [some (.inr v0), some (.inl v1), some (.inl v5), some (.inl v7), some (.inl v4), some (.inl v5), some (.inl v6), some (.inl v7)]) dX0_move_114 rfl (by decide) rfl ?_
        refine im_aload_n (pc := 115) dX0_move_115 rfl rfl ?_
        refine im_iload (pc := 116) dX0_move_116 rfl ?_
        refine im_iload (pc := 118) dX0_move_118 rfl ?_
        refine cl_X0_221 tp_talkAt_im (pc := 120) (by decide) dX0_move_120 (Nat.le_of_ble_eq_true rfl) fun x54 => ?_
        refine im_iload (pc := 123) dX0_move_123 rfl ?_
        refine im_isub (pc := 125) dX0_move_125 ?_
        refine im_istore (pc := 126) (lv' := [some (.inr v0), some (.inl v1), some (.inl v5), some (.inl v7), some (.inl (x54 - v6)), some (.inl v5), some (.inl v6), some (.inl v7)]) dX0_move_126 (by decide) rfl ?_
        refine im_iinc (pc := 128) (v := (v7 + 1)) (lv' := [some (.inr v0), some (.inl v1), some (.inl v5), some (.inl v7), some (.inl (x54 - v6)), some (.inl v5), some (.inl v6), some (.inl (v7 + 1))]) dX0_move_128 rfl rfl (by decide) rfl ?_
        refine im_goto (pc := 131) (tgt := 70) dX0_move_131 (by decide) ?_
        exact Im.back [true, true, true, true, true, true, true, true] rfl rfl
      · refine im_goto (pc := 106) (tgt := 128) dX0_move_106 (by decide) ?_
        refine im_iinc (pc := 128) (v := (v7 + 1)) (lv' := [some (.inr v0), some (.inl v1), some (.inl v2), some (.inl v3), some (.inl v4), some (.inl v5), some (.inl v6), some (.inl (v7 + 1))]) dX0_move_128 rfl rfl (by decide) rfl ?_
        refine im_goto (pc := 131) (tgt := 70) dX0_move_131 (by decide) ?_
        exact Im.back [true, true, true, true, true, true, true, true] rfl rfl
theorem tp_move_L70_ok (X : CT) (v0 : Option Nat) (v1 : Int32) (v2 : Int32) (v3 : Int32) (v4 : Int32) (v5 : Int32) (v6 : Int32) (v7 : Int32) (h : PH) : Im X (cX0_move, 8, RX0, "move", (some .int), 6) 70 [some (.inr v0), some (.inl v1), some (.inl v2), some (.inl v3), some (.inl v4), some (.inl v5), some (.inl v6), some (.inl v7)] [] h (tp_move_L70 v0 v1 v2 v3 v4 v5 v6 v7 h) (ez (fun s : Int32 × Int32 × Int32 × Int32 => h) (szP h)) (ek X 20 (fun s : Int32 × Int32 × Int32 × Int32 => [some (.inr v0), some (.inl v1), some (.inl s.1), some (.inl s.2.1), some (.inl s.2.2.1), some (.inl s.2.2.2), none, none]) (fun s : Int32 × Int32 × Int32 × Int32 => h) (kP X h)) := by
  unfold tp_move_L70
  exact Im.iter (lv := (fun s : Int32 × Int32 × Int32 × Int32 => [some (.inr v0), some (.inl v1), some (.inl s.1), some (.inl s.2.1), some (.inl s.2.2.1), some (.inl v5), some (.inl v6), some (.inl s.2.2.2)])) (hp := (fun s : Int32 × Int32 × Int32 × Int32 => h)) (fun s => tp_move_b70_ok X v0 v1 s.1 s.2.1 s.2.2.1 v5 v6 s.2.2.2 h) _ rfl rfl
noncomputable def tp_move_b20 (v0 : Option Nat) (v1 : Int32) (v2 : Int32) (v3 : Int32) (v4 : Int32) (v5 : Int32) (h : PH) : Option ((Int32 × Int32 × Int32 × Int32) ⊕ (Int32)) :=
  (if 16 ≤ v5 then
  (tp_told v2 v3 v4 v1 h).bind fun x51 =>
  some (.inr x51)
  else
  (gfr [0] 1 v0 h).bind fun r52 =>
  (gfr [2] 0 r52 h).bind fun r53 =>
  (aldr 2 r53 v5 h).bind fun r54 =>
  (pe_isLaid r54 h).bind fun x55 =>
  (if x55 = 0 then
  some (.inl (v2, v3, v4, (v5 + 1)))
  else
  (gfr [0] 1 v0 h).bind fun r56 =>
  (gfr [2] 0 r56 h).bind fun r57 =>
  (aldr 2 r57 v5 h).bind fun r58 =>
  (gfi [3] 2 r58 h).bind fun x59 =>
  (tp_talkAt v0 v5 x59 h).bind fun x60 =>
  tp_move_L70 v0 v1 v2 v3 v4 v5 x60 0 h))
noncomputable def tp_move_L20 (v0 : Option Nat) (v1 : Int32) (v2 : Int32) (v3 : Int32) (v4 : Int32) (v5 : Int32) (h : PH) : Option (Int32) :=
  iter (fun s : Int32 × Int32 × Int32 × Int32 => tp_move_b20 v0 v1 s.1 s.2.1 s.2.2.1 s.2.2.2 h) (v2, v3, v4, v5)
theorem tp_move_b20_ok (X : CT) (v0 : Option Nat) (v1 : Int32) (v2 : Int32) (v3 : Int32) (v4 : Int32) (v5 : Int32) (h : PH) : Im X (cX0_move, 8, RX0, "move", (some .int), 6) 20 [some (.inr v0), some (.inl v1), some (.inl v2), some (.inl v3), some (.inl v4), some (.inl v5), none, none] [] h (tp_move_b20 v0 v1 v2 v3 v4 v5 h) (ez (fun s : Int32 × Int32 × Int32 × Int32 => h) (szP h)) (ek X 20 (fun s : Int32 × Int32 × Int32 × Int32 => [some (.inr v0), some (.inl v1), some (.inl s.1), some (.inl s.2.1), some (.inl s.2.2.1), some (.inl s.2.2.2), none, none]) (fun s : Int32 × Int32 × Int32 × Int32 => h) (kP X h)) := by
  unfold tp_move_b20
  refine im_iload (pc := 20) dX0_move_20 rfl ?_
  refine im_bipush (pc := 22) (v := 16) dX0_move_22 (by decide) ?_
  refine im_icmp_ge (pc := 24) (tgt := 140) dX0_move_24 (by decide) ?_ ?_
  · refine im_iload_n (pc := 140) dX0_move_140 rfl rfl ?_
    refine im_iload_n (pc := 141) dX0_move_141 rfl rfl ?_
    refine im_iload (pc := 142) dX0_move_142 rfl ?_
    refine im_iload_n (pc := 144) dX0_move_144 rfl rfl ?_
    refine cl_X0_224 tp_told_im (pc := 145) (by decide) dX0_move_145 (Nat.le_of_ble_eq_true rfl) fun x51 => ?_
    exact Im.outS (im_iretP (pc := 148) dX0_move_148)
  · refine im_aload_n (pc := 27) dX0_move_27 rfl rfl ?_
    refine im_gr (pc := 28) fl_X0_63 dX0_move_28 fun r52 => ?_
    refine im_gr (pc := 31) fl_X0_109 dX0_move_31 fun r53 => ?_
    refine im_iload (pc := 34) dX0_move_34 rfl ?_
    refine im_aald (pc := 36) (t := 2) (by decide) (by decide) dX0_move_36 fun r54 => ?_
    refine cl_X0_183 pe_isLaid_im (pc := 37) (by decide) dX0_move_37 (Nat.le_of_ble_eq_true rfl) fun x55 => ?_
    refine im_if_ne (pc := 40) (tgt := 46) dX0_move_40 (by decide) ?_ ?_
    · refine im_aload_n (pc := 46) dX0_move_46 rfl rfl ?_
      refine im_iload (pc := 47) dX0_move_47 rfl ?_
      refine im_aload_n (pc := 49) dX0_move_49 rfl rfl ?_
      refine im_gr (pc := 50) fl_X0_63 dX0_move_50 fun r56 => ?_
      refine im_gr (pc := 53) fl_X0_109 dX0_move_53 fun r57 => ?_
      refine im_iload (pc := 56) dX0_move_56 rfl ?_
      refine im_aald (pc := 58) (t := 2) (by decide) (by decide) dX0_move_58 fun r58 => ?_
      refine im_gi (pc := 59) fl_X0_130 dX0_move_59 fun x59 => ?_
      refine cl_X0_221 tp_talkAt_im (pc := 62) (by decide) dX0_move_62 (Nat.le_of_ble_eq_true rfl) fun x60 => ?_
      refine im_istore (pc := 65) (lv' := [some (.inr v0), some (.inl v1), some (.inl v2), some (.inl v3), some (.inl v4), some (.inl v5), some (.inl x60), none]) dX0_move_65 (by decide) rfl ?_
      refine im_iconst (pc := 67) (v := 0) dX0_move_67 (by decide) ?_
      refine im_istore (pc := 68) (lv' := [some (.inr v0), some (.inl v1), some (.inl v2), some (.inl v3), some (.inl v4), some (.inl v5), some (.inl x60), some (.inl 0)]) dX0_move_68 (by decide) rfl ?_
      exact Im.drop [true, true, true, true, true, true, true, true] rfl (tp_move_L70_ok X v0 v1 v2 v3 v4 v5 x60 0 h)
    · refine im_goto (pc := 43) (tgt := 134) dX0_move_43 (by decide) ?_
      refine im_iinc (pc := 134) (v := (v5 + 1)) (lv' := [some (.inr v0), some (.inl v1), some (.inl v2), some (.inl v3), some (.inl v4), some (.inl (v5 + 1)), none, none]) dX0_move_134 rfl rfl (by decide) rfl ?_
      refine im_goto (pc := 137) (tgt := 20) dX0_move_137 (by decide) ?_
      exact Im.back [true, true, true, true, true, true, false, false] rfl rfl
theorem tp_move_L20_ok (X : CT) (v0 : Option Nat) (v1 : Int32) (v2 : Int32) (v3 : Int32) (v4 : Int32) (v5 : Int32) (h : PH) : Im X (cX0_move, 8, RX0, "move", (some .int), 6) 20 [some (.inr v0), some (.inl v1), some (.inl v2), some (.inl v3), some (.inl v4), some (.inl v5), none, none] [] h (tp_move_L20 v0 v1 v2 v3 v4 v5 h) (szP h) (kP X h) := by
  unfold tp_move_L20
  exact Im.iter (lv := (fun s : Int32 × Int32 × Int32 × Int32 => [some (.inr v0), some (.inl v1), some (.inl s.1), some (.inl s.2.1), some (.inl s.2.2.1), some (.inl s.2.2.2), none, none])) (hp := (fun s : Int32 × Int32 × Int32 × Int32 => h)) (fun s => tp_move_b20_ok X v0 v1 s.1 s.2.1 s.2.2.1 s.2.2.2 h) _ rfl rfl
noncomputable def tp_move_0 (v0 : Option Nat) (v1 : Int32) (h : PH) : Option (Int32) :=
  (tp_in v1 3 h).bind fun x51 =>
  (if x51 = 0 then
  some ((-1))
  else
  tp_move_L20 v0 v1 (-1) (-1) 0 0 h)
theorem tp_move_0_ok (X : CT) (v0 : Option Nat) (v1 : Int32) (h : PH) : Im X (cX0_move, 8, RX0, "move", (some .int), 6) 0 [some (.inr v0), some (.inl v1), none, none, none, none, none, none] [] h (tp_move_0 v0 v1 h) (szP h) (kP X h) := by
  unfold tp_move_0
  refine im_iload_n (pc := 0) dX0_move_0 rfl rfl ?_
  refine im_iconst (pc := 1) (v := 3) dX0_move_1 (by decide) ?_
  refine cl_X0_25 tp_in_im (pc := 2) (by decide) dX0_move_2 (Nat.le_of_ble_eq_true rfl) fun x51 => ?_
  refine im_if_ne (pc := 5) (tgt := 10) dX0_move_5 (by decide) ?_ ?_
  · refine im_iconst (pc := 10) (v := (-1)) dX0_move_10 (by decide) ?_
    refine im_istore_n (pc := 11) (lv' := [some (.inr v0), some (.inl v1), some (.inl (-1)), none, none, none, none, none]) dX0_move_11 rfl (by decide) rfl ?_
    refine im_iconst (pc := 12) (v := (-1)) dX0_move_12 (by decide) ?_
    refine im_istore_n (pc := 13) (lv' := [some (.inr v0), some (.inl v1), some (.inl (-1)), some (.inl (-1)), none, none, none, none]) dX0_move_13 rfl (by decide) rfl ?_
    refine im_iconst (pc := 14) (v := 0) dX0_move_14 (by decide) ?_
    refine im_istore (pc := 15) (lv' := [some (.inr v0), some (.inl v1), some (.inl (-1)), some (.inl (-1)), some (.inl 0), none, none, none]) dX0_move_15 (by decide) rfl ?_
    refine im_iconst (pc := 17) (v := 0) dX0_move_17 (by decide) ?_
    refine im_istore (pc := 18) (lv' := [some (.inr v0), some (.inl v1), some (.inl (-1)), some (.inl (-1)), some (.inl 0), some (.inl 0), none, none]) dX0_move_18 (by decide) rfl ?_
    exact Im.drop [true, true, true, true, true, true, false, false] rfl (tp_move_L20_ok X v0 v1 (-1) (-1) 0 0 h)
  · refine im_iconst (pc := 8) (v := (-1)) dX0_move_8 (by decide) ?_
    exact im_iretP (pc := 9) dX0_move_9
noncomputable def tp_move (a0 : Option Nat) (a1 : Int32) (h : PH) : Option (Int32) := grd (isC [0] a0 h) (tp_move_0 a0 a1 h)
theorem tp_move_im : IM_X0_move tp_move 6 := by
  intro a0 a1 h r e
  obtain ⟨e1, e2⟩ := grd_some e
  exact ⟨e1, SpI.ofP (k := 6) (plainFor_of_name (by decide)) rfl (fun X => Im.drop [true, true, false, false, false, false, false, false] rfl (tp_move_0_ok X a0 a1 h)) e2⟩
def IM_X0_swaps (f : Option Nat → Option Nat → Option Nat → PH → Option (PH)) (d : Nat) : Prop := ∀ (a0 : Option Nat) (a1 : Option Nat) (a2 : Option Nat) (h : PH) (h' : PH), f a0 a1 a2 h = some h' → isC [0] a0 h = true ∧ SpV yX0_swaps cX0_swaps 4 none d [.inr a0, .inr a1, .inr a2] h h'
noncomputable def tp_swaps_0 (v1 : Option Nat) (v2 : Option Nat) (h : PH) : Option (PH) :=
  (gfi [3] 2 v1 h).bind fun x51 =>
  (gfi [3] 2 v2 h).bind fun x52 =>
  (pf [3] 2 v1 (.inl x52) h).bind fun h53 =>
  (pf [3] 2 v2 (.inl x51) h53).bind fun h54 =>
  some (h54)
theorem tp_swaps_0_ok (X : CT) (v1 : Option Nat) (v2 : Option Nat) (h : PH) : Im X (cX0_swaps, 4, RX0, "swaps", none, 1) 0 [none, some (.inr v1), some (.inr v2), none] [] h (tp_swaps_0 v1 v2 h) szV (kV X) := by
  unfold tp_swaps_0
  refine im_aload_n (pc := 0) dX0_swaps_0 rfl rfl ?_
  refine im_gi (pc := 1) fl_X0_130 dX0_swaps_1 fun x51 => ?_
  refine im_istore_n (pc := 4) (lv' := [none, some (.inr v1), some (.inr v2), some (.inl x51)]) dX0_swaps_4 rfl (by decide) rfl ?_
  refine im_aload_n (pc := 5) dX0_swaps_5 rfl rfl ?_
  refine im_aload_n (pc := 6) dX0_swaps_6 rfl rfl ?_
  refine im_gi (pc := 7) fl_X0_130 dX0_swaps_7 fun x52 => ?_
  refine im_pf (pc := 10) fp_X0_130 (okT_i _) dX0_swaps_10 fun h53 => ?_
  refine im_aload_n (pc := 13) dX0_swaps_13 rfl rfl ?_
  refine im_iload_n (pc := 14) dX0_swaps_14 rfl rfl ?_
  refine im_pf (pc := 15) fp_X0_130 (okT_i _) dX0_swaps_15 fun h54 => ?_
  exact im_vret (pc := 18) dX0_swaps_18
noncomputable def tp_swaps (a0 : Option Nat) (a1 : Option Nat) (a2 : Option Nat) (h : PH) : Option (PH) := grd (isC [0] a0 h) (tp_swaps_0 a1 a2 h)
theorem tp_swaps_im : IM_X0_swaps tp_swaps 1 := by
  intro a0 a1 a2 h h' e
  obtain ⟨e1, e2⟩ := grd_some e
  exact ⟨e1, SpV.of (k := 1) (plainFor_of_name (by decide)) rfl (fun X => Im.drop [false, true, true, false] rfl (tp_swaps_0_ok X a1 a2 h)) e2⟩
theorem cl_X0_228 {X : CT} {cc : ByteArray} {nL : Nat} {mn : String} {ret : Option FieldType} {d d0 : Nat} {τ : Type} {pc : Nat} {lv : List (Option PV)} {st : List PV} {h : PH} {sz : τ → Nat × Nat} {K : τ → Prop} {f : Option Nat → Option Nat → Option Nat → PH → Option (PH)} (HR : IM_X0_swaps f d0) {a0 : Option Nat} {a1 : Option Nat} {a2 : Option Nat} {g : PH → Option τ} (hd : d0 + 1 ≤ d) (hdg : decode cc pc = .ok (.invokevirtual 228, 3)) (hst : st.length ≤ 8) (kk : ∀ h', Im X (cc, nL, RX0, mn, ret, d) (pc + 3) lv st h' (g h') sz K) : Im X (cc, nL, RX0, mn, ret, d) pc lv (.inr a2 :: .inr a1 :: .inr a0 :: st) h ((f a0 a1 a2 h).bind g) sz K := by
  refine im_cV (y := yX0_swaps) (cY := cX0_swaps) (nY := 4) (rY := none) (d' := d0) (av := [.inr a0, .inr a1, .inr a2]) (fun h' e hX => ?_) (fun h' e => (HR _ _ _ _ _ e).2) hd (by decide) hst rfl kk
  obtain ⟨a, c, fs, rfl, ec, hm⟩ := isC_some (HR _ _ _ _ _ e).1
  cases List.mem_singleton.mp hm
  exact cal_V (n := 2) hX (lw_V q1011 q1013 qs28 q106 q1014) (by decide +kernel) rfl rfl ec hdg

def IM_X0_change (f : Option Nat → Int32 → PH → Option (Int32 × PH)) (d : Nat) : Prop := ∀ (a0 : Option Nat) (a1 : Int32) (h : PH) (r : Int32) (h' : PH), f a0 a1 h = some (r, h') → isC [0] a0 h = true ∧ SpI yX0_change cX0_change 11 (some .int) d [.inr a0, .inl a1] h r h'
noncomputable def tp_change_b42 (v0 : Option Nat) (v1 : Int32) (v2 : Int32) (v3 : Int32) (v4 : Int32) (v5 : Int32) (v6 : Int32) (v7 : Int32) (h : PH) : Option ((Int32 × Int32 × Int32 × Int32 × PH) ⊕ ((Int32 × Int32 × Int32 × Int32 × PH) ⊕ (Int32 × PH))) :=
  (if 16 ≤ v7 then
  some (.inr (.inl (v2, v3, v4, (v6 + 1), h)))
  else
  (gfr [0] 1 v0 h).bind fun r51 =>
  (gfr [2] 0 r51 h).bind fun r52 =>
  (aldr 2 r52 v6 h).bind fun r53 =>
  (gfr [0] 1 v0 h).bind fun r54 =>
  (gfr [2] 0 r54 h).bind fun r55 =>
  (aldr 2 r55 v7 h).bind fun r56 =>
  (pe_isLaid r53 h).bind fun x57 =>
  (if x57 = 0 then
  some (.inl (v2, v3, v4, (v7 + 1), h))
  else
  (pe_isLaid r56 h).bind fun x58 =>
  (if x58 = 0 then
  some (.inl (v2, v3, v4, (v7 + 1), h))
  else
  (tp_swaps v0 r53 r56 h).bind fun h59 =>
  (gfr [0] 1 v0 h59).bind fun r60 =>
  (yd_talk r60 h59).bind fun x61 =>
  (tp_swaps v0 r53 r56 h59).bind fun h62 =>
  (if v4 < (x61 - v5) then
  some (.inl (v6, v7, (x61 - v5), (v7 + 1), h62))
  else
  some (.inl (v2, v3, v4, (v7 + 1), h62))))))
noncomputable def tp_change_L42 (v0 : Option Nat) (v1 : Int32) (v2 : Int32) (v3 : Int32) (v4 : Int32) (v5 : Int32) (v6 : Int32) (v7 : Int32) (h : PH) : Option ((Int32 × Int32 × Int32 × Int32 × PH) ⊕ (Int32 × PH)) :=
  iter (fun s : Int32 × Int32 × Int32 × Int32 × PH => tp_change_b42 v0 v1 s.1 s.2.1 s.2.2.1 v5 v6 s.2.2.2.1 s.2.2.2.2) (v2, v3, v4, v7, h)
theorem tp_change_b42_ok (X : CT) (v0 : Option Nat) (v1 : Int32) (v2 : Int32) (v3 : Int32) (v4 : Int32) (v5 : Int32) (v6 : Int32) (v7 : Int32) (h : PH) : Im X (cX0_change, 11, RX0, "change", (some .int), 7) 42 [some (.inr v0), some (.inl v1), some (.inl v2), some (.inl v3), some (.inl v4), some (.inl v5), some (.inl v6), some (.inl v7), none, none, none] [] h (tp_change_b42 v0 v1 v2 v3 v4 v5 v6 v7 h) (ez (fun s : Int32 × Int32 × Int32 × Int32 × PH => s.2.2.2.2) (ez (fun s : Int32 × Int32 × Int32 × Int32 × PH => s.2.2.2.2) szI)) (ek X 42 (fun s : Int32 × Int32 × Int32 × Int32 × PH => [some (.inr v0), some (.inl v1), some (.inl s.1), some (.inl s.2.1), some (.inl s.2.2.1), some (.inl v5), some (.inl v6), some (.inl s.2.2.2.1), none, none, none]) (fun s : Int32 × Int32 × Int32 × Int32 × PH => s.2.2.2.2) (ek X 29 (fun s : Int32 × Int32 × Int32 × Int32 × PH => [some (.inr v0), some (.inl v1), some (.inl s.1), some (.inl s.2.1), some (.inl s.2.2.1), some (.inl v5), some (.inl s.2.2.2.1), none, none, none, none]) (fun s : Int32 × Int32 × Int32 × Int32 × PH => s.2.2.2.2) (kI X))) := by
  unfold tp_change_b42
  refine im_iload (pc := 42) dX0_change_42 rfl ?_
  refine im_bipush (pc := 44) (v := 16) dX0_change_44 (by decide) ?_
  refine im_icmp_ge (pc := 46) (tgt := 146) dX0_change_46 (by decide) ?_ ?_
  · refine im_iinc (pc := 146) (v := (v6 + 1)) (lv' := [some (.inr v0), some (.inl v1), some (.inl v2), some (.inl v3), some (.inl v4), some (.inl v5), some (.inl (v6 + 1)), some (.inl v7), none, none, none]) dX0_change_146 rfl rfl (by decide) rfl ?_
    refine im_goto (pc := 149) (tgt := 29) dX0_change_149 (by decide) ?_
    exact Im.outS (Im.back [true, true, true, true, true, true, true, false, false, false, false] rfl rfl)
  · refine im_aload_n (pc := 49) dX0_change_49 rfl rfl ?_
    refine im_gr (pc := 50) fl_X0_63 dX0_change_50 fun r51 => ?_
    refine im_gr (pc := 53) fl_X0_109 dX0_change_53 fun r52 => ?_
    refine im_iload (pc := 56) dX0_change_56 rfl ?_
    refine im_aald (pc := 58) (t := 2) (by decide) (by decide) dX0_change_58 fun r53 => ?_
    refine im_astore (pc := 59) (lv' := [some (.inr v0), some (.inl v1), some (.inl v2), some (.inl v3), some (.inl v4), some (.inl v5), some (.inl v6), some (.inl v7), some (.inr r53), none, none]) dX0_change_59 (by decide) rfl ?_
    refine im_aload_n (pc := 61) dX0_change_61 rfl rfl ?_
    refine im_gr (pc := 62) fl_X0_63 dX0_change_62 fun r54 => ?_
    refine im_gr (pc := 65) fl_X0_109 dX0_change_65 fun r55 => ?_
    refine im_iload (pc := 68) dX0_change_68 rfl ?_
    refine im_aald (pc := 70) (t := 2) (by decide) (by decide) dX0_change_70 fun r56 => ?_
    refine im_astore (pc := 71) (lv' := [some (.inr v0), some (.inl v1), some (.inl v2), some (.inl v3), some (.inl v4), some (.inl v5), some (.inl v6), some (.inl v7), some (.inr r53), some (.inr r56), none]) dX0_change_71 (by decide) rfl ?_
    refine im_aload (pc := 73) dX0_change_73 rfl ?_
    refine cl_X0_183 pe_isLaid_im (pc := 75) (by decide) dX0_change_75 (Nat.le_of_ble_eq_true rfl) fun x57 => ?_
    refine im_if_eq (pc := 78) (tgt := 140) dX0_change_78 (by decide) ?_ ?_
    · refine im_iinc (pc := 140) (v := (v7 + 1)) (lv' := [some (.inr v0), some (.inl v1), some (.inl v2), some (.inl v3), some (.inl v4), some (.inl v5), some (.inl v6), some (.inl (v7 + 1)), some (.inr r53), some (.inr r56), none]) dX0_change_140 rfl rfl (by decide) rfl ?_
      refine im_goto (pc := 143) (tgt := 42) dX0_change_143 (by decide) ?_
      exact Im.back [true, true, true, true, true, true, true, true, false, false, false] rfl rfl
    · refine im_aload (pc := 81) dX0_change_81 rfl ?_
      refine cl_X0_183 pe_isLaid_im (pc := 83) (by decide) dX0_change_83 (Nat.le_of_ble_eq_true rfl) fun x58 => ?_
      refine im_if_ne (pc := 86) (tgt := 92) dX0_change_86 (by decide) ?_ ?_
      · refine im_aload_n (pc := 92) dX0_change_92 rfl rfl ?_
        refine im_aload (pc := 93) dX0_change_93 rfl ?_
        refine im_aload (pc := 95) dX0_change_95 rfl ?_
        refine cl_X0_228 tp_swaps_im (pc := 97) (by decide) dX0_change_97 (Nat.le_of_ble_eq_true rfl) fun h59 => ?_
        refine im_aload_n (pc := 100) dX0_change_100 rfl rfl ?_
        refine im_gr (pc := 101) fl_X0_63 dX0_change_101 fun r60 => ?_
        refine cl_X0_210 yd_talk_im (pc := 104) (by decide) dX0_change_104 (Nat.le_of_ble_eq_true rfl) fun x61 => ?_
        refine im_iload (pc := 107) dX0_change_107 rfl ?_
        refine im_isub (pc := 109) dX0_change_109 ?_
        refine im_istore (pc := 110) (lv' := [some (.inr v0), some (.inl v1), some (.inl v2), some (.inl v3), some (.inl v4), some (.inl v5), some (.inl v6), some (.inl v7), some (.inr r53), some (.inr r56), some (.inl (x61 - v5))]) dX0_change_110 (by decide) rfl ?_
        refine im_aload_n (pc := 112) dX0_change_112 rfl rfl ?_
        refine im_aload (pc := 113) dX0_change_113 rfl ?_
        refine im_aload (pc := 115) dX0_change_115 rfl ?_
        refine cl_X0_228 tp_swaps_im (pc := 117) (by decide) dX0_change_117 (Nat.le_of_ble_eq_true rfl) fun h62 => ?_
        refine im_iload (pc := 120) dX0_change_120 rfl ?_
        refine im_iload (pc := 122) dX0_change_122 rfl ?_
        refine im_icmp_gt (pc := 124) (tgt := 130) dX0_change_124 (by decide) ?_ ?_
        · refine im_iload (pc := 130) dX0_change_130 rfl ?_
          refine im_istore_n (pc := 132) (lv' := [some (.inr v0), some (.inl v1), some (.inl v6), some (.inl v3), some (.inl v4), some (.inl v5), some (.inl v6), some (.inl v7), some (.inr r53), some (.inr r56), some (.inl (x61 - v5))]) dX0_change_132 rfl (by decide) rfl ?_
          refine im_iload (pc := 133) dX0_change_133 rfl ?_
          refine im_istore_n (pc := 135) (lv' := [some (.inr v0), some (.inl v1), some (.inl v6), some (.inl v7), some (.inl v4), some (.inl v5), some (.inl v6), some (.inl v7), some (.inr r53), some (.inr r56), some (.inl (x61 - v5))]) dX0_change_135 rfl (by decide) rfl ?_
          refine im_iload (pc := 136) dX0_change_136 rfl ?_
          refine im_istore (pc := 138) (lv' := [some (.inr v0), some (.inl v1), some (.inl v6), some (.inl v7), some (.inl (x61 - v5)), some (.inl v5), some (.inl v6), some (.inl v7), some (.inr r53), some (.inr r56), some (.inl (x61 - v5))]) dX0_change_138 (by decide) rfl ?_
          refine im_iinc (pc := 140) (v := (v7 + 1)) (lv' := [some (.inr v0), some (.inl v1), some (.inl v6), some (.inl v7), some (.inl (x61 - v5)), some (.inl v5), some (.inl v6), some (.inl (v7 + 1)), some (.inr r53), some (.inr r56), some (.inl (x61 - v5))]) dX0_change_140 rfl rfl (by decide) rfl ?_
          refine im_goto (pc := 143) (tgt := 42) dX0_change_143 (by decide) ?_
          exact Im.back [true, true, true, true, true, true, true, true, false, false, false] rfl rfl
        · refine im_goto (pc := 127) (tgt := 140) dX0_change_127 (by decide) ?_
          refine im_iinc (pc := 140) (v := (v7 + 1)) (lv' := [some (.inr v0), some (.inl v1), some (.inl v2), some (.inl v3), some (.inl v4), some (.inl v5), some (.inl v6), some (.inl (v7 + 1)), some (.inr r53), some (.inr r56), some (.inl (x61 - v5))]) dX0_change_140 rfl rfl (by decide) rfl ?_
          refine im_goto (pc := 143) (tgt := 42) dX0_change_143 (by decide) ?_
          exact Im.back [true, true, true, true, true, true, true, true, false, false, false] rfl rfl
      · refine im_goto (pc := 89) (tgt := 140) dX0_change_89 (by decide) ?_
        refine im_iinc (pc := 140) (v := (v7 + 1)) (lv' := [some (.inr v0), some (.inl v1), some (.inl v2), some (.inl v3), some (.inl v4), some (.inl v5), some (.inl v6), some (.inl (v7 + 1)), some (.inr r53), some (.inr r56), none]) dX0_change_140 rfl rfl (by decide) rfl ?_
        refine im_goto (pc := 143) (tgt := 42) dX0_change_143 (by decide) ?_
        exact Im.back [true, true, true, true, true, true, true, true, false, false, false] rfl rfl
theorem tp_change_L42_ok (X : CT) (v0 : Option Nat) (v1 : Int32) (v2 : Int32) (v3 : Int32) (v4 : Int32) (v5 : Int32) (v6 : Int32) (v7 : Int32) (h : PH) : Im X (cX0_change, 11, RX0, "change", (some .int), 7) 42 [some (.inr v0), some (.inl v1), some (.inl v2), some (.inl v3), some (.inl v4), some (.inl v5), some (.inl v6), some (.inl v7), none, none, none] [] h (tp_change_L42 v0 v1 v2 v3 v4 v5 v6 v7 h) (ez (fun s : Int32 × Int32 × Int32 × Int32 × PH => s.2.2.2.2) szI) (ek X 29 (fun s : Int32 × Int32 × Int32 × Int32 × PH => [some (.inr v0), some (.inl v1), some (.inl s.1), some (.inl s.2.1), some (.inl s.2.2.1), some (.inl v5), some (.inl s.2.2.2.1), none, none, none, none]) (fun s : Int32 × Int32 × Int32 × Int32 × PH => s.2.2.2.2) (kI X)) := by
  unfold tp_change_L42
  exact Im.iter (lv := (fun s : Int32 × Int32 × Int32 × Int32 × PH => [some (.inr v0), some (.inl v1), some (.inl s.1), some (.inl s.2.1), some (.inl s.2.2.1), some (.inl v5), some (.inl v6), some (.inl s.2.2.2.1), none, none, none])) (hp := (fun s : Int32 × Int32 × Int32 × Int32 × PH => s.2.2.2.2)) (fun s => tp_change_b42_ok X v0 v1 s.1 s.2.1 s.2.2.1 v5 v6 s.2.2.2.1 s.2.2.2.2) _ rfl rfl
noncomputable def tp_change_b29 (v0 : Option Nat) (v1 : Int32) (v2 : Int32) (v3 : Int32) (v4 : Int32) (v5 : Int32) (v6 : Int32) (h : PH) : Option ((Int32 × Int32 × Int32 × Int32 × PH) ⊕ (Int32 × PH)) :=
  (if 16 ≤ v6 then
  (tp_told v2 v3 v4 v1 h).bind fun x51 =>
  some (.inr ((x51, h)))
  else
  tp_change_L42 v0 v1 v2 v3 v4 v5 v6 (v6 + 1) h)
noncomputable def tp_change_L29 (v0 : Option Nat) (v1 : Int32) (v2 : Int32) (v3 : Int32) (v4 : Int32) (v5 : Int32) (v6 : Int32) (h : PH) : Option (Int32 × PH) :=
  iter (fun s : Int32 × Int32 × Int32 × Int32 × PH => tp_change_b29 v0 v1 s.1 s.2.1 s.2.2.1 v5 s.2.2.2.1 s.2.2.2.2) (v2, v3, v4, v6, h)
theorem tp_change_b29_ok (X : CT) (v0 : Option Nat) (v1 : Int32) (v2 : Int32) (v3 : Int32) (v4 : Int32) (v5 : Int32) (v6 : Int32) (h : PH) : Im X (cX0_change, 11, RX0, "change", (some .int), 7) 29 [some (.inr v0), some (.inl v1), some (.inl v2), some (.inl v3), some (.inl v4), some (.inl v5), some (.inl v6), none, none, none, none] [] h (tp_change_b29 v0 v1 v2 v3 v4 v5 v6 h) (ez (fun s : Int32 × Int32 × Int32 × Int32 × PH => s.2.2.2.2) szI) (ek X 29 (fun s : Int32 × Int32 × Int32 × Int32 × PH => [some (.inr v0), some (.inl v1), some (.inl s.1), some (.inl s.2.1), some (.inl s.2.2.1), some (.inl v5), some (.inl s.2.2.2.1), none, none, none, none]) (fun s : Int32 × Int32 × Int32 × Int32 × PH => s.2.2.2.2) (kI X)) := by
  unfold tp_change_b29
  refine im_iload (pc := 29) dX0_change_29 rfl ?_
  refine im_bipush (pc := 31) (v := 16) dX0_change_31 (by decide) ?_
  refine im_icmp_ge (pc := 33) (tgt := 152) dX0_change_33 (by decide) ?_ ?_
  · refine im_iload_n (pc := 152) dX0_change_152 rfl rfl ?_
    refine im_iload_n (pc := 153) dX0_change_153 rfl rfl ?_
    refine im_iload (pc := 154) dX0_change_154 rfl ?_
    refine im_iload_n (pc := 156) dX0_change_156 rfl rfl ?_
    refine cl_X0_224 tp_told_im (pc := 157) (by decide) dX0_change_157 (Nat.le_of_ble_eq_true rfl) fun x51 => ?_
    exact Im.outS (im_iret (pc := 160) dX0_change_160)
  · refine im_iload (pc := 36) dX0_change_36 rfl ?_
    refine im_iconst (pc := 38) (v := 1) dX0_change_38 (by decide) ?_
    refine im_iadd (pc := 39) dX0_change_39 ?_
    refine im_istore (pc := 40) (lv' := [some (.inr v0), some (.inl v1), some (.inl v2), some (.inl v3), some (.inl v4), some (.inl v5), some (.inl v6), some (.inl (v6 + 1)), none, none, none]) dX0_change_40 (by decide) rfl ?_
    exact Im.drop [true, true, true, true, true, true, true, true, false, false, false] rfl (tp_change_L42_ok X v0 v1 v2 v3 v4 v5 v6 (v6 + 1) h)
theorem tp_change_L29_ok (X : CT) (v0 : Option Nat) (v1 : Int32) (v2 : Int32) (v3 : Int32) (v4 : Int32) (v5 : Int32) (v6 : Int32) (h : PH) : Im X (cX0_change, 11, RX0, "change", (some .int), 7) 29 [some (.inr v0), some (.inl v1), some (.inl v2), some (.inl v3), some (.inl v4), some (.inl v5), some (.inl v6), none, none, none, none] [] h (tp_change_L29 v0 v1 v2 v3 v4 v5 v6 h) szI (kI X) := by
  unfold tp_change_L29
  exact Im.iter (lv := (fun s : Int32 × Int32 × Int32 × Int32 × PH => [some (.inr v0), some (.inl v1), some (.inl s.1), some (.inl s.2.1), some (.inl s.2.2.1), some (.inl v5), some (.inl s.2.2.2.1), none, none, none, none])) (hp := (fun s : Int32 × Int32 × Int32 × Int32 × PH => s.2.2.2.2)) (fun s => tp_change_b29_ok X v0 v1 s.1 s.2.1 s.2.2.1 v5 s.2.2.2.1 s.2.2.2.2) _ rfl rfl
noncomputable def tp_change_0 (v0 : Option Nat) (v1 : Int32) (h : PH) : Option (Int32 × PH) :=
  (tp_in v1 3 h).bind fun x51 =>
  (if x51 = 0 then
  some (((-1), h))
  else
  (gfr [0] 1 v0 h).bind fun r52 =>
  (yd_talk r52 h).bind fun x53 =>
  tp_change_L29 v0 v1 (-1) (-1) 0 x53 0 h)
theorem tp_change_0_ok (X : CT) (v0 : Option Nat) (v1 : Int32) (h : PH) : Im X (cX0_change, 11, RX0, "change", (some .int), 7) 0 [some (.inr v0), some (.inl v1), none, none, none, none, none, none, none, none, none] [] h (tp_change_0 v0 v1 h) szI (kI X) := by
  unfold tp_change_0
  refine im_iload_n (pc := 0) dX0_change_0 rfl rfl ?_
  refine im_iconst (pc := 1) (v := 3) dX0_change_1 (by decide) ?_
  refine cl_X0_25 tp_in_im (pc := 2) (by decide) dX0_change_2 (Nat.le_of_ble_eq_true rfl) fun x51 => ?_
  refine im_if_ne (pc := 5) (tgt := 10) dX0_change_5 (by decide) ?_ ?_
  · refine im_iconst (pc := 10) (v := (-1)) dX0_change_10 (by decide) ?_
    refine im_istore_n (pc := 11) (lv' := [some (.inr v0), some (.inl v1), some (.inl (-1)), none, none, none, none, none, none, none, none]) dX0_change_11 rfl (by decide) rfl ?_
    refine im_iconst (pc := 12) (v := (-1)) dX0_change_12 (by decide) ?_
    refine im_istore_n (pc := 13) (lv' := [some (.inr v0), some (.inl v1), some (.inl (-1)), some (.inl (-1)), none, none, none, none, none, none, none]) dX0_change_13 rfl (by decide) rfl ?_
    refine im_iconst (pc := 14) (v := 0) dX0_change_14 (by decide) ?_
    refine im_istore (pc := 15) (lv' := [some (.inr v0), some (.inl v1), some (.inl (-1)), some (.inl (-1)), some (.inl 0), none, none, none, none, none, none]) dX0_change_15 (by decide) rfl ?_
    refine im_aload_n (pc := 17) dX0_change_17 rfl rfl ?_
    refine im_gr (pc := 18) fl_X0_63 dX0_change_18 fun r52 => ?_
    refine cl_X0_210 yd_talk_im (pc := 21) (by decide) dX0_change_21 (Nat.le_of_ble_eq_true rfl) fun x53 => ?_
    refine im_istore (pc := 24) (lv' := [some (.inr v0), some (.inl v1), some (.inl (-1)), some (.inl (-1)), some (.inl 0), some (.inl x53), none, none, none, none, none]) dX0_change_24 (by decide) rfl ?_
    refine im_iconst (pc := 26) (v := 0) dX0_change_26 (by decide) ?_
    refine im_istore (pc := 27) (lv' := [some (.inr v0), some (.inl v1), some (.inl (-1)), some (.inl (-1)), some (.inl 0), some (.inl x53), some (.inl 0), none, none, none, none]) dX0_change_27 (by decide) rfl ?_
    exact Im.drop [true, true, true, true, true, true, true, false, false, false, false] rfl (tp_change_L29_ok X v0 v1 (-1) (-1) 0 x53 0 h)
  · refine im_iconst (pc := 8) (v := (-1)) dX0_change_8 (by decide) ?_
    exact im_iret (pc := 9) dX0_change_9
noncomputable def tp_change (a0 : Option Nat) (a1 : Int32) (h : PH) : Option (Int32 × PH) := grd (isC [0] a0 h) (tp_change_0 a0 a1 h)
theorem tp_change_im : IM_X0_change tp_change 7 := by
  intro a0 a1 h r h' e
  obtain ⟨e1, e2⟩ := grd_some e
  exact ⟨e1, SpI.of (k := 9) (plainFor_of_name (by decide)) rfl (fun X => Im.drop [true, true, false, false, false, false, false, false, false, false, false] rfl (tp_change_0_ok X a0 a1 h)) e2⟩
def IM_X0_isWall (f : Int32 → PH → Option (Int32)) (d : Nat) : Prop := ∀ (a0 : Int32) (h : PH) (r : Int32), f a0 h = some r → SpI yX0_isWall cX0_isWall 1 (some .boolean) d [.inl a0] h r h
noncomputable def tp_isWall_0 (v0 : Int32) (h : PH) : Option (Int32) :=
  (if (irm v0 10) = 0 then
  some (1)
  else
  (if (irm v0 10) = 9 then
  some (1)
  else
  (if (v0 / 10) = 0 then
  some (1)
  else
  (if (v0 / 10) = 5 then
  some (1)
  else
  some (0)))))
theorem tp_isWall_0_ok (X : CT) (v0 : Int32) (h : PH) : Im X (cX0_isWall, 1, RX0, "isWall", (some .boolean), 1) 0 [some (.inl v0)] [] h (tp_isWall_0 v0 h) (szP h) (kP X h) := by
  unfold tp_isWall_0
  refine im_iload_n (pc := 0) dX0_isWall_0 rfl rfl ?_
  refine im_bipush (pc := 1) (v := 10) dX0_isWall_1 (by decide) ?_
  refine im_iremC (pc := 3) (by decide) dX0_isWall_3 ?_
  refine im_if_eq (pc := 4) (tgt := 31) dX0_isWall_4 (by decide) ?_ ?_
  · refine im_iconst (pc := 31) (v := 1) dX0_isWall_31 (by decide) ?_
    refine im_goto (pc := 32) (tgt := 36) dX0_isWall_32 (by decide) ?_
    exact im_zretTP (pc := 36) (nar_z (Or.inr rfl)) dX0_isWall_36
  · refine im_iload_n (pc := 7) dX0_isWall_7 rfl rfl ?_
    refine im_bipush (pc := 8) (v := 10) dX0_isWall_8 (by decide) ?_
    refine im_iremC (pc := 10) (by decide) dX0_isWall_10 ?_
    refine im_bipush (pc := 11) (v := 9) dX0_isWall_11 (by decide) ?_
    refine im_icmp_eq (pc := 13) (tgt := 31) dX0_isWall_13 (by decide) ?_ ?_
    · refine im_iconst (pc := 31) (v := 1) dX0_isWall_31 (by decide) ?_
      refine im_goto (pc := 32) (tgt := 36) dX0_isWall_32 (by decide) ?_
      exact im_zretTP (pc := 36) (nar_z (Or.inr rfl)) dX0_isWall_36
    · refine im_iload_n (pc := 16) dX0_isWall_16 rfl rfl ?_
      refine im_bipush (pc := 17) (v := 10) dX0_isWall_17 (by decide) ?_
      refine im_idivC (pc := 19) (by decide) dX0_isWall_19 ?_
      refine im_if_eq (pc := 20) (tgt := 31) dX0_isWall_20 (by decide) ?_ ?_
      · refine im_iconst (pc := 31) (v := 1) dX0_isWall_31 (by decide) ?_
        refine im_goto (pc := 32) (tgt := 36) dX0_isWall_32 (by decide) ?_
        exact im_zretTP (pc := 36) (nar_z (Or.inr rfl)) dX0_isWall_36
      · refine im_iload_n (pc := 23) dX0_isWall_23 rfl rfl ?_
        refine im_bipush (pc := 24) (v := 10) dX0_isWall_24 (by decide) ?_
        refine im_idivC (pc := 26) (by decide) dX0_isWall_26 ?_
        refine im_iconst (pc := 27) (v := 5) dX0_isWall_27 (by decide) ?_
        refine im_icmp_ne (pc := 28) (tgt := 35) dX0_isWall_28 (by decide) ?_ ?_
        · refine im_iconst (pc := 35) (v := 0) dX0_isWall_35 (by decide) ?_
          exact im_zretTP (pc := 36) (nar_z (Or.inl rfl)) dX0_isWall_36
        · refine im_iconst (pc := 31) (v := 1) dX0_isWall_31 (by decide) ?_
          refine im_goto (pc := 32) (tgt := 36) dX0_isWall_32 (by decide) ?_
          exact im_zretTP (pc := 36) (nar_z (Or.inr rfl)) dX0_isWall_36
noncomputable def tp_isWall (a0 : Int32) (h : PH) : Option (Int32) := tp_isWall_0 a0 h
theorem tp_isWall_im : IM_X0_isWall tp_isWall 1 := by
  intro a0 h r e
  exact SpI.ofP (k := 0) (plainFor_of_name (by decide)) rfl (fun X => Im.drop [true] rfl (tp_isWall_0_ok X a0 h)) e
theorem cl_X0_235 {X : CT} {cc : ByteArray} {nL : Nat} {mn : String} {ret : Option FieldType} {d d0 : Nat} {τ : Type} {pc : Nat} {lv : List (Option PV)} {st : List PV} {h : PH} {sz : τ → Nat × Nat} {K : τ → Prop} {f : Int32 → PH → Option (Int32)} (HR : IM_X0_isWall f d0) {a0 : Int32} {g : Int32 → Option τ} (hd : d0 + 1 ≤ d) (hdg : decode cc pc = .ok (.invokestatic 235, 3)) (hst : st.length ≤ 8) (kk : ∀ r, Im X (cc, nL, RX0, mn, ret, d) (pc + 3) lv (.inl r :: st) h (g r) sz K) : Im X (cc, nL, RX0, mn, ret, d) pc lv (.inl a0 :: st) h ((f a0 h).bind g) sz K := by
  refine im_cP (y := yX0_isWall) (cY := cX0_isWall) (nY := 1) (rY := (some .boolean)) (d' := d0) (av := [.inl a0]) (fun r e hX => ?_) (fun r e => HR _ _ _ e) hd (by decide) hst rfl kk
  exact cal_S (n := 1) hX (lw_S q1024 q1025 q106 q1026) (by decide +kernel) rfl hdg

theorem cl_X0_232 {X : CT} {cc : ByteArray} {nL : Nat} {mn : String} {ret : Option FieldType} {d d0 : Nat} {τ : Type} {pc : Nat} {lv : List (Option PV)} {st : List PV} {h : PH} {sz : τ → Nat × Nat} {K : τ → Prop} {f : Int32 → Int32 → PH → Option (Int32)} (HR : IM_X0_has f d0) {a0 : Int32} {a1 : Int32} {g : Int32 → Option τ} (hd : d0 + 1 ≤ d) (hdg : decode cc pc = .ok (.invokestatic 232, 3)) (hst : st.length ≤ 8) (kk : ∀ r, Im X (cc, nL, RX0, mn, ret, d) (pc + 3) lv (.inl r :: st) h (g r) sz K) : Im X (cc, nL, RX0, mn, ret, d) pc lv (.inl a1 :: .inl a0 :: st) h ((f a0 a1 h).bind g) sz K := by
  refine im_cP (y := yX0_has) (cY := cX0_has) (nY := 2) (rY := (some .boolean)) (d' := d0) (av := [.inl a0, .inl a1]) (fun r e hX => ?_) (fun r e => HR _ _ _ _ e) hd (by decide) hst rfl kk
  exact cal_S (n := 2) hX (lw_S q1023 q900 q106 q901) (by decide +kernel) rfl hdg

def IM_X0_holds (f : Option Nat → Int32 → PH → Option (Int32)) (d : Nat) : Prop := ∀ (a0 : Option Nat) (a1 : Int32) (h : PH) (r : Int32), f a0 a1 h = some r → isC [0] a0 h = true ∧ SpI yX0_holds cX0_holds 4 (some .boolean) d [.inr a0, .inl a1] h r h
noncomputable def tp_holds_0 (v0 : Option Nat) (v1 : Int32) (h : PH) : Option (Int32) :=
  (gfr [0] 1 v0 h).bind fun r51 =>
  (gfr [2] 0 r51 h).bind fun r52 =>
  (gfr [0] 8 v0 h).bind fun r53 =>
  (ald 0 r53 v1 h).bind fun x54 =>
  (aldr 2 r52 x54 h).bind fun r55 =>
  (gfr [0] 1 v0 h).bind fun r56 =>
  (gfr [0] 8 v0 h).bind fun r57 =>
  (ald 0 r57 v1 h).bind fun x58 =>
  (yd_beside r56 x58 h).bind fun x59 =>
  (gfr [0] 10 v0 h).bind fun r60 =>
  (ald 0 r60 v1 h).bind fun x61 =>
  (if x61 = 35 then
  (pe_isLaid r55 h).bind fun x63 =>
  (if x63 = 0 then
  some (0)
  else
  (gfi [3] 2 r55 h).bind fun x64 =>
  (tp_isWall x64 h).bind fun x65 =>
  (if x65 = 0 then
  some (0)
  else
  some (1)))
  else
  (if x61 = 43 then
  (gfr [0] 9 v0 h).bind fun r66 =>
  (ald 0 r66 v1 h).bind fun x67 =>
  (tp_has x59 x67 h).bind fun x68 =>
  (zok x68).bind fun x69 => some (x69)
  else
  (if x61 = 45 then
  (gfr [0] 9 v0 h).bind fun r70 =>
  (ald 0 r70 v1 h).bind fun x71 =>
  (tp_has x59 x71 h).bind fun x72 =>
  (if x72 = 0 then
  some (1)
  else
  some (0))
  else
  (pe_isLaid r55 h).bind fun x62 =>
  (if x62 = 0 then
  some (0)
  else
  (if x59 = 0 then
  some (1)
  else
  some (0))))))
theorem tp_holds_0_ok (X : CT) (v0 : Option Nat) (v1 : Int32) (h : PH) : Im X (cX0_holds, 4, RX0, "holds", (some .boolean), 6) 0 [some (.inr v0), some (.inl v1), none, none] [] h (tp_holds_0 v0 v1 h) (szP h) (kP X h) := by
  unfold tp_holds_0
  refine im_aload_n (pc := 0) dX0_holds_0 rfl rfl ?_
  refine im_gr (pc := 1) fl_X0_63 dX0_holds_1 fun r51 => ?_
  refine im_gr (pc := 4) fl_X0_109 dX0_holds_4 fun r52 => ?_
  refine im_aload_n (pc := 7) dX0_holds_7 rfl rfl ?_
  refine im_gr (pc := 8) fl_X0_78 dX0_holds_8 fun r53 => ?_
  refine im_iload_n (pc := 11) dX0_holds_11 rfl rfl ?_
  refine im_iald (pc := 12) dX0_holds_12 fun x54 => ?_
  refine im_aald (pc := 13) (t := 2) (by decide) (by decide) dX0_holds_13 fun r55 => ?_
  refine im_astore_n (pc := 14) (lv' := [some (.inr v0), some (.inl v1), some (.inr r55), none]) dX0_holds_14 rfl (by decide) rfl ?_
  refine im_aload_n (pc := 15) dX0_holds_15 rfl rfl ?_
  refine im_gr (pc := 16) fl_X0_63 dX0_holds_16 fun r56 => ?_
  refine im_aload_n (pc := 19) dX0_holds_19 rfl rfl ?_
  refine im_gr (pc := 20) fl_X0_78 dX0_holds_20 fun r57 => ?_
  refine im_iload_n (pc := 23) dX0_holds_23 rfl rfl ?_
  refine im_iald (pc := 24) dX0_holds_24 fun x58 => ?_
  refine cl_X0_200 yd_beside_im (pc := 25) (by decide) dX0_holds_25 (Nat.le_of_ble_eq_true rfl) fun x59 => ?_
  refine im_istore_n (pc := 28) (lv' := [some (.inr v0), some (.inl v1), some (.inr r55), some (.inl x59)]) dX0_holds_28 rfl (by decide) rfl ?_
  refine im_aload_n (pc := 29) dX0_holds_29 rfl rfl ?_
  refine im_gr (pc := 30) fl_X0_84 dX0_holds_30 fun r60 => ?_
  refine im_iload_n (pc := 33) dX0_holds_33 rfl rfl ?_
  refine im_iald (pc := 34) dX0_holds_34 fun x61 => ?_
  refine im_lsw (pc := 35) (dt := 121) [(35, 98), (43, 68), (45, 79)] dX0_holds_35 (by decide) (by decide) ⟨_, _, rfl, ?_, ⟨_, _, rfl, ?_, ⟨_, _, rfl, ?_, ?_⟩⟩⟩
  · refine im_aload_n (pc := 98) dX0_holds_98 rfl rfl ?_
    refine cl_X0_183 pe_isLaid_im (pc := 99) (by decide) dX0_holds_99 (Nat.le_of_ble_eq_true rfl) fun x63 => ?_
    refine im_if_eq (pc := 102) (tgt := 119) dX0_holds_102 (by decide) ?_ ?_
    · refine im_iconst (pc := 119) (v := 0) dX0_holds_119 (by decide) ?_
      exact im_zretTP (pc := 120) (nar_z (Or.inl rfl)) dX0_holds_120
    · refine im_aload_n (pc := 105) dX0_holds_105 rfl rfl ?_
      refine im_gi (pc := 106) fl_X0_130 dX0_holds_106 fun x64 => ?_
      refine cl_X0_235 tp_isWall_im (pc := 109) (by decide) dX0_holds_109 (Nat.le_of_ble_eq_true rfl) fun x65 => ?_
      refine im_if_eq (pc := 112) (tgt := 119) dX0_holds_112 (by decide) ?_ ?_
      · refine im_iconst (pc := 119) (v := 0) dX0_holds_119 (by decide) ?_
        exact im_zretTP (pc := 120) (nar_z (Or.inl rfl)) dX0_holds_120
      · refine im_iconst (pc := 115) (v := 1) dX0_holds_115 (by decide) ?_
        refine im_goto (pc := 116) (tgt := 120) dX0_holds_116 (by decide) ?_
        exact im_zretTP (pc := 120) (nar_z (Or.inr rfl)) dX0_holds_120
  · refine im_iload_n (pc := 68) dX0_holds_68 rfl rfl ?_
    refine im_aload_n (pc := 69) dX0_holds_69 rfl rfl ?_
    refine im_gr (pc := 70) fl_X0_81 dX0_holds_70 fun r66 => ?_
    refine im_iload_n (pc := 73) dX0_holds_73 rfl rfl ?_
    refine im_iald (pc := 74) dX0_holds_74 fun x67 => ?_
    refine cl_X0_232 tp_has_im (pc := 75) (by decide) dX0_holds_75 (Nat.le_of_ble_eq_true rfl) fun x68 => ?_
    refine im_zok fun x69 hz => ?_
    exact im_zretTP (pc := 78) (nar_z hz) dX0_holds_78
  · refine im_iload_n (pc := 79) dX0_holds_79 rfl rfl ?_
    refine im_aload_n (pc := 80) dX0_holds_80 rfl rfl ?_
    refine im_gr (pc := 81) fl_X0_81 dX0_holds_81 fun r70 => ?_
    refine im_iload_n (pc := 84) dX0_holds_84 rfl rfl ?_
    refine im_iald (pc := 85) dX0_holds_85 fun x71 => ?_
    refine cl_X0_232 tp_has_im (pc := 86) (by decide) dX0_holds_86 (Nat.le_of_ble_eq_true rfl) fun x72 => ?_
    refine im_if_ne (pc := 89) (tgt := 96) dX0_holds_89 (by decide) ?_ ?_
    · refine im_iconst (pc := 96) (v := 0) dX0_holds_96 (by decide) ?_
      exact im_zretTP (pc := 97) (nar_z (Or.inl rfl)) dX0_holds_97
    · refine im_iconst (pc := 92) (v := 1) dX0_holds_92 (by decide) ?_
      refine im_goto (pc := 93) (tgt := 97) dX0_holds_93 (by decide) ?_
      exact im_zretTP (pc := 97) (nar_z (Or.inr rfl)) dX0_holds_97
  · refine im_aload_n (pc := 121) dX0_holds_121 rfl rfl ?_
    refine cl_X0_183 pe_isLaid_im (pc := 122) (by decide) dX0_holds_122 (Nat.le_of_ble_eq_true rfl) fun x62 => ?_
    refine im_if_eq (pc := 125) (tgt := 136) dX0_holds_125 (by decide) ?_ ?_
    · refine im_iconst (pc := 136) (v := 0) dX0_holds_136 (by decide) ?_
      exact im_zretTP (pc := 137) (nar_z (Or.inl rfl)) dX0_holds_137
    · refine im_iload_n (pc := 128) dX0_holds_128 rfl rfl ?_
      refine im_if_ne (pc := 129) (tgt := 136) dX0_holds_129 (by decide) ?_ ?_
      · refine im_iconst (pc := 136) (v := 0) dX0_holds_136 (by decide) ?_
        exact im_zretTP (pc := 137) (nar_z (Or.inl rfl)) dX0_holds_137
      · refine im_iconst (pc := 132) (v := 1) dX0_holds_132 (by decide) ?_
        refine im_goto (pc := 133) (tgt := 137) dX0_holds_133 (by decide) ?_
        exact im_zretTP (pc := 137) (nar_z (Or.inr rfl)) dX0_holds_137
noncomputable def tp_holds (a0 : Option Nat) (a1 : Int32) (h : PH) : Option (Int32) := grd (isC [0] a0 h) (tp_holds_0 a0 a1 h)
theorem tp_holds_im : IM_X0_holds tp_holds 6 := by
  intro a0 a1 h r e
  obtain ⟨e1, e2⟩ := grd_some e
  exact ⟨e1, SpI.ofP (k := 2) (plainFor_of_name (by decide)) rfl (fun X => Im.drop [true, true, false, false] rfl (tp_holds_0_ok X a0 a1 h)) e2⟩
theorem fl_X0_164 : ∀ c ∈ [0], FL RX0 164 c 11 := List.forall_mem_cons.mpr ⟨⟨RX0, TX0, 20, rfl, in_X0, by decide, Or.inl q288⟩, fun _ h => absurd h List.not_mem_nil⟩
theorem cl_X0_238 {X : CT} {cc : ByteArray} {nL : Nat} {mn : String} {ret : Option FieldType} {d d0 : Nat} {τ : Type} {pc : Nat} {lv : List (Option PV)} {st : List PV} {h : PH} {sz : τ → Nat × Nat} {K : τ → Prop} {f : Option Nat → Int32 → PH → Option (Int32)} (HR : IM_X0_holds f d0) {a0 : Option Nat} {a1 : Int32} {g : Int32 → Option τ} (hd : d0 + 1 ≤ d) (hdg : decode cc pc = .ok (.invokevirtual 238, 3)) (hst : st.length ≤ 8) (kk : ∀ r, Im X (cc, nL, RX0, mn, ret, d) (pc + 3) lv (.inl r :: st) h (g r) sz K) : Im X (cc, nL, RX0, mn, ret, d) pc lv (.inl a1 :: .inr a0 :: st) h ((f a0 a1 h).bind g) sz K := by
  refine im_cP (y := yX0_holds) (cY := cX0_holds) (nY := 4) (rY := (some .boolean)) (d' := d0) (av := [.inr a0, .inl a1]) (fun r e hX => ?_) (fun r e => (HR _ _ _ _ e).2) hd (by decide) hst rfl kk
  obtain ⟨a, c, fs, rfl, ec, hm⟩ := isC_some (HR _ _ _ _ e).1
  cases List.mem_singleton.mp hm
  exact cal_V (n := 1) hX (lw_V q1019 q1021 qs29 q106 q1022) (by decide +kernel) rfl rfl ec hdg

def IM_X0_hold (f : Option Nat → Int32 → PH → Option (Int32)) (d : Nat) : Prop := ∀ (a0 : Option Nat) (a1 : Int32) (h : PH) (r : Int32), f a0 a1 h = some r → isC [0] a0 h = true ∧ SpI yX0_hold cX0_hold 5 (some .int) d [.inr a0, .inl a1] h r h
noncomputable def tp_hold_b18 (v0 : Option Nat) (v1 : Int32) (v2 : Int32) (v3 : Int32) (v4 : Int32) (h : PH) : Option ((Int32 × Int32 × Int32) ⊕ (Int32)) :=
  (gfi [0] 11 v0 h).bind fun x51 =>
  (if x51 ≤ v4 then
  (if v1 = 0 then
  some (.inr v2)
  else
  some (.inr v3))
  else
  (tp_holds v0 v4 h).bind fun x52 =>
  (if x52 = 0 then
  (if v3 = (-2) then
  some (.inl (v2, v4, (v4 + 1)))
  else
  some (.inl (v2, v3, (v4 + 1))))
  else
  some (.inl ((v2 + 1), v3, (v4 + 1)))))
noncomputable def tp_hold_L18 (v0 : Option Nat) (v1 : Int32) (v2 : Int32) (v3 : Int32) (v4 : Int32) (h : PH) : Option (Int32) :=
  iter (fun s : Int32 × Int32 × Int32 => tp_hold_b18 v0 v1 s.1 s.2.1 s.2.2 h) (v2, v3, v4)
theorem tp_hold_b18_ok (X : CT) (v0 : Option Nat) (v1 : Int32) (v2 : Int32) (v3 : Int32) (v4 : Int32) (h : PH) : Im X (cX0_hold, 5, RX0, "hold", (some .int), 7) 18 [some (.inr v0), some (.inl v1), some (.inl v2), some (.inl v3), some (.inl v4)] [] h (tp_hold_b18 v0 v1 v2 v3 v4 h) (ez (fun s : Int32 × Int32 × Int32 => h) (szP h)) (ek X 18 (fun s : Int32 × Int32 × Int32 => [some (.inr v0), some (.inl v1), some (.inl s.1), some (.inl s.2.1), some (.inl s.2.2)]) (fun s : Int32 × Int32 × Int32 => h) (kP X h)) := by
  unfold tp_hold_b18
  refine im_iload (pc := 18) dX0_hold_18 rfl ?_
  refine im_aload_n (pc := 20) dX0_hold_20 rfl rfl ?_
  refine im_gi (pc := 21) fl_X0_164 dX0_hold_21 fun x51 => ?_
  refine im_icmp_ge (pc := 24) (tgt := 57) dX0_hold_24 (by decide) ?_ ?_
  · refine im_iload_n (pc := 57) dX0_hold_57 rfl rfl ?_
    refine im_if_ne (pc := 58) (tgt := 65) dX0_hold_58 (by decide) ?_ ?_
    · refine im_iload_n (pc := 65) dX0_hold_65 rfl rfl ?_
      exact Im.outS (im_iretP (pc := 66) dX0_hold_66)
    · refine im_iload_n (pc := 61) dX0_hold_61 rfl rfl ?_
      refine im_goto (pc := 62) (tgt := 66) dX0_hold_62 (by decide) ?_
      exact Im.outS (im_iretP (pc := 66) dX0_hold_66)
  · refine im_aload_n (pc := 27) dX0_hold_27 rfl rfl ?_
    refine im_iload (pc := 28) dX0_hold_28 rfl ?_
    refine cl_X0_238 tp_holds_im (pc := 30) (by decide) dX0_hold_30 (Nat.le_of_ble_eq_true rfl) fun x52 => ?_
    refine im_if_eq (pc := 33) (tgt := 42) dX0_hold_33 (by decide) ?_ ?_
    · refine im_iload_n (pc := 42) dX0_hold_42 rfl rfl ?_
      refine im_bipush (pc := 43) (v := (-2)) dX0_hold_43 (by decide) ?_
      refine im_icmp_ne (pc := 45) (tgt := 51) dX0_hold_45 (by decide) ?_ ?_
      · refine im_iinc (pc := 51) (v := (v4 + 1)) (lv' := [some (.inr v0), some (.inl v1), some (.inl v2), some (.inl v3), some (.inl (v4 + 1))]) dX0_hold_51 rfl rfl (by decide) rfl ?_
        refine im_goto (pc := 54) (tgt := 18) dX0_hold_54 (by decide) ?_
        exact Im.back [true, true, true, true, true] rfl rfl
      · refine im_iload (pc := 48) dX0_hold_48 rfl ?_
        refine im_istore_n (pc := 50) (lv' := [some (.inr v0), some (.inl v1), some (.inl v2), some (.inl v4), some (.inl v4)]) dX0_hold_50 rfl (by decide) rfl ?_
        refine im_iinc (pc := 51) (v := (v4 + 1)) (lv' := [some (.inr v0), some (.inl v1), some (.inl v2), some (.inl v4), some (.inl (v4 + 1))]) dX0_hold_51 rfl rfl (by decide) rfl ?_
        refine im_goto (pc := 54) (tgt := 18) dX0_hold_54 (by decide) ?_
        exact Im.back [true, true, true, true, true] rfl rfl
    · refine im_iinc (pc := 36) (v := (v2 + 1)) (lv' := [some (.inr v0), some (.inl v1), some (.inl (v2 + 1)), some (.inl v3), some (.inl v4)]) dX0_hold_36 rfl rfl (by decide) rfl ?_
      refine im_goto (pc := 39) (tgt := 51) dX0_hold_39 (by decide) ?_
      refine im_iinc (pc := 51) (v := (v4 + 1)) (lv' := [some (.inr v0), some (.inl v1), some (.inl (v2 + 1)), some (.inl v3), some (.inl (v4 + 1))]) dX0_hold_51 rfl rfl (by decide) rfl ?_
      refine im_goto (pc := 54) (tgt := 18) dX0_hold_54 (by decide) ?_
      exact Im.back [true, true, true, true, true] rfl rfl
theorem tp_hold_L18_ok (X : CT) (v0 : Option Nat) (v1 : Int32) (v2 : Int32) (v3 : Int32) (v4 : Int32) (h : PH) : Im X (cX0_hold, 5, RX0, "hold", (some .int), 7) 18 [some (.inr v0), some (.inl v1), some (.inl v2), some (.inl v3), some (.inl v4)] [] h (tp_hold_L18 v0 v1 v2 v3 v4 h) (szP h) (kP X h) := by
  unfold tp_hold_L18
  exact Im.iter (lv := (fun s : Int32 × Int32 × Int32 => [some (.inr v0), some (.inl v1), some (.inl s.1), some (.inl s.2.1), some (.inl s.2.2)])) (hp := (fun s : Int32 × Int32 × Int32 => h)) (fun s => tp_hold_b18_ok X v0 v1 s.1 s.2.1 s.2.2 h) _ rfl rfl
noncomputable def tp_hold_0 (v0 : Option Nat) (v1 : Int32) (h : PH) : Option (Int32) :=
  (tp_in v1 2 h).bind fun x51 =>
  (if x51 = 0 then
  some ((-1))
  else
  tp_hold_L18 v0 v1 0 (-2) 0 h)
theorem tp_hold_0_ok (X : CT) (v0 : Option Nat) (v1 : Int32) (h : PH) : Im X (cX0_hold, 5, RX0, "hold", (some .int), 7) 0 [some (.inr v0), some (.inl v1), none, none, none] [] h (tp_hold_0 v0 v1 h) (szP h) (kP X h) := by
  unfold tp_hold_0
  refine im_iload_n (pc := 0) dX0_hold_0 rfl rfl ?_
  refine im_iconst (pc := 1) (v := 2) dX0_hold_1 (by decide) ?_
  refine cl_X0_25 tp_in_im (pc := 2) (by decide) dX0_hold_2 (Nat.le_of_ble_eq_true rfl) fun x51 => ?_
  refine im_if_ne (pc := 5) (tgt := 10) dX0_hold_5 (by decide) ?_ ?_
  · refine im_iconst (pc := 10) (v := 0) dX0_hold_10 (by decide) ?_
    refine im_istore_n (pc := 11) (lv' := [some (.inr v0), some (.inl v1), some (.inl 0), none, none]) dX0_hold_11 rfl (by decide) rfl ?_
    refine im_bipush (pc := 12) (v := (-2)) dX0_hold_12 (by decide) ?_
    refine im_istore_n (pc := 14) (lv' := [some (.inr v0), some (.inl v1), some (.inl 0), some (.inl (-2)), none]) dX0_hold_14 rfl (by decide) rfl ?_
    refine im_iconst (pc := 15) (v := 0) dX0_hold_15 (by decide) ?_
    refine im_istore (pc := 16) (lv' := [some (.inr v0), some (.inl v1), some (.inl 0), some (.inl (-2)), some (.inl 0)]) dX0_hold_16 (by decide) rfl ?_
    exact Im.drop [true, true, true, true, true] rfl (tp_hold_L18_ok X v0 v1 0 (-2) 0 h)
  · refine im_iconst (pc := 8) (v := (-1)) dX0_hold_8 (by decide) ?_
    exact im_iretP (pc := 9) dX0_hold_9
noncomputable def tp_hold (a0 : Option Nat) (a1 : Int32) (h : PH) : Option (Int32) := grd (isC [0] a0 h) (tp_hold_0 a0 a1 h)
theorem tp_hold_im : IM_X0_hold tp_hold 7 := by
  intro a0 a1 h r e
  obtain ⟨e1, e2⟩ := grd_some e
  exact ⟨e1, SpI.ofP (k := 3) (plainFor_of_name (by decide)) rfl (fun X => Im.drop [true, true, false, false, false] rfl (tp_hold_0_ok X a0 a1 h)) e2⟩
theorem fl_X3_48 : ∀ c ∈ [3], FL RX3 48 c 3 := List.forall_mem_cons.mpr ⟨⟨RX4, TX4, 4, rfl, in_X4, by decide, Or.inr ⟨_, lw_n q206 rfl⟩⟩, fun _ h => absurd h List.not_mem_nil⟩
def IM_X3_told (f : Option Nat → PH → Option (Int32)) (d : Nat) : Prop := ∀ (a0 : Option Nat) (h : PH) (r : Int32), f a0 h = some r → isC [2] a0 h = true ∧ SpI yX3_told cX3_told 3 (some .int) d [.inr a0] h r h
noncomputable def yd_told_b4 (v0 : Option Nat) (v1 : Int32) (v2 : Int32) (h : PH) : Option ((Int32 × Int32) ⊕ (Int32)) :=
  (if 16 ≤ v2 then
  some (.inr v1)
  else
  (gfr [2] 0 v0 h).bind fun r51 =>
  (aldr 2 r51 v2 h).bind fun r52 =>
  (gfi [3] 3 r52 h).bind fun x53 =>
  (if x53 = 0 then
  some (.inl ((v1 ||| 0), (v2 + 1)))
  else
  some (.inl ((v1 ||| ((1 : Int32) <<< (v2 &&& 31))), (v2 + 1)))))
noncomputable def yd_told_L4 (v0 : Option Nat) (v1 : Int32) (v2 : Int32) (h : PH) : Option (Int32) :=
  iter (fun s : Int32 × Int32 => yd_told_b4 v0 s.1 s.2 h) (v1, v2)
theorem yd_told_b4_ok (X : CT) (v0 : Option Nat) (v1 : Int32) (v2 : Int32) (h : PH) : Im X (cX3_told, 3, RX3, "told", (some .int), 1) 4 [some (.inr v0), some (.inl v1), some (.inl v2)] [] h (yd_told_b4 v0 v1 v2 h) (ez (fun s : Int32 × Int32 => h) (szP h)) (ek X 4 (fun s : Int32 × Int32 => [some (.inr v0), some (.inl s.1), some (.inl s.2)]) (fun s : Int32 × Int32 => h) (kP X h)) := by
  unfold yd_told_b4
  refine im_iload_n (pc := 4) dX3_told_4 rfl rfl ?_
  refine im_bipush (pc := 5) (v := 16) dX3_told_5 (by decide) ?_
  refine im_icmp_ge (pc := 7) (tgt := 38) dX3_told_7 (by decide) ?_ ?_
  · refine im_iload_n (pc := 38) dX3_told_38 rfl rfl ?_
    exact Im.outS (im_iretP (pc := 39) dX3_told_39)
  · refine im_iload_n (pc := 10) dX3_told_10 rfl rfl ?_
    refine im_aload_n (pc := 11) dX3_told_11 rfl rfl ?_
    refine im_gr (pc := 12) fl_X3_17 dX3_told_12 fun r51 => ?_
    refine im_iload_n (pc := 15) dX3_told_15 rfl rfl ?_
    refine im_aald (pc := 16) (t := 2) (by decide) (by decide) dX3_told_16 fun r52 => ?_
    refine im_gi (pc := 17) fl_X3_48 dX3_told_17 fun x53 => ?_
    refine im_if_eq (pc := 20) (tgt := 29) dX3_told_20 (by decide) ?_ ?_
    · refine im_iconst (pc := 29) (v := 0) dX3_told_29 (by decide) ?_
      refine im_ior (pc := 30) dX3_told_30 ?_
      refine im_istore_n (pc := 31) (lv' := [some (.inr v0), some (.inl (v1 ||| 0)), some (.inl v2)]) dX3_told_31 rfl (by decide) rfl ?_
      refine im_iinc (pc := 32) (v := (v2 + 1)) (lv' := [some (.inr v0), some (.inl (v1 ||| 0)), some (.inl (v2 + 1))]) dX3_told_32 rfl rfl (by decide) rfl ?_
      refine im_goto (pc := 35) (tgt := 4) dX3_told_35 (by decide) ?_
      exact Im.back [true, true, true] rfl rfl
    · refine im_iconst (pc := 23) (v := 1) dX3_told_23 (by decide) ?_
      refine im_iload_n (pc := 24) dX3_told_24 rfl rfl ?_
      refine im_ishl (pc := 25) dX3_told_25 ?_
      refine im_goto (pc := 26) (tgt := 30) dX3_told_26 (by decide) ?_
      refine im_ior (pc := 30) dX3_told_30 ?_
      refine im_istore_n (pc := 31) (lv' := [some (.inr v0), some (.inl (v1 ||| ((1 : Int32) <<< (v2 &&& 31)))), some (.inl v2)]) dX3_told_31 rfl (by decide) rfl ?_
      refine im_iinc (pc := 32) (v := (v2 + 1)) (lv' := [some (.inr v0), some (.inl (v1 ||| ((1 : Int32) <<< (v2 &&& 31)))), some (.inl (v2 + 1))]) dX3_told_32 rfl rfl (by decide) rfl ?_
      refine im_goto (pc := 35) (tgt := 4) dX3_told_35 (by decide) ?_
      exact Im.back [true, true, true] rfl rfl
theorem yd_told_L4_ok (X : CT) (v0 : Option Nat) (v1 : Int32) (v2 : Int32) (h : PH) : Im X (cX3_told, 3, RX3, "told", (some .int), 1) 4 [some (.inr v0), some (.inl v1), some (.inl v2)] [] h (yd_told_L4 v0 v1 v2 h) (szP h) (kP X h) := by
  unfold yd_told_L4
  exact Im.iter (lv := (fun s : Int32 × Int32 => [some (.inr v0), some (.inl s.1), some (.inl s.2)])) (hp := (fun s : Int32 × Int32 => h)) (fun s => yd_told_b4_ok X v0 s.1 s.2 h) _ rfl rfl
noncomputable def yd_told_0 (v0 : Option Nat) (h : PH) : Option (Int32) :=
  yd_told_L4 v0 0 0 h
theorem yd_told_0_ok (X : CT) (v0 : Option Nat) (h : PH) : Im X (cX3_told, 3, RX3, "told", (some .int), 1) 0 [some (.inr v0), none, none] [] h (yd_told_0 v0 h) (szP h) (kP X h) := by
  unfold yd_told_0
  refine im_iconst (pc := 0) (v := 0) dX3_told_0 (by decide) ?_
  refine im_istore_n (pc := 1) (lv' := [some (.inr v0), some (.inl 0), none]) dX3_told_1 rfl (by decide) rfl ?_
  refine im_iconst (pc := 2) (v := 0) dX3_told_2 (by decide) ?_
  refine im_istore_n (pc := 3) (lv' := [some (.inr v0), some (.inl 0), some (.inl 0)]) dX3_told_3 rfl (by decide) rfl ?_
  exact Im.drop [true, true, true] rfl (yd_told_L4_ok X v0 0 0 h)
noncomputable def yd_told (a0 : Option Nat) (h : PH) : Option (Int32) := grd (isC [2] a0 h) (yd_told_0 a0 h)
theorem yd_told_im : IM_X3_told yd_told 1 := by
  intro a0 h r e
  obtain ⟨e1, e2⟩ := grd_some e
  exact ⟨e1, SpI.ofP (k := 2) (plainFor_of_name (by decide)) rfl (fun X => Im.drop [true, false, false] rfl (yd_told_0_ok X a0 h)) e2⟩
def IM_X0_placeIn (f : Option Nat → Int32 → PH → Option (Int32)) (d : Nat) : Prop := ∀ (a0 : Option Nat) (a1 : Int32) (h : PH) (r : Int32), f a0 a1 h = some r → SpI yX0_placeIn cX0_placeIn 3 (some .int) d [.inr a0, .inl a1] h r h
noncomputable def tp_placeIn_b2 (v0 : Option Nat) (v1 : Int32) (v2 : Int32) (h : PH) : Option ((Int32) ⊕ (Int32)) :=
  (ald 0 v0 v2 h).bind fun x51 =>
  (if x51 = v1 then
  some (.inr v2)
  else
  some (.inl (v2 + 1)))
noncomputable def tp_placeIn_L2 (v0 : Option Nat) (v1 : Int32) (v2 : Int32) (h : PH) : Option (Int32) :=
  iter (fun s : Int32 => tp_placeIn_b2 v0 v1 s h) v2
theorem tp_placeIn_b2_ok (X : CT) (v0 : Option Nat) (v1 : Int32) (v2 : Int32) (h : PH) : Im X (cX0_placeIn, 3, RX0, "placeIn", (some .int), 1) 2 [some (.inr v0), some (.inl v1), some (.inl v2)] [] h (tp_placeIn_b2 v0 v1 v2 h) (ez (fun s : Int32 => h) (szP h)) (ek X 2 (fun s : Int32 => [some (.inr v0), some (.inl v1), some (.inl s)]) (fun s : Int32 => h) (kP X h)) := by
  unfold tp_placeIn_b2
  refine im_aload_n (pc := 2) dX0_placeIn_2 rfl rfl ?_
  refine im_iload_n (pc := 3) dX0_placeIn_3 rfl rfl ?_
  refine im_iald (pc := 4) dX0_placeIn_4 fun x51 => ?_
  refine im_iload_n (pc := 5) dX0_placeIn_5 rfl rfl ?_
  refine im_icmp_eq (pc := 6) (tgt := 15) dX0_placeIn_6 (by decide) ?_ ?_
  · refine im_iload_n (pc := 15) dX0_placeIn_15 rfl rfl ?_
    exact Im.outS (im_iretP (pc := 16) dX0_placeIn_16)
  · refine im_iinc (pc := 9) (v := (v2 + 1)) (lv' := [some (.inr v0), some (.inl v1), some (.inl (v2 + 1))]) dX0_placeIn_9 rfl rfl (by decide) rfl ?_
    refine im_goto (pc := 12) (tgt := 2) dX0_placeIn_12 (by decide) ?_
    exact Im.back [true, true, true] rfl rfl
theorem tp_placeIn_L2_ok (X : CT) (v0 : Option Nat) (v1 : Int32) (v2 : Int32) (h : PH) : Im X (cX0_placeIn, 3, RX0, "placeIn", (some .int), 1) 2 [some (.inr v0), some (.inl v1), some (.inl v2)] [] h (tp_placeIn_L2 v0 v1 v2 h) (szP h) (kP X h) := by
  unfold tp_placeIn_L2
  exact Im.iter (lv := (fun s : Int32 => [some (.inr v0), some (.inl v1), some (.inl s)])) (hp := (fun s : Int32 => h)) (fun s => tp_placeIn_b2_ok X v0 v1 s h) _ rfl rfl
noncomputable def tp_placeIn_0 (v0 : Option Nat) (v1 : Int32) (h : PH) : Option (Int32) :=
  tp_placeIn_L2 v0 v1 0 h
theorem tp_placeIn_0_ok (X : CT) (v0 : Option Nat) (v1 : Int32) (h : PH) : Im X (cX0_placeIn, 3, RX0, "placeIn", (some .int), 1) 0 [some (.inr v0), some (.inl v1), none] [] h (tp_placeIn_0 v0 v1 h) (szP h) (kP X h) := by
  unfold tp_placeIn_0
  refine im_iconst (pc := 0) (v := 0) dX0_placeIn_0 (by decide) ?_
  refine im_istore_n (pc := 1) (lv' := [some (.inr v0), some (.inl v1), some (.inl 0)]) dX0_placeIn_1 rfl (by decide) rfl ?_
  exact Im.drop [true, true, true] rfl (tp_placeIn_L2_ok X v0 v1 0 h)
noncomputable def tp_placeIn (a0 : Option Nat) (a1 : Int32) (h : PH) : Option (Int32) := tp_placeIn_0 a0 a1 h
theorem tp_placeIn_im : IM_X0_placeIn tp_placeIn 1 := by
  intro a0 a1 h r e
  exact SpI.ofP (k := 1) (plainFor_of_name (by decide)) rfl (fun X => Im.drop [true, true, false] rfl (tp_placeIn_0_ok X a0 a1 h)) e
def IM_J2_abs (f : Int32 → PH → Option (Int32)) (d : Nat) : Prop := ∀ (a0 : Int32) (h : PH) (r : Int32), f a0 h = some r → SpI yJ2_abs cJ2_abs 1 (some .int) d [.inl a0] h r h
noncomputable def jM_abs_0 (v0 : Int32) (h : PH) : Option (Int32) :=
  (if 0 ≤ v0 then
  some (v0)
  else
  some ((-v0)))
theorem jM_abs_0_ok (X : CT) (v0 : Int32) (h : PH) : Im X (cJ2_abs, 1, RJ2, "abs", (some .int), 1) 0 [some (.inl v0)] [] h (jM_abs_0 v0 h) (szP h) (kP X h) := by
  unfold jM_abs_0
  refine im_iload_n (pc := 0) dJ2_abs_0 rfl rfl ?_
  refine im_if_ge (pc := 1) (tgt := 9) dJ2_abs_1 (by decide) ?_ ?_
  · refine im_iload_n (pc := 9) dJ2_abs_9 rfl rfl ?_
    exact im_iretP (pc := 10) dJ2_abs_10
  · refine im_iload_n (pc := 4) dJ2_abs_4 rfl rfl ?_
    refine im_ineg (pc := 5) dJ2_abs_5 ?_
    refine im_goto (pc := 6) (tgt := 10) dJ2_abs_6 (by decide) ?_
    exact im_iretP (pc := 10) dJ2_abs_10
noncomputable def jM_abs (a0 : Int32) (h : PH) : Option (Int32) := jM_abs_0 a0 h
theorem jM_abs_im : IM_J2_abs jM_abs 1 := by
  intro a0 h r e
  exact SpI.ofP (k := 0) (by decide +kernel) rfl (fun X => Im.drop [true] rfl (jM_abs_0_ok X a0 h)) e
theorem fl_X0_87 : ∀ c ∈ [0], FL RX0 87 c 12 := List.forall_mem_cons.mpr ⟨⟨RX0, TX0, 20, rfl, in_X0, by decide, Or.inl q289⟩, fun _ h => absurd h List.not_mem_nil⟩
theorem cl_X0_241 {X : CT} {cc : ByteArray} {nL : Nat} {mn : String} {ret : Option FieldType} {d d0 : Nat} {τ : Type} {pc : Nat} {lv : List (Option PV)} {st : List PV} {h : PH} {sz : τ → Nat × Nat} {K : τ → Prop} {f : Option Nat → Int32 → PH → Option (Int32)} (HR : IM_X0_placeIn f d0) {a0 : Option Nat} {a1 : Int32} {g : Int32 → Option τ} (hd : d0 + 1 ≤ d) (hdg : decode cc pc = .ok (.invokestatic 241, 3)) (hst : st.length ≤ 8) (kk : ∀ r, Im X (cc, nL, RX0, mn, ret, d) (pc + 3) lv (.inl r :: st) h (g r) sz K) : Im X (cc, nL, RX0, mn, ret, d) pc lv (.inl a1 :: .inr a0 :: st) h ((f a0 a1 h).bind g) sz K := by
  refine im_cP (y := yX0_placeIn) (cY := cX0_placeIn) (nY := 3) (rY := (some .int)) (d' := d0) (av := [.inr a0, .inl a1]) (fun r e hX => ?_) (fun r e => HR _ _ _ _ e) hd (by decide) hst rfl kk
  exact cal_S (n := 2) hX (lw_S q1048 q1049 q106 q1050) (by decide +kernel) rfl hdg

theorem cl_X0_245 {X : CT} {cc : ByteArray} {nL : Nat} {mn : String} {ret : Option FieldType} {d d0 : Nat} {τ : Type} {pc : Nat} {lv : List (Option PV)} {st : List PV} {h : PH} {sz : τ → Nat × Nat} {K : τ → Prop} {f : Int32 → PH → Option (Int32)} (HR : IM_J2_abs f d0) {a0 : Int32} {g : Int32 → Option τ} (hd : d0 + 1 ≤ d) (hdg : decode cc pc = .ok (.invokestatic 245, 3)) (hst : st.length ≤ 8) (kk : ∀ r, Im X (cc, nL, RX0, mn, ret, d) (pc + 3) lv (.inl r :: st) h (g r) sz K) : Im X (cc, nL, RX0, mn, ret, d) pc lv (.inl a0 :: st) h ((f a0 h).bind g) sz K := by
  refine im_cP (y := yJ2_abs) (cY := cJ2_abs) (nY := 1) (rY := (some .int)) (d' := d0) (av := [.inl a0]) (fun r e hX => ?_) (fun r e => HR _ _ _ e) hd (by decide) hst rfl kk
  exact cal_S (n := 1) hX (lw_S q1051 q1052 q116 q1053) (by decide +kernel) rfl hdg

def IM_X0_holdsIn (f : Option Nat → Int32 → Int32 → PH → Option (Int32)) (d : Nat) : Prop := ∀ (a0 : Option Nat) (a1 : Int32) (a2 : Int32) (h : PH) (r : Int32), f a0 a1 a2 h = some r → isC [0] a0 h = true ∧ SpI yX0_holdsIn cX0_holdsIn 5 (some .boolean) d [.inr a0, .inl a1, .inl a2] h r h
noncomputable def tp_holdsIn_0 (v0 : Option Nat) (v1 : Int32) (v2 : Int32) (h : PH) : Option (Int32) :=
  (gfr [0] 12 v0 h).bind fun r51 =>
  (gfr [0] 8 v0 h).bind fun r52 =>
  (ald 0 r52 v1 h).bind fun x53 =>
  (tp_placeIn r51 x53 h).bind fun x54 =>
  (gfr [0] 12 v0 h).bind fun r55 =>
  (gfr [0] 9 v0 h).bind fun r56 =>
  (ald 0 r56 v1 h).bind fun x57 =>
  (tp_placeIn r55 x57 h).bind fun x58 =>
  (jM_abs (x54 - x58) h).bind fun x59 =>
  (gfr [0] 10 v0 h).bind fun r60 =>
  (ald 0 r60 v1 h).bind fun x61 =>
  (if x61 = 43 then
  (if x59 = 1 then
  some (1)
  else
  some (0))
  else
  (gfr [0] 10 v0 h).bind fun r62 =>
  (ald 0 r62 v1 h).bind fun x63 =>
  (if x63 = 45 then
  (if x59 = 1 then
  some (0)
  else
  some (1))
  else
  (gfr [0] 10 v0 h).bind fun r64 =>
  (ald 0 r64 v1 h).bind fun x65 =>
  (if x65 = 35 then
  (if x54 = 0 then
  some (1)
  else
  (if x54 = (v2 - 1) then
  some (1)
  else
  some (0)))
  else
  some (0))))
theorem tp_holdsIn_0_ok (X : CT) (v0 : Option Nat) (v1 : Int32) (v2 : Int32) (h : PH) : Im X (cX0_holdsIn, 5, RX0, "holdsIn", (some .boolean), 2) 0 [some (.inr v0), some (.inl v1), some (.inl v2), none, none] [] h (tp_holdsIn_0 v0 v1 v2 h) (szP h) (kP X h) := by
  unfold tp_holdsIn_0
  refine im_aload_n (pc := 0) dX0_holdsIn_0 rfl rfl ?_
  refine im_gr (pc := 1) fl_X0_87 dX0_holdsIn_1 fun r51 => ?_
  refine im_aload_n (pc := 4) dX0_holdsIn_4 rfl rfl ?_
  refine im_gr (pc := 5) fl_X0_78 dX0_holdsIn_5 fun r52 => ?_
  refine im_iload_n (pc := 8) dX0_holdsIn_8 rfl rfl ?_
  refine im_iald (pc := 9) dX0_holdsIn_9 fun x53 => ?_
  refine cl_X0_241 tp_placeIn_im (pc := 10) (by decide) dX0_holdsIn_10 (Nat.le_of_ble_eq_true rfl) fun x54 => ?_
  refine im_istore_n (pc := 13) (lv' := [some (.inr v0), some (.inl v1), some (.inl v2), some (.inl x54), none]) dX0_holdsIn_13 rfl (by decide) rfl ?_
  refine im_iload_n (pc := 14) dX0_holdsIn_14 rfl rfl ?_
  refine im_aload_n (pc := 15) dX0_holdsIn_15 rfl rfl ?_
  refine im_gr (pc := 16) fl_X0_87 dX0_holdsIn_16 fun r55 => ?_
  refine im_aload_n (pc := 19) dX0_holdsIn_19 rfl rfl ?_
  refine im_gr (pc := 20) fl_X0_81 dX0_holdsIn_20 fun r56 => ?_
  refine im_iload_n (pc := 23) dX0_holdsIn_23 rfl rfl ?_
  refine im_iald (pc := 24) dX0_holdsIn_24 fun x57 => ?_
  refine cl_X0_241 tp_placeIn_im (pc := 25) (by decide) dX0_holdsIn_25 (Nat.le_of_ble_eq_true rfl) fun x58 => ?_
  refine im_isub (pc := 28) dX0_holdsIn_28 ?_
  refine cl_X0_245 jM_abs_im (pc := 29) (by decide) dX0_holdsIn_29 (Nat.le_of_ble_eq_true rfl) fun x59 => ?_
  refine im_istore (pc := 32) (lv' := [some (.inr v0), some (.inl v1), some (.inl v2), some (.inl x54), some (.inl x59)]) dX0_holdsIn_32 (by decide) rfl ?_
  refine im_aload_n (pc := 34) dX0_holdsIn_34 rfl rfl ?_
  refine im_gr (pc := 35) fl_X0_84 dX0_holdsIn_35 fun r60 => ?_
  refine im_iload_n (pc := 38) dX0_holdsIn_38 rfl rfl ?_
  refine im_iald (pc := 39) dX0_holdsIn_39 fun x61 => ?_
  refine im_bipush (pc := 40) (v := 43) dX0_holdsIn_40 (by decide) ?_
  refine im_icmp_ne (pc := 42) (tgt := 59) dX0_holdsIn_42 (by decide) ?_ ?_
  · refine im_aload_n (pc := 59) dX0_holdsIn_59 rfl rfl ?_
    refine im_gr (pc := 60) fl_X0_84 dX0_holdsIn_60 fun r62 => ?_
    refine im_iload_n (pc := 63) dX0_holdsIn_63 rfl rfl ?_
    refine im_iald (pc := 64) dX0_holdsIn_64 fun x63 => ?_
    refine im_bipush (pc := 65) (v := 45) dX0_holdsIn_65 (by decide) ?_
    refine im_icmp_ne (pc := 67) (tgt := 84) dX0_holdsIn_67 (by decide) ?_ ?_
    · refine im_aload_n (pc := 84) dX0_holdsIn_84 rfl rfl ?_
      refine im_gr (pc := 85) fl_X0_84 dX0_holdsIn_85 fun r64 => ?_
      refine im_iload_n (pc := 88) dX0_holdsIn_88 rfl rfl ?_
      refine im_iald (pc := 89) dX0_holdsIn_89 fun x65 => ?_
      refine im_bipush (pc := 90) (v := 35) dX0_holdsIn_90 (by decide) ?_
      refine im_icmp_ne (pc := 92) (tgt := 110) dX0_holdsIn_92 (by decide) ?_ ?_
      · refine im_iconst (pc := 110) (v := 0) dX0_holdsIn_110 (by decide) ?_
        exact im_zretTP (pc := 111) (nar_z (Or.inl rfl)) dX0_holdsIn_111
      · refine im_iload_n (pc := 95) dX0_holdsIn_95 rfl rfl ?_
        refine im_if_eq (pc := 96) (tgt := 106) dX0_holdsIn_96 (by decide) ?_ ?_
        · refine im_iconst (pc := 106) (v := 1) dX0_holdsIn_106 (by decide) ?_
          refine im_goto (pc := 107) (tgt := 111) dX0_holdsIn_107 (by decide) ?_
          exact im_zretTP (pc := 111) (nar_z (Or.inr rfl)) dX0_holdsIn_111
        · refine im_iload_n (pc := 99) dX0_holdsIn_99 rfl rfl ?_
          refine im_iload_n (pc := 100) dX0_holdsIn_100 rfl rfl ?_
          refine im_iconst (pc := 101) (v := 1) dX0_holdsIn_101 (by decide) ?_
          refine im_isub (pc := 102) dX0_holdsIn_102 ?_
          refine im_icmp_ne (pc := 103) (tgt := 110) dX0_holdsIn_103 (by decide) ?_ ?_
          · refine im_iconst (pc := 110) (v := 0) dX0_holdsIn_110 (by decide) ?_
            exact im_zretTP (pc := 111) (nar_z (Or.inl rfl)) dX0_holdsIn_111
          · refine im_iconst (pc := 106) (v := 1) dX0_holdsIn_106 (by decide) ?_
            refine im_goto (pc := 107) (tgt := 111) dX0_holdsIn_107 (by decide) ?_
            exact im_zretTP (pc := 111) (nar_z (Or.inr rfl)) dX0_holdsIn_111
    · refine im_iload (pc := 70) dX0_holdsIn_70 rfl ?_
      refine im_iconst (pc := 72) (v := 1) dX0_holdsIn_72 (by decide) ?_
      refine im_icmp_eq (pc := 73) (tgt := 80) dX0_holdsIn_73 (by decide) ?_ ?_
      · refine im_iconst (pc := 80) (v := 0) dX0_holdsIn_80 (by decide) ?_
        refine im_goto (pc := 81) (tgt := 111) dX0_holdsIn_81 (by decide) ?_
        exact im_zretTP (pc := 111) (nar_z (Or.inl rfl)) dX0_holdsIn_111
      · refine im_iconst (pc := 76) (v := 1) dX0_holdsIn_76 (by decide) ?_
        refine im_goto (pc := 77) (tgt := 111) dX0_holdsIn_77 (by decide) ?_
        exact im_zretTP (pc := 111) (nar_z (Or.inr rfl)) dX0_holdsIn_111
  · refine im_iload (pc := 45) dX0_holdsIn_45 rfl ?_
    refine im_iconst (pc := 47) (v := 1) dX0_holdsIn_47 (by decide) ?_
    refine im_icmp_ne (pc := 48) (tgt := 55) dX0_holdsIn_48 (by decide) ?_ ?_
    · refine im_iconst (pc := 55) (v := 0) dX0_holdsIn_55 (by decide) ?_
      refine im_goto (pc := 56) (tgt := 111) dX0_holdsIn_56 (by decide) ?_
      exact im_zretTP (pc := 111) (nar_z (Or.inl rfl)) dX0_holdsIn_111
    · refine im_iconst (pc := 51) (v := 1) dX0_holdsIn_51 (by decide) ?_
      refine im_goto (pc := 52) (tgt := 111) dX0_holdsIn_52 (by decide) ?_
      exact im_zretTP (pc := 111) (nar_z (Or.inr rfl)) dX0_holdsIn_111
noncomputable def tp_holdsIn (a0 : Option Nat) (a1 : Int32) (a2 : Int32) (h : PH) : Option (Int32) := grd (isC [0] a0 h) (tp_holdsIn_0 a0 a1 a2 h)
theorem tp_holdsIn_im : IM_X0_holdsIn tp_holdsIn 2 := by
  intro a0 a1 a2 h r e
  obtain ⟨e1, e2⟩ := grd_some e
  exact ⟨e1, SpI.ofP (k := 2) (plainFor_of_name (by decide)) rfl (fun X => Im.drop [true, true, true, false, false] rfl (tp_holdsIn_0_ok X a0 a1 a2 h)) e2⟩
theorem cl_X0_248 {X : CT} {cc : ByteArray} {nL : Nat} {mn : String} {ret : Option FieldType} {d d0 : Nat} {τ : Type} {pc : Nat} {lv : List (Option PV)} {st : List PV} {h : PH} {sz : τ → Nat × Nat} {K : τ → Prop} {f : Option Nat → Int32 → Int32 → PH → Option (Int32)} (HR : IM_X0_holdsIn f d0) {a0 : Option Nat} {a1 : Int32} {a2 : Int32} {g : Int32 → Option τ} (hd : d0 + 1 ≤ d) (hdg : decode cc pc = .ok (.invokevirtual 248, 3)) (hst : st.length ≤ 8) (kk : ∀ r, Im X (cc, nL, RX0, mn, ret, d) (pc + 3) lv (.inl r :: st) h (g r) sz K) : Im X (cc, nL, RX0, mn, ret, d) pc lv (.inl a2 :: .inl a1 :: .inr a0 :: st) h ((f a0 a1 a2 h).bind g) sz K := by
  refine im_cP (y := yX0_holdsIn) (cY := cX0_holdsIn) (nY := 5) (rY := (some .boolean)) (d' := d0) (av := [.inr a0, .inl a1, .inl a2]) (fun r e hX => ?_) (fun r e => (HR _ _ _ _ _ e).2) hd (by decide) hst rfl kk
  obtain ⟨a, c, fs, rfl, ec, hm⟩ := isC_some (HR _ _ _ _ _ e).1
  cases List.mem_singleton.mp hm
  exact cal_V (n := 2) hX (lw_V q1044 q1046 qs32 q106 q1047) (by decide +kernel) rfl rfl ec hdg

def IM_X0_allHold (f : Option Nat → Int32 → Int32 → PH → Option (Int32)) (d : Nat) : Prop := ∀ (a0 : Option Nat) (a1 : Int32) (a2 : Int32) (h : PH) (r : Int32), f a0 a1 a2 h = some r → isC [0] a0 h = true ∧ SpI yX0_allHold cX0_allHold 4 (some .boolean) d [.inr a0, .inl a1, .inl a2] h r h
noncomputable def tp_allHold_b2 (v0 : Option Nat) (v1 : Int32) (v2 : Int32) (v3 : Int32) (h : PH) : Option ((Int32) ⊕ (Int32)) :=
  (gfi [0] 11 v0 h).bind fun x51 =>
  (if x51 ≤ v3 then
  some (.inr 1)
  else
  (gfr [0] 8 v0 h).bind fun r52 =>
  (ald 0 r52 v3 h).bind fun x53 =>
  (tp_has v1 x53 h).bind fun x54 =>
  (if x54 = 0 then
  some (.inl (v3 + 1))
  else
  (gfr [0] 9 v0 h).bind fun r55 =>
  (ald 0 r55 v3 h).bind fun x56 =>
  (tp_has v1 x56 h).bind fun x57 =>
  (if x57 = 0 then
  some (.inl (v3 + 1))
  else
  (tp_holdsIn v0 v3 v2 h).bind fun x58 =>
  (if x58 = 0 then
  some (.inr 0)
  else
  some (.inl (v3 + 1))))))
noncomputable def tp_allHold_L2 (v0 : Option Nat) (v1 : Int32) (v2 : Int32) (v3 : Int32) (h : PH) : Option (Int32) :=
  iter (fun s : Int32 => tp_allHold_b2 v0 v1 v2 s h) v3
theorem tp_allHold_b2_ok (X : CT) (v0 : Option Nat) (v1 : Int32) (v2 : Int32) (v3 : Int32) (h : PH) : Im X (cX0_allHold, 4, RX0, "allHold", (some .boolean), 3) 2 [some (.inr v0), some (.inl v1), some (.inl v2), some (.inl v3)] [] h (tp_allHold_b2 v0 v1 v2 v3 h) (ez (fun s : Int32 => h) (szP h)) (ek X 2 (fun s : Int32 => [some (.inr v0), some (.inl v1), some (.inl v2), some (.inl s)]) (fun s : Int32 => h) (kP X h)) := by
  unfold tp_allHold_b2
  refine im_iload_n (pc := 2) dX0_allHold_2 rfl rfl ?_
  refine im_aload_n (pc := 3) dX0_allHold_3 rfl rfl ?_
  refine im_gi (pc := 4) fl_X0_164 dX0_allHold_4 fun x51 => ?_
  refine im_icmp_ge (pc := 7) (tgt := 53) dX0_allHold_7 (by decide) ?_ ?_
  · refine im_iconst (pc := 53) (v := 1) dX0_allHold_53 (by decide) ?_
    exact Im.outS (im_zretTP (pc := 54) (nar_z (Or.inr rfl)) dX0_allHold_54)
  · refine im_iload_n (pc := 10) dX0_allHold_10 rfl rfl ?_
    refine im_aload_n (pc := 11) dX0_allHold_11 rfl rfl ?_
    refine im_gr (pc := 12) fl_X0_78 dX0_allHold_12 fun r52 => ?_
    refine im_iload_n (pc := 15) dX0_allHold_15 rfl rfl ?_
    refine im_iald (pc := 16) dX0_allHold_16 fun x53 => ?_
    refine cl_X0_232 tp_has_im (pc := 17) (by decide) dX0_allHold_17 (Nat.le_of_ble_eq_true rfl) fun x54 => ?_
    refine im_if_eq (pc := 20) (tgt := 47) dX0_allHold_20 (by decide) ?_ ?_
    · refine im_iinc (pc := 47) (v := (v3 + 1)) (lv' := [some (.inr v0), some (.inl v1), some (.inl v2), some (.inl (v3 + 1))]) dX0_allHold_47 rfl rfl (by decide) rfl ?_
      refine im_goto (pc := 50) (tgt := 2) dX0_allHold_50 (by decide) ?_
      exact Im.back [true, true, true, true] rfl rfl
    · refine im_iload_n (pc := 23) dX0_allHold_23 rfl rfl ?_
      refine im_aload_n (pc := 24) dX0_allHold_24 rfl rfl ?_
      refine im_gr (pc := 25) fl_X0_81 dX0_allHold_25 fun r55 => ?_
      refine im_iload_n (pc := 28) dX0_allHold_28 rfl rfl ?_
      refine im_iald (pc := 29) dX0_allHold_29 fun x56 => ?_
      refine cl_X0_232 tp_has_im (pc := 30) (by decide) dX0_allHold_30 (Nat.le_of_ble_eq_true rfl) fun x57 => ?_
      refine im_if_eq (pc := 33) (tgt := 47) dX0_allHold_33 (by decide) ?_ ?_
      · refine im_iinc (pc := 47) (v := (v3 + 1)) (lv' := [some (.inr v0), some (.inl v1), some (.inl v2), some (.inl (v3 + 1))]) dX0_allHold_47 rfl rfl (by decide) rfl ?_
        refine im_goto (pc := 50) (tgt := 2) dX0_allHold_50 (by decide) ?_
        exact Im.back [true, true, true, true] rfl rfl
      · refine im_aload_n (pc := 36) dX0_allHold_36 rfl rfl ?_
        refine im_iload_n (pc := 37) dX0_allHold_37 rfl rfl ?_
        refine im_iload_n (pc := 38) dX0_allHold_38 rfl rfl ?_
        refine cl_X0_248 tp_holdsIn_im (pc := 39) (by decide) dX0_allHold_39 (Nat.le_of_ble_eq_true rfl) fun x58 => ?_
        refine im_if_ne (pc := 42) (tgt := 47) dX0_allHold_42 (by decide) ?_ ?_
        · refine im_iinc (pc := 47) (v := (v3 + 1)) (lv' := [some (.inr v0), some (.inl v1), some (.inl v2), some (.inl (v3 + 1))]) dX0_allHold_47 rfl rfl (by decide) rfl ?_
          refine im_goto (pc := 50) (tgt := 2) dX0_allHold_50 (by decide) ?_
          exact Im.back [true, true, true, true] rfl rfl
        · refine im_iconst (pc := 45) (v := 0) dX0_allHold_45 (by decide) ?_
          exact Im.outS (im_zretTP (pc := 46) (nar_z (Or.inl rfl)) dX0_allHold_46)
theorem tp_allHold_L2_ok (X : CT) (v0 : Option Nat) (v1 : Int32) (v2 : Int32) (v3 : Int32) (h : PH) : Im X (cX0_allHold, 4, RX0, "allHold", (some .boolean), 3) 2 [some (.inr v0), some (.inl v1), some (.inl v2), some (.inl v3)] [] h (tp_allHold_L2 v0 v1 v2 v3 h) (szP h) (kP X h) := by
  unfold tp_allHold_L2
  exact Im.iter (lv := (fun s : Int32 => [some (.inr v0), some (.inl v1), some (.inl v2), some (.inl s)])) (hp := (fun s : Int32 => h)) (fun s => tp_allHold_b2_ok X v0 v1 v2 s h) _ rfl rfl
noncomputable def tp_allHold_0 (v0 : Option Nat) (v1 : Int32) (v2 : Int32) (h : PH) : Option (Int32) :=
  tp_allHold_L2 v0 v1 v2 0 h
theorem tp_allHold_0_ok (X : CT) (v0 : Option Nat) (v1 : Int32) (v2 : Int32) (h : PH) : Im X (cX0_allHold, 4, RX0, "allHold", (some .boolean), 3) 0 [some (.inr v0), some (.inl v1), some (.inl v2), none] [] h (tp_allHold_0 v0 v1 v2 h) (szP h) (kP X h) := by
  unfold tp_allHold_0
  refine im_iconst (pc := 0) (v := 0) dX0_allHold_0 (by decide) ?_
  refine im_istore_n (pc := 1) (lv' := [some (.inr v0), some (.inl v1), some (.inl v2), some (.inl 0)]) dX0_allHold_1 rfl (by decide) rfl ?_
  exact Im.drop [true, true, true, true] rfl (tp_allHold_L2_ok X v0 v1 v2 0 h)
noncomputable def tp_allHold (a0 : Option Nat) (a1 : Int32) (a2 : Int32) (h : PH) : Option (Int32) := grd (isC [0] a0 h) (tp_allHold_0 a0 a1 a2 h)
theorem tp_allHold_im : IM_X0_allHold tp_allHold 3 := by
  intro a0 a1 a2 h r e
  obtain ⟨e1, e2⟩ := grd_some e
  exact ⟨e1, SpI.ofP (k := 1) (plainFor_of_name (by decide)) rfl (fun X => Im.drop [true, true, true, false] rfl (tp_allHold_0_ok X a0 a1 a2 h)) e2⟩
theorem fl_X0_251 : ∀ c ∈ [0], FL RX0 251 c 15 := List.forall_mem_cons.mpr ⟨⟨RX0, TX0, 20, rfl, in_X0, by decide, Or.inl q292⟩, fun _ h => absurd h List.not_mem_nil⟩
theorem cl_X0_254 {X : CT} {cc : ByteArray} {nL : Nat} {mn : String} {ret : Option FieldType} {d d0 : Nat} {τ : Type} {pc : Nat} {lv : List (Option PV)} {st : List PV} {h : PH} {sz : τ → Nat × Nat} {K : τ → Prop} {f : Option Nat → Int32 → Int32 → PH → Option (Int32)} (HR : IM_X0_allHold f d0) {a0 : Option Nat} {a1 : Int32} {a2 : Int32} {g : Int32 → Option τ} (hd : d0 + 1 ≤ d) (hdg : decode cc pc = .ok (.invokevirtual 254, 3)) (hst : st.length ≤ 8) (kk : ∀ r, Im X (cc, nL, RX0, mn, ret, d) (pc + 3) lv (.inl r :: st) h (g r) sz K) : Im X (cc, nL, RX0, mn, ret, d) pc lv (.inl a2 :: .inl a1 :: .inr a0 :: st) h ((f a0 a1 a2 h).bind g) sz K := by
  refine im_cP (y := yX0_allHold) (cY := cX0_allHold) (nY := 4) (rY := (some .boolean)) (d' := d0) (av := [.inr a0, .inl a1, .inl a2]) (fun r e hX => ?_) (fun r e => (HR _ _ _ _ _ e).2) hd (by decide) hst rfl kk
  obtain ⟨a, c, fs, rfl, ec, hm⟩ := isC_some (HR _ _ _ _ _ e).1
  cases List.mem_singleton.mp hm
  exact cal_V (n := 2) hX (lw_V q1040 q1042 qs31 q106 q1043) (by decide +kernel) rfl rfl ec hdg

def IM_X0_stands (f : Option Nat → Int32 → Int32 → Int32 → Int32 → Int32 → PH → Option (PH)) (d : Nat) : Prop := ∀ (a0 : Option Nat) (a1 : Int32) (a2 : Int32) (a3 : Int32) (a4 : Int32) (a5 : Int32) (h : PH) (h' : PH), f a0 a1 a2 a3 a4 a5 h = some h' → isC [0] a0 h = true ∧ SpV yX0_stands cX0_stands 7 none d [.inr a0, .inl a1, .inl a2, .inl a3, .inl a4, .inl a5] h h'
theorem cl_X0_260 {X : CT} {cc : ByteArray} {nL : Nat} {mn : String} {ret : Option FieldType} {d d0 : Nat} {τ : Type} {pc : Nat} {lv : List (Option PV)} {st : List PV} {h : PH} {sz : τ → Nat × Nat} {K : τ → Prop} {f : Option Nat → Int32 → Int32 → Int32 → Int32 → Int32 → PH → Option (PH)} (HR : IM_X0_stands f d0) {a0 : Option Nat} {a1 : Int32} {a2 : Int32} {a3 : Int32} {a4 : Int32} {a5 : Int32} {g : PH → Option τ} (hd : d0 + 1 ≤ d) (hdg : decode cc pc = .ok (.invokevirtual 260, 3)) (hst : st.length ≤ 8) (kk : ∀ h', Im X (cc, nL, RX0, mn, ret, d) (pc + 3) lv st h' (g h') sz K) : Im X (cc, nL, RX0, mn, ret, d) pc lv (.inl a5 :: .inl a4 :: .inl a3 :: .inl a2 :: .inl a1 :: .inr a0 :: st) h ((f a0 a1 a2 a3 a4 a5 h).bind g) sz K := by
  refine im_cV (y := yX0_stands) (cY := cX0_stands) (nY := 7) (rY := none) (d' := d0) (av := [.inr a0, .inl a1, .inl a2, .inl a3, .inl a4, .inl a5]) (fun h' e hX => ?_) (fun h' e => (HR _ _ _ _ _ _ _ _ e).2) hd (by decide) hst rfl kk
  obtain ⟨a, c, fs, rfl, ec, hm⟩ := isC_some (HR _ _ _ _ _ _ _ _ e).1
  cases List.mem_singleton.mp hm
  exact cal_V (n := 5) hX (lw_V q1036 q1038 qs30 q106 q1039) (by decide +kernel) rfl rfl ec hdg

theorem fp_X0_251 : ∀ c ∈ [0], FP RX0 251 c 15 .int := List.forall_mem_cons.mpr ⟨⟨RX0, TX0, 20, rfl, in_X0, by decide, apt_X0, rfl, by decide +kernel, Or.inl q292⟩, fun _ h => absurd h List.not_mem_nil⟩
theorem fl_X0_257 : ∀ c ∈ [0], FL RX0 257 c 14 := List.forall_mem_cons.mpr ⟨⟨RX0, TX0, 20, rfl, in_X0, by decide, Or.inl q291⟩, fun _ h => absurd h List.not_mem_nil⟩
theorem fp_X0_257 : ∀ c ∈ [0], FP RX0 257 c 14 .int := List.forall_mem_cons.mpr ⟨⟨RX0, TX0, 20, rfl, in_X0, by decide, apt_X0, rfl, by decide +kernel, Or.inl q291⟩, fun _ h => absurd h List.not_mem_nil⟩
theorem fl_X0_90 : ∀ c ∈ [0], FL RX0 90 c 13 := List.forall_mem_cons.mpr ⟨⟨RX0, TX0, 20, rfl, in_X0, by decide, Or.inl q290⟩, fun _ h => absurd h List.not_mem_nil⟩
noncomputable def tp_stands_b47 (rec : Option Nat → Int32 → Int32 → Int32 → Int32 → Int32 → PH → Option (PH)) (v0 : Option Nat) (v2 : Int32) (v6 : Int32) (h : PH) : Option ((Int32 × PH) ⊕ (PH)) :=
  (if v2 ≤ v6 then
  some (.inr h)
  else
  (gfr [0] 13 v0 h).bind fun r51 =>
  (gfr [0] 12 v0 h).bind fun r52 =>
  (ald 0 r52 v6 h).bind fun x53 =>
  (ast 0 r51 v6 x53 h).bind fun h54 =>
  some (.inl ((v6 + 1), h54)))
noncomputable def tp_stands_L47 (rec : Option Nat → Int32 → Int32 → Int32 → Int32 → Int32 → PH → Option (PH)) (v0 : Option Nat) (v2 : Int32) (v6 : Int32) (h : PH) : Option (PH) :=
  iter (fun s : Int32 × PH => tp_stands_b47 rec v0 v2 s.1 s.2) (v6, h)
theorem tp_stands_b47_ok (X : CT) {rec : Option Nat → Int32 → Int32 → Int32 → Int32 → Int32 → PH → Option (PH)} {d0 d : Nat} (HR : IM_X0_stands rec d0) (hd0 : 20 ≤ d0) (hd : d0 + 1 ≤ d) (v0 : Option Nat) (v2 : Int32) (v6 : Int32) (h : PH) : Im X (cX0_stands, 7, RX0, "stands", none, d) 47 [some (.inr v0), none, some (.inl v2), none, none, none, some (.inl v6)] [] h (tp_stands_b47 rec v0 v2 v6 h) (ez (fun s : Int32 × PH => s.2) szV) (ek X 47 (fun s : Int32 × PH => [some (.inr v0), none, some (.inl v2), none, none, none, some (.inl s.1)]) (fun s : Int32 × PH => s.2) (kV X)) := by
  unfold tp_stands_b47
  refine im_iload (pc := 47) dX0_stands_47 rfl ?_
  refine im_iload_n (pc := 49) dX0_stands_49 rfl rfl ?_
  refine im_icmp_ge (pc := 50) (tgt := 73) dX0_stands_50 (by decide) ?_ ?_
  · exact Im.outS (im_vret (pc := 73) dX0_stands_73)
  · refine im_aload_n (pc := 53) dX0_stands_53 rfl rfl ?_
    refine im_gr (pc := 54) fl_X0_90 dX0_stands_54 fun r51 => ?_
    refine im_iload (pc := 57) dX0_stands_57 rfl ?_
    refine im_aload_n (pc := 59) dX0_stands_59 rfl rfl ?_
    refine im_gr (pc := 60) fl_X0_87 dX0_stands_60 fun r52 => ?_
    refine im_iload (pc := 63) dX0_stands_63 rfl ?_
    refine im_iald (pc := 65) dX0_stands_65 fun x53 => ?_
    refine im_iast (pc := 66) dX0_stands_66 fun h54 => ?_
    refine im_iinc (pc := 67) (v := (v6 + 1)) (lv' := [some (.inr v0), none, some (.inl v2), none, none, none, some (.inl (v6 + 1))]) dX0_stands_67 rfl rfl (by decide) rfl ?_
    refine im_goto (pc := 70) (tgt := 47) dX0_stands_70 (by decide) ?_
    exact Im.back [true, false, true, false, false, false, true] rfl rfl
theorem tp_stands_L47_ok (X : CT) {rec : Option Nat → Int32 → Int32 → Int32 → Int32 → Int32 → PH → Option (PH)} {d0 d : Nat} (HR : IM_X0_stands rec d0) (hd0 : 20 ≤ d0) (hd : d0 + 1 ≤ d) (v0 : Option Nat) (v2 : Int32) (v6 : Int32) (h : PH) : Im X (cX0_stands, 7, RX0, "stands", none, d) 47 [some (.inr v0), none, some (.inl v2), none, none, none, some (.inl v6)] [] h (tp_stands_L47 rec v0 v2 v6 h) szV (kV X) := by
  unfold tp_stands_L47
  exact Im.iter (lv := (fun s : Int32 × PH => [some (.inr v0), none, some (.inl v2), none, none, none, some (.inl s.1)])) (hp := (fun s : Int32 × PH => s.2)) (fun s => tp_stands_b47_ok X HR hd0 hd v0 v2 s.1 s.2) _ rfl rfl
noncomputable def tp_stands_24 (rec : Option Nat → Int32 → Int32 → Int32 → Int32 → Int32 → PH → Option (PH)) (v0 : Option Nat) (v2 : Int32) (v5 : Int32) (s0 : Int32) (s1 : Int32) (s2 : Option Nat) (h : PH) : Option (PH) :=
  (pf [0] 15 s2 (.inl (s1 + s0)) h).bind fun h51 =>
  (gfi [0] 14 v0 h51).bind fun x52 =>
  (if x52 < v5 then
  (pf [0] 14 v0 (.inl v5) h51).bind fun h53 =>
  tp_stands_L47 rec v0 v2 0 h53
  else
  some (h51))
theorem tp_stands_24_ok (X : CT) {rec : Option Nat → Int32 → Int32 → Int32 → Int32 → Int32 → PH → Option (PH)} {d0 d : Nat} (HR : IM_X0_stands rec d0) (hd0 : 20 ≤ d0) (hd : d0 + 1 ≤ d) (v0 : Option Nat) (v2 : Int32) (v5 : Int32) (s0 : Int32) (s1 : Int32) (s2 : Option Nat) (h : PH) : Im X (cX0_stands, 7, RX0, "stands", none, d) 24 [some (.inr v0), none, some (.inl v2), none, none, some (.inl v5), none] [.inl s0, .inl s1, .inr s2] h (tp_stands_24 rec v0 v2 v5 s0 s1 s2 h) szV (kV X) := by
  unfold tp_stands_24
  refine im_iadd (pc := 24) dX0_stands_24 ?_
  refine im_pf (pc := 25) fp_X0_251 (okT_i _) dX0_stands_25 fun h51 => ?_
  refine im_iload (pc := 28) dX0_stands_28 rfl ?_
  refine im_aload_n (pc := 30) dX0_stands_30 rfl rfl ?_
  refine im_gi (pc := 31) fl_X0_257 dX0_stands_31 fun x52 => ?_
  refine im_icmp_gt (pc := 34) (tgt := 38) dX0_stands_34 (by decide) ?_ ?_
  · refine im_aload_n (pc := 38) dX0_stands_38 rfl rfl ?_
    refine im_iload (pc := 39) dX0_stands_39 rfl ?_
    refine im_pf (pc := 41) fp_X0_257 (okT_i _) dX0_stands_41 fun h53 => ?_
    refine im_iconst (pc := 44) (v := 0) dX0_stands_44 (by decide) ?_
    refine im_istore (pc := 45) (lv' := [some (.inr v0), none, some (.inl v2), none, none, some (.inl v5), some (.inl 0)]) dX0_stands_45 (by decide) rfl ?_
    exact Im.drop [true, false, true, false, false, false, true] rfl (tp_stands_L47_ok X HR hd0 hd v0 v2 0 h53)
  · exact im_vret (pc := 37) dX0_stands_37
noncomputable def tp_stands_162 (rec : Option Nat → Int32 → Int32 → Int32 → Int32 → Int32 → PH → Option (PH)) (v0 : Option Nat) (v1 : Int32) (v2 : Int32) (v3 : Int32) (v4 : Int32) (v5 : Int32) (v6 : Int32) (s0 : Int32) (s1 : Int32) (s2 : Int32) (s3 : Int32) (s4 : Int32) (s5 : Option Nat) (h : PH) : Option ((Int32 × PH) ⊕ (PH)) :=
  (rec s5 s4 s3 s2 s1 s0 h).bind fun h51 =>
  some (.inl ((v6 + 1), h51))
theorem tp_stands_162_ok (X : CT) {rec : Option Nat → Int32 → Int32 → Int32 → Int32 → Int32 → PH → Option (PH)} {d0 d : Nat} (HR : IM_X0_stands rec d0) (hd0 : 20 ≤ d0) (hd : d0 + 1 ≤ d) (v0 : Option Nat) (v1 : Int32) (v2 : Int32) (v3 : Int32) (v4 : Int32) (v5 : Int32) (v6 : Int32) (s0 : Int32) (s1 : Int32) (s2 : Int32) (s3 : Int32) (s4 : Int32) (s5 : Option Nat) (h : PH) : Im X (cX0_stands, 7, RX0, "stands", none, d) 162 [some (.inr v0), some (.inl v1), some (.inl v2), some (.inl v3), some (.inl v4), some (.inl v5), some (.inl v6)] [.inl s0, .inl s1, .inl s2, .inl s3, .inl s4, .inr s5] h (tp_stands_162 rec v0 v1 v2 v3 v4 v5 v6 s0 s1 s2 s3 s4 s5 h) (ez (fun s : Int32 × PH => s.2) szV) (ek X 77 (fun s : Int32 × PH => [some (.inr v0), some (.inl v1), some (.inl v2), some (.inl v3), some (.inl v4), some (.inl v5), some (.inl s.1)]) (fun s : Int32 × PH => s.2) (kV X)) := by
  unfold tp_stands_162
  refine cl_X0_260 HR (pc := 162) (by omega) dX0_stands_162 (Nat.le_of_ble_eq_true rfl) fun h51 => ?_
  refine im_iinc (pc := 165) (v := (v6 + 1)) (lv' := [some (.inr v0), some (.inl v1), some (.inl v2), some (.inl v3), some (.inl v4), some (.inl v5), some (.inl (v6 + 1))]) dX0_stands_165 rfl rfl (by decide) rfl ?_
  refine im_goto (pc := 168) (tgt := 77) dX0_stands_168 (by decide) ?_
  exact Im.back [true, true, true, true, true, true, true] rfl rfl
noncomputable def tp_stands_b77 (rec : Option Nat → Int32 → Int32 → Int32 → Int32 → Int32 → PH → Option (PH)) (v0 : Option Nat) (v1 : Int32) (v2 : Int32) (v3 : Int32) (v4 : Int32) (v5 : Int32) (v6 : Int32) (h : PH) : Option ((Int32 × PH) ⊕ (PH)) :=
  (if 16 ≤ v6 then
  some (.inr h)
  else
  (tp_has (v3 &&& (v4 ^^^ (-1))) v6 h).bind fun x51 =>
  (if x51 = 0 then
  some (.inl ((v6 + 1), h))
  else
  (gfr [0] 12 v0 h).bind fun r52 =>
  (ast 0 r52 v1 v6 h).bind fun h53 =>
  (if v1 = 0 then
  tp_stands_162 rec v0 v1 v2 v3 v4 v5 v6 0 (v4 ||| ((1 : Int32) <<< (v6 &&& 31))) v3 v2 (v1 + 1) v0 h53
  else
  (gfr [0] 1 v0 h53).bind fun r54 =>
  (gfr [2] 0 r54 h53).bind fun r55 =>
  (aldr 2 r55 v6 h53).bind fun r56 =>
  (gfr [0] 1 v0 h53).bind fun r57 =>
  (gfr [2] 0 r57 h53).bind fun r58 =>
  (gfr [0] 12 v0 h53).bind fun r59 =>
  (ald 0 r59 (v1 - 1) h53).bind fun x60 =>
  (aldr 2 r58 x60 h53).bind fun r61 =>
  (pe_talk r56 r61 h53).bind fun x62 =>
  tp_stands_162 rec v0 v1 v2 v3 v4 v5 v6 (v5 + x62) (v4 ||| ((1 : Int32) <<< (v6 &&& 31))) v3 v2 (v1 + 1) v0 h53)))
noncomputable def tp_stands_L77 (rec : Option Nat → Int32 → Int32 → Int32 → Int32 → Int32 → PH → Option (PH)) (v0 : Option Nat) (v1 : Int32) (v2 : Int32) (v3 : Int32) (v4 : Int32) (v5 : Int32) (v6 : Int32) (h : PH) : Option (PH) :=
  iter (fun s : Int32 × PH => tp_stands_b77 rec v0 v1 v2 v3 v4 v5 s.1 s.2) (v6, h)
theorem tp_stands_b77_ok (X : CT) {rec : Option Nat → Int32 → Int32 → Int32 → Int32 → Int32 → PH → Option (PH)} {d0 d : Nat} (HR : IM_X0_stands rec d0) (hd0 : 20 ≤ d0) (hd : d0 + 1 ≤ d) (v0 : Option Nat) (v1 : Int32) (v2 : Int32) (v3 : Int32) (v4 : Int32) (v5 : Int32) (v6 : Int32) (h : PH) : Im X (cX0_stands, 7, RX0, "stands", none, d) 77 [some (.inr v0), some (.inl v1), some (.inl v2), some (.inl v3), some (.inl v4), some (.inl v5), some (.inl v6)] [] h (tp_stands_b77 rec v0 v1 v2 v3 v4 v5 v6 h) (ez (fun s : Int32 × PH => s.2) szV) (ek X 77 (fun s : Int32 × PH => [some (.inr v0), some (.inl v1), some (.inl v2), some (.inl v3), some (.inl v4), some (.inl v5), some (.inl s.1)]) (fun s : Int32 × PH => s.2) (kV X)) := by
  unfold tp_stands_b77
  refine im_iload (pc := 77) dX0_stands_77 rfl ?_
  refine im_bipush (pc := 79) (v := 16) dX0_stands_79 (by decide) ?_
  refine im_icmp_ge (pc := 81) (tgt := 171) dX0_stands_81 (by decide) ?_ ?_
  · exact Im.outS (im_vret (pc := 171) dX0_stands_171)
  · refine im_iload_n (pc := 84) dX0_stands_84 rfl rfl ?_
    refine im_iload (pc := 85) dX0_stands_85 rfl ?_
    refine im_iconst (pc := 87) (v := (-1)) dX0_stands_87 (by decide) ?_
    refine im_ixor (pc := 88) dX0_stands_88 ?_
    refine im_iand (pc := 89) dX0_stands_89 ?_
    refine im_iload (pc := 90) dX0_stands_90 rfl ?_
    refine cl_X0_232 tp_has_im (pc := 92) (by omega) dX0_stands_92 (Nat.le_of_ble_eq_true rfl) fun x51 => ?_
    refine im_if_ne (pc := 95) (tgt := 101) dX0_stands_95 (by decide) ?_ ?_
    · refine im_aload_n (pc := 101) dX0_stands_101 rfl rfl ?_
      refine im_gr (pc := 102) fl_X0_87 dX0_stands_102 fun r52 => ?_
      refine im_iload_n (pc := 105) dX0_stands_105 rfl rfl ?_
      refine im_iload (pc := 106) dX0_stands_106 rfl ?_
      refine im_iast (pc := 108) dX0_stands_108 fun h53 => ?_
      refine im_aload_n (pc := 109) dX0_stands_109 rfl rfl ?_
      refine im_iload_n (pc := 110) dX0_stands_110 rfl rfl ?_
      refine im_iconst (pc := 111) (v := 1) dX0_stands_111 (by decide) ?_
      refine im_iadd (pc := 112) dX0_stands_112 ?_
      refine im_iload_n (pc := 113) dX0_stands_113 rfl rfl ?_
      refine im_iload_n (pc := 114) dX0_stands_114 rfl rfl ?_
      refine im_iload (pc := 115) dX0_stands_115 rfl ?_
      refine im_iconst (pc := 117) (v := 1) dX0_stands_117 (by decide) ?_
      refine im_iload (pc := 118) dX0_stands_118 rfl ?_
      refine im_ishl (pc := 120) dX0_stands_120 ?_
      refine im_ior (pc := 121) dX0_stands_121 ?_
      refine im_iload_n (pc := 122) dX0_stands_122 rfl rfl ?_
      refine im_if_ne (pc := 123) (tgt := 130) dX0_stands_123 (by decide) ?_ ?_
      · refine im_iload (pc := 130) dX0_stands_130 rfl ?_
        refine im_aload_n (pc := 132) dX0_stands_132 rfl rfl ?_
        refine im_gr (pc := 133) fl_X0_63 dX0_stands_133 fun r54 => ?_
        refine im_gr (pc := 136) fl_X0_109 dX0_stands_136 fun r55 => ?_
        refine im_iload (pc := 139) dX0_stands_139 rfl ?_
        refine im_aald (pc := 141) (t := 2) (by decide) (by decide) dX0_stands_141 fun r56 => ?_
        refine im_aload_n (pc := 142) dX0_stands_142 rfl rfl ?_
        refine im_gr (pc := 143) fl_X0_63 dX0_stands_143 fun r57 => ?_
        refine im_gr (pc := 146) fl_X0_109 dX0_stands_146 fun r58 => ?_
        refine im_aload_n (pc := 149) dX0_stands_149 rfl rfl ?_
        refine im_gr (pc := 150) fl_X0_87 dX0_stands_150 fun r59 => ?_
        refine im_iload_n (pc := 153) dX0_stands_153 rfl rfl ?_
        refine im_iconst (pc := 154) (v := 1) dX0_stands_154 (by decide) ?_
        refine im_isub (pc := 155) dX0_stands_155 ?_
        refine im_iald (pc := 156) dX0_stands_156 fun x60 => ?_
        refine im_aald (pc := 157) (t := 2) (by decide) (by decide) dX0_stands_157 fun r61 => ?_
        refine cl_X0_206 pe_talk_im (pc := 158) (by omega) dX0_stands_158 (Nat.le_of_ble_eq_true rfl) fun x62 => ?_
        refine im_iadd (pc := 161) dX0_stands_161 ?_
        exact Im.drop [true, true, true, true, true, true, true] rfl (tp_stands_162_ok X HR hd0 hd v0 v1 v2 v3 v4 v5 v6 (v5 + x62) (v4 ||| ((1 : Int32) <<< (v6 &&& 31))) v3 v2 (v1 + 1) v0 h53)
      · refine im_iconst (pc := 126) (v := 0) dX0_stands_126 (by decide) ?_
        refine im_goto (pc := 127) (tgt := 162) dX0_stands_127 (by decide) ?_
        exact Im.drop [true, true, true, true, true, true, true] rfl (tp_stands_162_ok X HR hd0 hd v0 v1 v2 v3 v4 v5 v6 0 (v4 ||| ((1 : Int32) <<< (v6 &&& 31))) v3 v2 (v1 + 1) v0 h53)
    · refine im_goto (pc := 98) (tgt := 165) dX0_stands_98 (by decide) ?_
      refine im_iinc (pc := 165) (v := (v6 + 1)) (lv' := [some (.inr v0), some (.inl v1), some (.inl v2), some (.inl v3), some (.inl v4), some (.inl v5), some (.inl (v6 + 1))]) dX0_stands_165 rfl rfl (by decide) rfl ?_
      refine im_goto (pc := 168) (tgt := 77) dX0_stands_168 (by decide) ?_
      exact Im.back [true, true, true, true, true, true, true] rfl rfl
theorem tp_stands_L77_ok (X : CT) {rec : Option Nat → Int32 → Int32 → Int32 → Int32 → Int32 → PH → Option (PH)} {d0 d : Nat} (HR : IM_X0_stands rec d0) (hd0 : 20 ≤ d0) (hd : d0 + 1 ≤ d) (v0 : Option Nat) (v1 : Int32) (v2 : Int32) (v3 : Int32) (v4 : Int32) (v5 : Int32) (v6 : Int32) (h : PH) : Im X (cX0_stands, 7, RX0, "stands", none, d) 77 [some (.inr v0), some (.inl v1), some (.inl v2), some (.inl v3), some (.inl v4), some (.inl v5), some (.inl v6)] [] h (tp_stands_L77 rec v0 v1 v2 v3 v4 v5 v6 h) szV (kV X) := by
  unfold tp_stands_L77
  exact Im.iter (lv := (fun s : Int32 × PH => [some (.inr v0), some (.inl v1), some (.inl v2), some (.inl v3), some (.inl v4), some (.inl v5), some (.inl s.1)])) (hp := (fun s : Int32 × PH => s.2)) (fun s => tp_stands_b77_ok X HR hd0 hd v0 v1 v2 v3 v4 v5 s.1 s.2) _ rfl rfl
noncomputable def tp_stands_0 (rec : Option Nat → Int32 → Int32 → Int32 → Int32 → Int32 → PH → Option (PH)) (v0 : Option Nat) (v1 : Int32) (v2 : Int32) (v3 : Int32) (v4 : Int32) (v5 : Int32) (h : PH) : Option (PH) :=
  (if v1 = v2 then
  (gfi [0] 15 v0 h).bind fun x51 =>
  (tp_allHold v0 v3 v2 h).bind fun x52 =>
  (if x52 = 0 then
  tp_stands_24 rec v0 v2 v5 0 x51 v0 h
  else
  tp_stands_24 rec v0 v2 v5 1 x51 v0 h)
  else
  tp_stands_L77 rec v0 v1 v2 v3 v4 v5 0 h)
theorem tp_stands_0_ok (X : CT) {rec : Option Nat → Int32 → Int32 → Int32 → Int32 → Int32 → PH → Option (PH)} {d0 d : Nat} (HR : IM_X0_stands rec d0) (hd0 : 20 ≤ d0) (hd : d0 + 1 ≤ d) (v0 : Option Nat) (v1 : Int32) (v2 : Int32) (v3 : Int32) (v4 : Int32) (v5 : Int32) (h : PH) : Im X (cX0_stands, 7, RX0, "stands", none, d) 0 [some (.inr v0), some (.inl v1), some (.inl v2), some (.inl v3), some (.inl v4), some (.inl v5), none] [] h (tp_stands_0 rec v0 v1 v2 v3 v4 v5 h) szV (kV X) := by
  unfold tp_stands_0
  refine im_iload_n (pc := 0) dX0_stands_0 rfl rfl ?_
  refine im_iload_n (pc := 1) dX0_stands_1 rfl rfl ?_
  refine im_icmp_ne (pc := 2) (tgt := 74) dX0_stands_2 (by decide) ?_ ?_
  · refine im_iconst (pc := 74) (v := 0) dX0_stands_74 (by decide) ?_
    refine im_istore (pc := 75) (lv' := [some (.inr v0), some (.inl v1), some (.inl v2), some (.inl v3), some (.inl v4), some (.inl v5), some (.inl 0)]) dX0_stands_75 (by decide) rfl ?_
    exact Im.drop [true, true, true, true, true, true, true] rfl (tp_stands_L77_ok X HR hd0 hd v0 v1 v2 v3 v4 v5 0 h)
  · refine im_aload_n (pc := 5) dX0_stands_5 rfl rfl ?_
    refine im_dup (pc := 6) dX0_stands_6 ?_
    refine im_gi (pc := 7) fl_X0_251 dX0_stands_7 fun x51 => ?_
    refine im_aload_n (pc := 10) dX0_stands_10 rfl rfl ?_
    refine im_iload_n (pc := 11) dX0_stands_11 rfl rfl ?_
    refine im_iload_n (pc := 12) dX0_stands_12 rfl rfl ?_
    refine cl_X0_254 tp_allHold_im (pc := 13) (by omega) dX0_stands_13 (Nat.le_of_ble_eq_true rfl) fun x52 => ?_
    refine im_if_eq (pc := 16) (tgt := 23) dX0_stands_16 (by decide) ?_ ?_
    · refine im_iconst (pc := 23) (v := 0) dX0_stands_23 (by decide) ?_
      exact Im.drop [true, false, true, false, false, true, false] rfl (tp_stands_24_ok X HR hd0 hd v0 v2 v5 0 x51 v0 h)
    · refine im_iconst (pc := 19) (v := 1) dX0_stands_19 (by decide) ?_
      refine im_goto (pc := 20) (tgt := 24) dX0_stands_20 (by decide) ?_
      exact Im.drop [true, false, true, false, false, true, false] rfl (tp_stands_24_ok X HR hd0 hd v0 v2 v5 1 x51 v0 h)
noncomputable def tp_stands_r (rec : Option Nat → Int32 → Int32 → Int32 → Int32 → Int32 → PH → Option (PH)) (a0 : Option Nat) (a1 : Int32) (a2 : Int32) (a3 : Int32) (a4 : Int32) (a5 : Int32) (h : PH) : Option (PH) := grd (isC [0] a0 h) (tp_stands_0 rec a0 a1 a2 a3 a4 a5 h)
theorem tp_stands_r_im {rec : Option Nat → Int32 → Int32 → Int32 → Int32 → Int32 → PH → Option (PH)} {d0 : Nat} (HR : IM_X0_stands rec d0) (hd0 : 20 ≤ d0) : IM_X0_stands (tp_stands_r rec) (d0 + 1) := by
  intro a0 a1 a2 a3 a4 a5 h h' e
  obtain ⟨e1, e2⟩ := grd_some e
  exact ⟨e1, SpV.of (k := 1) (plainFor_of_name (by decide)) rfl (fun X => Im.drop [true, true, true, true, true, true, false] rfl (tp_stands_0_ok X HR hd0 (Nat.le_refl _) a0 a1 a2 a3 a4 a5 h)) e2⟩
noncomputable def tp_stands : Nat → Option Nat → Int32 → Int32 → Int32 → Int32 → Int32 → PH → Option (PH)
  | 0 => fun _ _ _ _ _ _ _ => none
  | n + 1 => tp_stands_r (tp_stands n)
theorem tp_stands_im : ∀ n : Nat, IM_X0_stands (tp_stands n) (20 + 1 * n)
  | 0 => by
    intro a0 a1 a2 a3 a4 a5 h h' e
    cases e
  | n + 1 => by
    have := tp_stands_r_im (tp_stands_im n) (by omega)
    rw [show 20 + 1 * (n + 1) = 20 + 1 * n + 1 by omega]
    exact this
theorem cl_X0_264 {X : CT} {cc : ByteArray} {nL : Nat} {mn : String} {ret : Option FieldType} {d d0 : Nat} {τ : Type} {pc : Nat} {lv : List (Option PV)} {st : List PV} {h : PH} {sz : τ → Nat × Nat} {K : τ → Prop} {f : Option Nat → PH → Option (Int32)} (HR : IM_X3_told f d0) {a0 : Option Nat} {g : Int32 → Option τ} (hd : d0 + 1 ≤ d) (hdg : decode cc pc = .ok (.invokevirtual 264, 3)) (hst : st.length ≤ 8) (kk : ∀ r, Im X (cc, nL, RX0, mn, ret, d) (pc + 3) lv (.inl r :: st) h (g r) sz K) : Im X (cc, nL, RX0, mn, ret, d) pc lv (.inr a0 :: st) h ((f a0 h).bind g) sz K := by
  refine im_cP (y := yX3_told) (cY := cX3_told) (nY := 3) (rY := (some .int)) (d' := d0) (av := [.inr a0]) (fun r e hX => ?_) (fun r e => (HR _ _ _ e).2) hd (by decide) hst rfl kk
  obtain ⟨a, c, fs, rfl, ec, hm⟩ := isC_some (HR _ _ _ e).1
  cases List.mem_singleton.mp hm
  exact cal_V (n := 0) hX (lw_V q1031 q1032 q1033 q109 q1034) (by decide +kernel) rfl rfl ec hdg

def IM_X0_row (f : Option Nat → Int32 → Int32 → PH → Option (Int32 × PH)) (d : Nat) : Prop := ∀ (a0 : Option Nat) (a1 : Int32) (a2 : Int32) (h : PH) (r : Int32) (h' : PH), f a0 a1 a2 h = some (r, h') → isC [0] a0 h = true ∧ SpI yX0_row cX0_row 4 (some .int) d [.inr a0, .inl a1, .inl a2] h r h'
noncomputable def tp_row_46 (v0 : Option Nat) (v1 : Int32) (v2 : Int32) (h : PH) : Option (Int32 × PH) :=
  (gfr [0] 1 v0 h).bind fun r51 =>
  (yd_told r51 h).bind fun x52 =>
  (if (v1 &&& (x52 ^^^ (-1))) = 0 then
  (jI_bitCount v1 h).bind fun x53 =>
  (pf [0] 14 v0 (.inl (-268435456)) h).bind fun h54 =>
  (pf [0] 15 v0 (.inl 0) h54).bind fun h55 =>
  (tp_stands 9 v0 0 x53 v1 0 0 h55).bind fun h56 =>
  (if v2 = 100 then
  (gfi [0] 14 v0 h56).bind fun x60 =>
  some ((x60, h56))
  else
  (if v2 = 101 then
  (gfi [0] 15 v0 h56).bind fun x59 =>
  some ((x59, h56))
  else
  (if x53 ≤ v2 then
  some (((-4), h56))
  else
  (gfr [0] 13 v0 h56).bind fun r57 =>
  (ald 0 r57 v2 h56).bind fun x58 =>
  some ((x58, h56)))))
  else
  some (((-2), h)))
theorem tp_row_46_ok (X : CT) (v0 : Option Nat) (v1 : Int32) (v2 : Int32) (h : PH) : Im X (cX0_row, 4, RX0, "row", (some .int), 30) 46 [some (.inr v0), some (.inl v1), some (.inl v2), none] [] h (tp_row_46 v0 v1 v2 h) szI (kI X) := by
  unfold tp_row_46
  refine im_iload_n (pc := 46) dX0_row_46 rfl rfl ?_
  refine im_aload_n (pc := 47) dX0_row_47 rfl rfl ?_
  refine im_gr (pc := 48) fl_X0_63 dX0_row_48 fun r51 => ?_
  refine cl_X0_264 yd_told_im (pc := 51) (by decide) dX0_row_51 (Nat.le_of_ble_eq_true rfl) fun x52 => ?_
  refine im_iconst (pc := 54) (v := (-1)) dX0_row_54 (by decide) ?_
  refine im_ixor (pc := 55) dX0_row_55 ?_
  refine im_iand (pc := 56) dX0_row_56 ?_
  refine im_if_eq (pc := 57) (tgt := 63) dX0_row_57 (by decide) ?_ ?_
  · refine im_iload_n (pc := 63) dX0_row_63 rfl rfl ?_
    refine cl_X0_197 jI_bitCount_im (pc := 64) (by decide) dX0_row_64 (Nat.le_of_ble_eq_true rfl) fun x53 => ?_
    refine im_istore_n (pc := 67) (lv' := [some (.inr v0), some (.inl v1), some (.inl v2), some (.inl x53)]) dX0_row_67 rfl (by decide) rfl ?_
    refine im_aload_n (pc := 68) dX0_row_68 rfl rfl ?_
    refine im_ldcw (pc := 69) q1035 dX0_row_69 ?_
    refine im_pf (pc := 72) fp_X0_257 (okT_i _) dX0_row_72 fun h54 => ?_
    refine im_aload_n (pc := 75) dX0_row_75 rfl rfl ?_
    refine im_iconst (pc := 76) (v := 0) dX0_row_76 (by decide) ?_
    refine im_pf (pc := 77) fp_X0_251 (okT_i _) dX0_row_77 fun h55 => ?_
    refine im_aload_n (pc := 80) dX0_row_80 rfl rfl ?_
    refine im_iconst (pc := 81) (v := 0) dX0_row_81 (by decide) ?_
    refine im_iload_n (pc := 82) dX0_row_82 rfl rfl ?_
    refine im_iload_n (pc := 83) dX0_row_83 rfl rfl ?_
    refine im_iconst (pc := 84) (v := 0) dX0_row_84 (by decide) ?_
    refine im_iconst (pc := 85) (v := 0) dX0_row_85 (by decide) ?_
    refine cl_X0_260 (tp_stands_im 9) (pc := 86) (by decide) dX0_row_86 (Nat.le_of_ble_eq_true rfl) fun h56 => ?_
    refine im_iload_n (pc := 89) dX0_row_89 rfl rfl ?_
    refine im_bipush (pc := 90) (v := 100) dX0_row_90 (by decide) ?_
    refine im_icmp_ne (pc := 92) (tgt := 102) dX0_row_92 (by decide) ?_ ?_
    · refine im_iload_n (pc := 102) dX0_row_102 rfl rfl ?_
      refine im_bipush (pc := 103) (v := 101) dX0_row_103 (by decide) ?_
      refine im_icmp_ne (pc := 105) (tgt := 115) dX0_row_105 (by decide) ?_ ?_
      · refine im_iload_n (pc := 115) dX0_row_115 rfl rfl ?_
        refine im_iload_n (pc := 116) dX0_row_116 rfl rfl ?_
        refine im_icmp_ge (pc := 117) (tgt := 129) dX0_row_117 (by decide) ?_ ?_
        · refine im_bipush (pc := 129) (v := (-4)) dX0_row_129 (by decide) ?_
          exact im_iret (pc := 131) dX0_row_131
        · refine im_aload_n (pc := 120) dX0_row_120 rfl rfl ?_
          refine im_gr (pc := 121) fl_X0_90 dX0_row_121 fun r57 => ?_
          refine im_iload_n (pc := 124) dX0_row_124 rfl rfl ?_
          refine im_iald (pc := 125) dX0_row_125 fun x58 => ?_
          refine im_goto (pc := 126) (tgt := 131) dX0_row_126 (by decide) ?_
          exact im_iret (pc := 131) dX0_row_131
      · refine im_aload_n (pc := 108) dX0_row_108 rfl rfl ?_
        refine im_gi (pc := 109) fl_X0_251 dX0_row_109 fun x59 => ?_
        refine im_goto (pc := 112) (tgt := 131) dX0_row_112 (by decide) ?_
        exact im_iret (pc := 131) dX0_row_131
    · refine im_aload_n (pc := 95) dX0_row_95 rfl rfl ?_
      refine im_gi (pc := 96) fl_X0_257 dX0_row_96 fun x60 => ?_
      refine im_goto (pc := 99) (tgt := 131) dX0_row_99 (by decide) ?_
      exact im_iret (pc := 131) dX0_row_131
  · refine im_bipush (pc := 60) (v := (-2)) dX0_row_60 (by decide) ?_
    exact im_iret (pc := 62) dX0_row_62
noncomputable def tp_row_0 (v0 : Option Nat) (v1 : Int32) (v2 : Int32) (h : PH) : Option (Int32 × PH) :=
  (tp_in v1 65536 h).bind fun x51 =>
  (if x51 = 0 then
  some (((-1000), h))
  else
  (jI_bitCount v1 h).bind fun x52 =>
  (tp_within x52 2 7 h).bind fun x53 =>
  (if x53 = 0 then
  some (((-1000), h))
  else
  (tp_within v2 100 101 h).bind fun x54 =>
  (if x54 = 0 then
  (tp_in v2 7 h).bind fun x55 =>
  (if x55 = 0 then
  some (((-1000), h))
  else
  tp_row_46 v0 v1 v2 h)
  else
  tp_row_46 v0 v1 v2 h)))
theorem tp_row_0_ok (X : CT) (v0 : Option Nat) (v1 : Int32) (v2 : Int32) (h : PH) : Im X (cX0_row, 4, RX0, "row", (some .int), 30) 0 [some (.inr v0), some (.inl v1), some (.inl v2), none] [] h (tp_row_0 v0 v1 v2 h) szI (kI X) := by
  unfold tp_row_0
  refine im_iload_n (pc := 0) dX0_row_0 rfl rfl ?_
  refine im_ldc (pc := 1) q345 dX0_row_1 ?_
  refine cl_X0_25 tp_in_im (pc := 3) (by decide) dX0_row_3 (Nat.le_of_ble_eq_true rfl) fun x51 => ?_
  refine im_if_eq (pc := 6) (tgt := 42) dX0_row_6 (by decide) ?_ ?_
  · refine im_sipush (pc := 42) (v := (-1000)) dX0_row_42 (by decide) ?_
    exact im_iret (pc := 45) dX0_row_45
  · refine im_iload_n (pc := 9) dX0_row_9 rfl rfl ?_
    refine cl_X0_197 jI_bitCount_im (pc := 10) (by decide) dX0_row_10 (Nat.le_of_ble_eq_true rfl) fun x52 => ?_
    refine im_iconst (pc := 13) (v := 2) dX0_row_13 (by decide) ?_
    refine im_bipush (pc := 14) (v := 7) dX0_row_14 (by decide) ?_
    refine cl_X0_120 tp_within_im (pc := 16) (by decide) dX0_row_16 (Nat.le_of_ble_eq_true rfl) fun x53 => ?_
    refine im_if_eq (pc := 19) (tgt := 42) dX0_row_19 (by decide) ?_ ?_
    · refine im_sipush (pc := 42) (v := (-1000)) dX0_row_42 (by decide) ?_
      exact im_iret (pc := 45) dX0_row_45
    · refine im_iload_n (pc := 22) dX0_row_22 rfl rfl ?_
      refine im_bipush (pc := 23) (v := 100) dX0_row_23 (by decide) ?_
      refine im_bipush (pc := 25) (v := 101) dX0_row_25 (by decide) ?_
      refine cl_X0_120 tp_within_im (pc := 27) (by decide) dX0_row_27 (Nat.le_of_ble_eq_true rfl) fun x54 => ?_
      refine im_if_ne (pc := 30) (tgt := 46) dX0_row_30 (by decide) ?_ ?_
      · exact Im.drop [true, true, true, false] rfl (tp_row_46_ok X v0 v1 v2 h)
      · refine im_iload_n (pc := 33) dX0_row_33 rfl rfl ?_
        refine im_bipush (pc := 34) (v := 7) dX0_row_34 (by decide) ?_
        refine cl_X0_25 tp_in_im (pc := 36) (by decide) dX0_row_36 (Nat.le_of_ble_eq_true rfl) fun x55 => ?_
        refine im_if_ne (pc := 39) (tgt := 46) dX0_row_39 (by decide) ?_ ?_
        · exact Im.drop [true, true, true, false] rfl (tp_row_46_ok X v0 v1 v2 h)
        · refine im_sipush (pc := 42) (v := (-1000)) dX0_row_42 (by decide) ?_
          exact im_iret (pc := 45) dX0_row_45
noncomputable def tp_row (a0 : Option Nat) (a1 : Int32) (a2 : Int32) (h : PH) : Option (Int32 × PH) := grd (isC [0] a0 h) (tp_row_0 a0 a1 a2 h)
theorem tp_row_im : IM_X0_row tp_row 30 := by
  intro a0 a1 a2 h r h' e
  obtain ⟨e1, e2⟩ := grd_some e
  exact ⟨e1, SpI.of (k := 1) (plainFor_of_name (by decide)) rfl (fun X => Im.drop [true, true, true, false] rfl (tp_row_0_ok X a0 a1 a2 h)) e2⟩
def IM_J6_numberOfTrailingZeros (f : Int32 → PH → Option (Int32)) (d : Nat) : Prop := ∀ (a0 : Int32) (h : PH) (r : Int32), f a0 h = some r → SpI yJ6_numberOfTrailingZeros cJ6_numberOfTrailingZeros 2 (some .int) d [.inl a0] h r h
noncomputable def jI_numberOfTrailingZeros_62 (v0 : Int32) (v1 : Int32) (h : PH) : Option (Int32) :=
  (if v0 ≤ 4 then
  some ((v1 + (ius v0 1)))
  else
  some (((v1 + 2) + (ius (ius v0 2) 1))))
theorem jI_numberOfTrailingZeros_62_ok (X : CT) (v0 : Int32) (v1 : Int32) (h : PH) : Im X (cJ6_numberOfTrailingZeros, 2, RJ6, "numberOfTrailingZeros", (some .int), 1) 62 [some (.inl v0), some (.inl v1)] [] h (jI_numberOfTrailingZeros_62 v0 v1 h) (szP h) (kP X h) := by
  unfold jI_numberOfTrailingZeros_62
  refine im_iload_n (pc := 62) dJ6_numberOfTrailingZeros_62 rfl rfl ?_
  refine im_iconst (pc := 63) (v := 4) dJ6_numberOfTrailingZeros_63 (by decide) ?_
  refine im_icmp_le (pc := 64) (tgt := 74) dJ6_numberOfTrailingZeros_64 (by decide) ?_ ?_
  · refine im_iload_n (pc := 74) dJ6_numberOfTrailingZeros_74 rfl rfl ?_
    refine im_iload_n (pc := 75) dJ6_numberOfTrailingZeros_75 rfl rfl ?_
    refine im_iconst (pc := 76) (v := 1) dJ6_numberOfTrailingZeros_76 (by decide) ?_
    refine im_iushr (pc := 77) dJ6_numberOfTrailingZeros_77 ?_
    refine im_iadd (pc := 78) dJ6_numberOfTrailingZeros_78 ?_
    exact im_iretP (pc := 79) dJ6_numberOfTrailingZeros_79
  · refine im_iinc (pc := 67) (v := (v1 + 2)) (lv' := [some (.inl v0), some (.inl (v1 + 2))]) dJ6_numberOfTrailingZeros_67 rfl rfl (by decide) rfl ?_
    refine im_iload_n (pc := 70) dJ6_numberOfTrailingZeros_70 rfl rfl ?_
    refine im_iconst (pc := 71) (v := 2) dJ6_numberOfTrailingZeros_71 (by decide) ?_
    refine im_iushr (pc := 72) dJ6_numberOfTrailingZeros_72 ?_
    refine im_istore_n (pc := 73) (lv' := [some (.inl (ius v0 2)), some (.inl (v1 + 2))]) dJ6_numberOfTrailingZeros_73 rfl (by decide) rfl ?_
    refine im_iload_n (pc := 74) dJ6_numberOfTrailingZeros_74 rfl rfl ?_
    refine im_iload_n (pc := 75) dJ6_numberOfTrailingZeros_75 rfl rfl ?_
    refine im_iconst (pc := 76) (v := 1) dJ6_numberOfTrailingZeros_76 (by decide) ?_
    refine im_iushr (pc := 77) dJ6_numberOfTrailingZeros_77 ?_
    refine im_iadd (pc := 78) dJ6_numberOfTrailingZeros_78 ?_
    exact im_iretP (pc := 79) dJ6_numberOfTrailingZeros_79
noncomputable def jI_numberOfTrailingZeros_49 (v0 : Int32) (v1 : Int32) (h : PH) : Option (Int32) :=
  (if v0 ≤ 16 then
  jI_numberOfTrailingZeros_62 v0 v1 h
  else
  jI_numberOfTrailingZeros_62 (ius v0 4) (v1 + 4) h)
theorem jI_numberOfTrailingZeros_49_ok (X : CT) (v0 : Int32) (v1 : Int32) (h : PH) : Im X (cJ6_numberOfTrailingZeros, 2, RJ6, "numberOfTrailingZeros", (some .int), 1) 49 [some (.inl v0), some (.inl v1)] [] h (jI_numberOfTrailingZeros_49 v0 v1 h) (szP h) (kP X h) := by
  unfold jI_numberOfTrailingZeros_49
  refine im_iload_n (pc := 49) dJ6_numberOfTrailingZeros_49 rfl rfl ?_
  refine im_bipush (pc := 50) (v := 16) dJ6_numberOfTrailingZeros_50 (by decide) ?_
  refine im_icmp_le (pc := 52) (tgt := 62) dJ6_numberOfTrailingZeros_52 (by decide) ?_ ?_
  · exact Im.drop [true, true] rfl (jI_numberOfTrailingZeros_62_ok X v0 v1 h)
  · refine im_iinc (pc := 55) (v := (v1 + 4)) (lv' := [some (.inl v0), some (.inl (v1 + 4))]) dJ6_numberOfTrailingZeros_55 rfl rfl (by decide) rfl ?_
    refine im_iload_n (pc := 58) dJ6_numberOfTrailingZeros_58 rfl rfl ?_
    refine im_iconst (pc := 59) (v := 4) dJ6_numberOfTrailingZeros_59 (by decide) ?_
    refine im_iushr (pc := 60) dJ6_numberOfTrailingZeros_60 ?_
    refine im_istore_n (pc := 61) (lv' := [some (.inl (ius v0 4)), some (.inl (v1 + 4))]) dJ6_numberOfTrailingZeros_61 rfl (by decide) rfl ?_
    exact Im.drop [true, true] rfl (jI_numberOfTrailingZeros_62_ok X (ius v0 4) (v1 + 4) h)
noncomputable def jI_numberOfTrailingZeros_34 (v0 : Int32) (v1 : Int32) (h : PH) : Option (Int32) :=
  (if v0 ≤ 256 then
  jI_numberOfTrailingZeros_49 v0 v1 h
  else
  jI_numberOfTrailingZeros_49 (ius v0 8) (v1 + 8) h)
theorem jI_numberOfTrailingZeros_34_ok (X : CT) (v0 : Int32) (v1 : Int32) (h : PH) : Im X (cJ6_numberOfTrailingZeros, 2, RJ6, "numberOfTrailingZeros", (some .int), 1) 34 [some (.inl v0), some (.inl v1)] [] h (jI_numberOfTrailingZeros_34 v0 v1 h) (szP h) (kP X h) := by
  unfold jI_numberOfTrailingZeros_34
  refine im_iload_n (pc := 34) dJ6_numberOfTrailingZeros_34 rfl rfl ?_
  refine im_sipush (pc := 35) (v := 256) dJ6_numberOfTrailingZeros_35 (by decide) ?_
  refine im_icmp_le (pc := 38) (tgt := 49) dJ6_numberOfTrailingZeros_38 (by decide) ?_ ?_
  · exact Im.drop [true, true] rfl (jI_numberOfTrailingZeros_49_ok X v0 v1 h)
  · refine im_iinc (pc := 41) (v := (v1 + 8)) (lv' := [some (.inl v0), some (.inl (v1 + 8))]) dJ6_numberOfTrailingZeros_41 rfl rfl (by decide) rfl ?_
    refine im_iload_n (pc := 44) dJ6_numberOfTrailingZeros_44 rfl rfl ?_
    refine im_bipush (pc := 45) (v := 8) dJ6_numberOfTrailingZeros_45 (by decide) ?_
    refine im_iushr (pc := 47) dJ6_numberOfTrailingZeros_47 ?_
    refine im_istore_n (pc := 48) (lv' := [some (.inl (ius v0 8)), some (.inl (v1 + 8))]) dJ6_numberOfTrailingZeros_48 rfl (by decide) rfl ?_
    exact Im.drop [true, true] rfl (jI_numberOfTrailingZeros_49_ok X (ius v0 8) (v1 + 8) h)
noncomputable def jI_numberOfTrailingZeros_0 (v0 : Int32) (h : PH) : Option (Int32) :=
  (if 0 < ((v0 ^^^ (-1)) &&& (v0 - 1)) then
  (if ((v0 ^^^ (-1)) &&& (v0 - 1)) ≤ 65536 then
  jI_numberOfTrailingZeros_34 ((v0 ^^^ (-1)) &&& (v0 - 1)) 1 h
  else
  jI_numberOfTrailingZeros_34 (ius ((v0 ^^^ (-1)) &&& (v0 - 1)) 16) (1 + 16) h)
  else
  some ((((v0 ^^^ (-1)) &&& (v0 - 1)) &&& 32)))
theorem jI_numberOfTrailingZeros_0_ok (X : CT) (v0 : Int32) (h : PH) : Im X (cJ6_numberOfTrailingZeros, 2, RJ6, "numberOfTrailingZeros", (some .int), 1) 0 [some (.inl v0), none] [] h (jI_numberOfTrailingZeros_0 v0 h) (szP h) (kP X h) := by
  unfold jI_numberOfTrailingZeros_0
  refine im_iload_n (pc := 0) dJ6_numberOfTrailingZeros_0 rfl rfl ?_
  refine im_iconst (pc := 1) (v := (-1)) dJ6_numberOfTrailingZeros_1 (by decide) ?_
  refine im_ixor (pc := 2) dJ6_numberOfTrailingZeros_2 ?_
  refine im_iload_n (pc := 3) dJ6_numberOfTrailingZeros_3 rfl rfl ?_
  refine im_iconst (pc := 4) (v := 1) dJ6_numberOfTrailingZeros_4 (by decide) ?_
  refine im_isub (pc := 5) dJ6_numberOfTrailingZeros_5 ?_
  refine im_iand (pc := 6) dJ6_numberOfTrailingZeros_6 ?_
  refine im_istore_n (pc := 7) (lv' := [some (.inl ((v0 ^^^ (-1)) &&& (v0 - 1))), none]) dJ6_numberOfTrailingZeros_7 rfl (by decide) rfl ?_
  refine im_iload_n (pc := 8) dJ6_numberOfTrailingZeros_8 rfl rfl ?_
  refine im_if_gt (pc := 9) (tgt := 17) dJ6_numberOfTrailingZeros_9 (by decide) ?_ ?_
  · refine im_iconst (pc := 17) (v := 1) dJ6_numberOfTrailingZeros_17 (by decide) ?_
    refine im_istore_n (pc := 18) (lv' := [some (.inl ((v0 ^^^ (-1)) &&& (v0 - 1))), some (.inl 1)]) dJ6_numberOfTrailingZeros_18 rfl (by decide) rfl ?_
    refine im_iload_n (pc := 19) dJ6_numberOfTrailingZeros_19 rfl rfl ?_
    refine im_ldcw (pc := 20) q1068 dJ6_numberOfTrailingZeros_20 ?_
    refine im_icmp_le (pc := 23) (tgt := 34) dJ6_numberOfTrailingZeros_23 (by decide) ?_ ?_
    · exact Im.drop [true, true] rfl (jI_numberOfTrailingZeros_34_ok X ((v0 ^^^ (-1)) &&& (v0 - 1)) 1 h)
    · refine im_iinc (pc := 26) (v := (1 + 16)) (lv' := [some (.inl ((v0 ^^^ (-1)) &&& (v0 - 1))), some (.inl (1 + 16))]) dJ6_numberOfTrailingZeros_26 rfl rfl (by decide) rfl ?_
      refine im_iload_n (pc := 29) dJ6_numberOfTrailingZeros_29 rfl rfl ?_
      refine im_bipush (pc := 30) (v := 16) dJ6_numberOfTrailingZeros_30 (by decide) ?_
      refine im_iushr (pc := 32) dJ6_numberOfTrailingZeros_32 ?_
      refine im_istore_n (pc := 33) (lv' := [some (.inl (ius ((v0 ^^^ (-1)) &&& (v0 - 1)) 16)), some (.inl (1 + 16))]) dJ6_numberOfTrailingZeros_33 rfl (by decide) rfl ?_
      exact Im.drop [true, true] rfl (jI_numberOfTrailingZeros_34_ok X (ius ((v0 ^^^ (-1)) &&& (v0 - 1)) 16) (1 + 16) h)
  · refine im_iload_n (pc := 12) dJ6_numberOfTrailingZeros_12 rfl rfl ?_
    refine im_bipush (pc := 13) (v := 32) dJ6_numberOfTrailingZeros_13 (by decide) ?_
    refine im_iand (pc := 15) dJ6_numberOfTrailingZeros_15 ?_
    exact im_iretP (pc := 16) dJ6_numberOfTrailingZeros_16
noncomputable def jI_numberOfTrailingZeros (a0 : Int32) (h : PH) : Option (Int32) := jI_numberOfTrailingZeros_0 a0 h
theorem jI_numberOfTrailingZeros_im : IM_J6_numberOfTrailingZeros jI_numberOfTrailingZeros 1 := by
  intro a0 h r e
  exact SpI.ofP (k := 1) (plainFor_of_name (by decide)) rfl (fun X => Im.drop [true, false] rfl (jI_numberOfTrailingZeros_0_ok X a0 h)) e
theorem cl_X0_10 {X : CT} {cc : ByteArray} {nL : Nat} {mn : String} {ret : Option FieldType} {d d0 : Nat} {τ : Type} {pc : Nat} {lv : List (Option PV)} {st : List PV} {h : PH} {sz : τ → Nat × Nat} {K : τ → Prop} {f : Int32 → PH → Option (Int32)} (HR : IM_J6_numberOfTrailingZeros f d0) {a0 : Int32} {g : Int32 → Option τ} (hd : d0 + 1 ≤ d) (hdg : decode cc pc = .ok (.invokestatic 10, 3)) (hst : st.length ≤ 8) (kk : ∀ r, Im X (cc, nL, RX0, mn, ret, d) (pc + 3) lv (.inl r :: st) h (g r) sz K) : Im X (cc, nL, RX0, mn, ret, d) pc lv (.inl a0 :: st) h ((f a0 h).bind g) sz K := by
  refine im_cP (y := yJ6_numberOfTrailingZeros) (cY := cJ6_numberOfTrailingZeros) (nY := 2) (rY := (some .int)) (d' := d0) (av := [.inl a0]) (fun r e hX => ?_) (fun r e => HR _ _ _ e) hd (by decide) hst rfl kk
  exact cal_S (n := 1) hX (lw_S q1065 q1066 q131 q1067) (by decide +kernel) rfl hdg

def IM_X0_lowest (f : Int32 → PH → Option (Int32)) (d : Nat) : Prop := ∀ (a0 : Int32) (h : PH) (r : Int32), f a0 h = some r → SpI yX0_lowest cX0_lowest 1 (some .int) d [.inl a0] h r h
noncomputable def tp_lowest_0 (v0 : Int32) (h : PH) : Option (Int32) :=
  (jI_numberOfTrailingZeros v0 h).bind fun x51 =>
  some (x51)
theorem tp_lowest_0_ok (X : CT) (v0 : Int32) (h : PH) : Im X (cX0_lowest, 1, RX0, "lowest", (some .int), 2) 0 [some (.inl v0)] [] h (tp_lowest_0 v0 h) (szP h) (kP X h) := by
  unfold tp_lowest_0
  refine im_iload_n (pc := 0) dX0_lowest_0 rfl rfl ?_
  refine cl_X0_10 jI_numberOfTrailingZeros_im (pc := 1) (by decide) dX0_lowest_1 (Nat.le_of_ble_eq_true rfl) fun x51 => ?_
  exact im_iretP (pc := 4) dX0_lowest_4
noncomputable def tp_lowest (a0 : Int32) (h : PH) : Option (Int32) := tp_lowest_0 a0 h
theorem tp_lowest_im : IM_X0_lowest tp_lowest 2 := by
  intro a0 h r e
  exact SpI.ofP (k := 0) (plainFor_of_name (by decide)) rfl (fun X => Im.drop [true] rfl (tp_lowest_0_ok X a0 h)) e
theorem fl_X0_96 : ∀ c ∈ [0], FL RX0 96 c 17 := List.forall_mem_cons.mpr ⟨⟨RX0, TX0, 20, rfl, in_X0, by decide, Or.inl q294⟩, fun _ h => absurd h List.not_mem_nil⟩
def IM_X0_talkOf (f : Option Nat → Int32 → Int32 → PH → Option (Int32)) (d : Nat) : Prop := ∀ (a0 : Option Nat) (a1 : Int32) (a2 : Int32) (h : PH) (r : Int32), f a0 a1 a2 h = some r → isC [0] a0 h = true ∧ SpI yX0_talkOf cX0_talkOf 3 (some .int) d [.inr a0, .inl a1, .inl a2] h r h
noncomputable def tp_talkOf_0 (v0 : Option Nat) (v1 : Int32) (v2 : Int32) (h : PH) : Option (Int32) :=
  (gfr [0] 1 v0 h).bind fun r51 =>
  (gfr [2] 0 r51 h).bind fun r52 =>
  (gfr [0] 17 v0 h).bind fun r53 =>
  (ald 0 r53 v1 h).bind fun x54 =>
  (aldr 2 r52 x54 h).bind fun r55 =>
  (gfr [0] 1 v0 h).bind fun r56 =>
  (gfr [2] 0 r56 h).bind fun r57 =>
  (gfr [0] 17 v0 h).bind fun r58 =>
  (ald 0 r58 v2 h).bind fun x59 =>
  (aldr 2 r57 x59 h).bind fun r60 =>
  (pe_talk r55 r60 h).bind fun x61 =>
  some (x61)
theorem tp_talkOf_0_ok (X : CT) (v0 : Option Nat) (v1 : Int32) (v2 : Int32) (h : PH) : Im X (cX0_talkOf, 3, RX0, "talkOf", (some .int), 4) 0 [some (.inr v0), some (.inl v1), some (.inl v2)] [] h (tp_talkOf_0 v0 v1 v2 h) (szP h) (kP X h) := by
  unfold tp_talkOf_0
  refine im_aload_n (pc := 0) dX0_talkOf_0 rfl rfl ?_
  refine im_gr (pc := 1) fl_X0_63 dX0_talkOf_1 fun r51 => ?_
  refine im_gr (pc := 4) fl_X0_109 dX0_talkOf_4 fun r52 => ?_
  refine im_aload_n (pc := 7) dX0_talkOf_7 rfl rfl ?_
  refine im_gr (pc := 8) fl_X0_96 dX0_talkOf_8 fun r53 => ?_
  refine im_iload_n (pc := 11) dX0_talkOf_11 rfl rfl ?_
  refine im_iald (pc := 12) dX0_talkOf_12 fun x54 => ?_
  refine im_aald (pc := 13) (t := 2) (by decide) (by decide) dX0_talkOf_13 fun r55 => ?_
  refine im_aload_n (pc := 14) dX0_talkOf_14 rfl rfl ?_
  refine im_gr (pc := 15) fl_X0_63 dX0_talkOf_15 fun r56 => ?_
  refine im_gr (pc := 18) fl_X0_109 dX0_talkOf_18 fun r57 => ?_
  refine im_aload_n (pc := 21) dX0_talkOf_21 rfl rfl ?_
  refine im_gr (pc := 22) fl_X0_96 dX0_talkOf_22 fun r58 => ?_
  refine im_iload_n (pc := 25) dX0_talkOf_25 rfl rfl ?_
  refine im_iald (pc := 26) dX0_talkOf_26 fun x59 => ?_
  refine im_aald (pc := 27) (t := 2) (by decide) (by decide) dX0_talkOf_27 fun r60 => ?_
  refine cl_X0_206 pe_talk_im (pc := 28) (by decide) dX0_talkOf_28 (Nat.le_of_ble_eq_true rfl) fun x61 => ?_
  exact im_iretP (pc := 31) dX0_talkOf_31
noncomputable def tp_talkOf (a0 : Option Nat) (a1 : Int32) (a2 : Int32) (h : PH) : Option (Int32) := grd (isC [0] a0 h) (tp_talkOf_0 a0 a1 a2 h)
theorem tp_talkOf_im : IM_X0_talkOf tp_talkOf 4 := by
  intro a0 a1 a2 h r e
  obtain ⟨e1, e2⟩ := grd_some e
  exact ⟨e1, SpI.ofP (k := 0) (plainFor_of_name (by decide)) rfl (fun X => Im.drop [true, true, true] rfl (tp_talkOf_0_ok X a0 a1 a2 h)) e2⟩
