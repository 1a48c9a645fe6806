set_option maxRecDepth 100000
theorem cl_X6_395 {X : CT} {cc : ByteArray} {nL : Nat} {mn : String} {ret : Option FieldType} {d d0 : Nat} {τ : Type} {pc : Nat} {lv : List (Option PV)} {st : List PV} {h : PH} {sz : τ → Nat × Nat} {K : τ → Prop} {f : Option Nat → Int32 → PH → Option (Int32)} (HR : IM_X6_stepsBeside f d0) {a0 : Option Nat} {a1 : Int32} {g : Int32 → Option τ} (hd : d0 + 1 ≤ d) (hdg : decode cc pc = .ok (.invokevirtual 395, 3)) (hst : st.length ≤ 8) (kk : ∀ r, Im X (cc, nL, RX6, mn, ret, d) (pc + 3) lv (.inl r :: st) h (g r) sz K) : Im X (cc, nL, RX6, mn, ret, d) pc lv (.inl a1 :: .inr a0 :: st) h ((f a0 a1 h).bind g) sz K := by
  refine im_cP (y := yX6_stepsBeside) (cY := cX6_stepsBeside) (nY := 4) (rY := (some .int)) (d' := d0) (av := [.inr a0, .inl a1]) (fun r e hX => ?_) (fun r e => (HR _ _ _ _ e).2) hd (by decide) hst rfl kk
  obtain ⟨a, c, fs, rfl, ec, hm⟩ := isC_some (HR _ _ _ _ e).1
  cases List.mem_singleton.mp hm
  exact cal_V (n := 1) hX (lw_V q1701 q1703 qs104 q112 q1704) (by decide +kernel) rfl rfl ec hdg

def IM_X6_visit (f : Option Nat → Int32 → PH → Option (Int32 × PH)) (d : Nat) : Prop := ∀ (a0 : Option Nat) (a1 : Int32) (h : PH) (r : Int32) (h' : PH), f a0 a1 h = some (r, h') → isC [5] a0 h = true ∧ SpI yX6_visit cX6_visit 2 (some .int) d [.inr a0, .inl a1] h r h'
noncomputable def mo_visit_0 (v0 : Option Nat) (v1 : Int32) (h : PH) : Option (Int32 × PH) :=
  (mo_isTold v0 v1 h).bind fun x51 =>
  (if x51 = 0 then
  some (((-1), h))
  else
  (mo_isLaid v0 v1 h).bind fun x52 =>
  (if x52 = 0 then
  some (((-2), h))
  else
  bd2 (mo_walksFrom v0 0 h) fun x54 h53 =>
  (gfr [5] 0 v0 h53).bind fun r55 =>
  (ald 0 r55 (48 + v1) h53).bind fun x56 =>
  (mo_stepsBeside v0 x56 h53).bind fun x57 =>
  some ((x57, h53))))
theorem mo_visit_0_ok (X : CT) (v0 : Option Nat) (v1 : Int32) (h : PH) : Im X (cX6_visit, 2, RX6, "visit", (some .int), 4) 0 [some (.inr v0), some (.inl v1)] [] h (mo_visit_0 v0 v1 h) szI (kI X) := by
  unfold mo_visit_0
  refine im_aload_n (pc := 0) dX6_visit_0 rfl rfl ?_
  refine im_iload_n (pc := 1) dX6_visit_1 rfl rfl ?_
  refine cl_X6_108 mo_isTold_im (pc := 2) (by decide) dX6_visit_2 (Nat.le_of_ble_eq_true rfl) fun x51 => ?_
  refine im_if_ne (pc := 5) (tgt := 10) dX6_visit_5 (by decide) ?_ ?_
  · refine im_aload_n (pc := 10) dX6_visit_10 rfl rfl ?_
    refine im_iload_n (pc := 11) dX6_visit_11 rfl rfl ?_
    refine cl_X6_112 mo_isLaid_im (pc := 12) (by decide) dX6_visit_12 (Nat.le_of_ble_eq_true rfl) fun x52 => ?_
    refine im_if_ne (pc := 15) (tgt := 21) dX6_visit_15 (by decide) ?_ ?_
    · refine im_aload_n (pc := 21) dX6_visit_21 rfl rfl ?_
      refine im_iconst (pc := 22) (v := 0) dX6_visit_22 (by decide) ?_
      refine cl_X6_389 mo_walksFrom_im (pc := 23) (by decide) dX6_visit_23 (Nat.le_of_ble_eq_true rfl) fun x54 h53 => ?_
      refine im_pop (pc := 26) dX6_visit_26 ?_
      refine im_aload_n (pc := 27) dX6_visit_27 rfl rfl ?_
      refine im_aload_n (pc := 28) dX6_visit_28 rfl rfl ?_
      refine im_gr (pc := 29) fl_X6_7 dX6_visit_29 fun r55 => ?_
      refine im_bipush (pc := 32) (v := 48) dX6_visit_32 (by decide) ?_
      refine im_iload_n (pc := 34) dX6_visit_34 rfl rfl ?_
      refine im_iadd (pc := 35) dX6_visit_35 ?_
      refine im_iald (pc := 36) dX6_visit_36 fun x56 => ?_
      refine cl_X6_395 mo_stepsBeside_im (pc := 37) (by decide) dX6_visit_37 (Nat.le_of_ble_eq_true rfl) fun x57 => ?_
      exact im_iret (pc := 40) dX6_visit_40
    · refine im_bipush (pc := 18) (v := (-2)) dX6_visit_18 (by decide) ?_
      exact im_iret (pc := 20) dX6_visit_20
  · refine im_iconst (pc := 8) (v := (-1)) dX6_visit_8 (by decide) ?_
    exact im_iret (pc := 9) dX6_visit_9
noncomputable def mo_visit (a0 : Option Nat) (a1 : Int32) (h : PH) : Option (Int32 × PH) := grd (isC [5] a0 h) (mo_visit_0 a0 a1 h)
theorem mo_visit_im : IM_X6_visit mo_visit 4 := by
  intro a0 a1 h r h' e
  obtain ⟨e1, e2⟩ := grd_some e
  exact ⟨e1, SpI.of (k := 0) (plainFor_of_name (by decide)) rfl (fun X => Im.drop [true, true] rfl (mo_visit_0_ok X a0 a1 h)) e2⟩
def IM_X6_visited (f : Option Nat → PH → Option (Int32 × PH)) (d : Nat) : Prop := ∀ (a0 : Option Nat) (h : PH) (r : Int32) (h' : PH), f a0 h = some (r, h') → isC [5] a0 h = true ∧ SpI yX6_visited cX6_visited 3 (some .int) d [.inr a0] h r h'
noncomputable def mo_visited_b10 (v0 : Option Nat) (v1 : Int32) (v2 : Int32) (h : PH) : Option ((Int32 × Int32) ⊕ (Int32 × PH)) :=
  (if 16 ≤ v2 then
  some (.inr ((v1, h)))
  else
  (mo_isLaid v0 v2 h).bind fun x51 =>
  (if x51 = 0 then
  some (.inl (v1, (v2 + 1)))
  else
  (gfr [5] 0 v0 h).bind fun r52 =>
  (ald 0 r52 (48 + v2) h).bind fun x53 =>
  (mo_stepsBeside v0 x53 h).bind fun x54 =>
  (if x54 = (-2) then
  some (.inl (v1, (v2 + 1)))
  else
  some (.inl ((v1 ||| ((1 : Int32) <<< (v2 &&& 31))), (v2 + 1))))))
noncomputable def mo_visited_L10 (v0 : Option Nat) (v1 : Int32) (v2 : Int32) (h : PH) : Option (Int32 × PH) :=
  iter (fun s : Int32 × Int32 => mo_visited_b10 v0 s.1 s.2 h) (v1, v2)
theorem mo_visited_b10_ok (X : CT) (v0 : Option Nat) (v1 : Int32) (v2 : Int32) (h : PH) : Im X (cX6_visited, 3, RX6, "visited", (some .int), 4) 10 [some (.inr v0), some (.inl v1), some (.inl v2)] [] h (mo_visited_b10 v0 v1 v2 h) (ez (fun s : Int32 × Int32 => h) szI) (ek X 10 (fun s : Int32 × Int32 => [some (.inr v0), some (.inl s.1), some (.inl s.2)]) (fun s : Int32 × Int32 => h) (kI X)) := by
  unfold mo_visited_b10
  refine im_iload_n (pc := 10) dX6_visited_10 rfl rfl ?_
  refine im_bipush (pc := 11) (v := 16) dX6_visited_11 (by decide) ?_
  refine im_icmp_ge (pc := 13) (tgt := 54) dX6_visited_13 (by decide) ?_ ?_
  · refine im_iload_n (pc := 54) dX6_visited_54 rfl rfl ?_
    exact Im.outS (im_iret (pc := 55) dX6_visited_55)
  · refine im_aload_n (pc := 16) dX6_visited_16 rfl rfl ?_
    refine im_iload_n (pc := 17) dX6_visited_17 rfl rfl ?_
    refine cl_X6_112 mo_isLaid_im (pc := 18) (by decide) dX6_visited_18 (Nat.le_of_ble_eq_true rfl) fun x51 => ?_
    refine im_if_eq (pc := 21) (tgt := 48) dX6_visited_21 (by decide) ?_ ?_
    · refine im_iinc (pc := 48) (v := (v2 + 1)) (lv' := [some (.inr v0), some (.inl v1), some (.inl (v2 + 1))]) dX6_visited_48 rfl rfl (by decide) rfl ?_
      refine im_goto (pc := 51) (tgt := 10) dX6_visited_51 (by decide) ?_
      exact Im.back [true, true, true] rfl rfl
    · refine im_aload_n (pc := 24) dX6_visited_24 rfl rfl ?_
      refine im_aload_n (pc := 25) dX6_visited_25 rfl rfl ?_
      refine im_gr (pc := 26) fl_X6_7 dX6_visited_26 fun r52 => ?_
      refine im_bipush (pc := 29) (v := 48) dX6_visited_29 (by decide) ?_
      refine im_iload_n (pc := 31) dX6_visited_31 rfl rfl ?_
      refine im_iadd (pc := 32) dX6_visited_32 ?_
      refine im_iald (pc := 33) dX6_visited_33 fun x53 => ?_
      refine cl_X6_395 mo_stepsBeside_im (pc := 34) (by decide) dX6_visited_34 (Nat.le_of_ble_eq_true rfl) fun x54 => ?_
      refine im_bipush (pc := 37) (v := (-2)) dX6_visited_37 (by decide) ?_
      refine im_icmp_eq (pc := 39) (tgt := 48) dX6_visited_39 (by decide) ?_ ?_
      · refine im_iinc (pc := 48) (v := (v2 + 1)) (lv' := [some (.inr v0), some (.inl v1), some (.inl (v2 + 1))]) dX6_visited_48 rfl rfl (by decide) rfl ?_
        refine im_goto (pc := 51) (tgt := 10) dX6_visited_51 (by decide) ?_
        exact Im.back [true, true, true] rfl rfl
      · refine im_iload_n (pc := 42) dX6_visited_42 rfl rfl ?_
        refine im_iconst (pc := 43) (v := 1) dX6_visited_43 (by decide) ?_
        refine im_iload_n (pc := 44) dX6_visited_44 rfl rfl ?_
        refine im_ishl (pc := 45) dX6_visited_45 ?_
        refine im_ior (pc := 46) dX6_visited_46 ?_
        refine im_istore_n (pc := 47) (lv' := [some (.inr v0), some (.inl (v1 ||| ((1 : Int32) <<< (v2 &&& 31)))), some (.inl v2)]) dX6_visited_47 rfl (by decide) rfl ?_
        refine im_iinc (pc := 48) (v := (v2 + 1)) (lv' := [some (.inr v0), some (.inl (v1 ||| ((1 : Int32) <<< (v2 &&& 31)))), some (.inl (v2 + 1))]) dX6_visited_48 rfl rfl (by decide) rfl ?_
        refine im_goto (pc := 51) (tgt := 10) dX6_visited_51 (by decide) ?_
        exact Im.back [true, true, true] rfl rfl
theorem mo_visited_L10_ok (X : CT) (v0 : Option Nat) (v1 : Int32) (v2 : Int32) (h : PH) : Im X (cX6_visited, 3, RX6, "visited", (some .int), 4) 10 [some (.inr v0), some (.inl v1), some (.inl v2)] [] h (mo_visited_L10 v0 v1 v2 h) szI (kI X) := by
  unfold mo_visited_L10
  exact Im.iter (lv := (fun s : Int32 × Int32 => [some (.inr v0), some (.inl s.1), some (.inl s.2)])) (hp := (fun s : Int32 × Int32 => h)) (fun s => mo_visited_b10_ok X v0 s.1 s.2 h) _ rfl rfl
noncomputable def mo_visited_0 (v0 : Option Nat) (h : PH) : Option (Int32 × PH) :=
  bd2 (mo_walksFrom v0 0 h) fun x52 h51 =>
  mo_visited_L10 v0 0 0 h51
theorem mo_visited_0_ok (X : CT) (v0 : Option Nat) (h : PH) : Im X (cX6_visited, 3, RX6, "visited", (some .int), 4) 0 [some (.inr v0), none, none] [] h (mo_visited_0 v0 h) szI (kI X) := by
  unfold mo_visited_0
  refine im_aload_n (pc := 0) dX6_visited_0 rfl rfl ?_
  refine im_iconst (pc := 1) (v := 0) dX6_visited_1 (by decide) ?_
  refine cl_X6_389 mo_walksFrom_im (pc := 2) (by decide) dX6_visited_2 (Nat.le_of_ble_eq_true rfl) fun x52 h51 => ?_
  refine im_pop (pc := 5) dX6_visited_5 ?_
  refine im_iconst (pc := 6) (v := 0) dX6_visited_6 (by decide) ?_
  refine im_istore_n (pc := 7) (lv' := [some (.inr v0), some (.inl 0), none]) dX6_visited_7 rfl (by decide) rfl ?_
  refine im_iconst (pc := 8) (v := 0) dX6_visited_8 (by decide) ?_
  refine im_istore_n (pc := 9) (lv' := [some (.inr v0), some (.inl 0), some (.inl 0)]) dX6_visited_9 rfl (by decide) rfl ?_
  exact Im.drop [true, true, true] rfl (mo_visited_L10_ok X v0 0 0 h51)
noncomputable def mo_visited (a0 : Option Nat) (h : PH) : Option (Int32 × PH) := grd (isC [5] a0 h) (mo_visited_0 a0 h)
theorem mo_visited_im : IM_X6_visited mo_visited 4 := by
  intro a0 h r h' e
  obtain ⟨e1, e2⟩ := grd_some e
  exact ⟨e1, SpI.of (k := 2) (plainFor_of_name (by decide)) rfl (fun X => Im.drop [true, false, false] rfl (mo_visited_0_ok X a0 h)) e2⟩
def IM_X6_alike (f : Option Nat → Int32 → Int32 → PH → Option (Int32)) (d : Nat) : Prop := ∀ (a0 : Option Nat) (a1 : Int32) (a2 : Int32) (h : PH) (r : Int32), f a0 a1 a2 h = some r → isC [5] a0 h = true ∧ SpI yX6_alike cX6_alike 7 (some .int) d [.inr a0, .inl a1, .inl a2] h r h
noncomputable def mo_alike_b29 (v0 : Option Nat) (v1 : Int32) (v2 : Int32) (v3 : Int32) (v4 : Int32) (v5 : Int32) (h : PH) : Option ((Int32 × Int32 × Int32) ⊕ (Int32)) :=
  (if 16 ≤ v5 then
  (if v2 = 0 then
  some (.inr v3)
  else
  some (.inr v4))
  else
  (gfr [5] 0 v0 h).bind fun r51 =>
  (ald 0 r51 (16 + v1) h).bind fun x52 =>
  (gfr [5] 0 v0 h).bind fun r53 =>
  (ald 0 r53 (16 + v5) h).bind fun x54 =>
  (mo_bits (x52 ^^^ x54) h).bind fun x55 =>
  (mo_isTold v0 v5 h).bind fun x56 =>
  (if x56 = 0 then
  some (.inl (v3, v4, (v5 + 1)))
  else
  (if v5 = v1 then
  some (.inl (v3, v4, (v5 + 1)))
  else
  (if v3 = (-2) then
  some (.inl (v5, x55, (v5 + 1)))
  else
  (if x55 < v4 then
  some (.inl (v5, x55, (v5 + 1)))
  else
  some (.inl (v3, v4, (v5 + 1))))))))
noncomputable def mo_alike_L29 (v0 : Option Nat) (v1 : Int32) (v2 : Int32) (v3 : Int32) (v4 : Int32) (v5 : Int32) (h : PH) : Option (Int32) :=
  iter (fun s : Int32 × Int32 × Int32 => mo_alike_b29 v0 v1 v2 s.1 s.2.1 s.2.2 h) (v3, v4, v5)
theorem mo_alike_b29_ok (X : CT) (v0 : Option Nat) (v1 : Int32) (v2 : Int32) (v3 : Int32) (v4 : Int32) (v5 : Int32) (h : PH) : Im X (cX6_alike, 7, RX6, "alike", (some .int), 3) 29 [some (.inr v0), some (.inl v1), some (.inl v2), some (.inl v3), some (.inl v4), some (.inl v5), none] [] h (mo_alike_b29 v0 v1 v2 v3 v4 v5 h) (ez (fun s : Int32 × Int32 × Int32 => h) (szP h)) (ek X 29 (fun s : Int32 × Int32 × Int32 => [some (.inr v0), some (.inl v1), some (.inl v2), some (.inl s.1), some (.inl s.2.1), some (.inl s.2.2), none]) (fun s : Int32 × Int32 × Int32 => h) (kP X h)) := by
  unfold mo_alike_b29
  refine im_iload (pc := 29) dX6_alike_29 rfl ?_
  refine im_bipush (pc := 31) (v := 16) dX6_alike_31 (by decide) ?_
  refine im_icmp_ge (pc := 33) (tgt := 105) dX6_alike_33 (by decide) ?_ ?_
  · refine im_iload_n (pc := 105) dX6_alike_105 rfl rfl ?_
    refine im_if_ne (pc := 106) (tgt := 113) dX6_alike_106 (by decide) ?_ ?_
    · refine im_iload (pc := 113) dX6_alike_113 rfl ?_
      exact Im.outS (im_iretP (pc := 115) dX6_alike_115)
    · refine im_iload_n (pc := 109) dX6_alike_109 rfl rfl ?_
      refine im_goto (pc := 110) (tgt := 115) dX6_alike_110 (by decide) ?_
      exact Im.outS (im_iretP (pc := 115) dX6_alike_115)
  · refine im_aload_n (pc := 36) dX6_alike_36 rfl rfl ?_
    refine im_gr (pc := 37) fl_X6_7 dX6_alike_37 fun r51 => ?_
    refine im_bipush (pc := 40) (v := 16) dX6_alike_40 (by decide) ?_
    refine im_iload_n (pc := 42) dX6_alike_42 rfl rfl ?_
    refine im_iadd (pc := 43) dX6_alike_43 ?_
    refine im_iald (pc := 44) dX6_alike_44 fun x52 => ?_
    refine im_aload_n (pc := 45) dX6_alike_45 rfl rfl ?_
    refine im_gr (pc := 46) fl_X6_7 dX6_alike_46 fun r53 => ?_
    refine im_bipush (pc := 49) (v := 16) dX6_alike_49 (by decide) ?_
    refine im_iload (pc := 51) dX6_alike_51 rfl ?_
    refine im_iadd (pc := 53) dX6_alike_53 ?_
    refine im_iald (pc := 54) dX6_alike_54 fun x54 => ?_
    refine im_ixor (pc := 55) dX6_alike_55 ?_
    refine cl_X6_126 mo_bits_im (pc := 56) (by decide) dX6_alike_56 (Nat.le_of_ble_eq_true rfl) fun x55 => ?_
    refine im_istore (pc := 59) (lv' := [some (.inr v0), some (.inl v1), some (.inl v2), some (.inl v3), some (.inl v4), some (.inl v5), some (.inl x55)]) dX6_alike_59 (by decide) rfl ?_
    refine im_aload_n (pc := 61) dX6_alike_61 rfl rfl ?_
    refine im_iload (pc := 62) dX6_alike_62 rfl ?_
    refine cl_X6_108 mo_isTold_im (pc := 64) (by decide) dX6_alike_64 (Nat.le_of_ble_eq_true rfl) fun x56 => ?_
    refine im_if_eq (pc := 67) (tgt := 99) dX6_alike_67 (by decide) ?_ ?_
    · refine im_iinc (pc := 99) (v := (v5 + 1)) (lv' := [some (.inr v0), some (.inl v1), some (.inl v2), some (.inl v3), some (.inl v4), some (.inl (v5 + 1)), some (.inl x55)]) dX6_alike_99 rfl rfl (by decide) rfl ?_
      refine im_goto (pc := 102) (tgt := 29) dX6_alike_102 (by decide) ?_
      exact Im.back [true, true, true, true, true, true, false] rfl rfl
    · refine im_iload (pc := 70) dX6_alike_70 rfl ?_
      refine im_iload_n (pc := 72) dX6_alike_72 rfl rfl ?_
      refine im_icmp_eq (pc := 73) (tgt := 99) dX6_alike_73 (by decide) ?_ ?_
      · refine im_iinc (pc := 99) (v := (v5 + 1)) (lv' := [some (.inr v0), some (.inl v1), some (.inl v2), some (.inl v3), some (.inl v4), some (.inl (v5 + 1)), some (.inl x55)]) dX6_alike_99 rfl rfl (by decide) rfl ?_
        refine im_goto (pc := 102) (tgt := 29) dX6_alike_102 (by decide) ?_
        exact Im.back [true, true, true, true, true, true, false] rfl rfl
      · refine im_iload_n (pc := 76) dX6_alike_76 rfl rfl ?_
        refine im_bipush (pc := 77) (v := (-2)) dX6_alike_77 (by decide) ?_
        refine im_icmp_eq (pc := 79) (tgt := 92) dX6_alike_79 (by decide) ?_ ?_
        · refine im_iload (pc := 92) dX6_alike_92 rfl ?_
          refine im_istore (pc := 94) (lv' := [some (.inr v0), some (.inl v1), some (.inl v2), some (.inl v3), some (.inl x55), some (.inl v5), some (.inl x55)]) dX6_alike_94 (by decide) rfl ?_
          refine im_iload (pc := 96) dX6_alike_96 rfl ?_
          refine im_istore_n (pc := 98) (lv' := [some (.inr v0), some (.inl v1), some (.inl v2), some (.inl v5), some (.inl x55), some (.inl v5), some (.inl x55)]) dX6_alike_98 rfl (by decide) rfl ?_
          refine im_iinc (pc := 99) (v := (v5 + 1)) (lv' := [some (.inr v0), some (.inl v1), some (.inl v2), some (.inl v5), some (.inl x55), some (.inl (v5 + 1)), some (.inl x55)]) dX6_alike_99 rfl rfl (by decide) rfl ?_
          refine im_goto (pc := 102) (tgt := 29) dX6_alike_102 (by decide) ?_
          exact Im.back [true, true, true, true, true, true, false] rfl rfl
        · refine im_iload (pc := 82) dX6_alike_82 rfl ?_
          refine im_iload (pc := 84) dX6_alike_84 rfl ?_
          refine im_icmp_lt (pc := 86) (tgt := 92) dX6_alike_86 (by decide) ?_ ?_
          · refine im_iload (pc := 92) dX6_alike_92 rfl ?_
            refine im_istore (pc := 94) (lv' := [some (.inr v0), some (.inl v1), some (.inl v2), some (.inl v3), some (.inl x55), some (.inl v5), some (.inl x55)]) dX6_alike_94 (by decide) rfl ?_
            refine im_iload (pc := 96) dX6_alike_96 rfl ?_
            refine im_istore_n (pc := 98) (lv' := [some (.inr v0), some (.inl v1), some (.inl v2), some (.inl v5), some (.inl x55), some (.inl v5), some (.inl x55)]) dX6_alike_98 rfl (by decide) rfl ?_
            refine im_iinc (pc := 99) (v := (v5 + 1)) (lv' := [some (.inr v0), some (.inl v1), some (.inl v2), some (.inl v5), some (.inl x55), some (.inl (v5 + 1)), some (.inl x55)]) dX6_alike_99 rfl rfl (by decide) rfl ?_
            refine im_goto (pc := 102) (tgt := 29) dX6_alike_102 (by decide) ?_
            exact Im.back [true, true, true, true, true, true, false] rfl rfl
          · refine im_goto (pc := 89) (tgt := 99) dX6_alike_89 (by decide) ?_
            refine im_iinc (pc := 99) (v := (v5 + 1)) (lv' := [some (.inr v0), some (.inl v1), some (.inl v2), some (.inl v3), some (.inl v4), some (.inl (v5 + 1)), some (.inl x55)]) dX6_alike_99 rfl rfl (by decide) rfl ?_
            refine im_goto (pc := 102) (tgt := 29) dX6_alike_102 (by decide) ?_
            exact Im.back [true, true, true, true, true, true, false] rfl rfl
theorem mo_alike_L29_ok (X : CT) (v0 : Option Nat) (v1 : Int32) (v2 : Int32) (v3 : Int32) (v4 : Int32) (v5 : Int32) (h : PH) : Im X (cX6_alike, 7, RX6, "alike", (some .int), 3) 29 [some (.inr v0), some (.inl v1), some (.inl v2), some (.inl v3), some (.inl v4), some (.inl v5), none] [] h (mo_alike_L29 v0 v1 v2 v3 v4 v5 h) (szP h) (kP X h) := by
  unfold mo_alike_L29
  exact Im.iter (lv := (fun s : Int32 × Int32 × Int32 => [some (.inr v0), some (.inl v1), some (.inl v2), some (.inl s.1), some (.inl s.2.1), some (.inl s.2.2), none])) (hp := (fun s : Int32 × Int32 × Int32 => h)) (fun s => mo_alike_b29_ok X v0 v1 v2 s.1 s.2.1 s.2.2 h) _ rfl rfl
noncomputable def mo_alike_0 (v0 : Option Nat) (v1 : Int32) (v2 : Int32) (h : PH) : Option (Int32) :=
  (mo_isTold v0 v1 h).bind fun x51 =>
  (if x51 = 0 then
  some ((-1))
  else
  (mo_in v2 0 1 h).bind fun x52 =>
  (if x52 = 0 then
  some ((-1))
  else
  mo_alike_L29 v0 v1 v2 (-2) (-2) 0 h))
theorem mo_alike_0_ok (X : CT) (v0 : Option Nat) (v1 : Int32) (v2 : Int32) (h : PH) : Im X (cX6_alike, 7, RX6, "alike", (some .int), 3) 0 [some (.inr v0), some (.inl v1), some (.inl v2), none, none, none, none] [] h (mo_alike_0 v0 v1 v2 h) (szP h) (kP X h) := by
  unfold mo_alike_0
  refine im_aload_n (pc := 0) dX6_alike_0 rfl rfl ?_
  refine im_iload_n (pc := 1) dX6_alike_1 rfl rfl ?_
  refine cl_X6_108 mo_isTold_im (pc := 2) (by decide) dX6_alike_2 (Nat.le_of_ble_eq_true rfl) fun x51 => ?_
  refine im_if_eq (pc := 5) (tgt := 17) dX6_alike_5 (by decide) ?_ ?_
  · refine im_iconst (pc := 17) (v := (-1)) dX6_alike_17 (by decide) ?_
    exact im_iretP (pc := 18) dX6_alike_18
  · refine im_iload_n (pc := 8) dX6_alike_8 rfl rfl ?_
    refine im_iconst (pc := 9) (v := 0) dX6_alike_9 (by decide) ?_
    refine im_iconst (pc := 10) (v := 1) dX6_alike_10 (by decide) ?_
    refine cl_X6_104 mo_in_im (pc := 11) (by decide) dX6_alike_11 (Nat.le_of_ble_eq_true rfl) fun x52 => ?_
    refine im_if_ne (pc := 14) (tgt := 19) dX6_alike_14 (by decide) ?_ ?_
    · refine im_bipush (pc := 19) (v := (-2)) dX6_alike_19 (by decide) ?_
      refine im_istore_n (pc := 21) (lv' := [some (.inr v0), some (.inl v1), some (.inl v2), some (.inl (-2)), none, none, none]) dX6_alike_21 rfl (by decide) rfl ?_
      refine im_bipush (pc := 22) (v := (-2)) dX6_alike_22 (by decide) ?_
      refine im_istore (pc := 24) (lv' := [some (.inr v0), some (.inl v1), some (.inl v2), some (.inl (-2)), some (.inl (-2)), none, none]) dX6_alike_24 (by decide) rfl ?_
      refine im_iconst (pc := 26) (v := 0) dX6_alike_26 (by decide) ?_
      refine im_istore (pc := 27) (lv' := [some (.inr v0), some (.inl v1), some (.inl v2), some (.inl (-2)), some (.inl (-2)), some (.inl 0), none]) dX6_alike_27 (by decide) rfl ?_
      exact Im.drop [true, true, true, true, true, true, false] rfl (mo_alike_L29_ok X v0 v1 v2 (-2) (-2) 0 h)
    · refine im_iconst (pc := 17) (v := (-1)) dX6_alike_17 (by decide) ?_
      exact im_iretP (pc := 18) dX6_alike_18
noncomputable def mo_alike (a0 : Option Nat) (a1 : Int32) (a2 : Int32) (h : PH) : Option (Int32) := grd (isC [5] a0 h) (mo_alike_0 a0 a1 a2 h)
theorem mo_alike_im : IM_X6_alike mo_alike 3 := by
  intro a0 a1 a2 h r e
  obtain ⟨e1, e2⟩ := grd_some e
  exact ⟨e1, SpI.ofP (k := 4) (plainFor_of_name (by decide)) rfl (fun X => Im.drop [true, true, true, false, false, false, false] rfl (mo_alike_0_ok X a0 a1 a2 h)) e2⟩
def IM_X6_seed (f : Option Nat → Int32 → PH → Option (Int32 × PH)) (d : Nat) : Prop := ∀ (a0 : Option Nat) (a1 : Int32) (h : PH) (r : Int32) (h' : PH), f a0 a1 h = some (r, h') → isC [5] a0 h = true ∧ SpI yX6_seed cX6_seed 2 (some .boolean) d [.inr a0, .inl a1] h r h'
noncomputable def mo_seed_0 (v0 : Option Nat) (v1 : Int32) (h : PH) : Option (Int32 × PH) :=
  (mo_in v1 0 65535 h).bind fun x51 =>
  (if x51 = 0 then
  some ((0, h))
  else
  (gfr [5] 0 v0 h).bind fun r52 =>
  (ast 0 r52 65 v1 h).bind fun h53 =>
  some ((1, h53)))
theorem mo_seed_0_ok (X : CT) (v0 : Option Nat) (v1 : Int32) (h : PH) : Im X (cX6_seed, 2, RX6, "seed", (some .boolean), 2) 0 [some (.inr v0), some (.inl v1)] [] h (mo_seed_0 v0 v1 h) szI (kI X) := by
  unfold mo_seed_0
  refine im_iload_n (pc := 0) dX6_seed_0 rfl rfl ?_
  refine im_iconst (pc := 1) (v := 0) dX6_seed_1 (by decide) ?_
  refine im_ldc (pc := 2) q1335 dX6_seed_2 ?_
  refine cl_X6_104 mo_in_im (pc := 4) (by decide) dX6_seed_4 (Nat.le_of_ble_eq_true rfl) fun x51 => ?_
  refine im_if_ne (pc := 7) (tgt := 12) dX6_seed_7 (by decide) ?_ ?_
  · refine im_aload_n (pc := 12) dX6_seed_12 rfl rfl ?_
    refine im_gr (pc := 13) fl_X6_7 dX6_seed_13 fun r52 => ?_
    refine im_bipush (pc := 16) (v := 65) dX6_seed_16 (by decide) ?_
    refine im_iload_n (pc := 18) dX6_seed_18 rfl rfl ?_
    refine im_iast (pc := 19) dX6_seed_19 fun h53 => ?_
    refine im_iconst (pc := 20) (v := 1) dX6_seed_20 (by decide) ?_
    exact im_zretT (pc := 21) (nar_z (Or.inr rfl)) dX6_seed_21
  · refine im_iconst (pc := 10) (v := 0) dX6_seed_10 (by decide) ?_
    exact im_zretT (pc := 11) (nar_z (Or.inl rfl)) dX6_seed_11
noncomputable def mo_seed (a0 : Option Nat) (a1 : Int32) (h : PH) : Option (Int32 × PH) := grd (isC [5] a0 h) (mo_seed_0 a0 a1 h)
theorem mo_seed_im : IM_X6_seed mo_seed 2 := by
  intro a0 a1 h r h' e
  obtain ⟨e1, e2⟩ := grd_some e
  exact ⟨e1, SpI.of (k := 0) (plainFor_of_name (by decide)) rfl (fun X => Im.drop [true, true] rfl (mo_seed_0_ok X a0 a1 h)) e2⟩
theorem fp_X6_398 : ∀ c ∈ [5], FP RX6 398 c 49 .boolean := List.forall_mem_cons.mpr ⟨⟨RX6, TX6, 50, rfl, in_X6, by decide, apt_X6, rfl, by decide +kernel, Or.inl q1226⟩, fun _ h => absurd h List.not_mem_nil⟩
theorem fl_X6_16 : ∀ c ∈ [5], FL RX6 16 c 2 := List.forall_mem_cons.mpr ⟨⟨RX6, TX6, 50, rfl, in_X6, by decide, Or.inl q1179⟩, fun _ h => absurd h List.not_mem_nil⟩
def IM_X6_keep (f : Option Nat → PH → Option (Int32 × PH)) (d : Nat) : Prop := ∀ (a0 : Option Nat) (h : PH) (r : Int32) (h' : PH), f a0 h = some (r, h') → isC [5] a0 h = true ∧ SpI yX6_keep cX6_keep 1 (some .int) d [.inr a0] h r h'
noncomputable def mo_keep_0 (v0 : Option Nat) (h : PH) : Option (Int32 × PH) :=
  (pf [5] 49 v0 (.inl 1) h).bind fun h51 =>
  (gfr [5] 0 v0 h51).bind fun r52 =>
  (gfr [5] 2 v0 h51).bind fun r53 =>
  (mo_copies r52 r53 h51).bind fun h54 =>
  (gfr [5] 0 v0 h54).bind fun r55 =>
  (ald 0 r55 64 h54).bind fun x56 =>
  some ((x56, h54))
theorem mo_keep_0_ok (X : CT) (v0 : Option Nat) (h : PH) : Im X (cX6_keep, 1, RX6, "keep", (some .int), 2) 0 [some (.inr v0)] [] h (mo_keep_0 v0 h) szI (kI X) := by
  unfold mo_keep_0
  refine im_aload_n (pc := 0) dX6_keep_0 rfl rfl ?_
  refine im_iconst (pc := 1) (v := 1) dX6_keep_1 (by decide) ?_
  refine im_pf (pc := 2) fp_X6_398 (okT_z (Or.inr rfl)) dX6_keep_2 fun h51 => ?_
  refine im_aload_n (pc := 5) dX6_keep_5 rfl rfl ?_
  refine im_gr (pc := 6) fl_X6_7 dX6_keep_6 fun r52 => ?_
  refine im_aload_n (pc := 9) dX6_keep_9 rfl rfl ?_
  refine im_gr (pc := 10) fl_X6_16 dX6_keep_10 fun r53 => ?_
  refine cl_X6_266 mo_copies_im (pc := 13) (by decide) dX6_keep_13 (Nat.le_of_ble_eq_true rfl) fun h54 => ?_
  refine im_aload_n (pc := 16) dX6_keep_16 rfl rfl ?_
  refine im_gr (pc := 17) fl_X6_7 dX6_keep_17 fun r55 => ?_
  refine im_bipush (pc := 20) (v := 64) dX6_keep_20 (by decide) ?_
  refine im_iald (pc := 22) dX6_keep_22 fun x56 => ?_
  exact im_iret (pc := 23) dX6_keep_23
noncomputable def mo_keep (a0 : Option Nat) (h : PH) : Option (Int32 × PH) := grd (isC [5] a0 h) (mo_keep_0 a0 h)
theorem mo_keep_im : IM_X6_keep mo_keep 2 := by
  intro a0 h r h' e
  obtain ⟨e1, e2⟩ := grd_some e
  exact ⟨e1, SpI.of (k := 0) (plainFor_of_name (by decide)) rfl (fun X => Im.drop [true] rfl (mo_keep_0_ok X a0 h)) e2⟩
theorem fl_X6_398 : ∀ c ∈ [5], FL RX6 398 c 49 := List.forall_mem_cons.mpr ⟨⟨RX6, TX6, 50, rfl, in_X6, by decide, Or.inl q1226⟩, fun _ h => absurd h List.not_mem_nil⟩
def IM_X6_undo (f : Option Nat → PH → Option (Int32 × PH)) (d : Nat) : Prop := ∀ (a0 : Option Nat) (h : PH) (r : Int32) (h' : PH), f a0 h = some (r, h') → isC [5] a0 h = true ∧ SpI yX6_undo cX6_undo 1 (some .boolean) d [.inr a0] h r h'
noncomputable def mo_undo_0 (v0 : Option Nat) (h : PH) : Option (Int32 × PH) :=
  (gfi [5] 49 v0 h).bind fun x51 =>
  (if x51 = 0 then
  some ((0, h))
  else
  (gfr [5] 2 v0 h).bind fun r52 =>
  (gfr [5] 0 v0 h).bind fun r53 =>
  (mo_copies r52 r53 h).bind fun h54 =>
  some ((1, h54)))
theorem mo_undo_0_ok (X : CT) (v0 : Option Nat) (h : PH) : Im X (cX6_undo, 1, RX6, "undo", (some .boolean), 2) 0 [some (.inr v0)] [] h (mo_undo_0 v0 h) szI (kI X) := by
  unfold mo_undo_0
  refine im_aload_n (pc := 0) dX6_undo_0 rfl rfl ?_
  refine im_gi (pc := 1) fl_X6_398 dX6_undo_1 fun x51 => ?_
  refine im_if_ne (pc := 4) (tgt := 9) dX6_undo_4 (by decide) ?_ ?_
  · refine im_aload_n (pc := 9) dX6_undo_9 rfl rfl ?_
    refine im_gr (pc := 10) fl_X6_16 dX6_undo_10 fun r52 => ?_
    refine im_aload_n (pc := 13) dX6_undo_13 rfl rfl ?_
    refine im_gr (pc := 14) fl_X6_7 dX6_undo_14 fun r53 => ?_
    refine cl_X6_266 mo_copies_im (pc := 17) (by decide) dX6_undo_17 (Nat.le_of_ble_eq_true rfl) fun h54 => ?_
    refine im_iconst (pc := 20) (v := 1) dX6_undo_20 (by decide) ?_
    exact im_zretT (pc := 21) (nar_z (Or.inr rfl)) dX6_undo_21
  · refine im_iconst (pc := 7) (v := 0) dX6_undo_7 (by decide) ?_
    exact im_zretT (pc := 8) (nar_z (Or.inl rfl)) dX6_undo_8
noncomputable def mo_undo (a0 : Option Nat) (h : PH) : Option (Int32 × PH) := grd (isC [5] a0 h) (mo_undo_0 a0 h)
theorem mo_undo_im : IM_X6_undo mo_undo 2 := by
  intro a0 h r h' e
  obtain ⟨e1, e2⟩ := grd_some e
  exact ⟨e1, SpI.of (k := 0) (plainFor_of_name (by decide)) rfl (fun X => Im.drop [true] rfl (mo_undo_0_ok X a0 h)) e2⟩
def IM_X6_check (f : Option Nat → Int32 → PH → Option (Int32 × PH)) (d : Nat) : Prop := ∀ (a0 : Option Nat) (a1 : Int32) (h : PH) (r : Int32) (h' : PH), f a0 a1 h = some (r, h') → isC [5] a0 h = true ∧ SpI yX6_check cX6_check 3 (some .int) d [.inr a0, .inl a1] h r h'
noncomputable def mo_check_59 (v0 : Option Nat) (v1 : Int32) (v2 : Int32) (s0 : Int32) (s1 : Int32) (h : PH) : Option ((Int32) ⊕ (Int32 × PH)) :=
  (if s1 = s0 then
  some (.inl (v2 + 1))
  else
  some (.inr ((v2, h))))
theorem mo_check_59_ok (X : CT) (v0 : Option Nat) (v1 : Int32) (v2 : Int32) (s0 : Int32) (s1 : Int32) (h : PH) : Im X (cX6_check, 3, RX6, "check", (some .int), 3) 59 [some (.inr v0), some (.inl v1), some (.inl v2)] [.inl s0, .inl s1] h (mo_check_59 v0 v1 v2 s0 s1 h) (ez (fun s : Int32 => h) szI) (ek X 28 (fun s : Int32 => [some (.inr v0), some (.inl v1), some (.inl s)]) (fun s : Int32 => h) (kI X)) := by
  unfold mo_check_59
  refine im_icmp_eq (pc := 59) (tgt := 64) dX6_check_59 (by decide) ?_ ?_
  · refine im_iinc (pc := 64) (v := (v2 + 1)) (lv' := [some (.inr v0), some (.inl v1), some (.inl (v2 + 1))]) dX6_check_64 rfl rfl (by decide) rfl ?_
    refine im_goto (pc := 67) (tgt := 28) dX6_check_67 (by decide) ?_
    exact Im.back [true, true, true] rfl rfl
  · refine im_iload_n (pc := 62) dX6_check_62 rfl rfl ?_
    exact Im.outS (im_iret (pc := 63) dX6_check_63)
noncomputable def mo_check_b28 (v0 : Option Nat) (v1 : Int32) (v2 : Int32) (h : PH) : Option ((Int32) ⊕ (Int32 × PH)) :=
  (if v1 ≤ v2 then
  some (.inr (((-1), h)))
  else
  (mo_octet v0 v2 h).bind fun x51 =>
  (mo_isTold v0 v2 h).bind fun x52 =>
  (if x52 = 0 then
  mo_check_59 v0 v1 v2 0 x51 h
  else
  (gfr [5] 0 v0 h).bind fun r53 =>
  (ald 0 r53 (32 + v2) h).bind fun x54 =>
  mo_check_59 v0 v1 v2 x54 x51 h))
noncomputable def mo_check_L28 (v0 : Option Nat) (v1 : Int32) (v2 : Int32) (h : PH) : Option (Int32 × PH) :=
  iter (fun s : Int32 => mo_check_b28 v0 v1 s h) v2
theorem mo_check_b28_ok (X : CT) (v0 : Option Nat) (v1 : Int32) (v2 : Int32) (h : PH) : Im X (cX6_check, 3, RX6, "check", (some .int), 3) 28 [some (.inr v0), some (.inl v1), some (.inl v2)] [] h (mo_check_b28 v0 v1 v2 h) (ez (fun s : Int32 => h) szI) (ek X 28 (fun s : Int32 => [some (.inr v0), some (.inl v1), some (.inl s)]) (fun s : Int32 => h) (kI X)) := by
  unfold mo_check_b28
  refine im_iload_n (pc := 28) dX6_check_28 rfl rfl ?_
  refine im_iload_n (pc := 29) dX6_check_29 rfl rfl ?_
  refine im_icmp_ge (pc := 30) (tgt := 70) dX6_check_30 (by decide) ?_ ?_
  · refine im_iconst (pc := 70) (v := (-1)) dX6_check_70 (by decide) ?_
    exact Im.outS (im_iret (pc := 71) dX6_check_71)
  · refine im_aload_n (pc := 33) dX6_check_33 rfl rfl ?_
    refine im_iload_n (pc := 34) dX6_check_34 rfl rfl ?_
    refine cl_X6_383 mo_octet_im (pc := 35) (by decide) dX6_check_35 (Nat.le_of_ble_eq_true rfl) fun x51 => ?_
    refine im_aload_n (pc := 38) dX6_check_38 rfl rfl ?_
    refine im_iload_n (pc := 39) dX6_check_39 rfl rfl ?_
    refine cl_X6_108 mo_isTold_im (pc := 40) (by decide) dX6_check_40 (Nat.le_of_ble_eq_true rfl) fun x52 => ?_
    refine im_if_eq (pc := 43) (tgt := 58) dX6_check_43 (by decide) ?_ ?_
    · refine im_iconst (pc := 58) (v := 0) dX6_check_58 (by decide) ?_
      exact Im.drop [true, true, true] rfl (mo_check_59_ok X v0 v1 v2 0 x51 h)
    · refine im_aload_n (pc := 46) dX6_check_46 rfl rfl ?_
      refine im_gr (pc := 47) fl_X6_7 dX6_check_47 fun r53 => ?_
      refine im_bipush (pc := 50) (v := 32) dX6_check_50 (by decide) ?_
      refine im_iload_n (pc := 52) dX6_check_52 rfl rfl ?_
      refine im_iadd (pc := 53) dX6_check_53 ?_
      refine im_iald (pc := 54) dX6_check_54 fun x54 => ?_
      refine im_goto (pc := 55) (tgt := 59) dX6_check_55 (by decide) ?_
      exact Im.drop [true, true, true] rfl (mo_check_59_ok X v0 v1 v2 x54 x51 h)
theorem mo_check_L28_ok (X : CT) (v0 : Option Nat) (v1 : Int32) (v2 : Int32) (h : PH) : Im X (cX6_check, 3, RX6, "check", (some .int), 3) 28 [some (.inr v0), some (.inl v1), some (.inl v2)] [] h (mo_check_L28 v0 v1 v2 h) szI (kI X) := by
  unfold mo_check_L28
  exact Im.iter (lv := (fun s : Int32 => [some (.inr v0), some (.inl v1), some (.inl s)])) (hp := (fun s : Int32 => h)) (fun s => mo_check_b28_ok X v0 v1 s h) _ rfl rfl
noncomputable def mo_check_0 (v0 : Option Nat) (v1 : Int32) (h : PH) : Option (Int32 × PH) :=
  (mo_in v1 0 16 h).bind fun x51 =>
  (if x51 = 0 then
  some (((-2), h))
  else
  (gfi [5] 4 v0 h).bind fun x52 =>
  (if v1 ≤ x52 then
  (pf [5] 4 v0 (.inl 0) h).bind fun h53 =>
  mo_check_L28 v0 v1 0 h53
  else
  some (((-2), h))))
theorem mo_check_0_ok (X : CT) (v0 : Option Nat) (v1 : Int32) (h : PH) : Im X (cX6_check, 3, RX6, "check", (some .int), 3) 0 [some (.inr v0), some (.inl v1), none] [] h (mo_check_0 v0 v1 h) szI (kI X) := by
  unfold mo_check_0
  refine im_iload_n (pc := 0) dX6_check_0 rfl rfl ?_
  refine im_iconst (pc := 1) (v := 0) dX6_check_1 (by decide) ?_
  refine im_bipush (pc := 2) (v := 16) dX6_check_2 (by decide) ?_
  refine cl_X6_104 mo_in_im (pc := 4) (by decide) dX6_check_4 (Nat.le_of_ble_eq_true rfl) fun x51 => ?_
  refine im_if_eq (pc := 7) (tgt := 18) dX6_check_7 (by decide) ?_ ?_
  · refine im_bipush (pc := 18) (v := (-2)) dX6_check_18 (by decide) ?_
    exact im_iret (pc := 20) dX6_check_20
  · refine im_iload_n (pc := 10) dX6_check_10 rfl rfl ?_
    refine im_aload_n (pc := 11) dX6_check_11 rfl rfl ?_
    refine im_gi (pc := 12) fl_X6_134 dX6_check_12 fun x52 => ?_
    refine im_icmp_le (pc := 15) (tgt := 21) dX6_check_15 (by decide) ?_ ?_
    · refine im_aload_n (pc := 21) dX6_check_21 rfl rfl ?_
      refine im_iconst (pc := 22) (v := 0) dX6_check_22 (by decide) ?_
      refine im_pf (pc := 23) fp_X6_134 (okT_i _) dX6_check_23 fun h53 => ?_
      refine im_iconst (pc := 26) (v := 0) dX6_check_26 (by decide) ?_
      refine im_istore_n (pc := 27) (lv' := [some (.inr v0), some (.inl v1), some (.inl 0)]) dX6_check_27 rfl (by decide) rfl ?_
      exact Im.drop [true, true, true] rfl (mo_check_L28_ok X v0 v1 0 h53)
    · refine im_bipush (pc := 18) (v := (-2)) dX6_check_18 (by decide) ?_
      exact im_iret (pc := 20) dX6_check_20
noncomputable def mo_check (a0 : Option Nat) (a1 : Int32) (h : PH) : Option (Int32 × PH) := grd (isC [5] a0 h) (mo_check_0 a0 a1 h)
theorem mo_check_im : IM_X6_check mo_check 3 := by
  intro a0 a1 h r h' e
  obtain ⟨e1, e2⟩ := grd_some e
  exact ⟨e1, SpI.of (k := 1) (plainFor_of_name (by decide)) rfl (fun X => Im.drop [true, true, false] rfl (mo_check_0_ok X a0 a1 h)) e2⟩
def IM_X6_count (f : Option Nat → Int32 → PH → Option (Int32)) (d : Nat) : Prop := ∀ (a0 : Option Nat) (a1 : Int32) (h : PH) (r : Int32), f a0 a1 h = some r → isC [5] a0 h = true ∧ SpI yX6_count cX6_count 4 (some .int) d [.inr a0, .inl a1] h r h
noncomputable def mo_count_b91 (v0 : Option Nat) (v2 : Int32) (v3 : Int32) (h : PH) : Option ((Int32 × Int32) ⊕ (Int32)) :=
  (if 16 ≤ v3 then
  some (.inr v2)
  else
  (mo_isTold v0 v3 h).bind fun x51 =>
  (if x51 = 0 then
  some (.inl ((v2 + 0), (v3 + 1)))
  else
  (gfr [5] 0 v0 h).bind fun r52 =>
  (ald 0 r52 (32 + v3) h).bind fun x53 =>
  some (.inl ((v2 + x53), (v3 + 1)))))
noncomputable def mo_count_L91 (v0 : Option Nat) (v2 : Int32) (v3 : Int32) (h : PH) : Option (Int32) :=
  iter (fun s : Int32 × Int32 => mo_count_b91 v0 s.1 s.2 h) (v2, v3)
theorem mo_count_b91_ok (X : CT) (v0 : Option Nat) (v2 : Int32) (v3 : Int32) (h : PH) : Im X (cX6_count, 4, RX6, "count", (some .int), 4) 91 [some (.inr v0), none, some (.inl v2), some (.inl v3)] [] h (mo_count_b91 v0 v2 v3 h) (ez (fun s : Int32 × Int32 => h) (szP h)) (ek X 91 (fun s : Int32 × Int32 => [some (.inr v0), none, some (.inl s.1), some (.inl s.2)]) (fun s : Int32 × Int32 => h) (kP X h)) := by
  unfold mo_count_b91
  refine im_iload_n (pc := 91) dX6_count_91 rfl rfl ?_
  refine im_bipush (pc := 92) (v := 16) dX6_count_92 (by decide) ?_
  refine im_icmp_ge (pc := 94) (tgt := 127) dX6_count_94 (by decide) ?_ ?_
  · refine im_iload_n (pc := 127) dX6_count_127 rfl rfl ?_
    exact Im.outS (im_iretP (pc := 128) dX6_count_128)
  · refine im_iload_n (pc := 97) dX6_count_97 rfl rfl ?_
    refine im_aload_n (pc := 98) dX6_count_98 rfl rfl ?_
    refine im_iload_n (pc := 99) dX6_count_99 rfl rfl ?_
    refine cl_X6_108 mo_isTold_im (pc := 100) (by decide) dX6_count_100 (Nat.le_of_ble_eq_true rfl) fun x51 => ?_
    refine im_if_eq (pc := 103) (tgt := 118) dX6_count_103 (by decide) ?_ ?_
    · refine im_iconst (pc := 118) (v := 0) dX6_count_118 (by decide) ?_
      refine im_iadd (pc := 119) dX6_count_119 ?_
      refine im_istore_n (pc := 120) (lv' := [some (.inr v0), none, some (.inl (v2 + 0)), some (.inl v3)]) dX6_count_120 rfl (by decide) rfl ?_
      refine im_iinc (pc := 121) (v := (v3 + 1)) (lv' := [some (.inr v0), none, some (.inl (v2 + 0)), some (.inl (v3 + 1))]) dX6_count_121 rfl rfl (by decide) rfl ?_
      refine im_goto (pc := 124) (tgt := 91) dX6_count_124 (by decide) ?_
      exact Im.back [true, false, true, true] rfl rfl
    · refine im_aload_n (pc := 106) dX6_count_106 rfl rfl ?_
      refine im_gr (pc := 107) fl_X6_7 dX6_count_107 fun r52 => ?_
      refine im_bipush (pc := 110) (v := 32) dX6_count_110 (by decide) ?_
      refine im_iload_n (pc := 112) dX6_count_112 rfl rfl ?_
      refine im_iadd (pc := 113) dX6_count_113 ?_
      refine im_iald (pc := 114) dX6_count_114 fun x53 => ?_
      refine im_goto (pc := 115) (tgt := 119) dX6_count_115 (by decide) ?_
      refine im_iadd (pc := 119) dX6_count_119 ?_
      refine im_istore_n (pc := 120) (lv' := [some (.inr v0), none, some (.inl (v2 + x53)), some (.inl v3)]) dX6_count_120 rfl (by decide) rfl ?_
      refine im_iinc (pc := 121) (v := (v3 + 1)) (lv' := [some (.inr v0), none, some (.inl (v2 + x53)), some (.inl (v3 + 1))]) dX6_count_121 rfl rfl (by decide) rfl ?_
      refine im_goto (pc := 124) (tgt := 91) dX6_count_124 (by decide) ?_
      exact Im.back [true, false, true, true] rfl rfl
theorem mo_count_L91_ok (X : CT) (v0 : Option Nat) (v2 : Int32) (v3 : Int32) (h : PH) : Im X (cX6_count, 4, RX6, "count", (some .int), 4) 91 [some (.inr v0), none, some (.inl v2), some (.inl v3)] [] h (mo_count_L91 v0 v2 v3 h) (szP h) (kP X h) := by
  unfold mo_count_L91
  exact Im.iter (lv := (fun s : Int32 × Int32 => [some (.inr v0), none, some (.inl s.1), some (.inl s.2)])) (hp := (fun s : Int32 × Int32 => h)) (fun s => mo_count_b91_ok X v0 s.1 s.2 h) _ rfl rfl
noncomputable def mo_count_0 (v0 : Option Nat) (v1 : Int32) (h : PH) : Option (Int32) :=
  (if v1 = 0 then
  (gfr [5] 0 v0 h).bind fun r53 =>
  (ald 0 r53 64 h).bind fun x54 =>
  some (x54)
  else
  (if v1 = 1 then
  (mo_toldSet v0 h).bind fun x55 =>
  some (x55)
  else
  (if v1 = 2 then
  (mo_laidSet v0 h).bind fun x56 =>
  some (x56)
  else
  (if v1 = 3 then
  (gfi [5] 34 v0 h).bind fun x57 =>
  some (x57)
  else
  (if v1 = 4 then
  (gfi [5] 13 v0 h).bind fun x58 =>
  some (x58)
  else
  (if v1 = 5 then
  (gfi [5] 4 v0 h).bind fun x59 =>
  some (x59)
  else
  (if v1 = 6 then
  (gfr [5] 0 v0 h).bind fun r60 =>
  (ald 0 r60 65 h).bind fun x61 =>
  some (x61)
  else
  (if v1 = 7 then
  mo_count_L91 v0 0 0 h
  else
  (mo_in v1 20 79 h).bind fun x51 =>
  (if x51 = 0 then
  some ((-1))
  else
  (mo_whoLies v0 (v1 - 20) h).bind fun x52 =>
  some (x52))))))))))
theorem mo_count_0_ok (X : CT) (v0 : Option Nat) (v1 : Int32) (h : PH) : Im X (cX6_count, 4, RX6, "count", (some .int), 4) 0 [some (.inr v0), some (.inl v1), none, none] [] h (mo_count_0 v0 v1 h) (szP h) (kP X h) := by
  unfold mo_count_0
  refine im_iconst (pc := 0) (v := 0) dX6_count_0 (by decide) ?_
  refine im_istore_n (pc := 1) (lv' := [some (.inr v0), some (.inl v1), some (.inl 0), none]) dX6_count_1 rfl (by decide) rfl ?_
  refine im_iload_n (pc := 2) dX6_count_2 rfl rfl ?_
  refine im_tsw (pc := 3) (dt := 129) [(0, 48), (1, 56), (2, 61), (3, 66), (4, 71), (5, 76), (6, 81), (7, 89)] dX6_count_3 (by decide) ⟨_, _, rfl, ?_, ⟨_, _, rfl, ?_, ⟨_, _, rfl, ?_, ⟨_, _, rfl, ?_, ⟨_, _, rfl, ?_, ⟨_, _, rfl, ?_, ⟨_, _, rfl, ?_, ⟨_, _, rfl, ?_, ?_⟩⟩⟩⟩⟩⟩⟩⟩
  · refine im_aload_n (pc := 48) dX6_count_48 rfl rfl ?_
    refine im_gr (pc := 49) fl_X6_7 dX6_count_49 fun r53 => ?_
    refine im_bipush (pc := 52) (v := 64) dX6_count_52 (by decide) ?_
    refine im_iald (pc := 54) dX6_count_54 fun x54 => ?_
    exact im_iretP (pc := 55) dX6_count_55
  · refine im_aload_n (pc := 56) dX6_count_56 rfl rfl ?_
    refine cl_X6_355 mo_toldSet_im (pc := 57) (by decide) dX6_count_57 (Nat.le_of_ble_eq_true rfl) fun x55 => ?_
    exact im_iretP (pc := 60) dX6_count_60
  · refine im_aload_n (pc := 61) dX6_count_61 rfl rfl ?_
    refine cl_X6_380 mo_laidSet_im (pc := 62) (by decide) dX6_count_62 (Nat.le_of_ble_eq_true rfl) fun x56 => ?_
    exact im_iretP (pc := 65) dX6_count_65
  · refine im_aload_n (pc := 66) dX6_count_66 rfl rfl ?_
    refine im_gi (pc := 67) fl_X6_279 dX6_count_67 fun x57 => ?_
    exact im_iretP (pc := 70) dX6_count_70
  · refine im_aload_n (pc := 71) dX6_count_71 rfl rfl ?_
    refine im_gi (pc := 72) fl_X6_234 dX6_count_72 fun x58 => ?_
    exact im_iretP (pc := 75) dX6_count_75
  · refine im_aload_n (pc := 76) dX6_count_76 rfl rfl ?_
    refine im_gi (pc := 77) fl_X6_134 dX6_count_77 fun x59 => ?_
    exact im_iretP (pc := 80) dX6_count_80
  · refine im_aload_n (pc := 81) dX6_count_81 rfl rfl ?_
    refine im_gr (pc := 82) fl_X6_7 dX6_count_82 fun r60 => ?_
    refine im_bipush (pc := 85) (v := 65) dX6_count_85 (by decide) ?_
    refine im_iald (pc := 87) dX6_count_87 fun x61 => ?_
    exact im_iretP (pc := 88) dX6_count_88
  · refine im_iconst (pc := 89) (v := 0) dX6_count_89 (by decide) ?_
    refine im_istore_n (pc := 90) (lv' := [some (.inr v0), some (.inl v1), some (.inl 0), some (.inl 0)]) dX6_count_90 rfl (by decide) rfl ?_
    exact Im.drop [true, false, true, true] rfl (mo_count_L91_ok X v0 0 0 h)
  · refine im_iload_n (pc := 129) dX6_count_129 rfl rfl ?_
    refine im_bipush (pc := 130) (v := 20) dX6_count_130 (by decide) ?_
    refine im_bipush (pc := 132) (v := 79) dX6_count_132 (by decide) ?_
    refine cl_X6_104 mo_in_im (pc := 134) (by decide) dX6_count_134 (Nat.le_of_ble_eq_true rfl) fun x51 => ?_
    refine im_if_eq (pc := 137) (tgt := 151) dX6_count_137 (by decide) ?_ ?_
    · refine im_iconst (pc := 151) (v := (-1)) dX6_count_151 (by decide) ?_
      exact im_iretP (pc := 152) dX6_count_152
    · refine im_aload_n (pc := 140) dX6_count_140 rfl rfl ?_
      refine im_iload_n (pc := 141) dX6_count_141 rfl rfl ?_
      refine im_bipush (pc := 142) (v := 20) dX6_count_142 (by decide) ?_
      refine im_isub (pc := 144) dX6_count_144 ?_
      refine cl_X6_247 mo_whoLies_im (pc := 145) (by decide) dX6_count_145 (Nat.le_of_ble_eq_true rfl) fun x52 => ?_
      refine im_goto (pc := 148) (tgt := 152) dX6_count_148 (by decide) ?_
      exact im_iretP (pc := 152) dX6_count_152
noncomputable def mo_count (a0 : Option Nat) (a1 : Int32) (h : PH) : Option (Int32) := grd (isC [5] a0 h) (mo_count_0 a0 a1 h)
theorem mo_count_im : IM_X6_count mo_count 4 := by
  intro a0 a1 h r e
  obtain ⟨e1, e2⟩ := grd_some e
  exact ⟨e1, SpI.ofP (k := 2) (plainFor_of_name (by decide)) rfl (fun X => Im.drop [true, true, false, false] rfl (mo_count_0_ok X a0 a1 h)) e2⟩
