set_option maxRecDepth 100000
theorem cl_X3_59 {X : CT} {cc : ByteArray} {nL : Nat} {mn : String} {ret : Option FieldType} {d d0 : Nat} {τ : Type} {pc : Nat} {lv : List (Option PV)} {st : List PV} {h : PH} {sz : τ → Nat × Nat} {K : τ → Prop} {f : Option Nat → Int32 → PH → Option (Int32)} (HR : IM_X3_beside f d0) {a0 : Option Nat} {a1 : Int32} {g : Int32 → Option τ} (hd : d0 + 1 ≤ d) (hdg : decode cc pc = .ok (.invokevirtual 59, 3)) (hst : st.length ≤ 8) (kk : ∀ r, Im X (cc, nL, RX3, mn, ret, d) (pc + 3) lv (.inl r :: st) h (g r) sz K) : Im X (cc, nL, RX3, mn, ret, d) pc lv (.inl a1 :: .inr a0 :: st) h ((f a0 a1 h).bind g) sz K := by
  refine im_cP (y := yX3_beside) (cY := cX3_beside) (nY := 2) (rY := (some .int)) (d' := d0) (av := [.inr a0, .inl a1]) (fun r e hX => ?_) (fun r e => (HR _ _ _ _ e).2) hd (by decide) hst rfl kk
  obtain ⟨a, c, fs, rfl, ec, hm⟩ := isC_some (HR _ _ _ _ e).1
  cases List.mem_singleton.mp hm
  exact cal_V (n := 1) hX (lw_V q827 q828 q829 q109 q830) (by decide +kernel) rfl rfl ec hdg

theorem cl_X3_52 {X : CT} {cc : ByteArray} {nL : Nat} {mn : String} {ret : Option FieldType} {d d0 : Nat} {τ : Type} {pc : Nat} {lv : List (Option PV)} {st : List PV} {h : PH} {sz : τ → Nat × Nat} {K : τ → Prop} {f : Int32 → Int32 → PH → Option (Int32)} (HR : IM_X0_has f d0) {a0 : Int32} {a1 : Int32} {g : Int32 → Option τ} (hd : d0 + 1 ≤ d) (hdg : decode cc pc = .ok (.invokestatic 52, 3)) (hst : st.length ≤ 8) (kk : ∀ r, Im X (cc, nL, RX3, mn, ret, d) (pc + 3) lv (.inl r :: st) h (g r) sz K) : Im X (cc, nL, RX3, mn, ret, d) pc lv (.inl a1 :: .inl a0 :: st) h ((f a0 a1 h).bind g) sz K := by
  refine im_cP (y := yX0_has) (cY := cX0_has) (nY := 2) (rY := (some .boolean)) (d' := d0) (av := [.inl a0, .inl a1]) (fun r e hX => ?_) (fun r e => HR _ _ _ _ e) hd (by decide) hst rfl kk
  exact cal_SN (n := 2) hX (lw_n q899 rfl) q900 q106 q901 (by decide +kernel) rfl hdg

theorem fl_X3_67 : ∀ c ∈ [3], FL RX3 67 c 1 := List.forall_mem_cons.mpr ⟨⟨RX4, TX4, 4, rfl, in_X4, by decide, Or.inr ⟨_, lw_n q199 rfl⟩⟩, fun _ h => absurd h List.not_mem_nil⟩
theorem fl_X3_3 : ∀ c ∈ [2], FL RX3 3 c 5 := List.forall_mem_cons.mpr ⟨⟨RX3, TX3, 6, rfl, in_X3, by decide, Or.inl q228⟩, fun _ h => absurd h List.not_mem_nil⟩
theorem fl_X3_70 : ∀ c ∈ [0], FL RX3 70 c 0 := List.forall_mem_cons.mpr ⟨⟨RX0, TX0, 20, rfl, in_X0, by decide, Or.inr ⟨_, lw_n q273 rfl⟩⟩, fun _ h => absurd h List.not_mem_nil⟩
theorem cl_X3_74 {X : CT} {cc : ByteArray} {nL : Nat} {mn : String} {ret : Option FieldType} {d d0 : Nat} {τ : Type} {pc : Nat} {lv : List (Option PV)} {st : List PV} {h : PH} {sz : τ → Nat × Nat} {K : τ → Prop} {f : Option Nat → Int32 → Option Nat → Option Nat → PH → Option (Option Nat × PH)} (HR : IM_X2_with f d0) {a0 : Option Nat} {a1 : Int32} {a2 : Option Nat} {a3 : Option Nat} {g : Option Nat → PH → Option τ} (hd : d0 + 1 ≤ d) (hdg : decode cc pc = .ok (.invokevirtual 74, 3)) (hst : st.length ≤ 8) (kk : ∀ r h', Im X (cc, nL, RX3, mn, ret, d) (pc + 3) lv (.inr r :: st) h' (g r h') sz K) : Im X (cc, nL, RX3, mn, ret, d) pc lv (.inr a3 :: .inr a2 :: .inl a1 :: .inr a0 :: st) h (bd2 (f a0 a1 a2 a3 h) g) sz K := by
  refine im_cR (y := yX2_with) (cY := cX2_with) (nY := 4) (rY := (some (.object "TalkingPlots$Moment"))) (d' := d0) (av := [.inr a0, .inl a1, .inr a2, .inr a3]) (fun r h' e hX => ?_) (fun r h' e => (HR _ _ _ _ _ _ _ e).2) hd (by decide) hst rfl kk
  obtain ⟨a, c, fs, rfl, ec, hm⟩ := isC_some (HR _ _ _ _ _ _ _ e).1
  cases List.mem_singleton.mp hm
  exact cal_V (n := 3) hX (lw_V q902 q903 q904 q108 q905) (by decide +kernel) rfl rfl ec hdg

theorem cl_X3_80 {X : CT} {cc : ByteArray} {nL : Nat} {mn : String} {ret : Option FieldType} {d d0 : Nat} {τ : Type} {pc : Nat} {lv : List (Option PV)} {st : List PV} {h : PH} {sz : τ → Nat × Nat} {K : τ → Prop} {f : Option Nat → Int32 → Int32 → PH → Option (Int32 × PH)} (HR : IM_X0_tells f d0) {a0 : Option Nat} {a1 : Int32} {a2 : Int32} {g : Int32 → PH → Option τ} (hd : d0 + 1 ≤ d) (hdg : decode cc pc = .ok (.invokevirtual 80, 3)) (hst : st.length ≤ 8) (kk : ∀ r h', Im X (cc, nL, RX3, mn, ret, d) (pc + 3) lv (.inl r :: st) h' (g r h') sz K) : Im X (cc, nL, RX3, mn, ret, d) pc lv (.inl a2 :: .inl a1 :: .inr a0 :: st) h (bd2 (f a0 a1 a2 h) g) sz K := by
  refine im_cI (y := yX0_tells) (cY := cX0_tells) (nY := 3) (rY := (some .int)) (d' := d0) (av := [.inr a0, .inl a1, .inl a2]) (fun r h' e hX => ?_) (fun r h' e => (HR _ _ _ _ _ _ e).2) hd (by decide) hst rfl kk
  obtain ⟨a, c, fs, rfl, ec, hm⟩ := isC_some (HR _ _ _ _ _ _ e).1
  cases List.mem_singleton.mp hm
  exact cal_VN (n := 2) hX (lw_n q912 rfl) q914 q106 q915 qs22 (by decide +kernel) rfl rfl ec hdg

def IM_X3_liked (f : Option Nat → Int32 → PH → Option (Int32 × PH)) (d : Nat) : Prop := ∀ (a0 : Option Nat) (a1 : Int32) (h : PH) (r : Int32) (h' : PH), f a0 a1 h = some (r, h') → isC [2] a0 h = true ∧ SpI yX3_liked cX3_liked 6 (some .int) d [.inr a0, .inl a1] h r h'
noncomputable def yd_liked_b7 (v0 : Option Nat) (v1 : Int32) (v2 : Int32) (v3 : Int32) (v4 : Int32) (h : PH) : Option ((Int32 × Int32 × Int32 × PH) ⊕ (Int32 × PH)) :=
  (if 16 ≤ v4 then
  some (.inr ((v2, h)))
  else
  (yd_beside v0 v1 h).bind fun x51 =>
  (tp_has x51 v4 h).bind fun x52 =>
  (if x52 = 0 then
  some (.inl (v2, v3, (v4 + 1), h))
  else
  (gfr [2] 0 v0 h).bind fun r53 =>
  (aldr 2 r53 v4 h).bind fun r54 =>
  (gfi [3] 1 r54 h).bind fun x55 =>
  (if x55 = 0 then
  some (.inl (v2, v3, (v4 + 1), h))
  else
  (gfr [2] 5 v0 h).bind fun r56 =>
  (gfr [0] 0 r56 h).bind fun r57 =>
  (gfr [2] 0 v0 h).bind fun r58 =>
  (aldr 2 r58 v1 h).bind fun r59 =>
  (gfr [2] 0 v0 h).bind fun r60 =>
  (aldr 2 r60 v4 h).bind fun r61 =>
  bd2 (mt_with r57 v4 r59 r61 h) fun r63 h62 =>
  (gfr [2] 5 v0 h62).bind fun r64 =>
  bd2 (tp_tells r64 101 9999 h62) fun x66 h65 =>
  (if v3 < x66 then
  some (.inl (v4, x66, (v4 + 1), h65))
  else
  some (.inl (v2, v3, (v4 + 1), h65))))))
noncomputable def yd_liked_L7 (v0 : Option Nat) (v1 : Int32) (v2 : Int32) (v3 : Int32) (v4 : Int32) (h : PH) : Option (Int32 × PH) :=
  iter (fun s : Int32 × Int32 × Int32 × PH => yd_liked_b7 v0 v1 s.1 s.2.1 s.2.2.1 s.2.2.2) (v2, v3, v4, h)
theorem yd_liked_b7_ok (X : CT) (v0 : Option Nat) (v1 : Int32) (v2 : Int32) (v3 : Int32) (v4 : Int32) (h : PH) : Im X (cX3_liked, 6, RX3, "liked", (some .int), 93) 7 [some (.inr v0), some (.inl v1), some (.inl v2), some (.inl v3), some (.inl v4), none] [] h (yd_liked_b7 v0 v1 v2 v3 v4 h) (ez (fun s : Int32 × Int32 × Int32 × PH => s.2.2.2) szI) (ek X 7 (fun s : Int32 × Int32 × Int32 × PH => [some (.inr v0), some (.inl v1), some (.inl s.1), some (.inl s.2.1), some (.inl s.2.2.1), none]) (fun s : Int32 × Int32 × Int32 × PH => s.2.2.2) (kI X)) := by
  unfold yd_liked_b7
  refine im_iload (pc := 7) dX3_liked_7 rfl ?_
  refine im_bipush (pc := 9) (v := 16) dX3_liked_9 (by decide) ?_
  refine im_icmp_ge (pc := 11) (tgt := 104) dX3_liked_11 (by decide) ?_ ?_
  · refine im_iload_n (pc := 104) dX3_liked_104 rfl rfl ?_
    exact Im.outS (im_iret (pc := 105) dX3_liked_105)
  · refine im_aload_n (pc := 14) dX3_liked_14 rfl rfl ?_
    refine im_iload_n (pc := 15) dX3_liked_15 rfl rfl ?_
    refine cl_X3_59 yd_beside_im (pc := 16) (by decide) dX3_liked_16 (Nat.le_of_ble_eq_true rfl) fun x51 => ?_
    refine im_iload (pc := 19) dX3_liked_19 rfl ?_
    refine cl_X3_52 tp_has_im (pc := 21) (by decide) dX3_liked_21 (Nat.le_of_ble_eq_true rfl) fun x52 => ?_
    refine im_if_eq (pc := 24) (tgt := 98) dX3_liked_24 (by decide) ?_ ?_
    · refine im_iinc (pc := 98) (v := (v4 + 1)) (lv' := [some (.inr v0), some (.inl v1), some (.inl v2), some (.inl v3), some (.inl (v4 + 1)), none]) dX3_liked_98 rfl rfl (by decide) rfl ?_
      refine im_goto (pc := 101) (tgt := 7) dX3_liked_101 (by decide) ?_
      exact Im.back [true, true, true, true, true, false] rfl rfl
    · refine im_aload_n (pc := 27) dX3_liked_27 rfl rfl ?_
      refine im_gr (pc := 28) fl_X3_17 dX3_liked_28 fun r53 => ?_
      refine im_iload (pc := 31) dX3_liked_31 rfl ?_
      refine im_aald (pc := 33) (t := 2) (by decide) (by decide) dX3_liked_33 fun r54 => ?_
      refine im_gi (pc := 34) fl_X3_67 dX3_liked_34 fun x55 => ?_
      refine im_if_ne (pc := 37) (tgt := 43) dX3_liked_37 (by decide) ?_ ?_
      · refine im_aload_n (pc := 43) dX3_liked_43 rfl rfl ?_
        refine im_gr (pc := 44) fl_X3_3 dX3_liked_44 fun r56 => ?_
        refine im_gr (pc := 47) fl_X3_70 dX3_liked_47 fun r57 => ?_
        refine im_iload (pc := 50) dX3_liked_50 rfl ?_
        refine im_aload_n (pc := 52) dX3_liked_52 rfl rfl ?_
        refine im_gr (pc := 53) fl_X3_17 dX3_liked_53 fun r58 => ?_
        refine im_iload_n (pc := 56) dX3_liked_56 rfl rfl ?_
        refine im_aald (pc := 57) (t := 2) (by decide) (by decide) dX3_liked_57 fun r59 => ?_
        refine im_aload_n (pc := 58) dX3_liked_58 rfl rfl ?_
        refine im_gr (pc := 59) fl_X3_17 dX3_liked_59 fun r60 => ?_
        refine im_iload (pc := 62) dX3_liked_62 rfl ?_
        refine im_aald (pc := 64) (t := 2) (by decide) (by decide) dX3_liked_64 fun r61 => ?_
        refine cl_X3_74 mt_with_im (pc := 65) (by decide) dX3_liked_65 (Nat.le_of_ble_eq_true rfl) fun r63 h62 => ?_
        refine im_pop (pc := 68) dX3_liked_68 ?_
        refine im_aload_n (pc := 69) dX3_liked_69 rfl rfl ?_
        refine im_gr (pc := 70) fl_X3_3 dX3_liked_70 fun r64 => ?_
        refine im_bipush (pc := 73) (v := 101) dX3_liked_73 (by decide) ?_
        refine im_sipush (pc := 75) (v := 9999) dX3_liked_75 (by decide) ?_
        refine cl_X3_80 tp_tells_im (pc := 78) (by decide) dX3_liked_78 (Nat.le_of_ble_eq_true rfl) fun x66 h65 => ?_
        refine im_istore (pc := 81) (lv' := [some (.inr v0), some (.inl v1), some (.inl v2), some (.inl v3), some (.inl v4), some (.inl x66)]) dX3_liked_81 (by decide) rfl ?_
        refine im_iload (pc := 83) dX3_liked_83 rfl ?_
        refine im_iload_n (pc := 85) dX3_liked_85 rfl rfl ?_
        refine im_icmp_gt (pc := 86) (tgt := 92) dX3_liked_86 (by decide) ?_ ?_
        · refine im_iload (pc := 92) dX3_liked_92 rfl ?_
          refine im_istore_n (pc := 94) (lv' := [some (.inr v0), some (.inl v1), some (.inl v4), some (.inl v3), some (.inl v4), some (.inl x66)]) dX3_liked_94 rfl (by decide) rfl ?_
          refine im_iload (pc := 95) dX3_liked_95 rfl ?_
          refine im_istore_n (pc := 97) (lv' := [some (.inr v0), some (.inl v1), some (.inl v4), some (.inl x66), some (.inl v4), some (.inl x66)]) dX3_liked_97 rfl (by decide) rfl ?_
          refine im_iinc (pc := 98) (v := (v4 + 1)) (lv' := [some (.inr v0), some (.inl v1), some (.inl v4), some (.inl x66), some (.inl (v4 + 1)), some (.inl x66)]) dX3_liked_98 rfl rfl (by decide) rfl ?_
          refine im_goto (pc := 101) (tgt := 7) dX3_liked_101 (by decide) ?_
          exact Im.back [true, true, true, true, true, false] rfl rfl
        · refine im_goto (pc := 89) (tgt := 98) dX3_liked_89 (by decide) ?_
          refine im_iinc (pc := 98) (v := (v4 + 1)) (lv' := [some (.inr v0), some (.inl v1), some (.inl v2), some (.inl v3), some (.inl (v4 + 1)), some (.inl x66)]) dX3_liked_98 rfl rfl (by decide) rfl ?_
          refine im_goto (pc := 101) (tgt := 7) dX3_liked_101 (by decide) ?_
          exact Im.back [true, true, true, true, true, false] rfl rfl
      · refine im_goto (pc := 40) (tgt := 98) dX3_liked_40 (by decide) ?_
        refine im_iinc (pc := 98) (v := (v4 + 1)) (lv' := [some (.inr v0), some (.inl v1), some (.inl v2), some (.inl v3), some (.inl (v4 + 1)), none]) dX3_liked_98 rfl rfl (by decide) rfl ?_
        refine im_goto (pc := 101) (tgt := 7) dX3_liked_101 (by decide) ?_
        exact Im.back [true, true, true, true, true, false] rfl rfl
theorem yd_liked_L7_ok (X : CT) (v0 : Option Nat) (v1 : Int32) (v2 : Int32) (v3 : Int32) (v4 : Int32) (h : PH) : Im X (cX3_liked, 6, RX3, "liked", (some .int), 93) 7 [some (.inr v0), some (.inl v1), some (.inl v2), some (.inl v3), some (.inl v4), none] [] h (yd_liked_L7 v0 v1 v2 v3 v4 h) szI (kI X) := by
  unfold yd_liked_L7
  exact Im.iter (lv := (fun s : Int32 × Int32 × Int32 × PH => [some (.inr v0), some (.inl v1), some (.inl s.1), some (.inl s.2.1), some (.inl s.2.2.1), none])) (hp := (fun s : Int32 × Int32 × Int32 × PH => s.2.2.2)) (fun s => yd_liked_b7_ok X v0 v1 s.1 s.2.1 s.2.2.1 s.2.2.2) _ rfl rfl
noncomputable def yd_liked_0 (v0 : Option Nat) (v1 : Int32) (h : PH) : Option (Int32 × PH) :=
  yd_liked_L7 v0 v1 (-1) 0 0 h
theorem yd_liked_0_ok (X : CT) (v0 : Option Nat) (v1 : Int32) (h : PH) : Im X (cX3_liked, 6, RX3, "liked", (some .int), 93) 0 [some (.inr v0), some (.inl v1), none, none, none, none] [] h (yd_liked_0 v0 v1 h) szI (kI X) := by
  unfold yd_liked_0
  refine im_iconst (pc := 0) (v := (-1)) dX3_liked_0 (by decide) ?_
  refine im_istore_n (pc := 1) (lv' := [some (.inr v0), some (.inl v1), some (.inl (-1)), none, none, none]) dX3_liked_1 rfl (by decide) rfl ?_
  refine im_iconst (pc := 2) (v := 0) dX3_liked_2 (by decide) ?_
  refine im_istore_n (pc := 3) (lv' := [some (.inr v0), some (.inl v1), some (.inl (-1)), some (.inl 0), none, none]) dX3_liked_3 rfl (by decide) rfl ?_
  refine im_iconst (pc := 4) (v := 0) dX3_liked_4 (by decide) ?_
  refine im_istore (pc := 5) (lv' := [some (.inr v0), some (.inl v1), some (.inl (-1)), some (.inl 0), some (.inl 0), none]) dX3_liked_5 (by decide) rfl ?_
  exact Im.drop [true, true, true, true, true, false] rfl (yd_liked_L7_ok X v0 v1 (-1) 0 0 h)
noncomputable def yd_liked (a0 : Option Nat) (a1 : Int32) (h : PH) : Option (Int32 × PH) := grd (isC [2] a0 h) (yd_liked_0 a0 a1 h)
theorem yd_liked_im : IM_X3_liked yd_liked 93 := by
  intro a0 a1 h r h' e
  obtain ⟨e1, e2⟩ := grd_some e
  exact ⟨e1, SpI.of (k := 4) (plainFor_of_name (by decide)) rfl (fun X => Im.drop [true, true, false, false, false, false] rfl (yd_liked_0_ok X a0 a1 h)) e2⟩
def IM_X3_draw (f : Option Nat → PH → Option (Int32 × PH)) (d : Nat) : Prop := ∀ (a0 : Option Nat) (h : PH) (r : Int32) (h' : PH), f a0 h = some (r, h') → isC [2] a0 h = true ∧ SpI yX3_draw cX3_draw 1 (some .int) d [.inr a0] h r h'
noncomputable def yd_draw_0 (v0 : Option Nat) (h : PH) : Option (Int32 × PH) :=
  (gfi [2] 2 v0 h).bind fun x51 =>
  (pf [2] 2 v0 (.inl (irm ((25173 * x51) + 13849) 65536)) h).bind fun h52 =>
  (gfi [2] 2 v0 h52).bind fun x53 =>
  some (((irm x53 10), h52))
theorem yd_draw_0_ok (X : CT) (v0 : Option Nat) (h : PH) : Im X (cX3_draw, 1, RX3, "draw", (some .int), 1) 0 [some (.inr v0)] [] h (yd_draw_0 v0 h) szI (kI X) := by
  unfold yd_draw_0
  refine im_aload_n (pc := 0) dX3_draw_0 rfl rfl ?_
  refine im_sipush (pc := 1) (v := 25173) dX3_draw_1 (by decide) ?_
  refine im_aload_n (pc := 4) dX3_draw_4 rfl rfl ?_
  refine im_gi (pc := 5) fl_X3_30 dX3_draw_5 fun x51 => ?_
  refine im_imul (pc := 8) dX3_draw_8 ?_
  refine im_sipush (pc := 9) (v := 13849) dX3_draw_9 (by decide) ?_
  refine im_iadd (pc := 12) dX3_draw_12 ?_
  refine im_ldc (pc := 13) q937 dX3_draw_13 ?_
  refine im_iremC (pc := 15) (by decide) dX3_draw_15 ?_
  refine im_pf (pc := 16) fp_X3_30 (okT_i _) dX3_draw_16 fun h52 => ?_
  refine im_aload_n (pc := 19) dX3_draw_19 rfl rfl ?_
  refine im_gi (pc := 20) fl_X3_30 dX3_draw_20 fun x53 => ?_
  refine im_bipush (pc := 23) (v := 10) dX3_draw_23 (by decide) ?_
  refine im_iremC (pc := 25) (by decide) dX3_draw_25 ?_
  exact im_iret (pc := 26) dX3_draw_26
noncomputable def yd_draw (a0 : Option Nat) (h : PH) : Option (Int32 × PH) := grd (isC [2] a0 h) (yd_draw_0 a0 h)
theorem yd_draw_im : IM_X3_draw yd_draw 1 := by
  intro a0 h r h' e
  obtain ⟨e1, e2⟩ := grd_some e
  exact ⟨e1, SpI.of (k := 0) (plainFor_of_name (by decide)) rfl (fun X => Im.drop [true] rfl (yd_draw_0_ok X a0 h)) e2⟩
theorem fl_X3_83 : ∀ c ∈ [3], FL RX3 83 c 0 := List.forall_mem_cons.mpr ⟨⟨RX4, TX4, 4, rfl, in_X4, by decide, Or.inr ⟨_, lw_n q196 rfl⟩⟩, fun _ h => absurd h List.not_mem_nil⟩
theorem fp_X3_83 : ∀ c ∈ [3], FP RX3 83 c 0 .int := List.forall_mem_cons.mpr ⟨⟨RX4, TX4, 4, rfl, in_X4, by decide, apt_X4, rfl, by decide +kernel, Or.inr ⟨_, lw_n q196 rfl⟩⟩, fun _ h => absurd h List.not_mem_nil⟩
theorem fl_X3_86 : ∀ c ∈ [2], FL RX3 86 c 4 := List.forall_mem_cons.mpr ⟨⟨RX3, TX3, 6, rfl, in_X3, by decide, Or.inl q226⟩, fun _ h => absurd h List.not_mem_nil⟩
theorem fp_X3_86 : ∀ c ∈ [2], FP RX3 86 c 4 .int := List.forall_mem_cons.mpr ⟨⟨RX3, TX3, 6, rfl, in_X3, by decide, apt_X3, rfl, by decide +kernel, Or.inl q226⟩, fun _ h => absurd h List.not_mem_nil⟩
def IM_X3_learns (f : Option Nat → Option Nat → Option Nat → PH → Option (PH)) (d : Nat) : Prop := ∀ (a0 : Option Nat) (a1 : Option Nat) (a2 : Option Nat) (h : PH) (h' : PH), f a0 a1 a2 h = some h' → isC [2] a0 h = true ∧ SpV yX3_learns cX3_learns 4 none d [.inr a0, .inr a1, .inr a2] h h'
noncomputable def yd_learns_0 (v0 : Option Nat) (v1 : Option Nat) (v2 : Option Nat) (h : PH) : Option (PH) :=
  (gfi [3] 0 v2 h).bind fun x51 =>
  (gfi [3] 0 v1 h).bind fun x52 =>
  (if (x51 &&& (x52 ^^^ (-1))) = 0 then
  some (h)
  else
  (gfi [3] 0 v1 h).bind fun x53 =>
  (pf [3] 0 v1 (.inl (x53 ||| ((x51 &&& (x52 ^^^ (-1))) &&& (-(x51 &&& (x52 ^^^ (-1))))))) h).bind fun h54 =>
  (gfi [2] 4 v0 h54).bind fun x55 =>
  (pf [2] 4 v0 (.inl (x55 + 1)) h54).bind fun h56 =>
  some (h56))
theorem yd_learns_0_ok (X : CT) (v0 : Option Nat) (v1 : Option Nat) (v2 : Option Nat) (h : PH) : Im X (cX3_learns, 4, RX3, "learns", none, 1) 0 [some (.inr v0), some (.inr v1), some (.inr v2), none] [] h (yd_learns_0 v0 v1 v2 h) szV (kV X) := by
  unfold yd_learns_0
  refine im_aload_n (pc := 0) dX3_learns_0 rfl rfl ?_
  refine im_gi (pc := 1) fl_X3_83 dX3_learns_1 fun x51 => ?_
  refine im_aload_n (pc := 4) dX3_learns_4 rfl rfl ?_
  refine im_gi (pc := 5) fl_X3_83 dX3_learns_5 fun x52 => ?_
  refine im_iconst (pc := 8) (v := (-1)) dX3_learns_8 (by decide) ?_
  refine im_ixor (pc := 9) dX3_learns_9 ?_
  refine im_iand (pc := 10) dX3_learns_10 ?_
  refine im_istore_n (pc := 11) (lv' := [some (.inr v0), some (.inr v1), some (.inr v2), some (.inl (x51 &&& (x52 ^^^ (-1))))]) dX3_learns_11 rfl (by decide) rfl ?_
  refine im_iload_n (pc := 12) dX3_learns_12 rfl rfl ?_
  refine im_if_ne (pc := 13) (tgt := 17) dX3_learns_13 (by decide) ?_ ?_
  · refine im_aload_n (pc := 17) dX3_learns_17 rfl rfl ?_
    refine im_dup (pc := 18) dX3_learns_18 ?_
    refine im_gi (pc := 19) fl_X3_83 dX3_learns_19 fun x53 => ?_
    refine im_iload_n (pc := 22) dX3_learns_22 rfl rfl ?_
    refine im_iload_n (pc := 23) dX3_learns_23 rfl rfl ?_
    refine im_ineg (pc := 24) dX3_learns_24 ?_
    refine im_iand (pc := 25) dX3_learns_25 ?_
    refine im_ior (pc := 26) dX3_learns_26 ?_
    refine im_pf (pc := 27) fp_X3_83 (okT_i _) dX3_learns_27 fun h54 => ?_
    refine im_aload_n (pc := 30) dX3_learns_30 rfl rfl ?_
    refine im_dup (pc := 31) dX3_learns_31 ?_
    refine im_gi (pc := 32) fl_X3_86 dX3_learns_32 fun x55 => ?_
    refine im_iconst (pc := 35) (v := 1) dX3_learns_35 (by decide) ?_
    refine im_iadd (pc := 36) dX3_learns_36 ?_
    refine im_pf (pc := 37) fp_X3_86 (okT_i _) dX3_learns_37 fun h56 => ?_
    exact im_vret (pc := 40) dX3_learns_40
  · exact im_vret (pc := 16) dX3_learns_16
noncomputable def yd_learns (a0 : Option Nat) (a1 : Option Nat) (a2 : Option Nat) (h : PH) : Option (PH) := grd (isC [2] a0 h) (yd_learns_0 a0 a1 a2 h)
theorem yd_learns_im : IM_X3_learns yd_learns 1 := by
  intro a0 a1 a2 h h' e
  obtain ⟨e1, e2⟩ := grd_some e
  exact ⟨e1, SpV.of (k := 1) (plainFor_of_name (by decide)) rfl (fun X => Im.drop [true, true, true, false] rfl (yd_learns_0_ok X a0 a1 a2 h)) e2⟩
theorem cl_X3_89 {X : CT} {cc : ByteArray} {nL : Nat} {mn : String} {ret : Option FieldType} {d d0 : Nat} {τ : Type} {pc : Nat} {lv : List (Option PV)} {st : List PV} {h : PH} {sz : τ → Nat × Nat} {K : τ → Prop} {f : Int32 → PH → Option (Int32)} (HR : IM_J6_bitCount f d0) {a0 : Int32} {g : Int32 → Option τ} (hd : d0 + 1 ≤ d) (hdg : decode cc pc = .ok (.invokestatic 89, 3)) (hst : st.length ≤ 8) (kk : ∀ r, Im X (cc, nL, RX3, mn, ret, d) (pc + 3) lv (.inl r :: st) h (g r) sz K) : Im X (cc, nL, RX3, mn, ret, d) pc lv (.inl a0 :: st) h ((f a0 h).bind g) sz K := by
  refine im_cP (y := yJ6_bitCount) (cY := cJ6_bitCount) (nY := 1) (rY := (some .int)) (d' := d0) (av := [.inl a0]) (fun r e hX => ?_) (fun r e => HR _ _ _ e) hd (by decide) hst rfl kk
  exact cal_S (n := 1) hX (lw_S q845 q846 q131 q847) (by decide +kernel) rfl hdg

theorem fl_X3_94 : ∀ c ∈ [0], FL RX3 94 c 5 := List.forall_mem_cons.mpr ⟨⟨RX0, TX0, 20, rfl, in_X0, by decide, Or.inr ⟨_, lw_n q282 rfl⟩⟩, fun _ h => absurd h List.not_mem_nil⟩
theorem cl_X3_98 {X : CT} {cc : ByteArray} {nL : Nat} {mn : String} {ret : Option FieldType} {d d0 : Nat} {τ : Type} {pc : Nat} {lv : List (Option PV)} {st : List PV} {h : PH} {sz : τ → Nat × Nat} {K : τ → Prop} {f : Option Nat → Int32 → Int32 → Int32 → Int32 → PH → Option (Option Nat × PH)} (HR : IM_X2_of f d0) {a0 : Option Nat} {a1 : Int32} {a2 : Int32} {a3 : Int32} {a4 : Int32} {g : Option Nat → PH → Option τ} (hd : d0 + 1 ≤ d) (hdg : decode cc pc = .ok (.invokevirtual 98, 3)) (hst : st.length ≤ 8) (kk : ∀ r h', Im X (cc, nL, RX3, mn, ret, d) (pc + 3) lv (.inr r :: st) h' (g r h') sz K) : Im X (cc, nL, RX3, mn, ret, d) pc lv (.inl a4 :: .inl a3 :: .inl a2 :: .inl a1 :: .inr a0 :: st) h (bd2 (f a0 a1 a2 a3 a4 h) g) sz K := by
  refine im_cR (y := yX2_of) (cY := cX2_of) (nY := 5) (rY := (some (.object "TalkingPlots$Moment"))) (d' := d0) (av := [.inr a0, .inl a1, .inl a2, .inl a3, .inl a4]) (fun r h' e hX => ?_) (fun r h' e => (HR _ _ _ _ _ _ _ _ e).2) hd (by decide) hst rfl kk
  obtain ⟨a, c, fs, rfl, ec, hm⟩ := isC_some (HR _ _ _ _ _ _ _ _ e).1
  cases List.mem_singleton.mp hm
  exact cal_V (n := 4) hX (lw_V q851 q852 q853 q108 q854) (by decide +kernel) rfl rfl ec hdg

theorem cl_X3_102 {X : CT} {cc : ByteArray} {nL : Nat} {mn : String} {ret : Option FieldType} {d d0 : Nat} {τ : Type} {pc : Nat} {lv : List (Option PV)} {st : List PV} {h : PH} {sz : τ → Nat × Nat} {K : τ → Prop} {f : Option Nat → Int32 → Option Nat → PH → Option (Int32 × PH)} (HR : IM_X5_says f d0) {a0 : Option Nat} {a1 : Int32} {a2 : Option Nat} {g : Int32 → PH → Option τ} (hd : d0 + 1 ≤ d) (hdg : decode cc pc = .ok (.invokevirtual 102, 3)) (hst : st.length ≤ 8) (kk : ∀ r h', Im X (cc, nL, RX3, mn, ret, d) (pc + 3) lv (.inl r :: st) h' (g r h') sz K) : Im X (cc, nL, RX3, mn, ret, d) pc lv (.inr a2 :: .inl a1 :: .inr a0 :: st) h (bd2 (f a0 a1 a2 h) g) sz K := by
  refine im_cI (y := yX5_says) (cY := cX5_says) (nY := 4) (rY := (some .boolean)) (d' := d0) (av := [.inr a0, .inl a1, .inr a2]) (fun r h' e hX => ?_) (fun r h' e => (HR _ _ _ _ _ _ e).2) hd (by decide) hst rfl kk
  obtain ⟨a, c, fs, rfl, ec, hm⟩ := isC_some (HR _ _ _ _ _ _ e).1
  cases List.mem_singleton.mp hm
  exact cal_V (n := 2) hX (lw_V q855 q856 q857 q111 q858) (by decide +kernel) rfl rfl ec hdg

theorem cl_X3_108 {X : CT} {cc : ByteArray} {nL : Nat} {mn : String} {ret : Option FieldType} {d d0 : Nat} {τ : Type} {pc : Nat} {lv : List (Option PV)} {st : List PV} {h : PH} {sz : τ → Nat × Nat} {K : τ → Prop} {f : Option Nat → Int32 → PH → Option (Int32 × PH)} (HR : IM_X3_liked f d0) {a0 : Option Nat} {a1 : Int32} {g : Int32 → PH → Option τ} (hd : d0 + 1 ≤ d) (hdg : decode cc pc = .ok (.invokevirtual 108, 3)) (hst : st.length ≤ 8) (kk : ∀ r h', Im X (cc, nL, RX3, mn, ret, d) (pc + 3) lv (.inl r :: st) h' (g r h') sz K) : Im X (cc, nL, RX3, mn, ret, d) pc lv (.inl a1 :: .inr a0 :: st) h (bd2 (f a0 a1 h) g) sz K := by
  refine im_cI (y := yX3_liked) (cY := cX3_liked) (nY := 6) (rY := (some .int)) (d' := d0) (av := [.inr a0, .inl a1]) (fun r h' e hX => ?_) (fun r h' e => (HR _ _ _ _ _ e).2) hd (by decide) hst rfl kk
  obtain ⟨a, c, fs, rfl, ec, hm⟩ := isC_some (HR _ _ _ _ _ e).1
  cases List.mem_singleton.mp hm
  exact cal_V (n := 1) hX (lw_V q895 q897 qs21 q109 q898) (by decide +kernel) rfl rfl ec hdg

theorem fl_X3_111 : ∀ c ∈ [2], FL RX3 111 c 3 := List.forall_mem_cons.mpr ⟨⟨RX3, TX3, 6, rfl, in_X3, by decide, Or.inl q224⟩, fun _ h => absurd h List.not_mem_nil⟩
theorem fp_X3_111 : ∀ c ∈ [2], FP RX3 111 c 3 .int := List.forall_mem_cons.mpr ⟨⟨RX3, TX3, 6, rfl, in_X3, by decide, apt_X3, rfl, by decide +kernel, Or.inl q224⟩, fun _ h => absurd h List.not_mem_nil⟩
theorem cl_X3_114 {X : CT} {cc : ByteArray} {nL : Nat} {mn : String} {ret : Option FieldType} {d d0 : Nat} {τ : Type} {pc : Nat} {lv : List (Option PV)} {st : List PV} {h : PH} {sz : τ → Nat × Nat} {K : τ → Prop} {f : Option Nat → PH → Option (Int32 × PH)} (HR : IM_X3_draw f d0) {a0 : Option Nat} {g : Int32 → PH → Option τ} (hd : d0 + 1 ≤ d) (hdg : decode cc pc = .ok (.invokevirtual 114, 3)) (hst : st.length ≤ 8) (kk : ∀ r h', Im X (cc, nL, RX3, mn, ret, d) (pc + 3) lv (.inl r :: st) h' (g r h') sz K) : Im X (cc, nL, RX3, mn, ret, d) pc lv (.inr a0 :: st) h (bd2 (f a0 h) g) sz K := by
  refine im_cI (y := yX3_draw) (cY := cX3_draw) (nY := 1) (rY := (some .int)) (d' := d0) (av := [.inr a0]) (fun r h' e hX => ?_) (fun r h' e => (HR _ _ _ _ e).2) hd (by decide) hst rfl kk
  obtain ⟨a, c, fs, rfl, ec, hm⟩ := isC_some (HR _ _ _ _ e).1
  cases List.mem_singleton.mp hm
  exact cal_V (n := 0) hX (lw_V q933 q935 qs23 q109 q936) (by decide +kernel) rfl rfl ec hdg

theorem cl_X3_118 {X : CT} {cc : ByteArray} {nL : Nat} {mn : String} {ret : Option FieldType} {d d0 : Nat} {τ : Type} {pc : Nat} {lv : List (Option PV)} {st : List PV} {h : PH} {sz : τ → Nat × Nat} {K : τ → Prop} {f : Option Nat → Option Nat → Option Nat → PH → Option (PH)} (HR : IM_X3_learns f d0) {a0 : Option Nat} {a1 : Option Nat} {a2 : Option Nat} {g : PH → Option τ} (hd : d0 + 1 ≤ d) (hdg : decode cc pc = .ok (.invokevirtual 118, 3)) (hst : st.length ≤ 8) (kk : ∀ h', Im X (cc, nL, RX3, mn, ret, d) (pc + 3) lv st h' (g h') sz K) : Im X (cc, nL, RX3, mn, ret, d) pc lv (.inr a2 :: .inr a1 :: .inr a0 :: st) h ((f a0 a1 a2 h).bind g) sz K := by
  refine im_cV (y := yX3_learns) (cY := cX3_learns) (nY := 4) (rY := none) (d' := d0) (av := [.inr a0, .inr a1, .inr a2]) (fun h' e hX => ?_) (fun h' e => (HR _ _ _ _ _ e).2) hd (by decide) hst rfl kk
  obtain ⟨a, c, fs, rfl, ec, hm⟩ := isC_some (HR _ _ _ _ _ e).1
  cases List.mem_singleton.mp hm
  exact cal_V (n := 2) hX (lw_V q938 q940 qs24 q109 q941) (by decide +kernel) rfl rfl ec hdg

theorem cl_X3_122 {X : CT} {cc : ByteArray} {nL : Nat} {mn : String} {ret : Option FieldType} {d d0 : Nat} {τ : Type} {pc : Nat} {lv : List (Option PV)} {st : List PV} {h : PH} {sz : τ → Nat × Nat} {K : τ → Prop} {f : Int32 → Int32 → PH → Option (Int32)} (HR : IM_X0_held f d0) {a0 : Int32} {a1 : Int32} {g : Int32 → Option τ} (hd : d0 + 1 ≤ d) (hdg : decode cc pc = .ok (.invokestatic 122, 3)) (hst : st.length ≤ 8) (kk : ∀ r, Im X (cc, nL, RX3, mn, ret, d) (pc + 3) lv (.inl r :: st) h (g r) sz K) : Im X (cc, nL, RX3, mn, ret, d) pc lv (.inl a1 :: .inl a0 :: st) h ((f a0 a1 h).bind g) sz K := by
  refine im_cP (y := yX0_held) (cY := cX0_held) (nY := 2) (rY := (some .int)) (d' := d0) (av := [.inl a0, .inl a1]) (fun r e hX => ?_) (fun r e => HR _ _ _ _ e) hd (by decide) hst rfl kk
  exact cal_SN (n := 2) hX (lw_n q942 rfl) q929 q106 q930 (by decide +kernel) rfl hdg

theorem fp_X3_67 : ∀ c ∈ [3], FP RX3 67 c 1 .int := List.forall_mem_cons.mpr ⟨⟨RX4, TX4, 4, rfl, in_X4, by decide, apt_X4, rfl, by decide +kernel, Or.inr ⟨_, lw_n q199 rfl⟩⟩, fun _ h => absurd h List.not_mem_nil⟩
def IM_X3_nightOf (f : Option Nat → Int32 → PH → Option (PH)) (d : Nat) : Prop := ∀ (a0 : Option Nat) (a1 : Int32) (h : PH) (h' : PH), f a0 a1 h = some h' → isC [2] a0 h = true ∧ SpV yX3_nightOf cX3_nightOf 8 none d [.inr a0, .inl a1] h h'
noncomputable def yd_nightOf_183 (v2 : Option Nat) (v6 : Int32) (v7 : Int32) (h : PH) : Option (PH) :=
  (gfi [3] 1 v2 h).bind fun x51 =>
  (tp_held ((x51 + v6) - v7) 99 h).bind fun x52 =>
  (pf [3] 1 v2 (.inl x52) h).bind fun h53 =>
  some (h53)
theorem yd_nightOf_183_ok (X : CT) (v2 : Option Nat) (v6 : Int32) (v7 : Int32) (h : PH) : Im X (cX3_nightOf, 8, RX3, "nightOf", none, 94) 183 [none, none, some (.inr v2), none, none, none, some (.inl v6), some (.inl v7)] [] h (yd_nightOf_183 v2 v6 v7 h) szV (kV X) := by
  unfold yd_nightOf_183
  refine im_aload_n (pc := 183) dX3_nightOf_183 rfl rfl ?_
  refine im_aload_n (pc := 184) dX3_nightOf_184 rfl rfl ?_
  refine im_gi (pc := 185) fl_X3_67 dX3_nightOf_185 fun x51 => ?_
  refine im_iload (pc := 188) dX3_nightOf_188 rfl ?_
  refine im_iadd (pc := 190) dX3_nightOf_190 ?_
  refine im_iload (pc := 191) dX3_nightOf_191 rfl ?_
  refine im_isub (pc := 193) dX3_nightOf_193 ?_
  refine im_bipush (pc := 194) (v := 99) dX3_nightOf_194 (by decide) ?_
  refine cl_X3_122 tp_held_im (pc := 196) (by decide) dX3_nightOf_196 (Nat.le_of_ble_eq_true rfl) fun x52 => ?_
  refine im_pf (pc := 199) fp_X3_67 (okT_i _) dX3_nightOf_199 fun h53 => ?_
  exact im_vret (pc := 202) dX3_nightOf_202
noncomputable def yd_nightOf_107 (v0 : Option Nat) (v2 : Option Nat) (v4 : Int32) (h : PH) : Option (PH) :=
  (gfr [2] 5 v0 h).bind fun r51 =>
  bd2 (tp_tells r51 104 10 h) fun x53 h52 =>
  (gfr [2] 5 v0 h52).bind fun r54 =>
  bd2 (tp_tells r54 103 99 h52) fun x56 h55 =>
  (gfr [2] 5 v0 h55).bind fun r57 =>
  bd2 (tp_tells r57 98 99 h55) fun x59 h58 =>
  (if v4 = (-1) then
  yd_nightOf_183 v2 x56 x59 h58
  else
  (gfi [2] 3 v0 h58).bind fun x60 =>
  (pf [2] 3 v0 (.inl (x60 + 1)) h58).bind fun h61 =>
  bd2 (yd_draw v0 h61) fun x63 h62 =>
  (if x53 ≤ x63 then
  yd_nightOf_183 v2 x56 x59 h62
  else
  (gfr [2] 0 v0 h62).bind fun r64 =>
  (aldr 2 r64 v4 h62).bind fun r65 =>
  (yd_learns v0 v2 r65 h62).bind fun h66 =>
  yd_nightOf_183 v2 x56 x59 h66))
theorem yd_nightOf_107_ok (X : CT) (v0 : Option Nat) (v2 : Option Nat) (v4 : Int32) (h : PH) : Im X (cX3_nightOf, 8, RX3, "nightOf", none, 94) 107 [some (.inr v0), none, some (.inr v2), none, some (.inl v4), none, none, none] [] h (yd_nightOf_107 v0 v2 v4 h) szV (kV X) := by
  unfold yd_nightOf_107
  refine im_aload_n (pc := 107) dX3_nightOf_107 rfl rfl ?_
  refine im_gr (pc := 108) fl_X3_3 dX3_nightOf_108 fun r51 => ?_
  refine im_bipush (pc := 111) (v := 104) dX3_nightOf_111 (by decide) ?_
  refine im_bipush (pc := 113) (v := 10) dX3_nightOf_113 (by decide) ?_
  refine cl_X3_80 tp_tells_im (pc := 115) (by decide) dX3_nightOf_115 (Nat.le_of_ble_eq_true rfl) fun x53 h52 => ?_
  refine im_istore (pc := 118) (lv' := [some (.inr v0), none, some (.inr v2), none, some (.inl v4), some (.inl x53), none, none]) dX3_nightOf_118 (by decide) rfl ?_
  refine im_aload_n (pc := 120) dX3_nightOf_120 rfl rfl ?_
  refine im_gr (pc := 121) fl_X3_3 dX3_nightOf_121 fun r54 => ?_
  refine im_bipush (pc := 124) (v := 103) dX3_nightOf_124 (by decide) ?_
  refine im_bipush (pc := 126) (v := 99) dX3_nightOf_126 (by decide) ?_
  refine cl_X3_80 tp_tells_im (pc := 128) (by decide) dX3_nightOf_128 (Nat.le_of_ble_eq_true rfl) fun x56 h55 => ?_
  refine im_istore (pc := 131) (lv' := [some (.inr v0), none, some (.inr v2), none, some (.inl v4), some (.inl x53), some (.inl x56), none]) dX3_nightOf_131 (by decide) rfl ?_
  refine im_aload_n (pc := 133) dX3_nightOf_133 rfl rfl ?_
  refine im_gr (pc := 134) fl_X3_3 dX3_nightOf_134 fun r57 => ?_
  refine im_bipush (pc := 137) (v := 98) dX3_nightOf_137 (by decide) ?_
  refine im_bipush (pc := 139) (v := 99) dX3_nightOf_139 (by decide) ?_
  refine cl_X3_80 tp_tells_im (pc := 141) (by decide) dX3_nightOf_141 (Nat.le_of_ble_eq_true rfl) fun x59 h58 => ?_
  refine im_istore (pc := 144) (lv' := [some (.inr v0), none, some (.inr v2), none, some (.inl v4), some (.inl x53), some (.inl x56), some (.inl x59)]) dX3_nightOf_144 (by decide) rfl ?_
  refine im_iload (pc := 146) dX3_nightOf_146 rfl ?_
  refine im_iconst (pc := 148) (v := (-1)) dX3_nightOf_148 (by decide) ?_
  refine im_icmp_eq (pc := 149) (tgt := 183) dX3_nightOf_149 (by decide) ?_ ?_
  · exact Im.drop [false, false, true, false, false, false, true, true] rfl (yd_nightOf_183_ok X v2 x56 x59 h58)
  · refine im_aload_n (pc := 152) dX3_nightOf_152 rfl rfl ?_
    refine im_dup (pc := 153) dX3_nightOf_153 ?_
    refine im_gi (pc := 154) fl_X3_111 dX3_nightOf_154 fun x60 => ?_
    refine im_iconst (pc := 157) (v := 1) dX3_nightOf_157 (by decide) ?_
    refine im_iadd (pc := 158) dX3_nightOf_158 ?_
    refine im_pf (pc := 159) fp_X3_111 (okT_i _) dX3_nightOf_159 fun h61 => ?_
    refine im_aload_n (pc := 162) dX3_nightOf_162 rfl rfl ?_
    refine cl_X3_114 yd_draw_im (pc := 163) (by decide) dX3_nightOf_163 (Nat.le_of_ble_eq_true rfl) fun x63 h62 => ?_
    refine im_iload (pc := 166) dX3_nightOf_166 rfl ?_
    refine im_icmp_ge (pc := 168) (tgt := 183) dX3_nightOf_168 (by decide) ?_ ?_
    · exact Im.drop [false, false, true, false, false, false, true, true] rfl (yd_nightOf_183_ok X v2 x56 x59 h62)
    · refine im_aload_n (pc := 171) dX3_nightOf_171 rfl rfl ?_
      refine im_aload_n (pc := 172) dX3_nightOf_172 rfl rfl ?_
      refine im_aload_n (pc := 173) dX3_nightOf_173 rfl rfl ?_
      refine im_gr (pc := 174) fl_X3_17 dX3_nightOf_174 fun r64 => ?_
      refine im_iload (pc := 177) dX3_nightOf_177 rfl ?_
      refine im_aald (pc := 179) (t := 2) (by decide) (by decide) dX3_nightOf_179 fun r65 => ?_
      refine cl_X3_118 yd_learns_im (pc := 180) (by decide) dX3_nightOf_180 (Nat.le_of_ble_eq_true rfl) fun h66 => ?_
      exact Im.drop [false, false, true, false, false, false, true, true] rfl (yd_nightOf_183_ok X v2 x56 x59 h66)
noncomputable def yd_nightOf_0 (v0 : Option Nat) (v1 : Int32) (h : PH) : Option (PH) :=
  (gfr [2] 0 v0 h).bind fun r51 =>
  (aldr 2 r51 v1 h).bind fun r52 =>
  (yd_beside v0 v1 h).bind fun x53 =>
  (jI_bitCount x53 h).bind fun x54 =>
  (gfr [2] 5 v0 h).bind fun r55 =>
  (gfr [0] 5 r55 h).bind fun r56 =>
  (gfr [2] 5 v0 h).bind fun r57 =>
  (gfr [0] 0 r57 h).bind fun r58 =>
  (gfi [3] 1 r52 h).bind fun x59 =>
  (gfi [2] 1 v0 h).bind fun x60 =>
  bd2 (mt_of r58 v1 x59 x54 x60 h) fun r62 h61 =>
  bd2 (tx_says r56 113 r62 h61) fun x64 h63 =>
  (if x64 = 0 then
  bd2 (yd_liked v0 v1 h63) fun x66 h65 =>
  (gfr [2] 5 v0 h65).bind fun r67 =>
  (gfr [0] 0 r67 h65).bind fun r68 =>
  (gfi [3] 1 r52 h65).bind fun x69 =>
  (gfi [2] 1 v0 h65).bind fun x70 =>
  bd2 (mt_of r68 v1 x69 x54 x70 h65) fun r72 h71 =>
  (if x66 = (-1) then
  yd_nightOf_107 v0 r52 x66 h71
  else
  (gfr [2] 5 v0 h71).bind fun r73 =>
  (gfr [0] 0 r73 h71).bind fun r74 =>
  (gfr [2] 0 v0 h71).bind fun r75 =>
  (aldr 2 r75 x66 h71).bind fun r76 =>
  bd2 (mt_with r74 x66 r52 r76 h71) fun r78 h77 =>
  yd_nightOf_107 v0 r52 x66 h77)
  else
  some (h63))
theorem yd_nightOf_0_ok (X : CT) (v0 : Option Nat) (v1 : Int32) (h : PH) : Im X (cX3_nightOf, 8, RX3, "nightOf", none, 94) 0 [some (.inr v0), some (.inl v1), none, none, none, none, none, none] [] h (yd_nightOf_0 v0 v1 h) szV (kV X) := by
  unfold yd_nightOf_0
  refine im_aload_n (pc := 0) dX3_nightOf_0 rfl rfl ?_
  refine im_gr (pc := 1) fl_X3_17 dX3_nightOf_1 fun r51 => ?_
  refine im_iload_n (pc := 4) dX3_nightOf_4 rfl rfl ?_
  refine im_aald (pc := 5) (t := 2) (by decide) (by decide) dX3_nightOf_5 fun r52 => ?_
  refine im_astore_n (pc := 6) (lv' := [some (.inr v0), some (.inl v1), some (.inr r52), none, none, none, none, none]) dX3_nightOf_6 rfl (by decide) rfl ?_
  refine im_aload_n (pc := 7) dX3_nightOf_7 rfl rfl ?_
  refine im_iload_n (pc := 8) dX3_nightOf_8 rfl rfl ?_
  refine cl_X3_59 yd_beside_im (pc := 9) (by decide) dX3_nightOf_9 (Nat.le_of_ble_eq_true rfl) fun x53 => ?_
  refine cl_X3_89 jI_bitCount_im (pc := 12) (by decide) dX3_nightOf_12 (Nat.le_of_ble_eq_true rfl) fun x54 => ?_
  refine im_istore_n (pc := 15) (lv' := [some (.inr v0), some (.inl v1), some (.inr r52), some (.inl x54), none, none, none, none]) dX3_nightOf_15 rfl (by decide) rfl ?_
  refine im_aload_n (pc := 16) dX3_nightOf_16 rfl rfl ?_
  refine im_gr (pc := 17) fl_X3_3 dX3_nightOf_17 fun r55 => ?_
  refine im_gr (pc := 20) fl_X3_94 dX3_nightOf_20 fun r56 => ?_
  refine im_bipush (pc := 23) (v := 113) dX3_nightOf_23 (by decide) ?_
  refine im_aload_n (pc := 25) dX3_nightOf_25 rfl rfl ?_
  refine im_gr (pc := 26) fl_X3_3 dX3_nightOf_26 fun r57 => ?_
  refine im_gr (pc := 29) fl_X3_70 dX3_nightOf_29 fun r58 => ?_
  refine im_iload_n (pc := 32) dX3_nightOf_32 rfl rfl ?_
  refine im_aload_n (pc := 33) dX3_nightOf_33 rfl rfl ?_
  refine im_gi (pc := 34) fl_X3_67 dX3_nightOf_34 fun x59 => ?_
  refine im_iload_n (pc := 37) dX3_nightOf_37 rfl rfl ?_
  refine im_aload_n (pc := 38) dX3_nightOf_38 rfl rfl ?_
  refine im_gi (pc := 39) fl_X3_26 dX3_nightOf_39 fun x60 => ?_
  refine cl_X3_98 mt_of_im (pc := 42) (by decide) dX3_nightOf_42 (Nat.le_of_ble_eq_true rfl) fun r62 h61 => ?_
  refine cl_X3_102 tx_says_im (pc := 45) (by decide) dX3_nightOf_45 (Nat.le_of_ble_eq_true rfl) fun x64 h63 => ?_
  refine im_if_eq (pc := 48) (tgt := 52) dX3_nightOf_48 (by decide) ?_ ?_
  · refine im_aload_n (pc := 52) dX3_nightOf_52 rfl rfl ?_
    refine im_iload_n (pc := 53) dX3_nightOf_53 rfl rfl ?_
    refine cl_X3_108 yd_liked_im (pc := 54) (by decide) dX3_nightOf_54 (Nat.le_of_ble_eq_true rfl) fun x66 h65 => ?_
    refine im_istore (pc := 57) (lv' := [some (.inr v0), some (.inl v1), some (.inr r52), some (.inl x54), some (.inl x66), none, none, none]) dX3_nightOf_57 (by decide) rfl ?_
    refine im_aload_n (pc := 59) dX3_nightOf_59 rfl rfl ?_
    refine im_gr (pc := 60) fl_X3_3 dX3_nightOf_60 fun r67 => ?_
    refine im_gr (pc := 63) fl_X3_70 dX3_nightOf_63 fun r68 => ?_
    refine im_iload_n (pc := 66) dX3_nightOf_66 rfl rfl ?_
    refine im_aload_n (pc := 67) dX3_nightOf_67 rfl rfl ?_
    refine im_gi (pc := 68) fl_X3_67 dX3_nightOf_68 fun x69 => ?_
    refine im_iload_n (pc := 71) dX3_nightOf_71 rfl rfl ?_
    refine im_aload_n (pc := 72) dX3_nightOf_72 rfl rfl ?_
    refine im_gi (pc := 73) fl_X3_26 dX3_nightOf_73 fun x70 => ?_
    refine cl_X3_98 mt_of_im (pc := 76) (by decide) dX3_nightOf_76 (Nat.le_of_ble_eq_true rfl) fun r72 h71 => ?_
    refine im_pop (pc := 79) dX3_nightOf_79 ?_
    refine im_iload (pc := 80) dX3_nightOf_80 rfl ?_
    refine im_iconst (pc := 82) (v := (-1)) dX3_nightOf_82 (by decide) ?_
    refine im_icmp_eq (pc := 83) (tgt := 107) dX3_nightOf_83 (by decide) ?_ ?_
    · exact Im.drop [true, false, true, false, true, false, false, false] rfl (yd_nightOf_107_ok X v0 r52 x66 h71)
    · refine im_aload_n (pc := 86) dX3_nightOf_86 rfl rfl ?_
      refine im_gr (pc := 87) fl_X3_3 dX3_nightOf_87 fun r73 => ?_
      refine im_gr (pc := 90) fl_X3_70 dX3_nightOf_90 fun r74 => ?_
      refine im_iload (pc := 93) dX3_nightOf_93 rfl ?_
      refine im_aload_n (pc := 95) dX3_nightOf_95 rfl rfl ?_
      refine im_aload_n (pc := 96) dX3_nightOf_96 rfl rfl ?_
      refine im_gr (pc := 97) fl_X3_17 dX3_nightOf_97 fun r75 => ?_
      refine im_iload (pc := 100) dX3_nightOf_100 rfl ?_
      refine im_aald (pc := 102) (t := 2) (by decide) (by decide) dX3_nightOf_102 fun r76 => ?_
      refine cl_X3_74 mt_with_im (pc := 103) (by decide) dX3_nightOf_103 (Nat.le_of_ble_eq_true rfl) fun r78 h77 => ?_
      refine im_pop (pc := 106) dX3_nightOf_106 ?_
      exact Im.drop [true, false, true, false, true, false, false, false] rfl (yd_nightOf_107_ok X v0 r52 x66 h77)
  · exact im_vret (pc := 51) dX3_nightOf_51
noncomputable def yd_nightOf (a0 : Option Nat) (a1 : Int32) (h : PH) : Option (PH) := grd (isC [2] a0 h) (yd_nightOf_0 a0 a1 h)
theorem yd_nightOf_im : IM_X3_nightOf yd_nightOf 94 := by
  intro a0 a1 h h' e
  obtain ⟨e1, e2⟩ := grd_some e
  exact ⟨e1, SpV.of (k := 6) (plainFor_of_name (by decide)) rfl (fun X => Im.drop [true, true, false, false, false, false, false, false] rfl (yd_nightOf_0_ok X a0 a1 h)) e2⟩
theorem cl_X3_125 {X : CT} {cc : ByteArray} {nL : Nat} {mn : String} {ret : Option FieldType} {d d0 : Nat} {τ : Type} {pc : Nat} {lv : List (Option PV)} {st : List PV} {h : PH} {sz : τ → Nat × Nat} {K : τ → Prop} {f : Option Nat → Int32 → PH → Option (PH)} (HR : IM_X3_nightOf f d0) {a0 : Option Nat} {a1 : Int32} {g : PH → Option τ} (hd : d0 + 1 ≤ d) (hdg : decode cc pc = .ok (.invokevirtual 125, 3)) (hst : st.length ≤ 8) (kk : ∀ h', Im X (cc, nL, RX3, mn, ret, d) (pc + 3) lv st h' (g h') sz K) : Im X (cc, nL, RX3, mn, ret, d) pc lv (.inl a1 :: .inr a0 :: st) h ((f a0 a1 h).bind g) sz K := by
  refine im_cV (y := yX3_nightOf) (cY := cX3_nightOf) (nY := 8) (rY := none) (d' := d0) (av := [.inr a0, .inl a1]) (fun h' e hX => ?_) (fun h' e => (HR _ _ _ _ e).2) hd (by decide) hst rfl kk
  obtain ⟨a, c, fs, rfl, ec, hm⟩ := isC_some (HR _ _ _ _ e).1
  cases List.mem_singleton.mp hm
  exact cal_V (n := 1) hX (lw_V q823 q825 qs20 q109 q826) (by decide +kernel) rfl rfl ec hdg

def IM_X3_goes (f : Option Nat → Int32 → PH → Option (Option Nat × PH)) (d : Nat) : Prop := ∀ (a0 : Option Nat) (a1 : Int32) (h : PH) (r : Option Nat) (h' : PH), f a0 a1 h = some (r, h') → isC [2] a0 h = true ∧ SpR yX3_goes cX3_goes 4 (some (.object "TalkingPlots$Yard")) d [.inr a0, .inl a1] h r h'
noncomputable def yd_goes_b29 (v0 : Option Nat) (v1 : Int32) (v2 : Int32) (v3 : Int32) (h : PH) : Option ((Int32 × PH) ⊕ ((Int32 × PH) ⊕ (Option Nat × PH))) :=
  (if 16 ≤ v3 then
  (gfi [2] 1 v0 h).bind fun x51 =>
  (pf [2] 1 v0 (.inl (x51 + 1)) h).bind fun h52 =>
  some (.inr (.inl ((v2 + 1), h52)))
  else
  (gfr [2] 0 v0 h).bind fun r53 =>
  (aldr 2 r53 v3 h).bind fun r54 =>
  (pe_isLaid r54 h).bind fun x55 =>
  (if x55 = 0 then
  some (.inl ((v3 + 1), h))
  else
  (gfr [2] 0 v0 h).bind fun r56 =>
  (aldr 2 r56 v3 h).bind fun r57 =>
  (gfi [3] 1 r57 h).bind fun x58 =>
  (if x58 ≤ 0 then
  some (.inl ((v3 + 1), h))
  else
  (yd_nightOf v0 v3 h).bind fun h59 =>
  some (.inl ((v3 + 1), h59)))))
noncomputable def yd_goes_L29 (v0 : Option Nat) (v1 : Int32) (v2 : Int32) (v3 : Int32) (h : PH) : Option ((Int32 × PH) ⊕ (Option Nat × PH)) :=
  iter (fun s : Int32 × PH => yd_goes_b29 v0 v1 v2 s.1 s.2) (v3, h)
theorem yd_goes_b29_ok (X : CT) (v0 : Option Nat) (v1 : Int32) (v2 : Int32) (v3 : Int32) (h : PH) : Im X (cX3_goes, 4, RX3, "goes", (some (.object "TalkingPlots$Yard")), 95) 29 [some (.inr v0), some (.inl v1), some (.inl v2), some (.inl v3)] [] h (yd_goes_b29 v0 v1 v2 v3 h) (ez (fun s : Int32 × PH => s.2) (ez (fun s : Int32 × PH => s.2) szI)) (ek X 29 (fun s : Int32 × PH => [some (.inr v0), some (.inl v1), some (.inl v2), some (.inl s.1)]) (fun s : Int32 × PH => s.2) (ek X 12 (fun s : Int32 × PH => [some (.inr v0), some (.inl v1), some (.inl s.1), none]) (fun s : Int32 × PH => s.2) (kR X))) := by
  unfold yd_goes_b29
  refine im_iload_n (pc := 29) dX3_goes_29 rfl rfl ?_
  refine im_bipush (pc := 30) (v := 16) dX3_goes_30 (by decide) ?_
  refine im_icmp_ge (pc := 32) (tgt := 70) dX3_goes_32 (by decide) ?_ ?_
  · refine im_aload_n (pc := 70) dX3_goes_70 rfl rfl ?_
    refine im_dup (pc := 71) dX3_goes_71 ?_
    refine im_gi (pc := 72) fl_X3_26 dX3_goes_72 fun x51 => ?_
    refine im_iconst (pc := 75) (v := 1) dX3_goes_75 (by decide) ?_
    refine im_iadd (pc := 76) dX3_goes_76 ?_
    refine im_pf (pc := 77) fp_X3_26 (okT_i _) dX3_goes_77 fun h52 => ?_
    refine im_iinc (pc := 80) (v := (v2 + 1)) (lv' := [some (.inr v0), some (.inl v1), some (.inl (v2 + 1)), some (.inl v3)]) dX3_goes_80 rfl rfl (by decide) rfl ?_
    refine im_goto (pc := 83) (tgt := 12) dX3_goes_83 (by decide) ?_
    exact Im.outS (Im.back [true, true, true, false] rfl rfl)
  · refine im_aload_n (pc := 35) dX3_goes_35 rfl rfl ?_
    refine im_gr (pc := 36) fl_X3_17 dX3_goes_36 fun r53 => ?_
    refine im_iload_n (pc := 39) dX3_goes_39 rfl rfl ?_
    refine im_aald (pc := 40) (t := 2) (by decide) (by decide) dX3_goes_40 fun r54 => ?_
    refine cl_X3_33 pe_isLaid_im (pc := 41) (by decide) dX3_goes_41 (Nat.le_of_ble_eq_true rfl) fun x55 => ?_
    refine im_if_eq (pc := 44) (tgt := 64) dX3_goes_44 (by decide) ?_ ?_
    · refine im_iinc (pc := 64) (v := (v3 + 1)) (lv' := [some (.inr v0), some (.inl v1), some (.inl v2), some (.inl (v3 + 1))]) dX3_goes_64 rfl rfl (by decide) rfl ?_
      refine im_goto (pc := 67) (tgt := 29) dX3_goes_67 (by decide) ?_
      exact Im.back [true, true, true, true] rfl rfl
    · refine im_aload_n (pc := 47) dX3_goes_47 rfl rfl ?_
      refine im_gr (pc := 48) fl_X3_17 dX3_goes_48 fun r56 => ?_
      refine im_iload_n (pc := 51) dX3_goes_51 rfl rfl ?_
      refine im_aald (pc := 52) (t := 2) (by decide) (by decide) dX3_goes_52 fun r57 => ?_
      refine im_gi (pc := 53) fl_X3_67 dX3_goes_53 fun x58 => ?_
      refine im_if_le (pc := 56) (tgt := 64) dX3_goes_56 (by decide) ?_ ?_
      · refine im_iinc (pc := 64) (v := (v3 + 1)) (lv' := [some (.inr v0), some (.inl v1), some (.inl v2), some (.inl (v3 + 1))]) dX3_goes_64 rfl rfl (by decide) rfl ?_
        refine im_goto (pc := 67) (tgt := 29) dX3_goes_67 (by decide) ?_
        exact Im.back [true, true, true, true] rfl rfl
      · refine im_aload_n (pc := 59) dX3_goes_59 rfl rfl ?_
        refine im_iload_n (pc := 60) dX3_goes_60 rfl rfl ?_
        refine cl_X3_125 yd_nightOf_im (pc := 61) (by decide) dX3_goes_61 (Nat.le_of_ble_eq_true rfl) fun h59 => ?_
        refine im_iinc (pc := 64) (v := (v3 + 1)) (lv' := [some (.inr v0), some (.inl v1), some (.inl v2), some (.inl (v3 + 1))]) dX3_goes_64 rfl rfl (by decide) rfl ?_
        refine im_goto (pc := 67) (tgt := 29) dX3_goes_67 (by decide) ?_
        exact Im.back [true, true, true, true] rfl rfl
theorem yd_goes_L29_ok (X : CT) (v0 : Option Nat) (v1 : Int32) (v2 : Int32) (v3 : Int32) (h : PH) : Im X (cX3_goes, 4, RX3, "goes", (some (.object "TalkingPlots$Yard")), 95) 29 [some (.inr v0), some (.inl v1), some (.inl v2), some (.inl v3)] [] h (yd_goes_L29 v0 v1 v2 v3 h) (ez (fun s : Int32 × PH => s.2) szI) (ek X 12 (fun s : Int32 × PH => [some (.inr v0), some (.inl v1), some (.inl s.1), none]) (fun s : Int32 × PH => s.2) (kR X)) := by
  unfold yd_goes_L29
  exact Im.iter (lv := (fun s : Int32 × PH => [some (.inr v0), some (.inl v1), some (.inl v2), some (.inl s.1)])) (hp := (fun s : Int32 × PH => s.2)) (fun s => yd_goes_b29_ok X v0 v1 v2 s.1 s.2) _ rfl rfl
noncomputable def yd_goes_b12 (v0 : Option Nat) (v1 : Int32) (v2 : Int32) (h : PH) : Option ((Int32 × PH) ⊕ (Option Nat × PH)) :=
  (if v1 ≤ v2 then
  some (.inr ((v0, h)))
  else
  (gfi [2] 1 v0 h).bind fun x51 =>
  (if 9999 ≤ x51 then
  some (.inr ((v0, h)))
  else
  yd_goes_L29 v0 v1 v2 0 h))
noncomputable def yd_goes_L12 (v0 : Option Nat) (v1 : Int32) (v2 : Int32) (h : PH) : Option (Option Nat × PH) :=
  iter (fun s : Int32 × PH => yd_goes_b12 v0 v1 s.1 s.2) (v2, h)
theorem yd_goes_b12_ok (X : CT) (v0 : Option Nat) (v1 : Int32) (v2 : Int32) (h : PH) : Im X (cX3_goes, 4, RX3, "goes", (some (.object "TalkingPlots$Yard")), 95) 12 [some (.inr v0), some (.inl v1), some (.inl v2), none] [] h (yd_goes_b12 v0 v1 v2 h) (ez (fun s : Int32 × PH => s.2) szI) (ek X 12 (fun s : Int32 × PH => [some (.inr v0), some (.inl v1), some (.inl s.1), none]) (fun s : Int32 × PH => s.2) (kR X)) := by
  unfold yd_goes_b12
  refine im_iload_n (pc := 12) dX3_goes_12 rfl rfl ?_
  refine im_iload_n (pc := 13) dX3_goes_13 rfl rfl ?_
  refine im_icmp_ge (pc := 14) (tgt := 86) dX3_goes_14 (by decide) ?_ ?_
  · refine im_aload_n (pc := 86) dX3_goes_86 rfl rfl ?_
    exact Im.outS (im_aret (pc := 87) dX3_goes_87)
  · refine im_aload_n (pc := 17) dX3_goes_17 rfl rfl ?_
    refine im_gi (pc := 18) fl_X3_26 dX3_goes_18 fun x51 => ?_
    refine im_sipush (pc := 21) (v := 9999) dX3_goes_21 (by decide) ?_
    refine im_icmp_ge (pc := 24) (tgt := 86) dX3_goes_24 (by decide) ?_ ?_
    · refine im_aload_n (pc := 86) dX3_goes_86 rfl rfl ?_
      exact Im.outS (im_aret (pc := 87) dX3_goes_87)
    · refine im_iconst (pc := 27) (v := 0) dX3_goes_27 (by decide) ?_
      refine im_istore_n (pc := 28) (lv' := [some (.inr v0), some (.inl v1), some (.inl v2), some (.inl 0)]) dX3_goes_28 rfl (by decide) rfl ?_
      exact Im.drop [true, true, true, true] rfl (yd_goes_L29_ok X v0 v1 v2 0 h)
theorem yd_goes_L12_ok (X : CT) (v0 : Option Nat) (v1 : Int32) (v2 : Int32) (h : PH) : Im X (cX3_goes, 4, RX3, "goes", (some (.object "TalkingPlots$Yard")), 95) 12 [some (.inr v0), some (.inl v1), some (.inl v2), none] [] h (yd_goes_L12 v0 v1 v2 h) szI (kR X) := by
  unfold yd_goes_L12
  exact Im.iter (lv := (fun s : Int32 × PH => [some (.inr v0), some (.inl v1), some (.inl s.1), none])) (hp := (fun s : Int32 × PH => s.2)) (fun s => yd_goes_b12_ok X v0 v1 s.1 s.2) _ rfl rfl
noncomputable def yd_goes_0 (v0 : Option Nat) (v1 : Int32) (h : PH) : Option (Option Nat × PH) :=
  (pf [2] 3 v0 (.inl 0) h).bind fun h51 =>
  (pf [2] 4 v0 (.inl 0) h51).bind fun h52 =>
  yd_goes_L12 v0 v1 0 h52
theorem yd_goes_0_ok (X : CT) (v0 : Option Nat) (v1 : Int32) (h : PH) : Im X (cX3_goes, 4, RX3, "goes", (some (.object "TalkingPlots$Yard")), 95) 0 [some (.inr v0), some (.inl v1), none, none] [] h (yd_goes_0 v0 v1 h) szI (kR X) := by
  unfold yd_goes_0
  refine im_aload_n (pc := 0) dX3_goes_0 rfl rfl ?_
  refine im_iconst (pc := 1) (v := 0) dX3_goes_1 (by decide) ?_
  refine im_pf (pc := 2) fp_X3_111 (okT_i _) dX3_goes_2 fun h51 => ?_
  refine im_aload_n (pc := 5) dX3_goes_5 rfl rfl ?_
  refine im_iconst (pc := 6) (v := 0) dX3_goes_6 (by decide) ?_
  refine im_pf (pc := 7) fp_X3_86 (okT_i _) dX3_goes_7 fun h52 => ?_
  refine im_iconst (pc := 10) (v := 0) dX3_goes_10 (by decide) ?_
  refine im_istore_n (pc := 11) (lv' := [some (.inr v0), some (.inl v1), some (.inl 0), none]) dX3_goes_11 rfl (by decide) rfl ?_
  exact Im.drop [true, true, true, false] rfl (yd_goes_L12_ok X v0 v1 0 h52)
noncomputable def yd_goes (a0 : Option Nat) (a1 : Int32) (h : PH) : Option (Option Nat × PH) := grd (isC [2] a0 h) (yd_goes_0 a0 a1 h)
theorem yd_goes_im : IM_X3_goes yd_goes 95 := by
  intro a0 a1 h r h' e
  obtain ⟨e1, e2⟩ := grd_some e
  exact ⟨e1, SpR.of (k := 2) (plainFor_of_name (by decide)) rfl (fun X => Im.drop [true, true, false, false] rfl (yd_goes_0_ok X a0 a1 h)) e2⟩
theorem cl_X0_176 {X : CT} {cc : ByteArray} {nL : Nat} {mn : String} {ret : Option FieldType} {d d0 : Nat} {τ : Type} {pc : Nat} {lv : List (Option PV)} {st : List PV} {h : PH} {sz : τ → Nat × Nat} {K : τ → Prop} {f : Option Nat → Int32 → PH → Option (Option Nat × PH)} (HR : IM_X3_goes f d0) {a0 : Option Nat} {a1 : Int32} {g : Option Nat → PH → Option τ} (hd : d0 + 1 ≤ d) (hdg : decode cc pc = .ok (.invokevirtual 176, 3)) (hst : st.length ≤ 8) (kk : ∀ r h', Im X (cc, nL, RX0, mn, ret, d) (pc + 3) lv (.inr r :: st) h' (g r h') sz K) : Im X (cc, nL, RX0, mn, ret, d) pc lv (.inl a1 :: .inr a0 :: st) h (bd2 (f a0 a1 h) g) sz K := by
  refine im_cR (y := yX3_goes) (cY := cX3_goes) (nY := 4) (rY := (some (.object "TalkingPlots$Yard"))) (d' := d0) (av := [.inr a0, .inl a1]) (fun r h' e hX => ?_) (fun r h' e => (HR _ _ _ _ _ e).2) hd (by decide) hst rfl kk
  obtain ⟨a, c, fs, rfl, ec, hm⟩ := isC_some (HR _ _ _ _ _ e).1
  cases List.mem_singleton.mp hm
  exact cal_V (n := 1) hX (lw_V q819 q820 q821 q109 q822) (by decide +kernel) rfl rfl ec hdg

theorem fl_X0_180 : ∀ c ∈ [2], FL RX0 180 c 3 := List.forall_mem_cons.mpr ⟨⟨RX3, TX3, 6, rfl, in_X3, by decide, Or.inr ⟨_, lw_n q225 rfl⟩⟩, fun _ h => absurd h List.not_mem_nil⟩
def IM_X0_nights (f : Option Nat → Int32 → PH → Option (Int32 × PH)) (d : Nat) : Prop := ∀ (a0 : Option Nat) (a1 : Int32) (h : PH) (r : Int32) (h' : PH), f a0 a1 h = some (r, h') → isC [0] a0 h = true ∧ SpI yX0_nights cX0_nights 2 (some .int) d [.inr a0, .inl a1] h r h'
noncomputable def tp_nights_0 (v0 : Option Nat) (v1 : Int32) (h : PH) : Option (Int32 × PH) :=
  (tp_within v1 1 240 h).bind fun x51 =>
  (if x51 = 0 then
  some (((-1), h))
  else
  (gfr [0] 1 v0 h).bind fun r52 =>
  bd2 (yd_goes r52 v1 h) fun r54 h53 =>
  (gfi [2] 3 r54 h53).bind fun x55 =>
  some ((x55, h53)))
theorem tp_nights_0_ok (X : CT) (v0 : Option Nat) (v1 : Int32) (h : PH) : Im X (cX0_nights, 2, RX0, "nights", (some .int), 96) 0 [some (.inr v0), some (.inl v1)] [] h (tp_nights_0 v0 v1 h) szI (kI X) := by
  unfold tp_nights_0
  refine im_iload_n (pc := 0) dX0_nights_0 rfl rfl ?_
  refine im_iconst (pc := 1) (v := 1) dX0_nights_1 (by decide) ?_
  refine im_sipush (pc := 2) (v := 240) dX0_nights_2 (by decide) ?_
  refine cl_X0_120 tp_within_im (pc := 5) (by decide) dX0_nights_5 (Nat.le_of_ble_eq_true rfl) fun x51 => ?_
  refine im_if_eq (pc := 8) (tgt := 25) dX0_nights_8 (by decide) ?_ ?_
  · refine im_iconst (pc := 25) (v := (-1)) dX0_nights_25 (by decide) ?_
    exact im_iret (pc := 26) dX0_nights_26
  · refine im_aload_n (pc := 11) dX0_nights_11 rfl rfl ?_
    refine im_gr (pc := 12) fl_X0_63 dX0_nights_12 fun r52 => ?_
    refine im_iload_n (pc := 15) dX0_nights_15 rfl rfl ?_
    refine cl_X0_176 yd_goes_im (pc := 16) (by decide) dX0_nights_16 (Nat.le_of_ble_eq_true rfl) fun r54 h53 => ?_
    refine im_gi (pc := 19) fl_X0_180 dX0_nights_19 fun x55 => ?_
    refine im_goto (pc := 22) (tgt := 26) dX0_nights_22 (by decide) ?_
    exact im_iret (pc := 26) dX0_nights_26
noncomputable def tp_nights (a0 : Option Nat) (a1 : Int32) (h : PH) : Option (Int32 × PH) := grd (isC [0] a0 h) (tp_nights_0 a0 a1 h)
theorem tp_nights_im : IM_X0_nights tp_nights 96 := by
  intro a0 a1 h r h' e
  obtain ⟨e1, e2⟩ := grd_some e
  exact ⟨e1, SpI.of (k := 0) (plainFor_of_name (by decide)) rfl (fun X => Im.drop [true, true] rfl (tp_nights_0_ok X a0 a1 h)) e2⟩
theorem cl_X0_183 {X : CT} {cc : ByteArray} {nL : Nat} {mn : String} {ret : Option FieldType} {d d0 : Nat} {τ : Type} {pc : Nat} {lv : List (Option PV)} {st : List PV} {h : PH} {sz : τ → Nat × Nat} {K : τ → Prop} {f : Option Nat → PH → Option (Int32)} (HR : IM_X4_isLaid f d0) {a0 : Option Nat} {g : Int32 → Option τ} (hd : d0 + 1 ≤ d) (hdg : decode cc pc = .ok (.invokevirtual 183, 3)) (hst : st.length ≤ 8) (kk : ∀ r, Im X (cc, nL, RX0, mn, ret, d) (pc + 3) lv (.inl r :: st) h (g r) sz K) : Im X (cc, nL, RX0, mn, ret, d) pc lv (.inr a0 :: st) h ((f a0 h).bind g) sz K := by
  refine im_cP (y := yX4_isLaid) (cY := cX4_isLaid) (nY := 1) (rY := (some .boolean)) (d' := d0) (av := [.inr a0]) (fun r e hX => ?_) (fun r e => (HR _ _ _ e).2) hd (by decide) hst rfl kk
  obtain ⟨a, c, fs, rfl, ec, hm⟩ := isC_some (HR _ _ _ e).1
  cases List.mem_singleton.mp hm
  exact cal_V (n := 0) hX (lw_V q952 q749 q750 q110 q751) (by decide +kernel) rfl rfl ec hdg

theorem fl_X0_127 : ∀ c ∈ [3], FL RX0 127 c 1 := List.forall_mem_cons.mpr ⟨⟨RX4, TX4, 4, rfl, in_X4, by decide, Or.inr ⟨_, lw_n q200 rfl⟩⟩, fun _ h => absurd h List.not_mem_nil⟩
def IM_X0_silentIn (f : Option Nat → Option Nat → PH → Option (Int32)) (d : Nat) : Prop := ∀ (a0 : Option Nat) (a1 : Option Nat) (h : PH) (r : Int32), f a0 a1 h = some r → isC [0] a0 h = true ∧ SpI yX0_silentIn cX0_silentIn 7 (some .int) d [.inr a0, .inr a1] h r h
noncomputable def tp_silentIn_b14 (v2 : Int32) (v3 : Option Nat) (v4 : Int32) (v5 : Int32) (h : PH) : Option ((Int32 × Int32) ⊕ (Int32)) :=
  (if v4 ≤ v5 then
  some (.inr v2)
  else
  (aldr 2 v3 v5 h).bind fun r51 =>
  (pe_isLaid r51 h).bind fun x52 =>
  (if x52 = 0 then
  some (.inl ((v2 + 0), (v5 + 1)))
  else
  (gfi [3] 1 r51 h).bind fun x53 =>
  (if x53 = 0 then
  some (.inl ((v2 + 1), (v5 + 1)))
  else
  some (.inl ((v2 + 0), (v5 + 1))))))
noncomputable def tp_silentIn_L14 (v2 : Int32) (v3 : Option Nat) (v4 : Int32) (v5 : Int32) (h : PH) : Option (Int32) :=
  iter (fun s : Int32 × Int32 => tp_silentIn_b14 s.1 v3 v4 s.2 h) (v2, v5)
theorem tp_silentIn_b14_ok (X : CT) (v2 : Int32) (v3 : Option Nat) (v4 : Int32) (v5 : Int32) (h : PH) : Im X (cX0_silentIn, 7, RX0, "silentIn", (some .int), 2) 14 [none, none, some (.inl v2), some (.inr v3), some (.inl v4), some (.inl v5), none] [] h (tp_silentIn_b14 v2 v3 v4 v5 h) (ez (fun s : Int32 × Int32 => h) (szP h)) (ek X 14 (fun s : Int32 × Int32 => [none, none, some (.inl s.1), some (.inr v3), some (.inl v4), some (.inl s.2), none]) (fun s : Int32 × Int32 => h) (kP X h)) := by
  unfold tp_silentIn_b14
  refine im_iload (pc := 14) dX0_silentIn_14 rfl ?_
  refine im_iload (pc := 16) dX0_silentIn_16 rfl ?_
  refine im_icmp_ge (pc := 18) (tgt := 57) dX0_silentIn_18 (by decide) ?_ ?_
  · refine im_iload_n (pc := 57) dX0_silentIn_57 rfl rfl ?_
    exact Im.outS (im_iretP (pc := 58) dX0_silentIn_58)
  · refine im_aload_n (pc := 21) dX0_silentIn_21 rfl rfl ?_
    refine im_iload (pc := 22) dX0_silentIn_22 rfl ?_
    refine im_aald (pc := 24) (t := 2) (by decide) (by decide) dX0_silentIn_24 fun r51 => ?_
    refine im_astore (pc := 25) (lv' := [none, none, some (.inl v2), some (.inr v3), some (.inl v4), some (.inl v5), some (.inr r51)]) dX0_silentIn_25 (by decide) rfl ?_
    refine im_iload_n (pc := 27) dX0_silentIn_27 rfl rfl ?_
    refine im_aload (pc := 28) dX0_silentIn_28 rfl ?_
    refine cl_X0_183 pe_isLaid_im (pc := 30) (by decide) dX0_silentIn_30 (Nat.le_of_ble_eq_true rfl) fun x52 => ?_
    refine im_if_eq (pc := 33) (tgt := 48) dX0_silentIn_33 (by decide) ?_ ?_
    · refine im_iconst (pc := 48) (v := 0) dX0_silentIn_48 (by decide) ?_
      refine im_iadd (pc := 49) dX0_silentIn_49 ?_
      refine im_istore_n (pc := 50) (lv' := [none, none, some (.inl (v2 + 0)), some (.inr v3), some (.inl v4), some (.inl v5), some (.inr r51)]) dX0_silentIn_50 rfl (by decide) rfl ?_
      refine im_iinc (pc := 51) (v := (v5 + 1)) (lv' := [none, none, some (.inl (v2 + 0)), some (.inr v3), some (.inl v4), some (.inl (v5 + 1)), some (.inr r51)]) dX0_silentIn_51 rfl rfl (by decide) rfl ?_
      refine im_goto (pc := 54) (tgt := 14) dX0_silentIn_54 (by decide) ?_
      exact Im.back [false, false, true, true, true, true, false] rfl rfl
    · refine im_aload (pc := 36) dX0_silentIn_36 rfl ?_
      refine im_gi (pc := 38) fl_X0_127 dX0_silentIn_38 fun x53 => ?_
      refine im_if_ne (pc := 41) (tgt := 48) dX0_silentIn_41 (by decide) ?_ ?_
      · refine im_iconst (pc := 48) (v := 0) dX0_silentIn_48 (by decide) ?_
        refine im_iadd (pc := 49) dX0_silentIn_49 ?_
        refine im_istore_n (pc := 50) (lv' := [none, none, some (.inl (v2 + 0)), some (.inr v3), some (.inl v4), some (.inl v5), some (.inr r51)]) dX0_silentIn_50 rfl (by decide) rfl ?_
        refine im_iinc (pc := 51) (v := (v5 + 1)) (lv' := [none, none, some (.inl (v2 + 0)), some (.inr v3), some (.inl v4), some (.inl (v5 + 1)), some (.inr r51)]) dX0_silentIn_51 rfl rfl (by decide) rfl ?_
        refine im_goto (pc := 54) (tgt := 14) dX0_silentIn_54 (by decide) ?_
        exact Im.back [false, false, true, true, true, true, false] rfl rfl
      · refine im_iconst (pc := 44) (v := 1) dX0_silentIn_44 (by decide) ?_
        refine im_goto (pc := 45) (tgt := 49) dX0_silentIn_45 (by decide) ?_
        refine im_iadd (pc := 49) dX0_silentIn_49 ?_
        refine im_istore_n (pc := 50) (lv' := [none, none, some (.inl (v2 + 1)), some (.inr v3), some (.inl v4), some (.inl v5), some (.inr r51)]) dX0_silentIn_50 rfl (by decide) rfl ?_
        refine im_iinc (pc := 51) (v := (v5 + 1)) (lv' := [none, none, some (.inl (v2 + 1)), some (.inr v3), some (.inl v4), some (.inl (v5 + 1)), some (.inr r51)]) dX0_silentIn_51 rfl rfl (by decide) rfl ?_
        refine im_goto (pc := 54) (tgt := 14) dX0_silentIn_54 (by decide) ?_
        exact Im.back [false, false, true, true, true, true, false] rfl rfl
theorem tp_silentIn_L14_ok (X : CT) (v2 : Int32) (v3 : Option Nat) (v4 : Int32) (v5 : Int32) (h : PH) : Im X (cX0_silentIn, 7, RX0, "silentIn", (some .int), 2) 14 [none, none, some (.inl v2), some (.inr v3), some (.inl v4), some (.inl v5), none] [] h (tp_silentIn_L14 v2 v3 v4 v5 h) (szP h) (kP X h) := by
  unfold tp_silentIn_L14
  exact Im.iter (lv := (fun s : Int32 × Int32 => [none, none, some (.inl s.1), some (.inr v3), some (.inl v4), some (.inl s.2), none])) (hp := (fun s : Int32 × Int32 => h)) (fun s => tp_silentIn_b14_ok X s.1 v3 v4 s.2 h) _ rfl rfl
noncomputable def tp_silentIn_0 (v1 : Option Nat) (h : PH) : Option (Int32) :=
  (gfr [2] 0 v1 h).bind fun r51 =>
  (alenr 2 r51 h).bind fun x52 =>
  tp_silentIn_L14 0 r51 x52 0 h
theorem tp_silentIn_0_ok (X : CT) (v1 : Option Nat) (h : PH) : Im X (cX0_silentIn, 7, RX0, "silentIn", (some .int), 2) 0 [none, some (.inr v1), none, none, none, none, none] [] h (tp_silentIn_0 v1 h) (szP h) (kP X h) := by
  unfold tp_silentIn_0
  refine im_iconst (pc := 0) (v := 0) dX0_silentIn_0 (by decide) ?_
  refine im_istore_n (pc := 1) (lv' := [none, some (.inr v1), some (.inl 0), none, none, none, none]) dX0_silentIn_1 rfl (by decide) rfl ?_
  refine im_aload_n (pc := 2) dX0_silentIn_2 rfl rfl ?_
  refine im_gr (pc := 3) fl_X0_109 dX0_silentIn_3 fun r51 => ?_
  refine im_astore_n (pc := 6) (lv' := [none, some (.inr v1), some (.inl 0), some (.inr r51), none, none, none]) dX0_silentIn_6 rfl (by decide) rfl ?_
  refine im_aload_n (pc := 7) dX0_silentIn_7 rfl rfl ?_
  refine im_alenr (pc := 8) (t := 2) (by decide) (by decide) dX0_silentIn_8 fun x52 => ?_
  refine im_istore (pc := 9) (lv' := [none, some (.inr v1), some (.inl 0), some (.inr r51), some (.inl x52), none, none]) dX0_silentIn_9 (by decide) rfl ?_
  refine im_iconst (pc := 11) (v := 0) dX0_silentIn_11 (by decide) ?_
  refine im_istore (pc := 12) (lv' := [none, some (.inr v1), some (.inl 0), some (.inr r51), some (.inl x52), some (.inl 0), none]) dX0_silentIn_12 (by decide) rfl ?_
  exact Im.drop [false, false, true, true, true, true, false] rfl (tp_silentIn_L14_ok X 0 r51 x52 0 h)
noncomputable def tp_silentIn (a0 : Option Nat) (a1 : Option Nat) (h : PH) : Option (Int32) := grd (isC [0] a0 h) (tp_silentIn_0 a1 h)
theorem tp_silentIn_im : IM_X0_silentIn tp_silentIn 2 := by
  intro a0 a1 h r e
  obtain ⟨e1, e2⟩ := grd_some e
  exact ⟨e1, SpI.ofP (k := 5) (plainFor_of_name (by decide)) rfl (fun X => Im.drop [false, true, false, false, false, false, false] rfl (tp_silentIn_0_ok X a1 h)) e2⟩
theorem cl_X0_187 {X : CT} {cc : ByteArray} {nL : Nat} {mn : String} {ret : Option FieldType} {d d0 : Nat} {τ : Type} {pc : Nat} {lv : List (Option PV)} {st : List PV} {h : PH} {sz : τ → Nat × Nat} {K : τ → Prop} {f : Option Nat → Int32 → PH → Option (Int32)} (HR : IM_X0_isTold f d0) {a0 : Option Nat} {a1 : Int32} {g : Int32 → Option τ} (hd : d0 + 1 ≤ d) (hdg : decode cc pc = .ok (.invokevirtual 187, 3)) (hst : st.length ≤ 8) (kk : ∀ r, Im X (cc, nL, RX0, mn, ret, d) (pc + 3) lv (.inl r :: st) h (g r) sz K) : Im X (cc, nL, RX0, mn, ret, d) pc lv (.inl a1 :: .inr a0 :: st) h ((f a0 a1 h).bind g) sz K := by
  refine im_cP (y := yX0_isTold) (cY := cX0_isTold) (nY := 2) (rY := (some .boolean)) (d' := d0) (av := [.inr a0, .inl a1]) (fun r e hX => ?_) (fun r e => (HR _ _ _ _ e).2) hd (by decide) hst rfl kk
  obtain ⟨a, c, fs, rfl, ec, hm⟩ := isC_some (HR _ _ _ _ e).1
  cases List.mem_singleton.mp hm
  exact cal_V (n := 1) hX (lw_V q947 q724 qs15 q106 q725) (by decide +kernel) rfl rfl ec hdg

theorem fl_X0_124 : ∀ c ∈ [3], FL RX0 124 c 0 := List.forall_mem_cons.mpr ⟨⟨RX4, TX4, 4, rfl, in_X4, by decide, Or.inr ⟨_, lw_n q195 rfl⟩⟩, fun _ h => absurd h List.not_mem_nil⟩
theorem cl_X0_197 {X : CT} {cc : ByteArray} {nL : Nat} {mn : String} {ret : Option FieldType} {d d0 : Nat} {τ : Type} {pc : Nat} {lv : List (Option PV)} {st : List PV} {h : PH} {sz : τ → Nat × Nat} {K : τ → Prop} {f : Int32 → PH → Option (Int32)} (HR : IM_J6_bitCount f d0) {a0 : Int32} {g : Int32 → Option τ} (hd : d0 + 1 ≤ d) (hdg : decode cc pc = .ok (.invokestatic 197, 3)) (hst : st.length ≤ 8) (kk : ∀ r, Im X (cc, nL, RX0, mn, ret, d) (pc + 3) lv (.inl r :: st) h (g r) sz K) : Im X (cc, nL, RX0, mn, ret, d) pc lv (.inl a0 :: st) h ((f a0 h).bind g) sz K := by
  refine im_cP (y := yJ6_bitCount) (cY := cJ6_bitCount) (nY := 1) (rY := (some .int)) (d' := d0) (av := [.inl a0]) (fun r e hX => ?_) (fun r e => HR _ _ _ e) hd (by decide) hst rfl kk
  exact cal_S (n := 1) hX (lw_S q953 q846 q131 q847) (by decide +kernel) rfl hdg

theorem fl_X0_190 : ∀ c ∈ [2], FL RX0 190 c 4 := List.forall_mem_cons.mpr ⟨⟨RX3, TX3, 6, rfl, in_X3, by decide, Or.inr ⟨_, lw_n q227 rfl⟩⟩, fun _ h => absurd h List.not_mem_nil⟩
theorem cl_X0_193 {X : CT} {cc : ByteArray} {nL : Nat} {mn : String} {ret : Option FieldType} {d d0 : Nat} {τ : Type} {pc : Nat} {lv : List (Option PV)} {st : List PV} {h : PH} {sz : τ → Nat × Nat} {K : τ → Prop} {f : Option Nat → Option Nat → PH → Option (Int32)} (HR : IM_X0_silentIn f d0) {a0 : Option Nat} {a1 : Option Nat} {g : Int32 → Option τ} (hd : d0 + 1 ≤ d) (hdg : decode cc pc = .ok (.invokevirtual 193, 3)) (hst : st.length ≤ 8) (kk : ∀ r, Im X (cc, nL, RX0, mn, ret, d) (pc + 3) lv (.inl r :: st) h (g r) sz K) : Im X (cc, nL, RX0, mn, ret, d) pc lv (.inr a1 :: .inr a0 :: st) h ((f a0 a1 h).bind g) sz K := by
  refine im_cP (y := yX0_silentIn) (cY := cX0_silentIn) (nY := 7) (rY := (some .int)) (d' := d0) (av := [.inr a0, .inr a1]) (fun r e hX => ?_) (fun r e => (HR _ _ _ _ e).2) hd (by decide) hst rfl kk
  obtain ⟨a, c, fs, rfl, ec, hm⟩ := isC_some (HR _ _ _ _ e).1
  cases List.mem_singleton.mp hm
  exact cal_V (n := 1) hX (lw_V q948 q950 qs25 q106 q951) (by decide +kernel) rfl rfl ec hdg

def IM_X0_tried (f : Option Nat → Int32 → Int32 → PH → Option (Int32 × PH)) (d : Nat) : Prop := ∀ (a0 : Option Nat) (a1 : Int32) (a2 : Int32) (h : PH) (r : Int32) (h' : PH), f a0 a1 a2 h = some (r, h') → isC [0] a0 h = true ∧ SpI yX0_tried cX0_tried 3 (some .int) d [.inr a0, .inl a1, .inl a2] h r h'
noncomputable def tp_tried_43 (v0 : Option Nat) (v1 : Int32) (v2 : Int32) (h : PH) : Option (Int32 × PH) :=
  (gfr [0] 2 v0 h).bind fun r51 =>
  (gfr [0] 1 v0 h).bind fun r52 =>
  bd2 (yd_takes r51 r52 h) fun r54 h53 =>
  bd2 (yd_goes r54 v1 h53) fun r56 h55 =>
  (if v2 = 0 then
  (gfr [0] 2 v0 h55).bind fun r66 =>
  (gfi [2] 3 r66 h55).bind fun x67 =>
  some ((x67, h55))
  else
  (if v2 = 1 then
  (gfr [0] 2 v0 h55).bind fun r68 =>
  (gfi [2] 4 r68 h55).bind fun x69 =>
  some ((x69, h55))
  else
  (if v2 = 2 then
  (gfr [0] 2 v0 h55).bind fun r70 =>
  (tp_silentIn v0 r70 h55).bind fun x71 =>
  some ((x71, h55))
  else
  (if 30 ≤ v2 then
  (gfr [0] 2 v0 h55).bind fun r57 =>
  (gfr [2] 0 r57 h55).bind fun r58 =>
  (aldr 2 r58 (v2 - 30) h55).bind fun r59 =>
  (gfi [3] 0 r59 h55).bind fun x60 =>
  (jI_bitCount x60 h55).bind fun x61 =>
  some ((x61, h55))
  else
  (gfr [0] 2 v0 h55).bind fun r62 =>
  (gfr [2] 0 r62 h55).bind fun r63 =>
  (aldr 2 r63 (v2 - 10) h55).bind fun r64 =>
  (gfi [3] 1 r64 h55).bind fun x65 =>
  some ((x65, h55))))))
theorem tp_tried_43_ok (X : CT) (v0 : Option Nat) (v1 : Int32) (v2 : Int32) (h : PH) : Im X (cX0_tried, 3, RX0, "tried", (some .int), 96) 43 [some (.inr v0), some (.inl v1), some (.inl v2)] [] h (tp_tried_43 v0 v1 v2 h) szI (kI X) := by
  unfold tp_tried_43
  refine im_aload_n (pc := 43) dX0_tried_43 rfl rfl ?_
  refine im_gr (pc := 44) fl_X0_67 dX0_tried_44 fun r51 => ?_
  refine im_aload_n (pc := 47) dX0_tried_47 rfl rfl ?_
  refine im_gr (pc := 48) fl_X0_63 dX0_tried_48 fun r52 => ?_
  refine cl_X0_152 yd_takes_im (pc := 51) (by decide) dX0_tried_51 (Nat.le_of_ble_eq_true rfl) fun r54 h53 => ?_
  refine im_iload_n (pc := 54) dX0_tried_54 rfl rfl ?_
  refine cl_X0_176 yd_goes_im (pc := 55) (by decide) dX0_tried_55 (Nat.le_of_ble_eq_true rfl) fun r56 h55 => ?_
  refine im_pop (pc := 58) dX0_tried_58 ?_
  refine im_iload_n (pc := 59) dX0_tried_59 rfl rfl ?_
  refine im_tsw (pc := 60) (dt := 113) [(0, 88), (1, 96), (2, 104)] dX0_tried_60 (by decide) ⟨_, _, rfl, ?_, ⟨_, _, rfl, ?_, ⟨_, _, rfl, ?_, ?_⟩⟩⟩
  · refine im_aload_n (pc := 88) dX0_tried_88 rfl rfl ?_
    refine im_gr (pc := 89) fl_X0_67 dX0_tried_89 fun r66 => ?_
    refine im_gi (pc := 92) fl_X0_180 dX0_tried_92 fun x67 => ?_
    exact im_iret (pc := 95) dX0_tried_95
  · refine im_aload_n (pc := 96) dX0_tried_96 rfl rfl ?_
    refine im_gr (pc := 97) fl_X0_67 dX0_tried_97 fun r68 => ?_
    refine im_gi (pc := 100) fl_X0_190 dX0_tried_100 fun x69 => ?_
    exact im_iret (pc := 103) dX0_tried_103
  · refine im_aload_n (pc := 104) dX0_tried_104 rfl rfl ?_
    refine im_aload_n (pc := 105) dX0_tried_105 rfl rfl ?_
    refine im_gr (pc := 106) fl_X0_67 dX0_tried_106 fun r70 => ?_
    refine cl_X0_193 tp_silentIn_im (pc := 109) (by decide) dX0_tried_109 (Nat.le_of_ble_eq_true rfl) fun x71 => ?_
    exact im_iret (pc := 112) dX0_tried_112
  · refine im_iload_n (pc := 113) dX0_tried_113 rfl rfl ?_
    refine im_bipush (pc := 114) (v := 30) dX0_tried_114 (by decide) ?_
    refine im_icmp_ge (pc := 116) (tgt := 137) dX0_tried_116 (by decide) ?_ ?_
    · refine im_aload_n (pc := 137) dX0_tried_137 rfl rfl ?_
      refine im_gr (pc := 138) fl_X0_67 dX0_tried_138 fun r57 => ?_
      refine im_gr (pc := 141) fl_X0_109 dX0_tried_141 fun r58 => ?_
      refine im_iload_n (pc := 144) dX0_tried_144 rfl rfl ?_
      refine im_bipush (pc := 145) (v := 30) dX0_tried_145 (by decide) ?_
      refine im_isub (pc := 147) dX0_tried_147 ?_
      refine im_aald (pc := 148) (t := 2) (by decide) (by decide) dX0_tried_148 fun r59 => ?_
      refine im_gi (pc := 149) fl_X0_124 dX0_tried_149 fun x60 => ?_
      refine cl_X0_197 jI_bitCount_im (pc := 152) (by decide) dX0_tried_152 (Nat.le_of_ble_eq_true rfl) fun x61 => ?_
      exact im_iret (pc := 155) dX0_tried_155
    · refine im_aload_n (pc := 119) dX0_tried_119 rfl rfl ?_
      refine im_gr (pc := 120) fl_X0_67 dX0_tried_120 fun r62 => ?_
      refine im_gr (pc := 123) fl_X0_109 dX0_tried_123 fun r63 => ?_
      refine im_iload_n (pc := 126) dX0_tried_126 rfl rfl ?_
      refine im_bipush (pc := 127) (v := 10) dX0_tried_127 (by decide) ?_
      refine im_isub (pc := 129) dX0_tried_129 ?_
      refine im_aald (pc := 130) (t := 2) (by decide) (by decide) dX0_tried_130 fun r64 => ?_
      refine im_gi (pc := 131) fl_X0_127 dX0_tried_131 fun x65 => ?_
      refine im_goto (pc := 134) (tgt := 155) dX0_tried_134 (by decide) ?_
      exact im_iret (pc := 155) dX0_tried_155
noncomputable def tp_tried_0 (v0 : Option Nat) (v1 : Int32) (v2 : Int32) (h : PH) : Option (Int32 × PH) :=
  (tp_within v1 1 240 h).bind fun x51 =>
  (if x51 = 0 then
  some (((-1), h))
  else
  (tp_in v2 3 h).bind fun x52 =>
  (if x52 = 0 then
  (tp_isTold v0 (v2 - 10) h).bind fun x53 =>
  (if x53 = 0 then
  (tp_isTold v0 (v2 - 30) h).bind fun x54 =>
  (if x54 = 0 then
  some (((-1), h))
  else
  tp_tried_43 v0 v1 v2 h)
  else
  tp_tried_43 v0 v1 v2 h)
  else
  tp_tried_43 v0 v1 v2 h))
theorem tp_tried_0_ok (X : CT) (v0 : Option Nat) (v1 : Int32) (v2 : Int32) (h : PH) : Im X (cX0_tried, 3, RX0, "tried", (some .int), 96) 0 [some (.inr v0), some (.inl v1), some (.inl v2)] [] h (tp_tried_0 v0 v1 v2 h) szI (kI X) := by
  unfold tp_tried_0
  refine im_iload_n (pc := 0) dX0_tried_0 rfl rfl ?_
  refine im_iconst (pc := 1) (v := 1) dX0_tried_1 (by decide) ?_
  refine im_sipush (pc := 2) (v := 240) dX0_tried_2 (by decide) ?_
  refine cl_X0_120 tp_within_im (pc := 5) (by decide) dX0_tried_5 (Nat.le_of_ble_eq_true rfl) fun x51 => ?_
  refine im_if_eq (pc := 8) (tgt := 41) dX0_tried_8 (by decide) ?_ ?_
  · refine im_iconst (pc := 41) (v := (-1)) dX0_tried_41 (by decide) ?_
    exact im_iret (pc := 42) dX0_tried_42
  · refine im_iload_n (pc := 11) dX0_tried_11 rfl rfl ?_
    refine im_iconst (pc := 12) (v := 3) dX0_tried_12 (by decide) ?_
    refine cl_X0_25 tp_in_im (pc := 13) (by decide) dX0_tried_13 (Nat.le_of_ble_eq_true rfl) fun x52 => ?_
    refine im_if_ne (pc := 16) (tgt := 43) dX0_tried_16 (by decide) ?_ ?_
    · exact Im.drop [true, true, true] rfl (tp_tried_43_ok X v0 v1 v2 h)
    · refine im_aload_n (pc := 19) dX0_tried_19 rfl rfl ?_
      refine im_iload_n (pc := 20) dX0_tried_20 rfl rfl ?_
      refine im_bipush (pc := 21) (v := 10) dX0_tried_21 (by decide) ?_
      refine im_isub (pc := 23) dX0_tried_23 ?_
      refine cl_X0_187 tp_isTold_im (pc := 24) (by decide) dX0_tried_24 (Nat.le_of_ble_eq_true rfl) fun x53 => ?_
      refine im_if_ne (pc := 27) (tgt := 43) dX0_tried_27 (by decide) ?_ ?_
      · exact Im.drop [true, true, true] rfl (tp_tried_43_ok X v0 v1 v2 h)
      · refine im_aload_n (pc := 30) dX0_tried_30 rfl rfl ?_
        refine im_iload_n (pc := 31) dX0_tried_31 rfl rfl ?_
        refine im_bipush (pc := 32) (v := 30) dX0_tried_32 (by decide) ?_
        refine im_isub (pc := 34) dX0_tried_34 ?_
        refine cl_X0_187 tp_isTold_im (pc := 35) (by decide) dX0_tried_35 (Nat.le_of_ble_eq_true rfl) fun x54 => ?_
        refine im_if_ne (pc := 38) (tgt := 43) dX0_tried_38 (by decide) ?_ ?_
        · exact Im.drop [true, true, true] rfl (tp_tried_43_ok X v0 v1 v2 h)
        · refine im_iconst (pc := 41) (v := (-1)) dX0_tried_41 (by decide) ?_
          exact im_iret (pc := 42) dX0_tried_42
noncomputable def tp_tried (a0 : Option Nat) (a1 : Int32) (a2 : Int32) (h : PH) : Option (Int32 × PH) := grd (isC [0] a0 h) (tp_tried_0 a0 a1 a2 h)
theorem tp_tried_im : IM_X0_tried tp_tried 96 := by
  intro a0 a1 a2 h r h' e
  obtain ⟨e1, e2⟩ := grd_some e
  exact ⟨e1, SpI.of (k := 0) (plainFor_of_name (by decide)) rfl (fun X => Im.drop [true, true, true] rfl (tp_tried_0_ok X a0 a1 a2 h)) e2⟩
def IM_X0_rank (f : Option Nat → Int32 → PH → Option (Int32)) (d : Nat) : Prop := ∀ (a0 : Option Nat) (a1 : Int32) (h : PH) (r : Int32), f a0 a1 h = some r → isC [0] a0 h = true ∧ SpI yX0_rank cX0_rank 5 (some .int) d [.inr a0, .inl a1] h r h
noncomputable def tp_rank_b4 (v0 : Option Nat) (v1 : Int32) (v2 : Int32) (v3 : Int32) (h : PH) : Option ((Int32 × Int32) ⊕ (Int32)) :=
  (if 16 ≤ v3 then
  some (.inr v2)
  else
  (gfr [0] 1 v0 h).bind fun r51 =>
  (gfr [2] 0 r51 h).bind fun r52 =>
  (aldr 2 r52 v3 h).bind fun r53 =>
  (gfi [3] 1 r53 h).bind fun x54 =>
  (gfr [0] 1 v0 h).bind fun r55 =>
  (gfr [2] 0 r55 h).bind fun r56 =>
  (aldr 2 r56 v1 h).bind fun r57 =>
  (gfi [3] 1 r57 h).bind fun x58 =>
  (if v3 = v1 then
  some (.inl ((v2 + 0), (v3 + 1)))
  else
  (tp_isTold v0 v3 h).bind fun x59 =>
  (if x59 = 0 then
  some (.inl ((v2 + 0), (v3 + 1)))
  else
  (if 0 < (x54 - x58) then
  some (.inl ((v2 + 1), (v3 + 1)))
  else
  (if (x54 - x58) = 0 then
  (if v1 ≤ v3 then
  some (.inl ((v2 + 0), (v3 + 1)))
  else
  some (.inl ((v2 + 1), (v3 + 1))))
  else
  some (.inl ((v2 + 0), (v3 + 1))))))))
noncomputable def tp_rank_L4 (v0 : Option Nat) (v1 : Int32) (v2 : Int32) (v3 : Int32) (h : PH) : Option (Int32) :=
  iter (fun s : Int32 × Int32 => tp_rank_b4 v0 v1 s.1 s.2 h) (v2, v3)
theorem tp_rank_b4_ok (X : CT) (v0 : Option Nat) (v1 : Int32) (v2 : Int32) (v3 : Int32) (h : PH) : Im X (cX0_rank, 5, RX0, "rank", (some .int), 3) 4 [some (.inr v0), some (.inl v1), some (.inl v2), some (.inl v3), none] [] h (tp_rank_b4 v0 v1 v2 v3 h) (ez (fun s : Int32 × Int32 => h) (szP h)) (ek X 4 (fun s : Int32 × Int32 => [some (.inr v0), some (.inl v1), some (.inl s.1), some (.inl s.2), none]) (fun s : Int32 × Int32 => h) (kP X h)) := by
  unfold tp_rank_b4
  refine im_iload_n (pc := 4) dX0_rank_4 rfl rfl ?_
  refine im_bipush (pc := 5) (v := 16) dX0_rank_5 (by decide) ?_
  refine im_icmp_ge (pc := 7) (tgt := 79) dX0_rank_7 (by decide) ?_ ?_
  · refine im_iload_n (pc := 79) dX0_rank_79 rfl rfl ?_
    exact Im.outS (im_iretP (pc := 80) dX0_rank_80)
  · refine im_aload_n (pc := 10) dX0_rank_10 rfl rfl ?_
    refine im_gr (pc := 11) fl_X0_63 dX0_rank_11 fun r51 => ?_
    refine im_gr (pc := 14) fl_X0_109 dX0_rank_14 fun r52 => ?_
    refine im_iload_n (pc := 17) dX0_rank_17 rfl rfl ?_
    refine im_aald (pc := 18) (t := 2) (by decide) (by decide) dX0_rank_18 fun r53 => ?_
    refine im_gi (pc := 19) fl_X0_127 dX0_rank_19 fun x54 => ?_
    refine im_aload_n (pc := 22) dX0_rank_22 rfl rfl ?_
    refine im_gr (pc := 23) fl_X0_63 dX0_rank_23 fun r55 => ?_
    refine im_gr (pc := 26) fl_X0_109 dX0_rank_26 fun r56 => ?_
    refine im_iload_n (pc := 29) dX0_rank_29 rfl rfl ?_
    refine im_aald (pc := 30) (t := 2) (by decide) (by decide) dX0_rank_30 fun r57 => ?_
    refine im_gi (pc := 31) fl_X0_127 dX0_rank_31 fun x58 => ?_
    refine im_isub (pc := 34) dX0_rank_34 ?_
    refine im_istore (pc := 35) (lv' := [some (.inr v0), some (.inl v1), some (.inl v2), some (.inl v3), some (.inl (x54 - x58))]) dX0_rank_35 (by decide) rfl ?_
    refine im_iload_n (pc := 37) dX0_rank_37 rfl rfl ?_
    refine im_iload_n (pc := 38) dX0_rank_38 rfl rfl ?_
    refine im_iload_n (pc := 39) dX0_rank_39 rfl rfl ?_
    refine im_icmp_eq (pc := 40) (tgt := 70) dX0_rank_40 (by decide) ?_ ?_
    · refine im_iconst (pc := 70) (v := 0) dX0_rank_70 (by decide) ?_
      refine im_iadd (pc := 71) dX0_rank_71 ?_
      refine im_istore_n (pc := 72) (lv' := [some (.inr v0), some (.inl v1), some (.inl (v2 + 0)), some (.inl v3), some (.inl (x54 - x58))]) dX0_rank_72 rfl (by decide) rfl ?_
      refine im_iinc (pc := 73) (v := (v3 + 1)) (lv' := [some (.inr v0), some (.inl v1), some (.inl (v2 + 0)), some (.inl (v3 + 1)), some (.inl (x54 - x58))]) dX0_rank_73 rfl rfl (by decide) rfl ?_
      refine im_goto (pc := 76) (tgt := 4) dX0_rank_76 (by decide) ?_
      exact Im.back [true, true, true, true, false] rfl rfl
    · refine im_aload_n (pc := 43) dX0_rank_43 rfl rfl ?_
      refine im_iload_n (pc := 44) dX0_rank_44 rfl rfl ?_
      refine cl_X0_187 tp_isTold_im (pc := 45) (by decide) dX0_rank_45 (Nat.le_of_ble_eq_true rfl) fun x59 => ?_
      refine im_if_eq (pc := 48) (tgt := 70) dX0_rank_48 (by decide) ?_ ?_
      · refine im_iconst (pc := 70) (v := 0) dX0_rank_70 (by decide) ?_
        refine im_iadd (pc := 71) dX0_rank_71 ?_
        refine im_istore_n (pc := 72) (lv' := [some (.inr v0), some (.inl v1), some (.inl (v2 + 0)), some (.inl v3), some (.inl (x54 - x58))]) dX0_rank_72 rfl (by decide) rfl ?_
        refine im_iinc (pc := 73) (v := (v3 + 1)) (lv' := [some (.inr v0), some (.inl v1), some (.inl (v2 + 0)), some (.inl (v3 + 1)), some (.inl (x54 - x58))]) dX0_rank_73 rfl rfl (by decide) rfl ?_
        refine im_goto (pc := 76) (tgt := 4) dX0_rank_76 (by decide) ?_
        exact Im.back [true, true, true, true, false] rfl rfl
      · refine im_iload (pc := 51) dX0_rank_51 rfl ?_
        refine im_if_gt (pc := 53) (tgt := 66) dX0_rank_53 (by decide) ?_ ?_
        · refine im_iconst (pc := 66) (v := 1) dX0_rank_66 (by decide) ?_
          refine im_goto (pc := 67) (tgt := 71) dX0_rank_67 (by decide) ?_
          refine im_iadd (pc := 71) dX0_rank_71 ?_
          refine im_istore_n (pc := 72) (lv' := [some (.inr v0), some (.inl v1), some (.inl (v2 + 1)), some (.inl v3), some (.inl (x54 - x58))]) dX0_rank_72 rfl (by decide) rfl ?_
          refine im_iinc (pc := 73) (v := (v3 + 1)) (lv' := [some (.inr v0), some (.inl v1), some (.inl (v2 + 1)), some (.inl (v3 + 1)), some (.inl (x54 - x58))]) dX0_rank_73 rfl rfl (by decide) rfl ?_
          refine im_goto (pc := 76) (tgt := 4) dX0_rank_76 (by decide) ?_
          exact Im.back [true, true, true, true, false] rfl rfl
        · refine im_iload (pc := 56) dX0_rank_56 rfl ?_
          refine im_if_ne (pc := 58) (tgt := 70) dX0_rank_58 (by decide) ?_ ?_
          · refine im_iconst (pc := 70) (v := 0) dX0_rank_70 (by decide) ?_
            refine im_iadd (pc := 71) dX0_rank_71 ?_
            refine im_istore_n (pc := 72) (lv' := [some (.inr v0), some (.inl v1), some (.inl (v2 + 0)), some (.inl v3), some (.inl (x54 - x58))]) dX0_rank_72 rfl (by decide) rfl ?_
            refine im_iinc (pc := 73) (v := (v3 + 1)) (lv' := [some (.inr v0), some (.inl v1), some (.inl (v2 + 0)), some (.inl (v3 + 1)), some (.inl (x54 - x58))]) dX0_rank_73 rfl rfl (by decide) rfl ?_
            refine im_goto (pc := 76) (tgt := 4) dX0_rank_76 (by decide) ?_
            exact Im.back [true, true, true, true, false] rfl rfl
          · refine im_iload_n (pc := 61) dX0_rank_61 rfl rfl ?_
            refine im_iload_n (pc := 62) dX0_rank_62 rfl rfl ?_
            refine im_icmp_ge (pc := 63) (tgt := 70) dX0_rank_63 (by decide) ?_ ?_
            · refine im_iconst (pc := 70) (v := 0) dX0_rank_70 (by decide) ?_
              refine im_iadd (pc := 71) dX0_rank_71 ?_
              refine im_istore_n (pc := 72) (lv' := [some (.inr v0), some (.inl v1), some (.inl (v2 + 0)), some (.inl v3), some (.inl (x54 - x58))]) dX0_rank_72 rfl (by decide) rfl ?_
              refine im_iinc (pc := 73) (v := (v3 + 1)) (lv' := [some (.inr v0), some (.inl v1), some (.inl (v2 + 0)), some (.inl (v3 + 1)), some (.inl (x54 - x58))]) dX0_rank_73 rfl rfl (by decide) rfl ?_
              refine im_goto (pc := 76) (tgt := 4) dX0_rank_76 (by decide) ?_
              exact Im.back [true, true, true, true, false] rfl rfl
            · refine im_iconst (pc := 66) (v := 1) dX0_rank_66 (by decide) ?_
              refine im_goto (pc := 67) (tgt := 71) dX0_rank_67 (by decide) ?_
              refine im_iadd (pc := 71) dX0_rank_71 ?_
              refine im_istore_n (pc := 72) (lv' := [some (.inr v0), some (.inl v1), some (.inl (v2 + 1)), some (.inl v3), some (.inl (x54 - x58))]) dX0_rank_72 rfl (by decide) rfl ?_
              refine im_iinc (pc := 73) (v := (v3 + 1)) (lv' := [some (.inr v0), some (.inl v1), some (.inl (v2 + 1)), some (.inl (v3 + 1)), some (.inl (x54 - x58))]) dX0_rank_73 rfl rfl (by decide) rfl ?_
              refine im_goto (pc := 76) (tgt := 4) dX0_rank_76 (by decide) ?_
              exact Im.back [true, true, true, true, false] rfl rfl
theorem tp_rank_L4_ok (X : CT) (v0 : Option Nat) (v1 : Int32) (v2 : Int32) (v3 : Int32) (h : PH) : Im X (cX0_rank, 5, RX0, "rank", (some .int), 3) 4 [some (.inr v0), some (.inl v1), some (.inl v2), some (.inl v3), none] [] h (tp_rank_L4 v0 v1 v2 v3 h) (szP h) (kP X h) := by
  unfold tp_rank_L4
  exact Im.iter (lv := (fun s : Int32 × Int32 => [some (.inr v0), some (.inl v1), some (.inl s.1), some (.inl s.2), none])) (hp := (fun s : Int32 × Int32 => h)) (fun s => tp_rank_b4_ok X v0 v1 s.1 s.2 h) _ rfl rfl
noncomputable def tp_rank_0 (v0 : Option Nat) (v1 : Int32) (h : PH) : Option (Int32) :=
  tp_rank_L4 v0 v1 0 0 h
theorem tp_rank_0_ok (X : CT) (v0 : Option Nat) (v1 : Int32) (h : PH) : Im X (cX0_rank, 5, RX0, "rank", (some .int), 3) 0 [some (.inr v0), some (.inl v1), none, none, none] [] h (tp_rank_0 v0 v1 h) (szP h) (kP X h) := by
  unfold tp_rank_0
  refine im_iconst (pc := 0) (v := 0) dX0_rank_0 (by decide) ?_
  refine im_istore_n (pc := 1) (lv' := [some (.inr v0), some (.inl v1), some (.inl 0), none, none]) dX0_rank_1 rfl (by decide) rfl ?_
  refine im_iconst (pc := 2) (v := 0) dX0_rank_2 (by decide) ?_
  refine im_istore_n (pc := 3) (lv' := [some (.inr v0), some (.inl v1), some (.inl 0), some (.inl 0), none]) dX0_rank_3 rfl (by decide) rfl ?_
  exact Im.drop [true, true, true, true, false] rfl (tp_rank_L4_ok X v0 v1 0 0 h)
noncomputable def tp_rank (a0 : Option Nat) (a1 : Int32) (h : PH) : Option (Int32) := grd (isC [0] a0 h) (tp_rank_0 a0 a1 h)
theorem tp_rank_im : IM_X0_rank tp_rank 3 := by
  intro a0 a1 h r e
  obtain ⟨e1, e2⟩ := grd_some e
  exact ⟨e1, SpI.ofP (k := 3) (plainFor_of_name (by decide)) rfl (fun X => Im.drop [true, true, false, false, false] rfl (tp_rank_0_ok X a0 a1 h)) e2⟩
theorem fl_X0_130 : ∀ c ∈ [3], FL RX0 130 c 2 := List.forall_mem_cons.mpr ⟨⟨RX4, TX4, 4, rfl, in_X4, by decide, Or.inr ⟨_, lw_n q204 rfl⟩⟩, fun _ h => absurd h List.not_mem_nil⟩
theorem cl_X0_200 {X : CT} {cc : ByteArray} {nL : Nat} {mn : String} {ret : Option FieldType} {d d0 : Nat} {τ : Type} {pc : Nat} {lv : List (Option PV)} {st : List PV} {h : PH} {sz : τ → Nat × Nat} {K : τ → Prop} {f : Option Nat → Int32 → PH → Option (Int32)} (HR : IM_X3_beside f d0) {a0 : Option Nat} {a1 : Int32} {g : Int32 → Option τ} (hd : d0 + 1 ≤ d) (hdg : decode cc pc = .ok (.invokevirtual 200, 3)) (hst : st.length ≤ 8) (kk : ∀ r, Im X (cc, nL, RX0, mn, ret, d) (pc + 3) lv (.inl r :: st) h (g r) sz K) : Im X (cc, nL, RX0, mn, ret, d) pc lv (.inl a1 :: .inr a0 :: st) h ((f a0 a1 h).bind g) sz K := by
  refine im_cP (y := yX3_beside) (cY := cX3_beside) (nY := 2) (rY := (some .int)) (d' := d0) (av := [.inr a0, .inl a1]) (fun r e hX => ?_) (fun r e => (HR _ _ _ _ e).2) hd (by decide) hst rfl kk
  obtain ⟨a, c, fs, rfl, ec, hm⟩ := isC_some (HR _ _ _ _ e).1
  cases List.mem_singleton.mp hm
  exact cal_V (n := 1) hX (lw_V q958 q828 q829 q109 q830) (by decide +kernel) rfl rfl ec hdg

theorem cl_X0_203 {X : CT} {cc : ByteArray} {nL : Nat} {mn : String} {ret : Option FieldType} {d d0 : Nat} {τ : Type} {pc : Nat} {lv : List (Option PV)} {st : List PV} {h : PH} {sz : τ → Nat × Nat} {K : τ → Prop} {f : Option Nat → Int32 → PH → Option (Int32)} (HR : IM_X0_rank f d0) {a0 : Option Nat} {a1 : Int32} {g : Int32 → Option τ} (hd : d0 + 1 ≤ d) (hdg : decode cc pc = .ok (.invokevirtual 203, 3)) (hst : st.length ≤ 8) (kk : ∀ r, Im X (cc, nL, RX0, mn, ret, d) (pc + 3) lv (.inl r :: st) h (g r) sz K) : Im X (cc, nL, RX0, mn, ret, d) pc lv (.inl a1 :: .inr a0 :: st) h ((f a0 a1 h).bind g) sz K := by
  refine im_cP (y := yX0_rank) (cY := cX0_rank) (nY := 5) (rY := (some .int)) (d' := d0) (av := [.inr a0, .inl a1]) (fun r e hX => ?_) (fun r e => (HR _ _ _ _ e).2) hd (by decide) hst rfl kk
  obtain ⟨a, c, fs, rfl, ec, hm⟩ := isC_some (HR _ _ _ _ e).1
  cases List.mem_singleton.mp hm
  exact cal_V (n := 1) hX (lw_V q959 q961 qs26 q106 q962) (by decide +kernel) rfl rfl ec hdg

def IM_X0_personIs (f : Option Nat → Int32 → Int32 → PH → Option (Int32)) (d : Nat) : Prop := ∀ (a0 : Option Nat) (a1 : Int32) (a2 : Int32) (h : PH) (r : Int32), f a0 a1 a2 h = some r → isC [0] a0 h = true ∧ SpI yX0_personIs cX0_personIs 4 (some .int) d [.inr a0, .inl a1, .inl a2] h r h
noncomputable def tp_personIs_0 (v0 : Option Nat) (v1 : Int32) (v2 : Int32) (h : PH) : Option (Int32) :=
  (tp_isTold v0 v1 h).bind fun x51 =>
  (if x51 = 0 then
  some ((-1))
  else
  (gfr [0] 1 v0 h).bind fun r52 =>
  (gfr [2] 0 r52 h).bind fun r53 =>
  (aldr 2 r53 v1 h).bind fun r54 =>
  (if v2 = 0 then
  (gfi [3] 0 r54 h).bind fun x55 =>
  some (x55)
  else
  (if v2 = 1 then
  (gfi [3] 1 r54 h).bind fun x56 =>
  some (x56)
  else
  (if v2 = 2 then
  (gfi [3] 2 r54 h).bind fun x57 =>
  (if x57 = (-1) then
  some ((-2))
  else
  (gfi [3] 2 r54 h).bind fun x58 =>
  some (x58))
  else
  (if v2 = 3 then
  (gfr [0] 1 v0 h).bind fun r59 =>
  (yd_beside r59 v1 h).bind fun x60 =>
  some (x60)
  else
  (if v2 = 4 then
  (tp_rank v0 v1 h).bind fun x61 =>
  some (x61)
  else
  some ((-1))))))))
theorem tp_personIs_0_ok (X : CT) (v0 : Option Nat) (v1 : Int32) (v2 : Int32) (h : PH) : Im X (cX0_personIs, 4, RX0, "personIs", (some .int), 6) 0 [some (.inr v0), some (.inl v1), some (.inl v2), none] [] h (tp_personIs_0 v0 v1 v2 h) (szP h) (kP X h) := by
  unfold tp_personIs_0
  refine im_aload_n (pc := 0) dX0_personIs_0 rfl rfl ?_
  refine im_iload_n (pc := 1) dX0_personIs_1 rfl rfl ?_
  refine cl_X0_187 tp_isTold_im (pc := 2) (by decide) dX0_personIs_2 (Nat.le_of_ble_eq_true rfl) fun x51 => ?_
  refine im_if_ne (pc := 5) (tgt := 10) dX0_personIs_5 (by decide) ?_ ?_
  · refine im_aload_n (pc := 10) dX0_personIs_10 rfl rfl ?_
    refine im_gr (pc := 11) fl_X0_63 dX0_personIs_11 fun r52 => ?_
    refine im_gr (pc := 14) fl_X0_109 dX0_personIs_14 fun r53 => ?_
    refine im_iload_n (pc := 17) dX0_personIs_17 rfl rfl ?_
    refine im_aald (pc := 18) (t := 2) (by decide) (by decide) dX0_personIs_18 fun r54 => ?_
    refine im_astore_n (pc := 19) (lv' := [some (.inr v0), some (.inl v1), some (.inl v2), some (.inr r54)]) dX0_personIs_19 rfl (by decide) rfl ?_
    refine im_iload_n (pc := 20) dX0_personIs_20 rfl rfl ?_
    refine im_tsw (pc := 21) (dt := 99) [(0, 56), (1, 61), (2, 66), (3, 84), (4, 93)] dX0_personIs_21 (by decide) ⟨_, _, rfl, ?_, ⟨_, _, rfl, ?_, ⟨_, _, rfl, ?_, ⟨_, _, rfl, ?_, ⟨_, _, rfl, ?_, ?_⟩⟩⟩⟩⟩
    · refine im_aload_n (pc := 56) dX0_personIs_56 rfl rfl ?_
      refine im_gi (pc := 57) fl_X0_124 dX0_personIs_57 fun x55 => ?_
      exact im_iretP (pc := 60) dX0_personIs_60
    · refine im_aload_n (pc := 61) dX0_personIs_61 rfl rfl ?_
      refine im_gi (pc := 62) fl_X0_127 dX0_personIs_62 fun x56 => ?_
      exact im_iretP (pc := 65) dX0_personIs_65
    · refine im_aload_n (pc := 66) dX0_personIs_66 rfl rfl ?_
      refine im_gi (pc := 67) fl_X0_130 dX0_personIs_67 fun x57 => ?_
      refine im_iconst (pc := 70) (v := (-1)) dX0_personIs_70 (by decide) ?_
      refine im_icmp_ne (pc := 71) (tgt := 79) dX0_personIs_71 (by decide) ?_ ?_
      · refine im_aload_n (pc := 79) dX0_personIs_79 rfl rfl ?_
        refine im_gi (pc := 80) fl_X0_130 dX0_personIs_80 fun x58 => ?_
        exact im_iretP (pc := 83) dX0_personIs_83
      · refine im_bipush (pc := 74) (v := (-2)) dX0_personIs_74 (by decide) ?_
        refine im_goto (pc := 76) (tgt := 83) dX0_personIs_76 (by decide) ?_
        exact im_iretP (pc := 83) dX0_personIs_83
    · refine im_aload_n (pc := 84) dX0_personIs_84 rfl rfl ?_
      refine im_gr (pc := 85) fl_X0_63 dX0_personIs_85 fun r59 => ?_
      refine im_iload_n (pc := 88) dX0_personIs_88 rfl rfl ?_
      refine cl_X0_200 yd_beside_im (pc := 89) (by decide) dX0_personIs_89 (Nat.le_of_ble_eq_true rfl) fun x60 => ?_
      exact im_iretP (pc := 92) dX0_personIs_92
    · refine im_aload_n (pc := 93) dX0_personIs_93 rfl rfl ?_
      refine im_iload_n (pc := 94) dX0_personIs_94 rfl rfl ?_
      refine cl_X0_203 tp_rank_im (pc := 95) (by decide) dX0_personIs_95 (Nat.le_of_ble_eq_true rfl) fun x61 => ?_
      exact im_iretP (pc := 98) dX0_personIs_98
    · refine im_iconst (pc := 99) (v := (-1)) dX0_personIs_99 (by decide) ?_
      exact im_iretP (pc := 100) dX0_personIs_100
  · refine im_iconst (pc := 8) (v := (-1)) dX0_personIs_8 (by decide) ?_
    exact im_iretP (pc := 9) dX0_personIs_9
noncomputable def tp_personIs (a0 : Option Nat) (a1 : Int32) (a2 : Int32) (h : PH) : Option (Int32) := grd (isC [0] a0 h) (tp_personIs_0 a0 a1 a2 h)
theorem tp_personIs_im : IM_X0_personIs tp_personIs 6 := by
  intro a0 a1 a2 h r e
  obtain ⟨e1, e2⟩ := grd_some e
  exact ⟨e1, SpI.ofP (k := 1) (plainFor_of_name (by decide)) rfl (fun X => Im.drop [true, true, true, false] rfl (tp_personIs_0_ok X a0 a1 a2 h)) e2⟩
def IM_X4_unlike (f : Option Nat → Option Nat → PH → Option (Int32)) (d : Nat) : Prop := ∀ (a0 : Option Nat) (a1 : Option Nat) (h : PH) (r : Int32), f a0 a1 h = some r → isC [3] a0 h = true ∧ SpI yX4_unlike cX4_unlike 2 (some .int) d [.inr a0, .inr a1] h r h
noncomputable def pe_unlike_0 (v0 : Option Nat) (v1 : Option Nat) (h : PH) : Option (Int32) :=
  (gfi [3] 0 v0 h).bind fun x51 =>
  (gfi [3] 0 v1 h).bind fun x52 =>
  (jI_bitCount (x51 ^^^ x52) h).bind fun x53 =>
  some (x53)
theorem pe_unlike_0_ok (X : CT) (v0 : Option Nat) (v1 : Option Nat) (h : PH) : Im X (cX4_unlike, 2, RX4, "unlike", (some .int), 2) 0 [some (.inr v0), some (.inr v1)] [] h (pe_unlike_0 v0 v1 h) (szP h) (kP X h) := by
  unfold pe_unlike_0
  refine im_aload_n (pc := 0) dX4_unlike_0 rfl rfl ?_
  refine im_gi (pc := 1) fl_X4_15 dX4_unlike_1 fun x51 => ?_
  refine im_aload_n (pc := 4) dX4_unlike_4 rfl rfl ?_
  refine im_gi (pc := 5) fl_X4_15 dX4_unlike_5 fun x52 => ?_
  refine im_ixor (pc := 8) dX4_unlike_8 ?_
  refine cl_X4_25 jI_bitCount_im (pc := 9) (by decide) dX4_unlike_9 (Nat.le_of_ble_eq_true rfl) fun x53 => ?_
  exact im_iretP (pc := 12) dX4_unlike_12
noncomputable def pe_unlike (a0 : Option Nat) (a1 : Option Nat) (h : PH) : Option (Int32) := grd (isC [3] a0 h) (pe_unlike_0 a0 a1 h)
theorem pe_unlike_im : IM_X4_unlike pe_unlike 2 := by
  intro a0 a1 h r e
  obtain ⟨e1, e2⟩ := grd_some e
  exact ⟨e1, SpI.ofP (k := 0) (plainFor_of_name (by decide)) rfl (fun X => Im.drop [true, true] rfl (pe_unlike_0_ok X a0 a1 h)) e2⟩
theorem cl_X4_31 {X : CT} {cc : ByteArray} {nL : Nat} {mn : String} {ret : Option FieldType} {d d0 : Nat} {τ : Type} {pc : Nat} {lv : List (Option PV)} {st : List PV} {h : PH} {sz : τ → Nat × Nat} {K : τ → Prop} {f : Option Nat → Option Nat → PH → Option (Int32)} (HR : IM_X4_shared f d0) {a0 : Option Nat} {a1 : Option Nat} {g : Int32 → Option τ} (hd : d0 + 1 ≤ d) (hdg : decode cc pc = .ok (.invokevirtual 31, 3)) (hst : st.length ≤ 8) (kk : ∀ r, Im X (cc, nL, RX4, mn, ret, d) (pc + 3) lv (.inl r :: st) h (g r) sz K) : Im X (cc, nL, RX4, mn, ret, d) pc lv (.inr a1 :: .inr a0 :: st) h ((f a0 a1 h).bind g) sz K := by
  refine im_cP (y := yX4_shared) (cY := cX4_shared) (nY := 2) (rY := (some .int)) (d' := d0) (av := [.inr a0, .inr a1]) (fun r e hX => ?_) (fun r e => (HR _ _ _ _ e).2) hd (by decide) hst rfl kk
  obtain ⟨a, c, fs, rfl, ec, hm⟩ := isC_some (HR _ _ _ _ e).1
  cases List.mem_singleton.mp hm
  exact cal_V (n := 1) hX (lw_V q971 q907 q908 q110 q909) (by decide +kernel) rfl rfl ec hdg

theorem cl_X4_35 {X : CT} {cc : ByteArray} {nL : Nat} {mn : String} {ret : Option FieldType} {d d0 : Nat} {τ : Type} {pc : Nat} {lv : List (Option PV)} {st : List PV} {h : PH} {sz : τ → Nat × Nat} {K : τ → Prop} {f : Option Nat → Option Nat → PH → Option (Int32)} (HR : IM_X4_unlike f d0) {a0 : Option Nat} {a1 : Option Nat} {g : Int32 → Option τ} (hd : d0 + 1 ≤ d) (hdg : decode cc pc = .ok (.invokevirtual 35, 3)) (hst : st.length ≤ 8) (kk : ∀ r, Im X (cc, nL, RX4, mn, ret, d) (pc + 3) lv (.inl r :: st) h (g r) sz K) : Im X (cc, nL, RX4, mn, ret, d) pc lv (.inr a1 :: .inr a0 :: st) h ((f a0 a1 h).bind g) sz K := by
  refine im_cP (y := yX4_unlike) (cY := cX4_unlike) (nY := 2) (rY := (some .int)) (d' := d0) (av := [.inr a0, .inr a1]) (fun r e hX => ?_) (fun r e => (HR _ _ _ _ e).2) hd (by decide) hst rfl kk
  obtain ⟨a, c, fs, rfl, ec, hm⟩ := isC_some (HR _ _ _ _ e).1
  cases List.mem_singleton.mp hm
  exact cal_V (n := 1) hX (lw_V q972 q973 q974 q110 q975) (by decide +kernel) rfl rfl ec hdg

def IM_X4_talk (f : Option Nat → Option Nat → PH → Option (Int32)) (d : Nat) : Prop := ∀ (a0 : Option Nat) (a1 : Option Nat) (h : PH) (r : Int32), f a0 a1 h = some r → isC [3] a0 h = true ∧ SpI yX4_talk cX4_talk 2 (some .int) d [.inr a0, .inr a1] h r h
noncomputable def pe_talk_0 (v0 : Option Nat) (v1 : Option Nat) (h : PH) : Option (Int32) :=
  (pe_shared v0 v1 h).bind fun x51 =>
  (pe_unlike v0 v1 h).bind fun x52 =>
  some (((3 * x51) - x52))
theorem pe_talk_0_ok (X : CT) (v0 : Option Nat) (v1 : Option Nat) (h : PH) : Im X (cX4_talk, 2, RX4, "talk", (some .int), 3) 0 [some (.inr v0), some (.inr v1)] [] h (pe_talk_0 v0 v1 h) (szP h) (kP X h) := by
  unfold pe_talk_0
  refine im_iconst (pc := 0) (v := 3) dX4_talk_0 (by decide) ?_
  refine im_aload_n (pc := 1) dX4_talk_1 rfl rfl ?_
  refine im_aload_n (pc := 2) dX4_talk_2 rfl rfl ?_
  refine cl_X4_31 pe_shared_im (pc := 3) (by decide) dX4_talk_3 (Nat.le_of_ble_eq_true rfl) fun x51 => ?_
  refine im_imul (pc := 6) dX4_talk_6 ?_
  refine im_aload_n (pc := 7) dX4_talk_7 rfl rfl ?_
  refine im_aload_n (pc := 8) dX4_talk_8 rfl rfl ?_
  refine cl_X4_35 pe_unlike_im (pc := 9) (by decide) dX4_talk_9 (Nat.le_of_ble_eq_true rfl) fun x52 => ?_
  refine im_isub (pc := 12) dX4_talk_12 ?_
  exact im_iretP (pc := 13) dX4_talk_13
noncomputable def pe_talk (a0 : Option Nat) (a1 : Option Nat) (h : PH) : Option (Int32) := grd (isC [3] a0 h) (pe_talk_0 a0 a1 h)
theorem pe_talk_im : IM_X4_talk pe_talk 3 := by
  intro a0 a1 h r e
  obtain ⟨e1, e2⟩ := grd_some e
  exact ⟨e1, SpI.ofP (k := 0) (plainFor_of_name (by decide)) rfl (fun X => Im.drop [true, true] rfl (pe_talk_0_ok X a0 a1 h)) e2⟩
theorem cl_X0_206 {X : CT} {cc : ByteArray} {nL : Nat} {mn : String} {ret : Option FieldType} {d d0 : Nat} {τ : Type} {pc : Nat} {lv : List (Option PV)} {st : List PV} {h : PH} {sz : τ → Nat × Nat} {K : τ → Prop} {f : Option Nat → Option Nat → PH → Option (Int32)} (HR : IM_X4_talk f d0) {a0 : Option Nat} {a1 : Option Nat} {g : Int32 → Option τ} (hd : d0 + 1 ≤ d) (hdg : decode cc pc = .ok (.invokevirtual 206, 3)) (hst : st.length ≤ 8) (kk : ∀ r, Im X (cc, nL, RX0, mn, ret, d) (pc + 3) lv (.inl r :: st) h (g r) sz K) : Im X (cc, nL, RX0, mn, ret, d) pc lv (.inr a1 :: .inr a0 :: st) h ((f a0 a1 h).bind g) sz K := by
  refine im_cP (y := yX4_talk) (cY := cX4_talk) (nY := 2) (rY := (some .int)) (d' := d0) (av := [.inr a0, .inr a1]) (fun r e hX => ?_) (fun r e => (HR _ _ _ _ e).2) hd (by decide) hst rfl kk
  obtain ⟨a, c, fs, rfl, ec, hm⟩ := isC_some (HR _ _ _ _ e).1
  cases List.mem_singleton.mp hm
  exact cal_V (n := 1) hX (lw_V q967 q968 q969 q110 q970) (by decide +kernel) rfl rfl ec hdg

def IM_X0_talk (f : Option Nat → Int32 → Int32 → PH → Option (Int32)) (d : Nat) : Prop := ∀ (a0 : Option Nat) (a1 : Int32) (a2 : Int32) (h : PH) (r : Int32), f a0 a1 a2 h = some r → isC [0] a0 h = true ∧ SpI yX0_talk cX0_talk 3 (some .int) d [.inr a0, .inl a1, .inl a2] h r h
noncomputable def tp_talk_0 (v0 : Option Nat) (v1 : Int32) (v2 : Int32) (h : PH) : Option (Int32) :=
  (tp_isTold v0 v1 h).bind fun x51 =>
  (if x51 = 0 then
  some ((-1000))
  else
  (tp_isTold v0 v2 h).bind fun x52 =>
  (if x52 = 0 then
  some ((-1000))
  else
  (if v1 = v2 then
  some ((-1000))
  else
  (gfr [0] 1 v0 h).bind fun r53 =>
  (gfr [2] 0 r53 h).bind fun r54 =>
  (aldr 2 r54 v1 h).bind fun r55 =>
  (gfr [0] 1 v0 h).bind fun r56 =>
  (gfr [2] 0 r56 h).bind fun r57 =>
  (aldr 2 r57 v2 h).bind fun r58 =>
  (pe_talk r55 r58 h).bind fun x59 =>
  some (x59))))
theorem tp_talk_0_ok (X : CT) (v0 : Option Nat) (v1 : Int32) (v2 : Int32) (h : PH) : Im X (cX0_talk, 3, RX0, "talk", (some .int), 4) 0 [some (.inr v0), some (.inl v1), some (.inl v2)] [] h (tp_talk_0 v0 v1 v2 h) (szP h) (kP X h) := by
  unfold tp_talk_0
  refine im_aload_n (pc := 0) dX0_talk_0 rfl rfl ?_
  refine im_iload_n (pc := 1) dX0_talk_1 rfl rfl ?_
  refine cl_X0_187 tp_isTold_im (pc := 2) (by decide) dX0_talk_2 (Nat.le_of_ble_eq_true rfl) fun x51 => ?_
  refine im_if_eq (pc := 5) (tgt := 45) dX0_talk_5 (by decide) ?_ ?_
  · refine im_sipush (pc := 45) (v := (-1000)) dX0_talk_45 (by decide) ?_
    exact im_iretP (pc := 48) dX0_talk_48
  · refine im_aload_n (pc := 8) dX0_talk_8 rfl rfl ?_
    refine im_iload_n (pc := 9) dX0_talk_9 rfl rfl ?_
    refine cl_X0_187 tp_isTold_im (pc := 10) (by decide) dX0_talk_10 (Nat.le_of_ble_eq_true rfl) fun x52 => ?_
    refine im_if_eq (pc := 13) (tgt := 45) dX0_talk_13 (by decide) ?_ ?_
    · refine im_sipush (pc := 45) (v := (-1000)) dX0_talk_45 (by decide) ?_
      exact im_iretP (pc := 48) dX0_talk_48
    · refine im_iload_n (pc := 16) dX0_talk_16 rfl rfl ?_
      refine im_iload_n (pc := 17) dX0_talk_17 rfl rfl ?_
      refine im_icmp_eq (pc := 18) (tgt := 45) dX0_talk_18 (by decide) ?_ ?_
      · refine im_sipush (pc := 45) (v := (-1000)) dX0_talk_45 (by decide) ?_
        exact im_iretP (pc := 48) dX0_talk_48
      · refine im_aload_n (pc := 21) dX0_talk_21 rfl rfl ?_
        refine im_gr (pc := 22) fl_X0_63 dX0_talk_22 fun r53 => ?_
        refine im_gr (pc := 25) fl_X0_109 dX0_talk_25 fun r54 => ?_
        refine im_iload_n (pc := 28) dX0_talk_28 rfl rfl ?_
        refine im_aald (pc := 29) (t := 2) (by decide) (by decide) dX0_talk_29 fun r55 => ?_
        refine im_aload_n (pc := 30) dX0_talk_30 rfl rfl ?_
        refine im_gr (pc := 31) fl_X0_63 dX0_talk_31 fun r56 => ?_
        refine im_gr (pc := 34) fl_X0_109 dX0_talk_34 fun r57 => ?_
        refine im_iload_n (pc := 37) dX0_talk_37 rfl rfl ?_
        refine im_aald (pc := 38) (t := 2) (by decide) (by decide) dX0_talk_38 fun r58 => ?_
        refine cl_X0_206 pe_talk_im (pc := 39) (by decide) dX0_talk_39 (Nat.le_of_ble_eq_true rfl) fun x59 => ?_
        refine im_goto (pc := 42) (tgt := 48) dX0_talk_42 (by decide) ?_
        exact im_iretP (pc := 48) dX0_talk_48
noncomputable def tp_talk (a0 : Option Nat) (a1 : Int32) (a2 : Int32) (h : PH) : Option (Int32) := grd (isC [0] a0 h) (tp_talk_0 a0 a1 a2 h)
theorem tp_talk_im : IM_X0_talk tp_talk 4 := by
  intro a0 a1 a2 h r e
  obtain ⟨e1, e2⟩ := grd_some e
  exact ⟨e1, SpI.ofP (k := 0) (plainFor_of_name (by decide)) rfl (fun X => Im.drop [true, true, true] rfl (tp_talk_0_ok X a0 a1 a2 h)) e2⟩
theorem cl_X3_55 {X : CT} {cc : ByteArray} {nL : Nat} {mn : String} {ret : Option FieldType} {d d0 : Nat} {τ : Type} {pc : Nat} {lv : List (Option PV)} {st : List PV} {h : PH} {sz : τ → Nat × Nat} {K : τ → Prop} {f : Option Nat → Option Nat → PH → Option (Int32)} (HR : IM_X4_talk f d0) {a0 : Option Nat} {a1 : Option Nat} {g : Int32 → Option τ} (hd : d0 + 1 ≤ d) (hdg : decode cc pc = .ok (.invokevirtual 55, 3)) (hst : st.length ≤ 8) (kk : ∀ r, Im X (cc, nL, RX3, mn, ret, d) (pc + 3) lv (.inl r :: st) h (g r) sz K) : Im X (cc, nL, RX3, mn, ret, d) pc lv (.inr a1 :: .inr a0 :: st) h ((f a0 a1 h).bind g) sz K := by
  refine im_cP (y := yX4_talk) (cY := cX4_talk) (nY := 2) (rY := (some .int)) (d' := d0) (av := [.inr a0, .inr a1]) (fun r e hX => ?_) (fun r e => (HR _ _ _ _ e).2) hd (by decide) hst rfl kk
  obtain ⟨a, c, fs, rfl, ec, hm⟩ := isC_some (HR _ _ _ _ e).1
  cases List.mem_singleton.mp hm
  exact cal_V (n := 1) hX (lw_V q988 q968 q969 q110 q970) (by decide +kernel) rfl rfl ec hdg

def IM_X3_talkWith (f : Option Nat → Int32 → Int32 → PH → Option (Int32)) (d : Nat) : Prop := ∀ (a0 : Option Nat) (a1 : Int32) (a2 : Int32) (h : PH) (r : Int32), f a0 a1 a2 h = some r → isC [2] a0 h = true ∧ SpI yX3_talkWith cX3_talkWith 5 (some .int) d [.inr a0, .inl a1, .inl a2] h r h
noncomputable def yd_talkWith_b5 (v0 : Option Nat) (v1 : Int32) (v2 : Int32) (v3 : Int32) (v4 : Int32) (h : PH) : Option ((Int32 × Int32) ⊕ (Int32)) :=
  (if 16 ≤ v4 then
  some (.inr v3)
  else
  (if v4 = v1 then
  some (.inl ((v3 + 0), (v4 + 1)))
  else
  (tp_has v2 v4 h).bind fun x51 =>
  (if x51 = 0 then
  some (.inl ((v3 + 0), (v4 + 1)))
  else
  (gfr [2] 0 v0 h).bind fun r52 =>
  (aldr 2 r52 v1 h).bind fun r53 =>
  (gfr [2] 0 v0 h).bind fun r54 =>
  (aldr 2 r54 v4 h).bind fun r55 =>
  (pe_talk r53 r55 h).bind fun x56 =>
  some (.inl ((v3 + x56), (v4 + 1))))))
noncomputable def yd_talkWith_L5 (v0 : Option Nat) (v1 : Int32) (v2 : Int32) (v3 : Int32) (v4 : Int32) (h : PH) : Option (Int32) :=
  iter (fun s : Int32 × Int32 => yd_talkWith_b5 v0 v1 v2 s.1 s.2 h) (v3, v4)
theorem yd_talkWith_b5_ok (X : CT) (v0 : Option Nat) (v1 : Int32) (v2 : Int32) (v3 : Int32) (v4 : Int32) (h : PH) : Im X (cX3_talkWith, 5, RX3, "talkWith", (some .int), 4) 5 [some (.inr v0), some (.inl v1), some (.inl v2), some (.inl v3), some (.inl v4)] [] h (yd_talkWith_b5 v0 v1 v2 v3 v4 h) (ez (fun s : Int32 × Int32 => h) (szP h)) (ek X 5 (fun s : Int32 × Int32 => [some (.inr v0), some (.inl v1), some (.inl v2), some (.inl s.1), some (.inl s.2)]) (fun s : Int32 × Int32 => h) (kP X h)) := by
  unfold yd_talkWith_b5
  refine im_iload (pc := 5) dX3_talkWith_5 rfl ?_
  refine im_bipush (pc := 7) (v := 16) dX3_talkWith_7 (by decide) ?_
  refine im_icmp_ge (pc := 9) (tgt := 56) dX3_talkWith_9 (by decide) ?_ ?_
  · refine im_iload_n (pc := 56) dX3_talkWith_56 rfl rfl ?_
    exact Im.outS (im_iretP (pc := 57) dX3_talkWith_57)
  · refine im_iload_n (pc := 12) dX3_talkWith_12 rfl rfl ?_
    refine im_iload (pc := 13) dX3_talkWith_13 rfl ?_
    refine im_iload_n (pc := 15) dX3_talkWith_15 rfl rfl ?_
    refine im_icmp_eq (pc := 16) (tgt := 47) dX3_talkWith_16 (by decide) ?_ ?_
    · refine im_iconst (pc := 47) (v := 0) dX3_talkWith_47 (by decide) ?_
      refine im_iadd (pc := 48) dX3_talkWith_48 ?_
      refine im_istore_n (pc := 49) (lv' := [some (.inr v0), some (.inl v1), some (.inl v2), some (.inl (v3 + 0)), some (.inl v4)]) dX3_talkWith_49 rfl (by decide) rfl ?_
      refine im_iinc (pc := 50) (v := (v4 + 1)) (lv' := [some (.inr v0), some (.inl v1), some (.inl v2), some (.inl (v3 + 0)), some (.inl (v4 + 1))]) dX3_talkWith_50 rfl rfl (by decide) rfl ?_
      refine im_goto (pc := 53) (tgt := 5) dX3_talkWith_53 (by decide) ?_
      exact Im.back [true, true, true, true, true] rfl rfl
    · refine im_iload_n (pc := 19) dX3_talkWith_19 rfl rfl ?_
      refine im_iload (pc := 20) dX3_talkWith_20 rfl ?_
      refine cl_X3_52 tp_has_im (pc := 22) (by decide) dX3_talkWith_22 (Nat.le_of_ble_eq_true rfl) fun x51 => ?_
      refine im_if_eq (pc := 25) (tgt := 47) dX3_talkWith_25 (by decide) ?_ ?_
      · refine im_iconst (pc := 47) (v := 0) dX3_talkWith_47 (by decide) ?_
        refine im_iadd (pc := 48) dX3_talkWith_48 ?_
        refine im_istore_n (pc := 49) (lv' := [some (.inr v0), some (.inl v1), some (.inl v2), some (.inl (v3 + 0)), some (.inl v4)]) dX3_talkWith_49 rfl (by decide) rfl ?_
        refine im_iinc (pc := 50) (v := (v4 + 1)) (lv' := [some (.inr v0), some (.inl v1), some (.inl v2), some (.inl (v3 + 0)), some (.inl (v4 + 1))]) dX3_talkWith_50 rfl rfl (by decide) rfl ?_
        refine im_goto (pc := 53) (tgt := 5) dX3_talkWith_53 (by decide) ?_
        exact Im.back [true, true, true, true, true] rfl rfl
      · refine im_aload_n (pc := 28) dX3_talkWith_28 rfl rfl ?_
        refine im_gr (pc := 29) fl_X3_17 dX3_talkWith_29 fun r52 => ?_
        refine im_iload_n (pc := 32) dX3_talkWith_32 rfl rfl ?_
        refine im_aald (pc := 33) (t := 2) (by decide) (by decide) dX3_talkWith_33 fun r53 => ?_
        refine im_aload_n (pc := 34) dX3_talkWith_34 rfl rfl ?_
        refine im_gr (pc := 35) fl_X3_17 dX3_talkWith_35 fun r54 => ?_
        refine im_iload (pc := 38) dX3_talkWith_38 rfl ?_
        refine im_aald (pc := 40) (t := 2) (by decide) (by decide) dX3_talkWith_40 fun r55 => ?_
        refine cl_X3_55 pe_talk_im (pc := 41) (by decide) dX3_talkWith_41 (Nat.le_of_ble_eq_true rfl) fun x56 => ?_
        refine im_goto (pc := 44) (tgt := 48) dX3_talkWith_44 (by decide) ?_
        refine im_iadd (pc := 48) dX3_talkWith_48 ?_
        refine im_istore_n (pc := 49) (lv' := [some (.inr v0), some (.inl v1), some (.inl v2), some (.inl (v3 + x56)), some (.inl v4)]) dX3_talkWith_49 rfl (by decide) rfl ?_
        refine im_iinc (pc := 50) (v := (v4 + 1)) (lv' := [some (.inr v0), some (.inl v1), some (.inl v2), some (.inl (v3 + x56)), some (.inl (v4 + 1))]) dX3_talkWith_50 rfl rfl (by decide) rfl ?_
        refine im_goto (pc := 53) (tgt := 5) dX3_talkWith_53 (by decide) ?_
        exact Im.back [true, true, true, true, true] rfl rfl
theorem yd_talkWith_L5_ok (X : CT) (v0 : Option Nat) (v1 : Int32) (v2 : Int32) (v3 : Int32) (v4 : Int32) (h : PH) : Im X (cX3_talkWith, 5, RX3, "talkWith", (some .int), 4) 5 [some (.inr v0), some (.inl v1), some (.inl v2), some (.inl v3), some (.inl v4)] [] h (yd_talkWith_L5 v0 v1 v2 v3 v4 h) (szP h) (kP X h) := by
  unfold yd_talkWith_L5
  exact Im.iter (lv := (fun s : Int32 × Int32 => [some (.inr v0), some (.inl v1), some (.inl v2), some (.inl s.1), some (.inl s.2)])) (hp := (fun s : Int32 × Int32 => h)) (fun s => yd_talkWith_b5_ok X v0 v1 v2 s.1 s.2 h) _ rfl rfl
noncomputable def yd_talkWith_0 (v0 : Option Nat) (v1 : Int32) (v2 : Int32) (h : PH) : Option (Int32) :=
  yd_talkWith_L5 v0 v1 v2 0 0 h
theorem yd_talkWith_0_ok (X : CT) (v0 : Option Nat) (v1 : Int32) (v2 : Int32) (h : PH) : Im X (cX3_talkWith, 5, RX3, "talkWith", (some .int), 4) 0 [some (.inr v0), some (.inl v1), some (.inl v2), none, none] [] h (yd_talkWith_0 v0 v1 v2 h) (szP h) (kP X h) := by
  unfold yd_talkWith_0
  refine im_iconst (pc := 0) (v := 0) dX3_talkWith_0 (by decide) ?_
  refine im_istore_n (pc := 1) (lv' := [some (.inr v0), some (.inl v1), some (.inl v2), some (.inl 0), none]) dX3_talkWith_1 rfl (by decide) rfl ?_
  refine im_iconst (pc := 2) (v := 0) dX3_talkWith_2 (by decide) ?_
  refine im_istore (pc := 3) (lv' := [some (.inr v0), some (.inl v1), some (.inl v2), some (.inl 0), some (.inl 0)]) dX3_talkWith_3 (by decide) rfl ?_
  exact Im.drop [true, true, true, true, true] rfl (yd_talkWith_L5_ok X v0 v1 v2 0 0 h)
noncomputable def yd_talkWith (a0 : Option Nat) (a1 : Int32) (a2 : Int32) (h : PH) : Option (Int32) := grd (isC [2] a0 h) (yd_talkWith_0 a0 a1 a2 h)
theorem yd_talkWith_im : IM_X3_talkWith yd_talkWith 4 := by
  intro a0 a1 a2 h r e
  obtain ⟨e1, e2⟩ := grd_some e
  exact ⟨e1, SpI.ofP (k := 2) (plainFor_of_name (by decide)) rfl (fun X => Im.drop [true, true, true, false, false] rfl (yd_talkWith_0_ok X a0 a1 a2 h)) e2⟩
theorem cl_X3_62 {X : CT} {cc : ByteArray} {nL : Nat} {mn : String} {ret : Option FieldType} {d d0 : Nat} {τ : Type} {pc : Nat} {lv : List (Option PV)} {st : List PV} {h : PH} {sz : τ → Nat × Nat} {K : τ → Prop} {f : Option Nat → Int32 → Int32 → PH → Option (Int32)} (HR : IM_X3_talkWith f d0) {a0 : Option Nat} {a1 : Int32} {a2 : Int32} {g : Int32 → Option τ} (hd : d0 + 1 ≤ d) (hdg : decode cc pc = .ok (.invokevirtual 62, 3)) (hst : st.length ≤ 8) (kk : ∀ r, Im X (cc, nL, RX3, mn, ret, d) (pc + 3) lv (.inl r :: st) h (g r) sz K) : Im X (cc, nL, RX3, mn, ret, d) pc lv (.inl a2 :: .inl a1 :: .inr a0 :: st) h ((f a0 a1 a2 h).bind g) sz K := by
  refine im_cP (y := yX3_talkWith) (cY := cX3_talkWith) (nY := 5) (rY := (some .int)) (d' := d0) (av := [.inr a0, .inl a1, .inl a2]) (fun r e hX => ?_) (fun r e => (HR _ _ _ _ _ e).2) hd (by decide) hst rfl kk
  obtain ⟨a, c, fs, rfl, ec, hm⟩ := isC_some (HR _ _ _ _ _ e).1
  cases List.mem_singleton.mp hm
  exact cal_V (n := 2) hX (lw_V q984 q985 q986 q109 q987) (by decide +kernel) rfl rfl ec hdg

def IM_X3_talk (f : Option Nat → PH → Option (Int32)) (d : Nat) : Prop := ∀ (a0 : Option Nat) (h : PH) (r : Int32), f a0 h = some r → isC [2] a0 h = true ∧ SpI yX3_talk cX3_talk 3 (some .int) d [.inr a0] h r h
noncomputable def yd_talk_b4 (v0 : Option Nat) (v1 : Int32) (v2 : Int32) (h : PH) : Option ((Int32 × Int32) ⊕ (Int32)) :=
  (if 16 ≤ v2 then
  some (.inr ((v1 / 2)))
  else
  (yd_beside v0 v2 h).bind fun x51 =>
  (yd_talkWith v0 v2 x51 h).bind fun x52 =>
  some (.inl ((v1 + x52), (v2 + 1))))
noncomputable def yd_talk_L4 (v0 : Option Nat) (v1 : Int32) (v2 : Int32) (h : PH) : Option (Int32) :=
  iter (fun s : Int32 × Int32 => yd_talk_b4 v0 s.1 s.2 h) (v1, v2)
theorem yd_talk_b4_ok (X : CT) (v0 : Option Nat) (v1 : Int32) (v2 : Int32) (h : PH) : Im X (cX3_talk, 3, RX3, "talk", (some .int), 6) 4 [some (.inr v0), some (.inl v1), some (.inl v2)] [] h (yd_talk_b4 v0 v1 v2 h) (ez (fun s : Int32 × Int32 => h) (szP h)) (ek X 4 (fun s : Int32 × Int32 => [some (.inr v0), some (.inl s.1), some (.inl s.2)]) (fun s : Int32 × Int32 => h) (kP X h)) := by
  unfold yd_talk_b4
  refine im_iload_n (pc := 4) dX3_talk_4 rfl rfl ?_
  refine im_bipush (pc := 5) (v := 16) dX3_talk_5 (by decide) ?_
  refine im_icmp_ge (pc := 7) (tgt := 29) dX3_talk_7 (by decide) ?_ ?_
  · refine im_iload_n (pc := 29) dX3_talk_29 rfl rfl ?_
    refine im_iconst (pc := 30) (v := 2) dX3_talk_30 (by decide) ?_
    refine im_idivC (pc := 31) (by decide) dX3_talk_31 ?_
    exact Im.outS (im_iretP (pc := 32) dX3_talk_32)
  · refine im_iload_n (pc := 10) dX3_talk_10 rfl rfl ?_
    refine im_aload_n (pc := 11) dX3_talk_11 rfl rfl ?_
    refine im_iload_n (pc := 12) dX3_talk_12 rfl rfl ?_
    refine im_aload_n (pc := 13) dX3_talk_13 rfl rfl ?_
    refine im_iload_n (pc := 14) dX3_talk_14 rfl rfl ?_
    refine cl_X3_59 yd_beside_im (pc := 15) (by decide) dX3_talk_15 (Nat.le_of_ble_eq_true rfl) fun x51 => ?_
    refine cl_X3_62 yd_talkWith_im (pc := 18) (by decide) dX3_talk_18 (Nat.le_of_ble_eq_true rfl) fun x52 => ?_
    refine im_iadd (pc := 21) dX3_talk_21 ?_
    refine im_istore_n (pc := 22) (lv' := [some (.inr v0), some (.inl (v1 + x52)), some (.inl v2)]) dX3_talk_22 rfl (by decide) rfl ?_
    refine im_iinc (pc := 23) (v := (v2 + 1)) (lv' := [some (.inr v0), some (.inl (v1 + x52)), some (.inl (v2 + 1))]) dX3_talk_23 rfl rfl (by decide) rfl ?_
    refine im_goto (pc := 26) (tgt := 4) dX3_talk_26 (by decide) ?_
    exact Im.back [true, true, true] rfl rfl
theorem yd_talk_L4_ok (X : CT) (v0 : Option Nat) (v1 : Int32) (v2 : Int32) (h : PH) : Im X (cX3_talk, 3, RX3, "talk", (some .int), 6) 4 [some (.inr v0), some (.inl v1), some (.inl v2)] [] h (yd_talk_L4 v0 v1 v2 h) (szP h) (kP X h) := by
  unfold yd_talk_L4
  exact Im.iter (lv := (fun s : Int32 × Int32 => [some (.inr v0), some (.inl s.1), some (.inl s.2)])) (hp := (fun s : Int32 × Int32 => h)) (fun s => yd_talk_b4_ok X v0 s.1 s.2 h) _ rfl rfl
noncomputable def yd_talk_0 (v0 : Option Nat) (h : PH) : Option (Int32) :=
  yd_talk_L4 v0 0 0 h
theorem yd_talk_0_ok (X : CT) (v0 : Option Nat) (h : PH) : Im X (cX3_talk, 3, RX3, "talk", (some .int), 6) 0 [some (.inr v0), none, none] [] h (yd_talk_0 v0 h) (szP h) (kP X h) := by
  unfold yd_talk_0
  refine im_iconst (pc := 0) (v := 0) dX3_talk_0 (by decide) ?_
  refine im_istore_n (pc := 1) (lv' := [some (.inr v0), some (.inl 0), none]) dX3_talk_1 rfl (by decide) rfl ?_
  refine im_iconst (pc := 2) (v := 0) dX3_talk_2 (by decide) ?_
  refine im_istore_n (pc := 3) (lv' := [some (.inr v0), some (.inl 0), some (.inl 0)]) dX3_talk_3 rfl (by decide) rfl ?_
  exact Im.drop [true, true, true] rfl (yd_talk_L4_ok X v0 0 0 h)
noncomputable def yd_talk (a0 : Option Nat) (h : PH) : Option (Int32) := grd (isC [2] a0 h) (yd_talk_0 a0 h)
theorem yd_talk_im : IM_X3_talk yd_talk 6 := by
  intro a0 h r e
  obtain ⟨e1, e2⟩ := grd_some e
  exact ⟨e1, SpI.ofP (k := 2) (plainFor_of_name (by decide)) rfl (fun X => Im.drop [true, false, false] rfl (yd_talk_0_ok X a0 h)) e2⟩
theorem cl_X0_210 {X : CT} {cc : ByteArray} {nL : Nat} {mn : String} {ret : Option FieldType} {d d0 : Nat} {τ : Type} {pc : Nat} {lv : List (Option PV)} {st : List PV} {h : PH} {sz : τ → Nat × Nat} {K : τ → Prop} {f : Option Nat → PH → Option (Int32)} (HR : IM_X3_talk f d0) {a0 : Option Nat} {g : Int32 → Option τ} (hd : d0 + 1 ≤ d) (hdg : decode cc pc = .ok (.invokevirtual 210, 3)) (hst : st.length ≤ 8) (kk : ∀ r, Im X (cc, nL, RX0, mn, ret, d) (pc + 3) lv (.inl r :: st) h (g r) sz K) : Im X (cc, nL, RX0, mn, ret, d) pc lv (.inr a0 :: st) h ((f a0 h).bind g) sz K := by
  refine im_cP (y := yX3_talk) (cY := cX3_talk) (nY := 3) (rY := (some .int)) (d' := d0) (av := [.inr a0]) (fun r e hX => ?_) (fun r e => (HR _ _ _ e).2) hd (by decide) hst rfl kk
  obtain ⟨a, c, fs, rfl, ec, hm⟩ := isC_some (HR _ _ _ e).1
  cases List.mem_singleton.mp hm
  exact cal_V (n := 0) hX (lw_V q980 q981 q982 q109 q983) (by decide +kernel) rfl rfl ec hdg

def IM_X0_yardTalk (f : Option Nat → PH → Option (Int32)) (d : Nat) : Prop := ∀ (a0 : Option Nat) (h : PH) (r : Int32), f a0 h = some r → isC [0] a0 h = true ∧ SpI yX0_yardTalk cX0_yardTalk 1 (some .int) d [.inr a0] h r h
noncomputable def tp_yardTalk_0 (v0 : Option Nat) (h : PH) : Option (Int32) :=
  (gfr [0] 1 v0 h).bind fun r51 =>
  (yd_talk r51 h).bind fun x52 =>
  some (x52)
theorem tp_yardTalk_0_ok (X : CT) (v0 : Option Nat) (h : PH) : Im X (cX0_yardTalk, 1, RX0, "yardTalk", (some .int), 7) 0 [some (.inr v0)] [] h (tp_yardTalk_0 v0 h) (szP h) (kP X h) := by
  unfold tp_yardTalk_0
  refine im_aload_n (pc := 0) dX0_yardTalk_0 rfl rfl ?_
  refine im_gr (pc := 1) fl_X0_63 dX0_yardTalk_1 fun r51 => ?_
  refine cl_X0_210 yd_talk_im (pc := 4) (by decide) dX0_yardTalk_4 (Nat.le_of_ble_eq_true rfl) fun x52 => ?_
  exact im_iretP (pc := 7) dX0_yardTalk_7
noncomputable def tp_yardTalk (a0 : Option Nat) (h : PH) : Option (Int32) := grd (isC [0] a0 h) (tp_yardTalk_0 a0 h)
theorem tp_yardTalk_im : IM_X0_yardTalk tp_yardTalk 7 := by
  intro a0 h r e
  obtain ⟨e1, e2⟩ := grd_some e
  exact ⟨e1, SpI.ofP (k := 0) (plainFor_of_name (by decide)) rfl (fun X => Im.drop [true] rfl (tp_yardTalk_0_ok X a0 h)) e2⟩
theorem cl_X0_212 {X : CT} {cc : ByteArray} {nL : Nat} {mn : String} {ret : Option FieldType} {d d0 : Nat} {τ : Type} {pc : Nat} {lv : List (Option PV)} {st : List PV} {h : PH} {sz : τ → Nat × Nat} {K : τ → Prop} {f : Option Nat → Int32 → PH → Option (Int32)} (HR : IM_X3_around f d0) {a0 : Option Nat} {a1 : Int32} {g : Int32 → Option τ} (hd : d0 + 1 ≤ d) (hdg : decode cc pc = .ok (.invokevirtual 212, 3)) (hst : st.length ≤ 8) (kk : ∀ r, Im X (cc, nL, RX0, mn, ret, d) (pc + 3) lv (.inl r :: st) h (g r) sz K) : Im X (cc, nL, RX0, mn, ret, d) pc lv (.inl a1 :: .inr a0 :: st) h ((f a0 a1 h).bind g) sz K := by
  refine im_cP (y := yX3_around) (cY := cX3_around) (nY := 4) (rY := (some .int)) (d' := d0) (av := [.inr a0, .inl a1]) (fun r e hX => ?_) (fun r e => (HR _ _ _ _ e).2) hd (by decide) hst rfl kk
  obtain ⟨a, c, fs, rfl, ec, hm⟩ := isC_some (HR _ _ _ _ e).1
  cases List.mem_singleton.mp hm
  exact cal_V (n := 1) hX (lw_V q998 q832 q833 q109 q834) (by decide +kernel) rfl rfl ec hdg

theorem cl_X0_215 {X : CT} {cc : ByteArray} {nL : Nat} {mn : String} {ret : Option FieldType} {d d0 : Nat} {τ : Type} {pc : Nat} {lv : List (Option PV)} {st : List PV} {h : PH} {sz : τ → Nat × Nat} {K : τ → Prop} {f : Option Nat → Int32 → Int32 → PH → Option (Int32)} (HR : IM_X3_talkWith f d0) {a0 : Option Nat} {a1 : Int32} {a2 : Int32} {g : Int32 → Option τ} (hd : d0 + 1 ≤ d) (hdg : decode cc pc = .ok (.invokevirtual 215, 3)) (hst : st.length ≤ 8) (kk : ∀ r, Im X (cc, nL, RX0, mn, ret, d) (pc + 3) lv (.inl r :: st) h (g r) sz K) : Im X (cc, nL, RX0, mn, ret, d) pc lv (.inl a2 :: .inl a1 :: .inr a0 :: st) h ((f a0 a1 a2 h).bind g) sz K := by
  refine im_cP (y := yX3_talkWith) (cY := cX3_talkWith) (nY := 5) (rY := (some .int)) (d' := d0) (av := [.inr a0, .inl a1, .inl a2]) (fun r e hX => ?_) (fun r e => (HR _ _ _ _ _ e).2) hd (by decide) hst rfl kk
  obtain ⟨a, c, fs, rfl, ec, hm⟩ := isC_some (HR _ _ _ _ _ e).1
  cases List.mem_singleton.mp hm
  exact cal_V (n := 2) hX (lw_V q999 q985 q986 q109 q987) (by decide +kernel) rfl rfl ec hdg

def IM_X0_talkAt (f : Option Nat → Int32 → Int32 → PH → Option (Int32)) (d : Nat) : Prop := ∀ (a0 : Option Nat) (a1 : Int32) (a2 : Int32) (h : PH) (r : Int32), f a0 a1 a2 h = some r → isC [0] a0 h = true ∧ SpI yX0_talkAt cX0_talkAt 3 (some .int) d [.inr a0, .inl a1, .inl a2] h r h
noncomputable def tp_talkAt_0 (v0 : Option Nat) (v1 : Int32) (v2 : Int32) (h : PH) : Option (Int32) :=
  (gfr [0] 1 v0 h).bind fun r51 =>
  (gfr [0] 1 v0 h).bind fun r52 =>
  (yd_around r52 v2 h).bind fun x53 =>
  (yd_talkWith r51 v1 x53 h).bind fun x54 =>
  some (x54)
theorem tp_talkAt_0_ok (X : CT) (v0 : Option Nat) (v1 : Int32) (v2 : Int32) (h : PH) : Im X (cX0_talkAt, 3, RX0, "talkAt", (some .int), 5) 0 [some (.inr v0), some (.inl v1), some (.inl v2)] [] h (tp_talkAt_0 v0 v1 v2 h) (szP h) (kP X h) := by
  unfold tp_talkAt_0
  refine im_aload_n (pc := 0) dX0_talkAt_0 rfl rfl ?_
  refine im_gr (pc := 1) fl_X0_63 dX0_talkAt_1 fun r51 => ?_
  refine im_iload_n (pc := 4) dX0_talkAt_4 rfl rfl ?_
  refine im_aload_n (pc := 5) dX0_talkAt_5 rfl rfl ?_
  refine im_gr (pc := 6) fl_X0_63 dX0_talkAt_6 fun r52 => ?_
  refine im_iload_n (pc := 9) dX0_talkAt_9 rfl rfl ?_
  refine cl_X0_212 yd_around_im (pc := 10) (by decide) dX0_talkAt_10 (Nat.le_of_ble_eq_true rfl) fun x53 => ?_
  refine cl_X0_215 yd_talkWith_im (pc := 13) (by decide) dX0_talkAt_13 (Nat.le_of_ble_eq_true rfl) fun x54 => ?_
  exact im_iretP (pc := 16) dX0_talkAt_16
noncomputable def tp_talkAt (a0 : Option Nat) (a1 : Int32) (a2 : Int32) (h : PH) : Option (Int32) := grd (isC [0] a0 h) (tp_talkAt_0 a0 a1 a2 h)
theorem tp_talkAt_im : IM_X0_talkAt tp_talkAt 5 := by
  intro a0 a1 a2 h r e
  obtain ⟨e1, e2⟩ := grd_some e
  exact ⟨e1, SpI.ofP (k := 0) (plainFor_of_name (by decide)) rfl (fun X => Im.drop [true, true, true] rfl (tp_talkAt_0_ok X a0 a1 a2 h)) e2⟩
theorem cl_X0_221 {X : CT} {cc : ByteArray} {nL : Nat} {mn : String} {ret : Option FieldType} {d d0 : Nat} {τ : Type} {pc : Nat} {lv : List (Option PV)} {st : List PV} {h : PH} {sz : τ → Nat × Nat} {K : τ → Prop} {f : Option Nat → Int32 → Int32 → PH → Option (Int32)} (HR : IM_X0_talkAt f d0) {a0 : Option Nat} {a1 : Int32} {a2 : Int32} {g : Int32 → Option τ} (hd : d0 + 1 ≤ d) (hdg : decode cc pc = .ok (.invokevirtual 221, 3)) (hst : st.length ≤ 8) (kk : ∀ r, Im X (cc, nL, RX0, mn, ret, d) (pc + 3) lv (.inl r :: st) h (g r) sz K) : Im X (cc, nL, RX0, mn, ret, d) pc lv (.inl a2 :: .inl a1 :: .inr a0 :: st) h ((f a0 a1 a2 h).bind g) sz K := by
  refine im_cP (y := yX0_talkAt) (cY := cX0_talkAt) (nY := 3) (rY := (some .int)) (d' := d0) (av := [.inr a0, .inl a1, .inl a2]) (fun r e hX => ?_) (fun r e => (HR _ _ _ _ _ e).2) hd (by decide) hst rfl kk
  obtain ⟨a, c, fs, rfl, ec, hm⟩ := isC_some (HR _ _ _ _ _ e).1
  cases List.mem_singleton.mp hm
  exact cal_V (n := 2) hX (lw_V q994 q996 qs27 q106 q997) (by decide +kernel) rfl rfl ec hdg

theorem cl_X0_218 {X : CT} {cc : ByteArray} {nL : Nat} {mn : String} {ret : Option FieldType} {d d0 : Nat} {τ : Type} {pc : Nat} {lv : List (Option PV)} {st : List PV} {h : PH} {sz : τ → Nat × Nat} {K : τ → Prop} {f : Option Nat → Int32 → PH → Option (Int32)} (HR : IM_X3_whoLiesAt f d0) {a0 : Option Nat} {a1 : Int32} {g : Int32 → Option τ} (hd : d0 + 1 ≤ d) (hdg : decode cc pc = .ok (.invokevirtual 218, 3)) (hst : st.length ≤ 8) (kk : ∀ r, Im X (cc, nL, RX0, mn, ret, d) (pc + 3) lv (.inl r :: st) h (g r) sz K) : Im X (cc, nL, RX0, mn, ret, d) pc lv (.inl a1 :: .inr a0 :: st) h ((f a0 a1 h).bind g) sz K := by
  refine im_cP (y := yX3_whoLiesAt) (cY := cX3_whoLiesAt) (nY := 3) (rY := (some .int)) (d' := d0) (av := [.inr a0, .inl a1]) (fun r e hX => ?_) (fun r e => (HR _ _ _ _ e).2) hd (by decide) hst rfl kk
  obtain ⟨a, c, fs, rfl, ec, hm⟩ := isC_some (HR _ _ _ _ e).1
  cases List.mem_singleton.mp hm
  exact cal_V (n := 1) hX (lw_V q993 q745 q746 q109 q747) (by decide +kernel) rfl rfl ec hdg

def IM_X0_best (f : Option Nat → Int32 → Int32 → PH → Option (Int32)) (d : Nat) : Prop := ∀ (a0 : Option Nat) (a1 : Int32) (a2 : Int32) (h : PH) (r : Int32), f a0 a1 a2 h = some r → isC [0] a0 h = true ∧ SpI yX0_best cX0_best 6 (some .int) d [.inr a0, .inl a1, .inl a2] h r h
noncomputable def tp_best_55 (v0 : Option Nat) (v1 : Int32) (v2 : Int32) (v3 : Int32) (v4 : Int32) (h : PH) : Option ((Int32 × Int32) ⊕ (Int32)) :=
  (if v3 = (-1) then
  some (.inl (v4, (v4 + 1)))
  else
  (tp_talkAt v0 v1 v4 h).bind fun x51 =>
  (tp_talkAt v0 v1 v3 h).bind fun x52 =>
  (if x51 ≤ x52 then
  some (.inl (v3, (v4 + 1)))
  else
  some (.inl (v4, (v4 + 1)))))
theorem tp_best_55_ok (X : CT) (v0 : Option Nat) (v1 : Int32) (v2 : Int32) (v3 : Int32) (v4 : Int32) (h : PH) : Im X (cX0_best, 6, RX0, "best", (some .int), 6) 55 [some (.inr v0), some (.inl v1), some (.inl v2), some (.inl v3), some (.inl v4), none] [] h (tp_best_55 v0 v1 v2 v3 v4 h) (ez (fun s : Int32 × Int32 => h) (szP h)) (ek X 25 (fun s : Int32 × Int32 => [some (.inr v0), some (.inl v1), some (.inl v2), some (.inl s.1), some (.inl s.2), none]) (fun s : Int32 × Int32 => h) (kP X h)) := by
  unfold tp_best_55
  refine im_iload_n (pc := 55) dX0_best_55 rfl rfl ?_
  refine im_iconst (pc := 56) (v := (-1)) dX0_best_56 (by decide) ?_
  refine im_icmp_eq (pc := 57) (tgt := 76) dX0_best_57 (by decide) ?_ ?_
  · refine im_iload (pc := 76) dX0_best_76 rfl ?_
    refine im_istore_n (pc := 78) (lv' := [some (.inr v0), some (.inl v1), some (.inl v2), some (.inl v4), some (.inl v4), none]) dX0_best_78 rfl (by decide) rfl ?_
    refine im_iinc (pc := 79) (v := (v4 + 1)) (lv' := [some (.inr v0), some (.inl v1), some (.inl v2), some (.inl v4), some (.inl (v4 + 1)), none]) dX0_best_79 rfl rfl (by decide) rfl ?_
    refine im_goto (pc := 82) (tgt := 25) dX0_best_82 (by decide) ?_
    exact Im.back [true, true, true, true, true, false] rfl rfl
  · refine im_aload_n (pc := 60) dX0_best_60 rfl rfl ?_
    refine im_iload_n (pc := 61) dX0_best_61 rfl rfl ?_
    refine im_iload (pc := 62) dX0_best_62 rfl ?_
    refine cl_X0_221 tp_talkAt_im (pc := 64) (by decide) dX0_best_64 (Nat.le_of_ble_eq_true rfl) fun x51 => ?_
    refine im_aload_n (pc := 67) dX0_best_67 rfl rfl ?_
    refine im_iload_n (pc := 68) dX0_best_68 rfl rfl ?_
    refine im_iload_n (pc := 69) dX0_best_69 rfl rfl ?_
    refine cl_X0_221 tp_talkAt_im (pc := 70) (by decide) dX0_best_70 (Nat.le_of_ble_eq_true rfl) fun x52 => ?_
    refine im_icmp_le (pc := 73) (tgt := 79) dX0_best_73 (by decide) ?_ ?_
    · refine im_iinc (pc := 79) (v := (v4 + 1)) (lv' := [some (.inr v0), some (.inl v1), some (.inl v2), some (.inl v3), some (.inl (v4 + 1)), none]) dX0_best_79 rfl rfl (by decide) rfl ?_
      refine im_goto (pc := 82) (tgt := 25) dX0_best_82 (by decide) ?_
      exact Im.back [true, true, true, true, true, false] rfl rfl
    · refine im_iload (pc := 76) dX0_best_76 rfl ?_
      refine im_istore_n (pc := 78) (lv' := [some (.inr v0), some (.inl v1), some (.inl v2), some (.inl v4), some (.inl v4), none]) dX0_best_78 rfl (by decide) rfl ?_
      refine im_iinc (pc := 79) (v := (v4 + 1)) (lv' := [some (.inr v0), some (.inl v1), some (.inl v2), some (.inl v4), some (.inl (v4 + 1)), none]) dX0_best_79 rfl rfl (by decide) rfl ?_
      refine im_goto (pc := 82) (tgt := 25) dX0_best_82 (by decide) ?_
      exact Im.back [true, true, true, true, true, false] rfl rfl
noncomputable def tp_best_b25 (v0 : Option Nat) (v1 : Int32) (v2 : Int32) (v3 : Int32) (v4 : Int32) (h : PH) : Option ((Int32 × Int32) ⊕ (Int32)) :=
  (if 60 ≤ v4 then
  (if v2 = 0 then
  some (.inr v3)
  else
  (tp_talkAt v0 v1 v3 h).bind fun x51 =>
  some (.inr x51))
  else
  (gfr [0] 1 v0 h).bind fun r52 =>
  (yd_whoLiesAt r52 v4 h).bind fun x53 =>
  (if x53 = (-1) then
  tp_best_55 v0 v1 v2 v3 v4 h
  else
  (if x53 = v1 then
  tp_best_55 v0 v1 v2 v3 v4 h
  else
  some (.inl (v3, (v4 + 1))))))
noncomputable def tp_best_L25 (v0 : Option Nat) (v1 : Int32) (v2 : Int32) (v3 : Int32) (v4 : Int32) (h : PH) : Option (Int32) :=
  iter (fun s : Int32 × Int32 => tp_best_b25 v0 v1 v2 s.1 s.2 h) (v3, v4)
theorem tp_best_b25_ok (X : CT) (v0 : Option Nat) (v1 : Int32) (v2 : Int32) (v3 : Int32) (v4 : Int32) (h : PH) : Im X (cX0_best, 6, RX0, "best", (some .int), 6) 25 [some (.inr v0), some (.inl v1), some (.inl v2), some (.inl v3), some (.inl v4), none] [] h (tp_best_b25 v0 v1 v2 v3 v4 h) (ez (fun s : Int32 × Int32 => h) (szP h)) (ek X 25 (fun s : Int32 × Int32 => [some (.inr v0), some (.inl v1), some (.inl v2), some (.inl s.1), some (.inl s.2), none]) (fun s : Int32 × Int32 => h) (kP X h)) := by
  unfold tp_best_b25
  refine im_iload (pc := 25) dX0_best_25 rfl ?_
  refine im_bipush (pc := 27) (v := 60) dX0_best_27 (by decide) ?_
  refine im_icmp_ge (pc := 29) (tgt := 85) dX0_best_29 (by decide) ?_ ?_
  · refine im_iload_n (pc := 85) dX0_best_85 rfl rfl ?_
    refine im_if_ne (pc := 86) (tgt := 93) dX0_best_86 (by decide) ?_ ?_
    · refine im_aload_n (pc := 93) dX0_best_93 rfl rfl ?_
      refine im_iload_n (pc := 94) dX0_best_94 rfl rfl ?_
      refine im_iload_n (pc := 95) dX0_best_95 rfl rfl ?_
      refine cl_X0_221 tp_talkAt_im (pc := 96) (by decide) dX0_best_96 (Nat.le_of_ble_eq_true rfl) fun x51 => ?_
      exact Im.outS (im_iretP (pc := 99) dX0_best_99)
    · refine im_iload_n (pc := 89) dX0_best_89 rfl rfl ?_
      refine im_goto (pc := 90) (tgt := 99) dX0_best_90 (by decide) ?_
      exact Im.outS (im_iretP (pc := 99) dX0_best_99)
  · refine im_aload_n (pc := 32) dX0_best_32 rfl rfl ?_
    refine im_gr (pc := 33) fl_X0_63 dX0_best_33 fun r52 => ?_
    refine im_iload (pc := 36) dX0_best_36 rfl ?_
    refine cl_X0_218 yd_whoLiesAt_im (pc := 38) (by decide) dX0_best_38 (Nat.le_of_ble_eq_true rfl) fun x53 => ?_
    refine im_istore (pc := 41) (lv' := [some (.inr v0), some (.inl v1), some (.inl v2), some (.inl v3), some (.inl v4), some (.inl x53)]) dX0_best_41 (by decide) rfl ?_
    refine im_iload (pc := 43) dX0_best_43 rfl ?_
    refine im_iconst (pc := 45) (v := (-1)) dX0_best_45 (by decide) ?_
    refine im_icmp_eq (pc := 46) (tgt := 55) dX0_best_46 (by decide) ?_ ?_
    · exact Im.drop [true, true, true, true, true, false] rfl (tp_best_55_ok X v0 v1 v2 v3 v4 h)
    · refine im_iload (pc := 49) dX0_best_49 rfl ?_
      refine im_iload_n (pc := 51) dX0_best_51 rfl rfl ?_
      refine im_icmp_ne (pc := 52) (tgt := 79) dX0_best_52 (by decide) ?_ ?_
      · refine im_iinc (pc := 79) (v := (v4 + 1)) (lv' := [some (.inr v0), some (.inl v1), some (.inl v2), some (.inl v3), some (.inl (v4 + 1)), some (.inl x53)]) dX0_best_79 rfl rfl (by decide) rfl ?_
        refine im_goto (pc := 82) (tgt := 25) dX0_best_82 (by decide) ?_
        exact Im.back [true, true, true, true, true, false] rfl rfl
      · exact Im.drop [true, true, true, true, true, false] rfl (tp_best_55_ok X v0 v1 v2 v3 v4 h)
theorem tp_best_L25_ok (X : CT) (v0 : Option Nat) (v1 : Int32) (v2 : Int32) (v3 : Int32) (v4 : Int32) (h : PH) : Im X (cX0_best, 6, RX0, "best", (some .int), 6) 25 [some (.inr v0), some (.inl v1), some (.inl v2), some (.inl v3), some (.inl v4), none] [] h (tp_best_L25 v0 v1 v2 v3 v4 h) (szP h) (kP X h) := by
  unfold tp_best_L25
  exact Im.iter (lv := (fun s : Int32 × Int32 => [some (.inr v0), some (.inl v1), some (.inl v2), some (.inl s.1), some (.inl s.2), none])) (hp := (fun s : Int32 × Int32 => h)) (fun s => tp_best_b25_ok X v0 v1 v2 s.1 s.2 h) _ rfl rfl
noncomputable def tp_best_0 (v0 : Option Nat) (v1 : Int32) (v2 : Int32) (h : PH) : Option (Int32) :=
  (tp_isTold v0 v1 h).bind fun x51 =>
  (if x51 = 0 then
  some ((-1000))
  else
  (tp_in v2 2 h).bind fun x52 =>
  (if x52 = 0 then
  some ((-1000))
  else
  tp_best_L25 v0 v1 v2 (-1) 0 h))
theorem tp_best_0_ok (X : CT) (v0 : Option Nat) (v1 : Int32) (v2 : Int32) (h : PH) : Im X (cX0_best, 6, RX0, "best", (some .int), 6) 0 [some (.inr v0), some (.inl v1), some (.inl v2), none, none, none] [] h (tp_best_0 v0 v1 v2 h) (szP h) (kP X h) := by
  unfold tp_best_0
  refine im_aload_n (pc := 0) dX0_best_0 rfl rfl ?_
  refine im_iload_n (pc := 1) dX0_best_1 rfl rfl ?_
  refine cl_X0_187 tp_isTold_im (pc := 2) (by decide) dX0_best_2 (Nat.le_of_ble_eq_true rfl) fun x51 => ?_
  refine im_if_eq (pc := 5) (tgt := 16) dX0_best_5 (by decide) ?_ ?_
  · refine im_sipush (pc := 16) (v := (-1000)) dX0_best_16 (by decide) ?_
    exact im_iretP (pc := 19) dX0_best_19
  · refine im_iload_n (pc := 8) dX0_best_8 rfl rfl ?_
    refine im_iconst (pc := 9) (v := 2) dX0_best_9 (by decide) ?_
    refine cl_X0_25 tp_in_im (pc := 10) (by decide) dX0_best_10 (Nat.le_of_ble_eq_true rfl) fun x52 => ?_
    refine im_if_ne (pc := 13) (tgt := 20) dX0_best_13 (by decide) ?_ ?_
    · refine im_iconst (pc := 20) (v := (-1)) dX0_best_20 (by decide) ?_
      refine im_istore_n (pc := 21) (lv' := [some (.inr v0), some (.inl v1), some (.inl v2), some (.inl (-1)), none, none]) dX0_best_21 rfl (by decide) rfl ?_
      refine im_iconst (pc := 22) (v := 0) dX0_best_22 (by decide) ?_
      refine im_istore (pc := 23) (lv' := [some (.inr v0), some (.inl v1), some (.inl v2), some (.inl (-1)), some (.inl 0), none]) dX0_best_23 (by decide) rfl ?_
      exact Im.drop [true, true, true, true, true, false] rfl (tp_best_L25_ok X v0 v1 v2 (-1) 0 h)
    · refine im_sipush (pc := 16) (v := (-1000)) dX0_best_16 (by decide) ?_
      exact im_iretP (pc := 19) dX0_best_19
noncomputable def tp_best (a0 : Option Nat) (a1 : Int32) (a2 : Int32) (h : PH) : Option (Int32) := grd (isC [0] a0 h) (tp_best_0 a0 a1 a2 h)
theorem tp_best_im : IM_X0_best tp_best 6 := by
  intro a0 a1 a2 h r e
  obtain ⟨e1, e2⟩ := grd_some e
  exact ⟨e1, SpI.ofP (k := 3) (plainFor_of_name (by decide)) rfl (fun X => Im.drop [true, true, true, false, false, false] rfl (tp_best_0_ok X a0 a1 a2 h)) e2⟩
