set_option maxRecDepth 100000
theorem cl_X0_267 {X : CT} {cc : ByteArray} {nL : Nat} {mn : String} {ret : Option FieldType} {d d0 : Nat} {τ : Type} {pc : Nat} {lv : List (Option PV)} {st : List PV} {h : PH} {sz : τ → Nat × Nat} {K : τ → Prop} {f : Int32 → PH → Option (Int32)} (HR : IM_X0_lowest f d0) {a0 : Int32} {g : Int32 → Option τ} (hd : d0 + 1 ≤ d) (hdg : decode cc pc = .ok (.invokestatic 267, 3)) (hst : st.length ≤ 8) (kk : ∀ r, Im X (cc, nL, RX0, mn, ret, d) (pc + 3) lv (.inl r :: st) h (g r) sz K) : Im X (cc, nL, RX0, mn, ret, d) pc lv (.inl a0 :: st) h ((f a0 h).bind g) sz K := by
  refine im_cP (y := yX0_lowest) (cY := cX0_lowest) (nY := 1) (rY := (some .int)) (d' := d0) (av := [.inl a0]) (fun r e hX => ?_) (fun r e => HR _ _ _ e) hd (by decide) hst rfl kk
  exact cal_S (n := 1) hX (lw_S q1062 q1063 q106 q1064) (by decide +kernel) rfl hdg

theorem fl_X0_93 : ∀ c ∈ [0], FL RX0 93 c 16 := List.forall_mem_cons.mpr ⟨⟨RX0, TX0, 20, rfl, in_X0, by decide, Or.inl q293⟩, fun _ h => absurd h List.not_mem_nil⟩
theorem cl_X0_270 {X : CT} {cc : ByteArray} {nL : Nat} {mn : String} {ret : Option FieldType} {d d0 : Nat} {τ : Type} {pc : Nat} {lv : List (Option PV)} {st : List PV} {h : PH} {sz : τ → Nat × Nat} {K : τ → Prop} {f : Option Nat → Int32 → Int32 → PH → Option (Int32)} (HR : IM_X0_talkOf f d0) {a0 : Option Nat} {a1 : Int32} {a2 : Int32} {g : Int32 → Option τ} (hd : d0 + 1 ≤ d) (hdg : decode cc pc = .ok (.invokevirtual 270, 3)) (hst : st.length ≤ 8) (kk : ∀ r, Im X (cc, nL, RX0, mn, ret, d) (pc + 3) lv (.inl r :: st) h (g r) sz K) : Im X (cc, nL, RX0, mn, ret, d) pc lv (.inl a2 :: .inl a1 :: .inr a0 :: st) h ((f a0 a1 a2 h).bind g) sz K := by
  refine im_cP (y := yX0_talkOf) (cY := cX0_talkOf) (nY := 3) (rY := (some .int)) (d' := d0) (av := [.inr a0, .inl a1, .inl a2]) (fun r e hX => ?_) (fun r e => (HR _ _ _ _ _ e).2) hd (by decide) hst rfl kk
  obtain ⟨a, c, fs, rfl, ec, hm⟩ := isC_some (HR _ _ _ _ _ e).1
  cases List.mem_singleton.mp hm
  exact cal_V (n := 2) hX (lw_V q1069 q1071 qs34 q106 q1072) (by decide +kernel) rfl rfl ec hdg

def IM_X0_laysSaid (f : Option Nat → Int32 → PH → Option (PH)) (d : Nat) : Prop := ∀ (a0 : Option Nat) (a1 : Int32) (h : PH) (h' : PH), f a0 a1 h = some h' → isC [0] a0 h = true ∧ SpV yX0_laysSaid cX0_laysSaid 5 none d [.inr a0, .inl a1] h h'
noncomputable def tp_laysSaid_b45 (v0 : Option Nat) (v1 : Int32) (v2 : Int32) (v3 : Int32) (v4 : Int32) (h : PH) : Option ((Int32 × PH) ⊕ ((Int32 × PH) ⊕ (PH))) :=
  (if v1 ≤ v4 then
  some (.inr (.inl ((v2 + 1), h)))
  else
  (if v2 = 0 then
  some (.inr (.inl ((v2 + 1), h)))
  else
  (tp_has v2 v4 h).bind fun x51 =>
  (if x51 = 0 then
  some (.inl ((v4 + 1), h))
  else
  (tp_talkOf v0 v3 v4 h).bind fun x52 =>
  (if x52 ≤ 0 then
  some (.inl ((v4 + 1), h))
  else
  (gfr [0] 16 v0 h).bind fun r53 =>
  (gfr [0] 16 v0 h).bind fun r54 =>
  (ald 0 r54 v2 h).bind fun x55 =>
  (tp_talkOf v0 v3 v4 h).bind fun x56 =>
  (gfr [0] 16 v0 h).bind fun r57 =>
  (ald 0 r57 ((v2 &&& (((1 : Int32) <<< (v3 &&& 31)) ^^^ (-1))) &&& (((1 : Int32) <<< (v4 &&& 31)) ^^^ (-1))) h).bind fun x58 =>
  (jM_max x55 (x56 + x58) h).bind fun x59 =>
  (ast 0 r53 v2 x59 h).bind fun h60 =>
  some (.inl ((v4 + 1), h60))))))
noncomputable def tp_laysSaid_L45 (v0 : Option Nat) (v1 : Int32) (v2 : Int32) (v3 : Int32) (v4 : Int32) (h : PH) : Option ((Int32 × PH) ⊕ (PH)) :=
  iter (fun s : Int32 × PH => tp_laysSaid_b45 v0 v1 v2 v3 s.1 s.2) (v4, h)
theorem tp_laysSaid_b45_ok (X : CT) (v0 : Option Nat) (v1 : Int32) (v2 : Int32) (v3 : Int32) (v4 : Int32) (h : PH) : Im X (cX0_laysSaid, 5, RX0, "laysSaid", none, 5) 45 [some (.inr v0), some (.inl v1), some (.inl v2), some (.inl v3), some (.inl v4)] [] h (tp_laysSaid_b45 v0 v1 v2 v3 v4 h) (ez (fun s : Int32 × PH => s.2) (ez (fun s : Int32 × PH => s.2) szV)) (ek X 45 (fun s : Int32 × PH => [some (.inr v0), some (.inl v1), some (.inl v2), some (.inl v3), some (.inl s.1)]) (fun s : Int32 × PH => s.2) (ek X 2 (fun s : Int32 × PH => [some (.inr v0), some (.inl v1), some (.inl s.1), none, none]) (fun s : Int32 × PH => s.2) (kV X))) := by
  unfold tp_laysSaid_b45
  refine im_iload (pc := 45) dX0_laysSaid_45 rfl ?_
  refine im_iload_n (pc := 47) dX0_laysSaid_47 rfl rfl ?_
  refine im_icmp_ge (pc := 48) (tgt := 122) dX0_laysSaid_48 (by decide) ?_ ?_
  · refine im_iinc (pc := 122) (v := (v2 + 1)) (lv' := [some (.inr v0), some (.inl v1), some (.inl (v2 + 1)), some (.inl v3), some (.inl v4)]) dX0_laysSaid_122 rfl rfl (by decide) rfl ?_
    refine im_goto (pc := 125) (tgt := 2) dX0_laysSaid_125 (by decide) ?_
    exact Im.outS (Im.back [true, true, true, false, false] rfl rfl)
  · refine im_iload_n (pc := 51) dX0_laysSaid_51 rfl rfl ?_
    refine im_if_eq (pc := 52) (tgt := 122) dX0_laysSaid_52 (by decide) ?_ ?_
    · refine im_iinc (pc := 122) (v := (v2 + 1)) (lv' := [some (.inr v0), some (.inl v1), some (.inl (v2 + 1)), some (.inl v3), some (.inl v4)]) dX0_laysSaid_122 rfl rfl (by decide) rfl ?_
      refine im_goto (pc := 125) (tgt := 2) dX0_laysSaid_125 (by decide) ?_
      exact Im.outS (Im.back [true, true, true, false, false] rfl rfl)
    · refine im_iload_n (pc := 55) dX0_laysSaid_55 rfl rfl ?_
      refine im_iload (pc := 56) dX0_laysSaid_56 rfl ?_
      refine cl_X0_232 tp_has_im (pc := 58) (by decide) dX0_laysSaid_58 (Nat.le_of_ble_eq_true rfl) fun x51 => ?_
      refine im_if_eq (pc := 61) (tgt := 116) dX0_laysSaid_61 (by decide) ?_ ?_
      · refine im_iinc (pc := 116) (v := (v4 + 1)) (lv' := [some (.inr v0), some (.inl v1), some (.inl v2), some (.inl v3), some (.inl (v4 + 1))]) dX0_laysSaid_116 rfl rfl (by decide) rfl ?_
        refine im_goto (pc := 119) (tgt := 45) dX0_laysSaid_119 (by decide) ?_
        exact Im.back [true, true, true, true, true] rfl rfl
      · refine im_aload_n (pc := 64) dX0_laysSaid_64 rfl rfl ?_
        refine im_iload_n (pc := 65) dX0_laysSaid_65 rfl rfl ?_
        refine im_iload (pc := 66) dX0_laysSaid_66 rfl ?_
        refine cl_X0_270 tp_talkOf_im (pc := 68) (by decide) dX0_laysSaid_68 (Nat.le_of_ble_eq_true rfl) fun x52 => ?_
        refine im_if_le (pc := 71) (tgt := 116) dX0_laysSaid_71 (by decide) ?_ ?_
        · refine im_iinc (pc := 116) (v := (v4 + 1)) (lv' := [some (.inr v0), some (.inl v1), some (.inl v2), some (.inl v3), some (.inl (v4 + 1))]) dX0_laysSaid_116 rfl rfl (by decide) rfl ?_
          refine im_goto (pc := 119) (tgt := 45) dX0_laysSaid_119 (by decide) ?_
          exact Im.back [true, true, true, true, true] rfl rfl
        · refine im_aload_n (pc := 74) dX0_laysSaid_74 rfl rfl ?_
          refine im_gr (pc := 75) fl_X0_93 dX0_laysSaid_75 fun r53 => ?_
          refine im_iload_n (pc := 78) dX0_laysSaid_78 rfl rfl ?_
          refine im_aload_n (pc := 79) dX0_laysSaid_79 rfl rfl ?_
          refine im_gr (pc := 80) fl_X0_93 dX0_laysSaid_80 fun r54 => ?_
          refine im_iload_n (pc := 83) dX0_laysSaid_83 rfl rfl ?_
          refine im_iald (pc := 84) dX0_laysSaid_84 fun x55 => ?_
          refine im_aload_n (pc := 85) dX0_laysSaid_85 rfl rfl ?_
          refine im_iload_n (pc := 86) dX0_laysSaid_86 rfl rfl ?_
          refine im_iload (pc := 87) dX0_laysSaid_87 rfl ?_
          refine cl_X0_270 tp_talkOf_im (pc := 89) (by decide) dX0_laysSaid_89 (Nat.le_of_ble_eq_true rfl) fun x56 => ?_
          refine im_aload_n (pc := 92) dX0_laysSaid_92 rfl rfl ?_
          refine im_gr (pc := 93) fl_X0_93 dX0_laysSaid_93 fun r57 => ?_
          refine im_iload_n (pc := 96) dX0_laysSaid_96 rfl rfl ?_
          refine im_iconst (pc := 97) (v := 1) dX0_laysSaid_97 (by decide) ?_
          refine im_iload_n (pc := 98) dX0_laysSaid_98 rfl rfl ?_
          refine im_ishl (pc := 99) dX0_laysSaid_99 ?_
          refine im_iconst (pc := 100) (v := (-1)) dX0_laysSaid_100 (by decide) ?_
          refine im_ixor (pc := 101) dX0_laysSaid_101 ?_
          refine im_iand (pc := 102) dX0_laysSaid_102 ?_
          refine im_iconst (pc := 103) (v := 1) dX0_laysSaid_103 (by decide) ?_
          refine im_iload (pc := 104) dX0_laysSaid_104 rfl ?_
          refine im_ishl (pc := 106) dX0_laysSaid_106 ?_
          refine im_iconst (pc := 107) (v := (-1)) dX0_laysSaid_107 (by decide) ?_
          refine im_ixor (pc := 108) dX0_laysSaid_108 ?_
          refine im_iand (pc := 109) dX0_laysSaid_109 ?_
          refine im_iald (pc := 110) dX0_laysSaid_110 fun x58 => ?_
          refine im_iadd (pc := 111) dX0_laysSaid_111 ?_
          refine cl_X0_7 jM_max_im (pc := 112) (by decide) dX0_laysSaid_112 (Nat.le_of_ble_eq_true rfl) fun x59 => ?_
          refine im_iast (pc := 115) dX0_laysSaid_115 fun h60 => ?_
          refine im_iinc (pc := 116) (v := (v4 + 1)) (lv' := [some (.inr v0), some (.inl v1), some (.inl v2), some (.inl v3), some (.inl (v4 + 1))]) dX0_laysSaid_116 rfl rfl (by decide) rfl ?_
          refine im_goto (pc := 119) (tgt := 45) dX0_laysSaid_119 (by decide) ?_
          exact Im.back [true, true, true, true, true] rfl rfl
theorem tp_laysSaid_L45_ok (X : CT) (v0 : Option Nat) (v1 : Int32) (v2 : Int32) (v3 : Int32) (v4 : Int32) (h : PH) : Im X (cX0_laysSaid, 5, RX0, "laysSaid", none, 5) 45 [some (.inr v0), some (.inl v1), some (.inl v2), some (.inl v3), some (.inl v4)] [] h (tp_laysSaid_L45 v0 v1 v2 v3 v4 h) (ez (fun s : Int32 × PH => s.2) szV) (ek X 2 (fun s : Int32 × PH => [some (.inr v0), some (.inl v1), some (.inl s.1), none, none]) (fun s : Int32 × PH => s.2) (kV X)) := by
  unfold tp_laysSaid_L45
  exact Im.iter (lv := (fun s : Int32 × PH => [some (.inr v0), some (.inl v1), some (.inl v2), some (.inl v3), some (.inl s.1)])) (hp := (fun s : Int32 × PH => s.2)) (fun s => tp_laysSaid_b45_ok X v0 v1 v2 v3 s.1 s.2) _ rfl rfl
noncomputable def tp_laysSaid_39 (v0 : Option Nat) (v1 : Int32) (v2 : Int32) (v3 : Int32) (s0 : Int32) (s1 : Int32) (s2 : Option Nat) (h : PH) : Option ((Int32 × PH) ⊕ (PH)) :=
  (ast 0 s2 s1 s0 h).bind fun h51 =>
  tp_laysSaid_L45 v0 v1 v2 v3 (v3 + 1) h51
theorem tp_laysSaid_39_ok (X : CT) (v0 : Option Nat) (v1 : Int32) (v2 : Int32) (v3 : Int32) (s0 : Int32) (s1 : Int32) (s2 : Option Nat) (h : PH) : Im X (cX0_laysSaid, 5, RX0, "laysSaid", none, 5) 39 [some (.inr v0), some (.inl v1), some (.inl v2), some (.inl v3), none] [.inl s0, .inl s1, .inr s2] h (tp_laysSaid_39 v0 v1 v2 v3 s0 s1 s2 h) (ez (fun s : Int32 × PH => s.2) szV) (ek X 2 (fun s : Int32 × PH => [some (.inr v0), some (.inl v1), some (.inl s.1), none, none]) (fun s : Int32 × PH => s.2) (kV X)) := by
  unfold tp_laysSaid_39
  refine im_iast (pc := 39) dX0_laysSaid_39 fun h51 => ?_
  refine im_iload_n (pc := 40) dX0_laysSaid_40 rfl rfl ?_
  refine im_iconst (pc := 41) (v := 1) dX0_laysSaid_41 (by decide) ?_
  refine im_iadd (pc := 42) dX0_laysSaid_42 ?_
  refine im_istore (pc := 43) (lv' := [some (.inr v0), some (.inl v1), some (.inl v2), some (.inl v3), some (.inl (v3 + 1))]) dX0_laysSaid_43 (by decide) rfl ?_
  exact Im.drop [true, true, true, true, true] rfl (tp_laysSaid_L45_ok X v0 v1 v2 v3 (v3 + 1) h51)
noncomputable def tp_laysSaid_b2 (v0 : Option Nat) (v1 : Int32) (v2 : Int32) (h : PH) : Option ((Int32 × PH) ⊕ (PH)) :=
  (if ((1 : Int32) <<< (v1 &&& 31)) ≤ v2 then
  some (.inr h)
  else
  (tp_lowest v2 h).bind fun x51 =>
  (gfr [0] 16 v0 h).bind fun r52 =>
  (if v2 = 0 then
  tp_laysSaid_39 v0 v1 v2 x51 0 v2 r52 h
  else
  (gfr [0] 16 v0 h).bind fun r53 =>
  (ald 0 r53 (v2 &&& (((1 : Int32) <<< (x51 &&& 31)) ^^^ (-1))) h).bind fun x54 =>
  tp_laysSaid_39 v0 v1 v2 x51 x54 v2 r52 h))
noncomputable def tp_laysSaid_L2 (v0 : Option Nat) (v1 : Int32) (v2 : Int32) (h : PH) : Option (PH) :=
  iter (fun s : Int32 × PH => tp_laysSaid_b2 v0 v1 s.1 s.2) (v2, h)
theorem tp_laysSaid_b2_ok (X : CT) (v0 : Option Nat) (v1 : Int32) (v2 : Int32) (h : PH) : Im X (cX0_laysSaid, 5, RX0, "laysSaid", none, 5) 2 [some (.inr v0), some (.inl v1), some (.inl v2), none, none] [] h (tp_laysSaid_b2 v0 v1 v2 h) (ez (fun s : Int32 × PH => s.2) szV) (ek X 2 (fun s : Int32 × PH => [some (.inr v0), some (.inl v1), some (.inl s.1), none, none]) (fun s : Int32 × PH => s.2) (kV X)) := by
  unfold tp_laysSaid_b2
  refine im_iload_n (pc := 2) dX0_laysSaid_2 rfl rfl ?_
  refine im_iconst (pc := 3) (v := 1) dX0_laysSaid_3 (by decide) ?_
  refine im_iload_n (pc := 4) dX0_laysSaid_4 rfl rfl ?_
  refine im_ishl (pc := 5) dX0_laysSaid_5 ?_
  refine im_icmp_ge (pc := 6) (tgt := 128) dX0_laysSaid_6 (by decide) ?_ ?_
  · exact Im.outS (im_vret (pc := 128) dX0_laysSaid_128)
  · refine im_iload_n (pc := 9) dX0_laysSaid_9 rfl rfl ?_
    refine cl_X0_267 tp_lowest_im (pc := 10) (by decide) dX0_laysSaid_10 (Nat.le_of_ble_eq_true rfl) fun x51 => ?_
    refine im_istore_n (pc := 13) (lv' := [some (.inr v0), some (.inl v1), some (.inl v2), some (.inl x51), none]) dX0_laysSaid_13 rfl (by decide) rfl ?_
    refine im_aload_n (pc := 14) dX0_laysSaid_14 rfl rfl ?_
    refine im_gr (pc := 15) fl_X0_93 dX0_laysSaid_15 fun r52 => ?_
    refine im_iload_n (pc := 18) dX0_laysSaid_18 rfl rfl ?_
    refine im_iload_n (pc := 19) dX0_laysSaid_19 rfl rfl ?_
    refine im_if_ne (pc := 20) (tgt := 27) dX0_laysSaid_20 (by decide) ?_ ?_
    · refine im_aload_n (pc := 27) dX0_laysSaid_27 rfl rfl ?_
      refine im_gr (pc := 28) fl_X0_93 dX0_laysSaid_28 fun r53 => ?_
      refine im_iload_n (pc := 31) dX0_laysSaid_31 rfl rfl ?_
      refine im_iconst (pc := 32) (v := 1) dX0_laysSaid_32 (by decide) ?_
      refine im_iload_n (pc := 33) dX0_laysSaid_33 rfl rfl ?_
      refine im_ishl (pc := 34) dX0_laysSaid_34 ?_
      refine im_iconst (pc := 35) (v := (-1)) dX0_laysSaid_35 (by decide) ?_
      refine im_ixor (pc := 36) dX0_laysSaid_36 ?_
      refine im_iand (pc := 37) dX0_laysSaid_37 ?_
      refine im_iald (pc := 38) dX0_laysSaid_38 fun x54 => ?_
      exact Im.drop [true, true, true, true, false] rfl (tp_laysSaid_39_ok X v0 v1 v2 x51 x54 v2 r52 h)
    · refine im_iconst (pc := 23) (v := 0) dX0_laysSaid_23 (by decide) ?_
      refine im_goto (pc := 24) (tgt := 39) dX0_laysSaid_24 (by decide) ?_
      exact Im.drop [true, true, true, true, false] rfl (tp_laysSaid_39_ok X v0 v1 v2 x51 0 v2 r52 h)
theorem tp_laysSaid_L2_ok (X : CT) (v0 : Option Nat) (v1 : Int32) (v2 : Int32) (h : PH) : Im X (cX0_laysSaid, 5, RX0, "laysSaid", none, 5) 2 [some (.inr v0), some (.inl v1), some (.inl v2), none, none] [] h (tp_laysSaid_L2 v0 v1 v2 h) szV (kV X) := by
  unfold tp_laysSaid_L2
  exact Im.iter (lv := (fun s : Int32 × PH => [some (.inr v0), some (.inl v1), some (.inl s.1), none, none])) (hp := (fun s : Int32 × PH => s.2)) (fun s => tp_laysSaid_b2_ok X v0 v1 s.1 s.2) _ rfl rfl
noncomputable def tp_laysSaid_0 (v0 : Option Nat) (v1 : Int32) (h : PH) : Option (PH) :=
  tp_laysSaid_L2 v0 v1 0 h
theorem tp_laysSaid_0_ok (X : CT) (v0 : Option Nat) (v1 : Int32) (h : PH) : Im X (cX0_laysSaid, 5, RX0, "laysSaid", none, 5) 0 [some (.inr v0), some (.inl v1), none, none, none] [] h (tp_laysSaid_0 v0 v1 h) szV (kV X) := by
  unfold tp_laysSaid_0
  refine im_iconst (pc := 0) (v := 0) dX0_laysSaid_0 (by decide) ?_
  refine im_istore_n (pc := 1) (lv' := [some (.inr v0), some (.inl v1), some (.inl 0), none, none]) dX0_laysSaid_1 rfl (by decide) rfl ?_
  exact Im.drop [true, true, true, false, false] rfl (tp_laysSaid_L2_ok X v0 v1 0 h)
noncomputable def tp_laysSaid (a0 : Option Nat) (a1 : Int32) (h : PH) : Option (PH) := grd (isC [0] a0 h) (tp_laysSaid_0 a0 a1 h)
theorem tp_laysSaid_im : IM_X0_laysSaid tp_laysSaid 5 := by
  intro a0 a1 h h' e
  obtain ⟨e1, e2⟩ := grd_some e
  exact ⟨e1, SpV.of (k := 3) (plainFor_of_name (by decide)) rfl (fun X => Im.drop [true, true, false, false, false] rfl (tp_laysSaid_0_ok X a0 a1 h)) e2⟩
def IM_X0_withWhom (f : Option Nat → Int32 → Int32 → PH → Option (Int32)) (d : Nat) : Prop := ∀ (a0 : Option Nat) (a1 : Int32) (a2 : Int32) (h : PH) (r : Int32), f a0 a1 a2 h = some r → isC [0] a0 h = true ∧ SpI yX0_withWhom cX0_withWhom 5 (some .int) d [.inr a0, .inl a1, .inl a2] h r h
noncomputable def tp_withWhom_b10 (v0 : Option Nat) (v1 : Int32) (v2 : Int32) (v3 : Int32) (v4 : Int32) (h : PH) : Option ((Int32) ⊕ (Int32)) :=
  (if v2 ≤ v4 then
  some (.inr ((-1)))
  else
  (tp_has v1 v4 h).bind fun x51 =>
  (if x51 = 0 then
  some (.inl (v4 + 1))
  else
  (tp_talkOf v0 v3 v4 h).bind fun x52 =>
  (if x52 ≤ 0 then
  some (.inl (v4 + 1))
  else
  (tp_talkOf v0 v3 v4 h).bind fun x53 =>
  (gfr [0] 16 v0 h).bind fun r54 =>
  (ald 0 r54 ((v1 &&& (((1 : Int32) <<< (v3 &&& 31)) ^^^ (-1))) &&& (((1 : Int32) <<< (v4 &&& 31)) ^^^ (-1))) h).bind fun x55 =>
  (gfr [0] 16 v0 h).bind fun r56 =>
  (ald 0 r56 v1 h).bind fun x57 =>
  (if (x53 + x55) = x57 then
  some (.inr v4)
  else
  some (.inl (v4 + 1))))))
noncomputable def tp_withWhom_L10 (v0 : Option Nat) (v1 : Int32) (v2 : Int32) (v3 : Int32) (v4 : Int32) (h : PH) : Option (Int32) :=
  iter (fun s : Int32 => tp_withWhom_b10 v0 v1 v2 v3 s h) v4
theorem tp_withWhom_b10_ok (X : CT) (v0 : Option Nat) (v1 : Int32) (v2 : Int32) (v3 : Int32) (v4 : Int32) (h : PH) : Im X (cX0_withWhom, 5, RX0, "withWhom", (some .int), 5) 10 [some (.inr v0), some (.inl v1), some (.inl v2), some (.inl v3), some (.inl v4)] [] h (tp_withWhom_b10 v0 v1 v2 v3 v4 h) (ez (fun s : Int32 => h) (szP h)) (ek X 10 (fun s : Int32 => [some (.inr v0), some (.inl v1), some (.inl v2), some (.inl v3), some (.inl s)]) (fun s : Int32 => h) (kP X h)) := by
  unfold tp_withWhom_b10
  refine im_iload (pc := 10) dX0_withWhom_10 rfl ?_
  refine im_iload_n (pc := 12) dX0_withWhom_12 rfl rfl ?_
  refine im_icmp_ge (pc := 13) (tgt := 80) dX0_withWhom_13 (by decide) ?_ ?_
  · refine im_iconst (pc := 80) (v := (-1)) dX0_withWhom_80 (by decide) ?_
    exact Im.outS (im_iretP (pc := 81) dX0_withWhom_81)
  · refine im_iload_n (pc := 16) dX0_withWhom_16 rfl rfl ?_
    refine im_iload (pc := 17) dX0_withWhom_17 rfl ?_
    refine cl_X0_232 tp_has_im (pc := 19) (by decide) dX0_withWhom_19 (Nat.le_of_ble_eq_true rfl) fun x51 => ?_
    refine im_if_eq (pc := 22) (tgt := 74) dX0_withWhom_22 (by decide) ?_ ?_
    · refine im_iinc (pc := 74) (v := (v4 + 1)) (lv' := [some (.inr v0), some (.inl v1), some (.inl v2), some (.inl v3), some (.inl (v4 + 1))]) dX0_withWhom_74 rfl rfl (by decide) rfl ?_
      refine im_goto (pc := 77) (tgt := 10) dX0_withWhom_77 (by decide) ?_
      exact Im.back [true, true, true, true, true] rfl rfl
    · refine im_aload_n (pc := 25) dX0_withWhom_25 rfl rfl ?_
      refine im_iload_n (pc := 26) dX0_withWhom_26 rfl rfl ?_
      refine im_iload (pc := 27) dX0_withWhom_27 rfl ?_
      refine cl_X0_270 tp_talkOf_im (pc := 29) (by decide) dX0_withWhom_29 (Nat.le_of_ble_eq_true rfl) fun x52 => ?_
      refine im_if_le (pc := 32) (tgt := 74) dX0_withWhom_32 (by decide) ?_ ?_
      · refine im_iinc (pc := 74) (v := (v4 + 1)) (lv' := [some (.inr v0), some (.inl v1), some (.inl v2), some (.inl v3), some (.inl (v4 + 1))]) dX0_withWhom_74 rfl rfl (by decide) rfl ?_
        refine im_goto (pc := 77) (tgt := 10) dX0_withWhom_77 (by decide) ?_
        exact Im.back [true, true, true, true, true] rfl rfl
      · refine im_aload_n (pc := 35) dX0_withWhom_35 rfl rfl ?_
        refine im_iload_n (pc := 36) dX0_withWhom_36 rfl rfl ?_
        refine im_iload (pc := 37) dX0_withWhom_37 rfl ?_
        refine cl_X0_270 tp_talkOf_im (pc := 39) (by decide) dX0_withWhom_39 (Nat.le_of_ble_eq_true rfl) fun x53 => ?_
        refine im_aload_n (pc := 42) dX0_withWhom_42 rfl rfl ?_
        refine im_gr (pc := 43) fl_X0_93 dX0_withWhom_43 fun r54 => ?_
        refine im_iload_n (pc := 46) dX0_withWhom_46 rfl rfl ?_
        refine im_iconst (pc := 47) (v := 1) dX0_withWhom_47 (by decide) ?_
        refine im_iload_n (pc := 48) dX0_withWhom_48 rfl rfl ?_
        refine im_ishl (pc := 49) dX0_withWhom_49 ?_
        refine im_iconst (pc := 50) (v := (-1)) dX0_withWhom_50 (by decide) ?_
        refine im_ixor (pc := 51) dX0_withWhom_51 ?_
        refine im_iand (pc := 52) dX0_withWhom_52 ?_
        refine im_iconst (pc := 53) (v := 1) dX0_withWhom_53 (by decide) ?_
        refine im_iload (pc := 54) dX0_withWhom_54 rfl ?_
        refine im_ishl (pc := 56) dX0_withWhom_56 ?_
        refine im_iconst (pc := 57) (v := (-1)) dX0_withWhom_57 (by decide) ?_
        refine im_ixor (pc := 58) dX0_withWhom_58 ?_
        refine im_iand (pc := 59) dX0_withWhom_59 ?_
        refine im_iald (pc := 60) dX0_withWhom_60 fun x55 => ?_
        refine im_iadd (pc := 61) dX0_withWhom_61 ?_
        refine im_aload_n (pc := 62) dX0_withWhom_62 rfl rfl ?_
        refine im_gr (pc := 63) fl_X0_93 dX0_withWhom_63 fun r56 => ?_
        refine im_iload_n (pc := 66) dX0_withWhom_66 rfl rfl ?_
        refine im_iald (pc := 67) dX0_withWhom_67 fun x57 => ?_
        refine im_icmp_ne (pc := 68) (tgt := 74) dX0_withWhom_68 (by decide) ?_ ?_
        · refine im_iinc (pc := 74) (v := (v4 + 1)) (lv' := [some (.inr v0), some (.inl v1), some (.inl v2), some (.inl v3), some (.inl (v4 + 1))]) dX0_withWhom_74 rfl rfl (by decide) rfl ?_
          refine im_goto (pc := 77) (tgt := 10) dX0_withWhom_77 (by decide) ?_
          exact Im.back [true, true, true, true, true] rfl rfl
        · refine im_iload (pc := 71) dX0_withWhom_71 rfl ?_
          exact Im.outS (im_iretP (pc := 73) dX0_withWhom_73)
theorem tp_withWhom_L10_ok (X : CT) (v0 : Option Nat) (v1 : Int32) (v2 : Int32) (v3 : Int32) (v4 : Int32) (h : PH) : Im X (cX0_withWhom, 5, RX0, "withWhom", (some .int), 5) 10 [some (.inr v0), some (.inl v1), some (.inl v2), some (.inl v3), some (.inl v4)] [] h (tp_withWhom_L10 v0 v1 v2 v3 v4 h) (szP h) (kP X h) := by
  unfold tp_withWhom_L10
  exact Im.iter (lv := (fun s : Int32 => [some (.inr v0), some (.inl v1), some (.inl v2), some (.inl v3), some (.inl s)])) (hp := (fun s : Int32 => h)) (fun s => tp_withWhom_b10_ok X v0 v1 v2 v3 s h) _ rfl rfl
noncomputable def tp_withWhom_0 (v0 : Option Nat) (v1 : Int32) (v2 : Int32) (h : PH) : Option (Int32) :=
  (tp_lowest v1 h).bind fun x51 =>
  tp_withWhom_L10 v0 v1 v2 x51 (x51 + 1) h
theorem tp_withWhom_0_ok (X : CT) (v0 : Option Nat) (v1 : Int32) (v2 : Int32) (h : PH) : Im X (cX0_withWhom, 5, RX0, "withWhom", (some .int), 5) 0 [some (.inr v0), some (.inl v1), some (.inl v2), none, none] [] h (tp_withWhom_0 v0 v1 v2 h) (szP h) (kP X h) := by
  unfold tp_withWhom_0
  refine im_iload_n (pc := 0) dX0_withWhom_0 rfl rfl ?_
  refine cl_X0_267 tp_lowest_im (pc := 1) (by decide) dX0_withWhom_1 (Nat.le_of_ble_eq_true rfl) fun x51 => ?_
  refine im_istore_n (pc := 4) (lv' := [some (.inr v0), some (.inl v1), some (.inl v2), some (.inl x51), none]) dX0_withWhom_4 rfl (by decide) rfl ?_
  refine im_iload_n (pc := 5) dX0_withWhom_5 rfl rfl ?_
  refine im_iconst (pc := 6) (v := 1) dX0_withWhom_6 (by decide) ?_
  refine im_iadd (pc := 7) dX0_withWhom_7 ?_
  refine im_istore (pc := 8) (lv' := [some (.inr v0), some (.inl v1), some (.inl v2), some (.inl x51), some (.inl (x51 + 1))]) dX0_withWhom_8 (by decide) rfl ?_
  exact Im.drop [true, true, true, true, true] rfl (tp_withWhom_L10_ok X v0 v1 v2 x51 (x51 + 1) h)
noncomputable def tp_withWhom (a0 : Option Nat) (a1 : Int32) (a2 : Int32) (h : PH) : Option (Int32) := grd (isC [0] a0 h) (tp_withWhom_0 a0 a1 a2 h)
theorem tp_withWhom_im : IM_X0_withWhom tp_withWhom 5 := by
  intro a0 a1 a2 h r e
  obtain ⟨e1, e2⟩ := grd_some e
  exact ⟨e1, SpI.ofP (k := 2) (plainFor_of_name (by decide)) rfl (fun X => Im.drop [true, true, true, false, false] rfl (tp_withWhom_0_ok X a0 a1 a2 h)) e2⟩
theorem cl_X0_273 {X : CT} {cc : ByteArray} {nL : Nat} {mn : String} {ret : Option FieldType} {d d0 : Nat} {τ : Type} {pc : Nat} {lv : List (Option PV)} {st : List PV} {h : PH} {sz : τ → Nat × Nat} {K : τ → Prop} {f : Option Nat → Int32 → PH → Option (PH)} (HR : IM_X0_laysSaid f d0) {a0 : Option Nat} {a1 : Int32} {g : PH → Option τ} (hd : d0 + 1 ≤ d) (hdg : decode cc pc = .ok (.invokevirtual 273, 3)) (hst : st.length ≤ 8) (kk : ∀ h', Im X (cc, nL, RX0, mn, ret, d) (pc + 3) lv st h' (g h') sz K) : Im X (cc, nL, RX0, mn, ret, d) pc lv (.inl a1 :: .inr a0 :: st) h ((f a0 a1 h).bind g) sz K := by
  refine im_cV (y := yX0_laysSaid) (cY := cX0_laysSaid) (nY := 5) (rY := none) (d' := d0) (av := [.inr a0, .inl a1]) (fun h' e hX => ?_) (fun h' e => (HR _ _ _ _ e).2) hd (by decide) hst rfl kk
  obtain ⟨a, c, fs, rfl, ec, hm⟩ := isC_some (HR _ _ _ _ e).1
  cases List.mem_singleton.mp hm
  exact cal_V (n := 1) hX (lw_V q1058 q1060 qs33 q106 q1061) (by decide +kernel) rfl rfl ec hdg

theorem cl_X0_276 {X : CT} {cc : ByteArray} {nL : Nat} {mn : String} {ret : Option FieldType} {d d0 : Nat} {τ : Type} {pc : Nat} {lv : List (Option PV)} {st : List PV} {h : PH} {sz : τ → Nat × Nat} {K : τ → Prop} {f : Option Nat → Int32 → Int32 → PH → Option (Int32)} (HR : IM_X0_withWhom f d0) {a0 : Option Nat} {a1 : Int32} {a2 : Int32} {g : Int32 → Option τ} (hd : d0 + 1 ≤ d) (hdg : decode cc pc = .ok (.invokevirtual 276, 3)) (hst : st.length ≤ 8) (kk : ∀ r, Im X (cc, nL, RX0, mn, ret, d) (pc + 3) lv (.inl r :: st) h (g r) sz K) : Im X (cc, nL, RX0, mn, ret, d) pc lv (.inl a2 :: .inl a1 :: .inr a0 :: st) h ((f a0 a1 a2 h).bind g) sz K := by
  refine im_cP (y := yX0_withWhom) (cY := cX0_withWhom) (nY := 5) (rY := (some .int)) (d' := d0) (av := [.inr a0, .inl a1, .inl a2]) (fun r e hX => ?_) (fun r e => (HR _ _ _ _ _ e).2) hd (by decide) hst rfl kk
  obtain ⟨a, c, fs, rfl, ec, hm⟩ := isC_some (HR _ _ _ _ _ e).1
  cases List.mem_singleton.mp hm
  exact cal_V (n := 2) hX (lw_V q1073 q1075 qs35 q106 q1076) (by decide +kernel) rfl rfl ec hdg

def IM_X0_couples (f : Option Nat → Int32 → Int32 → PH → Option (Int32 × PH)) (d : Nat) : Prop := ∀ (a0 : Option Nat) (a1 : Int32) (a2 : Int32) (h : PH) (r : Int32) (h' : PH), f a0 a1 a2 h = some (r, h') → isC [0] a0 h = true ∧ SpI yX0_couples cX0_couples 7 (some .int) d [.inr a0, .inl a1, .inl a2] h r h'
noncomputable def tp_couples_215 (v0 : Option Nat) (v2 : Int32) (v3 : Int32) (v4 : Int32) (v5 : Int32) (v6 : Int32) (h : PH) : Option ((Int32) ⊕ (Int32 × PH)) :=
  (if v6 = (-1) then
  (some (v4 &&& (((1 : Int32) <<< (v5 &&& 31)) ^^^ (-1)))).bind fun x52 =>
  some (.inl x52)
  else
  (some (v4 &&& ((((1 : Int32) <<< (v5 &&& 31)) ^^^ (-1)) &&& (((1 : Int32) <<< (v6 &&& 31)) ^^^ (-1))))).bind fun x51 =>
  some (.inl x51))
theorem tp_couples_215_ok (X : CT) (v0 : Option Nat) (v2 : Int32) (v3 : Int32) (v4 : Int32) (v5 : Int32) (v6 : Int32) (h : PH) : Im X (cX0_couples, 7, RX0, "couples", (some .int), 6) 215 [some (.inr v0), none, some (.inl v2), some (.inl v3), some (.inl v4), some (.inl v5), some (.inl v6)] [] h (tp_couples_215 v0 v2 v3 v4 v5 v6 h) (ez (fun s : Int32 => h) szI) (ek X 139 (fun s : Int32 => [some (.inr v0), none, some (.inl v2), some (.inl v3), some (.inl s), none, none]) (fun s : Int32 => h) (kI X)) := by
  unfold tp_couples_215
  refine im_iload (pc := 215) dX0_couples_215 rfl ?_
  refine im_iload (pc := 217) dX0_couples_217 rfl ?_
  refine im_iconst (pc := 219) (v := (-1)) dX0_couples_219 (by decide) ?_
  refine im_icmp_ne (pc := 220) (tgt := 232) dX0_couples_220 (by decide) ?_ ?_
  · refine im_iconst (pc := 232) (v := 1) dX0_couples_232 (by decide) ?_
    refine im_iload (pc := 233) dX0_couples_233 rfl ?_
    refine im_ishl (pc := 235) dX0_couples_235 ?_
    refine im_iconst (pc := 236) (v := (-1)) dX0_couples_236 (by decide) ?_
    refine im_ixor (pc := 237) dX0_couples_237 ?_
    refine im_iconst (pc := 238) (v := 1) dX0_couples_238 (by decide) ?_
    refine im_iload (pc := 239) dX0_couples_239 rfl ?_
    refine im_ishl (pc := 241) dX0_couples_241 ?_
    refine im_iconst (pc := 242) (v := (-1)) dX0_couples_242 (by decide) ?_
    refine im_ixor (pc := 243) dX0_couples_243 ?_
    refine im_iand (pc := 244) dX0_couples_244 ?_
    refine im_iand (pc := 245) dX0_couples_245 ?_
    refine im_let fun x51 => ?_
    refine im_istore (pc := 246) (lv' := [some (.inr v0), none, some (.inl v2), some (.inl v3), some (.inl x51), some (.inl v5), some (.inl v6)]) dX0_couples_246 (by decide) rfl ?_
    refine im_goto (pc := 248) (tgt := 139) dX0_couples_248 (by decide) ?_
    exact Im.back [true, false, true, true, true, false, false] rfl rfl
  · refine im_iconst (pc := 223) (v := 1) dX0_couples_223 (by decide) ?_
    refine im_iload (pc := 224) dX0_couples_224 rfl ?_
    refine im_ishl (pc := 226) dX0_couples_226 ?_
    refine im_iconst (pc := 227) (v := (-1)) dX0_couples_227 (by decide) ?_
    refine im_ixor (pc := 228) dX0_couples_228 ?_
    refine im_goto (pc := 229) (tgt := 245) dX0_couples_229 (by decide) ?_
    refine im_iand (pc := 245) dX0_couples_245 ?_
    refine im_let fun x52 => ?_
    refine im_istore (pc := 246) (lv' := [some (.inr v0), none, some (.inl v2), some (.inl v3), some (.inl x52), some (.inl v5), some (.inl v6)]) dX0_couples_246 (by decide) rfl ?_
    refine im_goto (pc := 248) (tgt := 139) dX0_couples_248 (by decide) ?_
    exact Im.back [true, false, true, true, true, false, false] rfl rfl
noncomputable def tp_couples_b139 (v0 : Option Nat) (v2 : Int32) (v3 : Int32) (v4 : Int32) (h : PH) : Option ((Int32) ⊕ (Int32 × PH)) :=
  (if v4 = 0 then
  some (.inr (((-2), h)))
  else
  (tp_lowest v4 h).bind fun x51 =>
  (tp_withWhom v0 v4 v3 h).bind fun x52 =>
  (gfr [0] 17 v0 h).bind fun r53 =>
  (ald 0 r53 x51 h).bind fun x54 =>
  (if x54 = v2 then
  (if x52 = (-1) then
  some (.inr (((-2), h)))
  else
  (gfr [0] 17 v0 h).bind fun r59 =>
  (ald 0 r59 x52 h).bind fun x60 =>
  some (.inr ((x60, h))))
  else
  (if x52 = (-1) then
  tp_couples_215 v0 v2 v3 v4 x51 x52 h
  else
  (gfr [0] 17 v0 h).bind fun r55 =>
  (ald 0 r55 x52 h).bind fun x56 =>
  (if x56 = v2 then
  (gfr [0] 17 v0 h).bind fun r57 =>
  (ald 0 r57 x51 h).bind fun x58 =>
  some (.inr ((x58, h)))
  else
  tp_couples_215 v0 v2 v3 v4 x51 x52 h))))
noncomputable def tp_couples_L139 (v0 : Option Nat) (v2 : Int32) (v3 : Int32) (v4 : Int32) (h : PH) : Option (Int32 × PH) :=
  iter (fun s : Int32 => tp_couples_b139 v0 v2 v3 s h) v4
theorem tp_couples_b139_ok (X : CT) (v0 : Option Nat) (v2 : Int32) (v3 : Int32) (v4 : Int32) (h : PH) : Im X (cX0_couples, 7, RX0, "couples", (some .int), 6) 139 [some (.inr v0), none, some (.inl v2), some (.inl v3), some (.inl v4), none, none] [] h (tp_couples_b139 v0 v2 v3 v4 h) (ez (fun s : Int32 => h) szI) (ek X 139 (fun s : Int32 => [some (.inr v0), none, some (.inl v2), some (.inl v3), some (.inl s), none, none]) (fun s : Int32 => h) (kI X)) := by
  unfold tp_couples_b139
  refine im_iload (pc := 139) dX0_couples_139 rfl ?_
  refine im_if_eq (pc := 141) (tgt := 251) dX0_couples_141 (by decide) ?_ ?_
  · refine im_bipush (pc := 251) (v := (-2)) dX0_couples_251 (by decide) ?_
    exact Im.outS (im_iret (pc := 253) dX0_couples_253)
  · refine im_iload (pc := 144) dX0_couples_144 rfl ?_
    refine cl_X0_267 tp_lowest_im (pc := 146) (by decide) dX0_couples_146 (Nat.le_of_ble_eq_true rfl) fun x51 => ?_
    refine im_istore (pc := 149) (lv' := [some (.inr v0), none, some (.inl v2), some (.inl v3), some (.inl v4), some (.inl x51), none]) dX0_couples_149 (by decide) rfl ?_
    refine im_aload_n (pc := 151) dX0_couples_151 rfl rfl ?_
    refine im_iload (pc := 152) dX0_couples_152 rfl ?_
    refine im_iload_n (pc := 154) dX0_couples_154 rfl rfl ?_
    refine cl_X0_276 tp_withWhom_im (pc := 155) (by decide) dX0_couples_155 (Nat.le_of_ble_eq_true rfl) fun x52 => ?_
    refine im_istore (pc := 158) (lv' := [some (.inr v0), none, some (.inl v2), some (.inl v3), some (.inl v4), some (.inl x51), some (.inl x52)]) dX0_couples_158 (by decide) rfl ?_
    refine im_aload_n (pc := 160) dX0_couples_160 rfl rfl ?_
    refine im_gr (pc := 161) fl_X0_96 dX0_couples_161 fun r53 => ?_
    refine im_iload (pc := 164) dX0_couples_164 rfl ?_
    refine im_iald (pc := 166) dX0_couples_166 fun x54 => ?_
    refine im_iload_n (pc := 167) dX0_couples_167 rfl rfl ?_
    refine im_icmp_ne (pc := 168) (tgt := 190) dX0_couples_168 (by decide) ?_ ?_
    · refine im_iload (pc := 190) dX0_couples_190 rfl ?_
      refine im_iconst (pc := 192) (v := (-1)) dX0_couples_192 (by decide) ?_
      refine im_icmp_eq (pc := 193) (tgt := 215) dX0_couples_193 (by decide) ?_ ?_
      · exact Im.drop [true, false, true, true, true, true, true] rfl (tp_couples_215_ok X v0 v2 v3 v4 x51 x52 h)
      · refine im_aload_n (pc := 196) dX0_couples_196 rfl rfl ?_
        refine im_gr (pc := 197) fl_X0_96 dX0_couples_197 fun r55 => ?_
        refine im_iload (pc := 200) dX0_couples_200 rfl ?_
        refine im_iald (pc := 202) dX0_couples_202 fun x56 => ?_
        refine im_iload_n (pc := 203) dX0_couples_203 rfl rfl ?_
        refine im_icmp_ne (pc := 204) (tgt := 215) dX0_couples_204 (by decide) ?_ ?_
        · exact Im.drop [true, false, true, true, true, true, true] rfl (tp_couples_215_ok X v0 v2 v3 v4 x51 x52 h)
        · refine im_aload_n (pc := 207) dX0_couples_207 rfl rfl ?_
          refine im_gr (pc := 208) fl_X0_96 dX0_couples_208 fun r57 => ?_
          refine im_iload (pc := 211) dX0_couples_211 rfl ?_
          refine im_iald (pc := 213) dX0_couples_213 fun x58 => ?_
          exact Im.outS (im_iret (pc := 214) dX0_couples_214)
    · refine im_iload (pc := 171) dX0_couples_171 rfl ?_
      refine im_iconst (pc := 173) (v := (-1)) dX0_couples_173 (by decide) ?_
      refine im_icmp_ne (pc := 174) (tgt := 182) dX0_couples_174 (by decide) ?_ ?_
      · refine im_aload_n (pc := 182) dX0_couples_182 rfl rfl ?_
        refine im_gr (pc := 183) fl_X0_96 dX0_couples_183 fun r59 => ?_
        refine im_iload (pc := 186) dX0_couples_186 rfl ?_
        refine im_iald (pc := 188) dX0_couples_188 fun x60 => ?_
        exact Im.outS (im_iret (pc := 189) dX0_couples_189)
      · refine im_bipush (pc := 177) (v := (-2)) dX0_couples_177 (by decide) ?_
        refine im_goto (pc := 179) (tgt := 189) dX0_couples_179 (by decide) ?_
        exact Im.outS (im_iret (pc := 189) dX0_couples_189)
theorem tp_couples_L139_ok (X : CT) (v0 : Option Nat) (v2 : Int32) (v3 : Int32) (v4 : Int32) (h : PH) : Im X (cX0_couples, 7, RX0, "couples", (some .int), 6) 139 [some (.inr v0), none, some (.inl v2), some (.inl v3), some (.inl v4), none, none] [] h (tp_couples_L139 v0 v2 v3 v4 h) szI (kI X) := by
  unfold tp_couples_L139
  exact Im.iter (lv := (fun s : Int32 => [some (.inr v0), none, some (.inl v2), some (.inl v3), some (.inl s), none, none])) (hp := (fun s : Int32 => h)) (fun s => tp_couples_b139_ok X v0 v2 v3 s h) _ rfl rfl
noncomputable def tp_couples_b77 (v0 : Option Nat) (v1 : Int32) (v2 : Int32) (v3 : Int32) (v4 : Int32) (h : PH) : Option ((Int32 × Int32 × PH) ⊕ (Int32 × PH)) :=
  (if 16 ≤ v4 then
  (tp_laysSaid v0 v3 h).bind fun h51 =>
  (if v2 = 100 then
  (gfr [0] 16 v0 h51).bind fun r52 =>
  (ald 0 r52 (((1 : Int32) <<< (v3 &&& 31)) - 1) h51).bind fun x53 =>
  some (.inr ((x53, h51)))
  else
  (tp_couples_L139 v0 v2 v3 (((1 : Int32) <<< (v3 &&& 31)) - 1) h51).map .inr)
  else
  (tp_has v1 v4 h).bind fun x54 =>
  (if x54 = 0 then
  some (.inl (v3, (v4 + 1), h))
  else
  (gfr [0] 17 v0 h).bind fun r55 =>
  (ast 0 r55 v3 v4 h).bind fun h56 =>
  some (.inl ((v3 + 1), (v4 + 1), h56))))
noncomputable def tp_couples_L77 (v0 : Option Nat) (v1 : Int32) (v2 : Int32) (v3 : Int32) (v4 : Int32) (h : PH) : Option (Int32 × PH) :=
  iter (fun s : Int32 × Int32 × PH => tp_couples_b77 v0 v1 v2 s.1 s.2.1 s.2.2) (v3, v4, h)
theorem tp_couples_b77_ok (X : CT) (v0 : Option Nat) (v1 : Int32) (v2 : Int32) (v3 : Int32) (v4 : Int32) (h : PH) : Im X (cX0_couples, 7, RX0, "couples", (some .int), 6) 77 [some (.inr v0), some (.inl v1), some (.inl v2), some (.inl v3), some (.inl v4), none, none] [] h (tp_couples_b77 v0 v1 v2 v3 v4 h) (ez (fun s : Int32 × Int32 × PH => s.2.2) szI) (ek X 77 (fun s : Int32 × Int32 × PH => [some (.inr v0), some (.inl v1), some (.inl v2), some (.inl s.1), some (.inl s.2.1), none, none]) (fun s : Int32 × Int32 × PH => s.2.2) (kI X)) := by
  unfold tp_couples_b77
  refine im_iload (pc := 77) dX0_couples_77 rfl ?_
  refine im_bipush (pc := 79) (v := 16) dX0_couples_79 (by decide) ?_
  refine im_icmp_ge (pc := 81) (tgt := 113) dX0_couples_81 (by decide) ?_ ?_
  · refine im_aload_n (pc := 113) dX0_couples_113 rfl rfl ?_
    refine im_iload_n (pc := 114) dX0_couples_114 rfl rfl ?_
    refine cl_X0_273 tp_laysSaid_im (pc := 115) (by decide) dX0_couples_115 (Nat.le_of_ble_eq_true rfl) fun h51 => ?_
    refine im_iconst (pc := 118) (v := 1) dX0_couples_118 (by decide) ?_
    refine im_iload_n (pc := 119) dX0_couples_119 rfl rfl ?_
    refine im_ishl (pc := 120) dX0_couples_120 ?_
    refine im_iconst (pc := 121) (v := 1) dX0_couples_121 (by decide) ?_
    refine im_isub (pc := 122) dX0_couples_122 ?_
    refine im_istore (pc := 123) (lv' := [some (.inr v0), some (.inl v1), some (.inl v2), some (.inl v3), some (.inl (((1 : Int32) <<< (v3 &&& 31)) - 1)), none, none]) dX0_couples_123 (by decide) rfl ?_
    refine im_iload_n (pc := 125) dX0_couples_125 rfl rfl ?_
    refine im_bipush (pc := 126) (v := 100) dX0_couples_126 (by decide) ?_
    refine im_icmp_ne (pc := 128) (tgt := 139) dX0_couples_128 (by decide) ?_ ?_
    · exact Im.out (Im.drop [true, false, true, true, true, false, false] rfl (tp_couples_L139_ok X v0 v2 v3 (((1 : Int32) <<< (v3 &&& 31)) - 1) h51))
    · refine im_aload_n (pc := 131) dX0_couples_131 rfl rfl ?_
      refine im_gr (pc := 132) fl_X0_93 dX0_couples_132 fun r52 => ?_
      refine im_iload (pc := 135) dX0_couples_135 rfl ?_
      refine im_iald (pc := 137) dX0_couples_137 fun x53 => ?_
      exact Im.outS (im_iret (pc := 138) dX0_couples_138)
  · refine im_iload_n (pc := 84) dX0_couples_84 rfl rfl ?_
    refine im_iload (pc := 85) dX0_couples_85 rfl ?_
    refine cl_X0_232 tp_has_im (pc := 87) (by decide) dX0_couples_87 (Nat.le_of_ble_eq_true rfl) fun x54 => ?_
    refine im_if_ne (pc := 90) (tgt := 96) dX0_couples_90 (by decide) ?_ ?_
    · refine im_aload_n (pc := 96) dX0_couples_96 rfl rfl ?_
      refine im_gr (pc := 97) fl_X0_96 dX0_couples_97 fun r55 => ?_
      refine im_iload_n (pc := 100) dX0_couples_100 rfl rfl ?_
      refine im_iload (pc := 101) dX0_couples_101 rfl ?_
      refine im_iast (pc := 103) dX0_couples_103 fun h56 => ?_
      refine im_iinc (pc := 104) (v := (v3 + 1)) (lv' := [some (.inr v0), some (.inl v1), some (.inl v2), some (.inl (v3 + 1)), some (.inl v4), none, none]) dX0_couples_104 rfl rfl (by decide) rfl ?_
      refine im_iinc (pc := 107) (v := (v4 + 1)) (lv' := [some (.inr v0), some (.inl v1), some (.inl v2), some (.inl (v3 + 1)), some (.inl (v4 + 1)), none, none]) dX0_couples_107 rfl rfl (by decide) rfl ?_
      refine im_goto (pc := 110) (tgt := 77) dX0_couples_110 (by decide) ?_
      exact Im.back [true, true, true, true, true, false, false] rfl rfl
    · refine im_goto (pc := 93) (tgt := 107) dX0_couples_93 (by decide) ?_
      refine im_iinc (pc := 107) (v := (v4 + 1)) (lv' := [some (.inr v0), some (.inl v1), some (.inl v2), some (.inl v3), some (.inl (v4 + 1)), none, none]) dX0_couples_107 rfl rfl (by decide) rfl ?_
      refine im_goto (pc := 110) (tgt := 77) dX0_couples_110 (by decide) ?_
      exact Im.back [true, true, true, true, true, false, false] rfl rfl
theorem tp_couples_L77_ok (X : CT) (v0 : Option Nat) (v1 : Int32) (v2 : Int32) (v3 : Int32) (v4 : Int32) (h : PH) : Im X (cX0_couples, 7, RX0, "couples", (some .int), 6) 77 [some (.inr v0), some (.inl v1), some (.inl v2), some (.inl v3), some (.inl v4), none, none] [] h (tp_couples_L77 v0 v1 v2 v3 v4 h) szI (kI X) := by
  unfold tp_couples_L77
  exact Im.iter (lv := (fun s : Int32 × Int32 × PH => [some (.inr v0), some (.inl v1), some (.inl v2), some (.inl s.1), some (.inl s.2.1), none, none])) (hp := (fun s : Int32 × Int32 × PH => s.2.2)) (fun s => tp_couples_b77_ok X v0 v1 v2 s.1 s.2.1 s.2.2) _ rfl rfl
noncomputable def tp_couples_41 (v0 : Option Nat) (v1 : Int32) (v2 : Int32) (h : PH) : Option (Int32 × PH) :=
  (gfr [0] 1 v0 h).bind fun r51 =>
  (yd_told r51 h).bind fun x52 =>
  (if (v1 &&& (x52 ^^^ (-1))) = 0 then
  (if v2 = 100 then
  tp_couples_L77 v0 v1 v2 0 0 h
  else
  (tp_has v1 v2 h).bind fun x53 =>
  (if x53 = 0 then
  some (((-3), h))
  else
  tp_couples_L77 v0 v1 v2 0 0 h))
  else
  some (((-3), h)))
theorem tp_couples_41_ok (X : CT) (v0 : Option Nat) (v1 : Int32) (v2 : Int32) (h : PH) : Im X (cX0_couples, 7, RX0, "couples", (some .int), 6) 41 [some (.inr v0), some (.inl v1), some (.inl v2), none, none, none, none] [] h (tp_couples_41 v0 v1 v2 h) szI (kI X) := by
  unfold tp_couples_41
  refine im_iload_n (pc := 41) dX0_couples_41 rfl rfl ?_
  refine im_aload_n (pc := 42) dX0_couples_42 rfl rfl ?_
  refine im_gr (pc := 43) fl_X0_63 dX0_couples_43 fun r51 => ?_
  refine cl_X0_264 yd_told_im (pc := 46) (by decide) dX0_couples_46 (Nat.le_of_ble_eq_true rfl) fun x52 => ?_
  refine im_iconst (pc := 49) (v := (-1)) dX0_couples_49 (by decide) ?_
  refine im_ixor (pc := 50) dX0_couples_50 ?_
  refine im_iand (pc := 51) dX0_couples_51 ?_
  refine im_if_ne (pc := 52) (tgt := 69) dX0_couples_52 (by decide) ?_ ?_
  · refine im_bipush (pc := 69) (v := (-3)) dX0_couples_69 (by decide) ?_
    exact im_iret (pc := 71) dX0_couples_71
  · refine im_iload_n (pc := 55) dX0_couples_55 rfl rfl ?_
    refine im_bipush (pc := 56) (v := 100) dX0_couples_56 (by decide) ?_
    refine im_icmp_eq (pc := 58) (tgt := 72) dX0_couples_58 (by decide) ?_ ?_
    · refine im_iconst (pc := 72) (v := 0) dX0_couples_72 (by decide) ?_
      refine im_istore_n (pc := 73) (lv' := [some (.inr v0), some (.inl v1), some (.inl v2), some (.inl 0), none, none, none]) dX0_couples_73 rfl (by decide) rfl ?_
      refine im_iconst (pc := 74) (v := 0) dX0_couples_74 (by decide) ?_
      refine im_istore (pc := 75) (lv' := [some (.inr v0), some (.inl v1), some (.inl v2), some (.inl 0), some (.inl 0), none, none]) dX0_couples_75 (by decide) rfl ?_
      exact Im.drop [true, true, true, true, true, false, false] rfl (tp_couples_L77_ok X v0 v1 v2 0 0 h)
    · refine im_iload_n (pc := 61) dX0_couples_61 rfl rfl ?_
      refine im_iload_n (pc := 62) dX0_couples_62 rfl rfl ?_
      refine cl_X0_232 tp_has_im (pc := 63) (by decide) dX0_couples_63 (Nat.le_of_ble_eq_true rfl) fun x53 => ?_
      refine im_if_ne (pc := 66) (tgt := 72) dX0_couples_66 (by decide) ?_ ?_
      · refine im_iconst (pc := 72) (v := 0) dX0_couples_72 (by decide) ?_
        refine im_istore_n (pc := 73) (lv' := [some (.inr v0), some (.inl v1), some (.inl v2), some (.inl 0), none, none, none]) dX0_couples_73 rfl (by decide) rfl ?_
        refine im_iconst (pc := 74) (v := 0) dX0_couples_74 (by decide) ?_
        refine im_istore (pc := 75) (lv' := [some (.inr v0), some (.inl v1), some (.inl v2), some (.inl 0), some (.inl 0), none, none]) dX0_couples_75 (by decide) rfl ?_
        exact Im.drop [true, true, true, true, true, false, false] rfl (tp_couples_L77_ok X v0 v1 v2 0 0 h)
      · refine im_bipush (pc := 69) (v := (-3)) dX0_couples_69 (by decide) ?_
        exact im_iret (pc := 71) dX0_couples_71
noncomputable def tp_couples_0 (v0 : Option Nat) (v1 : Int32) (v2 : Int32) (h : PH) : Option (Int32 × PH) :=
  (tp_in v1 65536 h).bind fun x51 =>
  (if x51 = 0 then
  some (((-1000), h))
  else
  (jI_bitCount v1 h).bind fun x52 =>
  (tp_within x52 2 10 h).bind fun x53 =>
  (if x53 = 0 then
  some (((-1000), h))
  else
  (if v2 = 100 then
  tp_couples_41 v0 v1 v2 h
  else
  (tp_in v2 16 h).bind fun x54 =>
  (if x54 = 0 then
  some (((-1000), h))
  else
  tp_couples_41 v0 v1 v2 h))))
theorem tp_couples_0_ok (X : CT) (v0 : Option Nat) (v1 : Int32) (v2 : Int32) (h : PH) : Im X (cX0_couples, 7, RX0, "couples", (some .int), 6) 0 [some (.inr v0), some (.inl v1), some (.inl v2), none, none, none, none] [] h (tp_couples_0 v0 v1 v2 h) szI (kI X) := by
  unfold tp_couples_0
  refine im_iload_n (pc := 0) dX0_couples_0 rfl rfl ?_
  refine im_ldc (pc := 1) q345 dX0_couples_1 ?_
  refine cl_X0_25 tp_in_im (pc := 3) (by decide) dX0_couples_3 (Nat.le_of_ble_eq_true rfl) fun x51 => ?_
  refine im_if_eq (pc := 6) (tgt := 37) dX0_couples_6 (by decide) ?_ ?_
  · refine im_sipush (pc := 37) (v := (-1000)) dX0_couples_37 (by decide) ?_
    exact im_iret (pc := 40) dX0_couples_40
  · refine im_iload_n (pc := 9) dX0_couples_9 rfl rfl ?_
    refine cl_X0_197 jI_bitCount_im (pc := 10) (by decide) dX0_couples_10 (Nat.le_of_ble_eq_true rfl) fun x52 => ?_
    refine im_iconst (pc := 13) (v := 2) dX0_couples_13 (by decide) ?_
    refine im_bipush (pc := 14) (v := 10) dX0_couples_14 (by decide) ?_
    refine cl_X0_120 tp_within_im (pc := 16) (by decide) dX0_couples_16 (Nat.le_of_ble_eq_true rfl) fun x53 => ?_
    refine im_if_eq (pc := 19) (tgt := 37) dX0_couples_19 (by decide) ?_ ?_
    · refine im_sipush (pc := 37) (v := (-1000)) dX0_couples_37 (by decide) ?_
      exact im_iret (pc := 40) dX0_couples_40
    · refine im_iload_n (pc := 22) dX0_couples_22 rfl rfl ?_
      refine im_bipush (pc := 23) (v := 100) dX0_couples_23 (by decide) ?_
      refine im_icmp_eq (pc := 25) (tgt := 41) dX0_couples_25 (by decide) ?_ ?_
      · exact Im.drop [true, true, true, false, false, false, false] rfl (tp_couples_41_ok X v0 v1 v2 h)
      · refine im_iload_n (pc := 28) dX0_couples_28 rfl rfl ?_
        refine im_bipush (pc := 29) (v := 16) dX0_couples_29 (by decide) ?_
        refine cl_X0_25 tp_in_im (pc := 31) (by decide) dX0_couples_31 (Nat.le_of_ble_eq_true rfl) fun x54 => ?_
        refine im_if_ne (pc := 34) (tgt := 41) dX0_couples_34 (by decide) ?_ ?_
        · exact Im.drop [true, true, true, false, false, false, false] rfl (tp_couples_41_ok X v0 v1 v2 h)
        · refine im_sipush (pc := 37) (v := (-1000)) dX0_couples_37 (by decide) ?_
          exact im_iret (pc := 40) dX0_couples_40
noncomputable def tp_couples (a0 : Option Nat) (a1 : Int32) (a2 : Int32) (h : PH) : Option (Int32 × PH) := grd (isC [0] a0 h) (tp_couples_0 a0 a1 a2 h)
theorem tp_couples_im : IM_X0_couples tp_couples 6 := by
  intro a0 a1 a2 h r h' e
  obtain ⟨e1, e2⟩ := grd_some e
  exact ⟨e1, SpI.of (k := 4) (plainFor_of_name (by decide)) rfl (fun X => Im.drop [true, true, true, false, false, false, false] rfl (tp_couples_0_ok X a0 a1 a2 h)) e2⟩
def IM_X0_spread (f : Option Nat → Int32 → PH → Option (Int32)) (d : Nat) : Prop := ∀ (a0 : Option Nat) (a1 : Int32) (h : PH) (r : Int32), f a0 a1 h = some r → isC [0] a0 h = true ∧ SpI yX0_spread cX0_spread 4 (some .int) d [.inr a0, .inl a1] h r h
noncomputable def tp_spread_b4 (v0 : Option Nat) (v1 : Int32) (v2 : Int32) (v3 : Int32) (h : PH) : Option ((Int32 × Int32) ⊕ (Int32)) :=
  (if 16 ≤ v3 then
  some (.inr v2)
  else
  (tp_has v1 v3 h).bind fun x51 =>
  (if x51 = 0 then
  some (.inl ((v2 ||| 0), (v3 + 1)))
  else
  (gfr [0] 1 v0 h).bind fun r52 =>
  (yd_beside r52 v3 h).bind fun x53 =>
  some (.inl ((v2 ||| x53), (v3 + 1)))))
noncomputable def tp_spread_L4 (v0 : Option Nat) (v1 : Int32) (v2 : Int32) (v3 : Int32) (h : PH) : Option (Int32) :=
  iter (fun s : Int32 × Int32 => tp_spread_b4 v0 v1 s.1 s.2 h) (v2, v3)
theorem tp_spread_b4_ok (X : CT) (v0 : Option Nat) (v1 : Int32) (v2 : Int32) (v3 : Int32) (h : PH) : Im X (cX0_spread, 4, RX0, "spread", (some .int), 6) 4 [some (.inr v0), some (.inl v1), some (.inl v2), some (.inl v3)] [] h (tp_spread_b4 v0 v1 v2 v3 h) (ez (fun s : Int32 × Int32 => h) (szP h)) (ek X 4 (fun s : Int32 × Int32 => [some (.inr v0), some (.inl v1), some (.inl s.1), some (.inl s.2)]) (fun s : Int32 × Int32 => h) (kP X h)) := by
  unfold tp_spread_b4
  refine im_iload_n (pc := 4) dX0_spread_4 rfl rfl ?_
  refine im_bipush (pc := 5) (v := 16) dX0_spread_5 (by decide) ?_
  refine im_icmp_ge (pc := 7) (tgt := 39) dX0_spread_7 (by decide) ?_ ?_
  · refine im_iload_n (pc := 39) dX0_spread_39 rfl rfl ?_
    exact Im.outS (im_iretP (pc := 40) dX0_spread_40)
  · refine im_iload_n (pc := 10) dX0_spread_10 rfl rfl ?_
    refine im_iload_n (pc := 11) dX0_spread_11 rfl rfl ?_
    refine im_iload_n (pc := 12) dX0_spread_12 rfl rfl ?_
    refine cl_X0_232 tp_has_im (pc := 13) (by decide) dX0_spread_13 (Nat.le_of_ble_eq_true rfl) fun x51 => ?_
    refine im_if_eq (pc := 16) (tgt := 30) dX0_spread_16 (by decide) ?_ ?_
    · refine im_iconst (pc := 30) (v := 0) dX0_spread_30 (by decide) ?_
      refine im_ior (pc := 31) dX0_spread_31 ?_
      refine im_istore_n (pc := 32) (lv' := [some (.inr v0), some (.inl v1), some (.inl (v2 ||| 0)), some (.inl v3)]) dX0_spread_32 rfl (by decide) rfl ?_
      refine im_iinc (pc := 33) (v := (v3 + 1)) (lv' := [some (.inr v0), some (.inl v1), some (.inl (v2 ||| 0)), some (.inl (v3 + 1))]) dX0_spread_33 rfl rfl (by decide) rfl ?_
      refine im_goto (pc := 36) (tgt := 4) dX0_spread_36 (by decide) ?_
      exact Im.back [true, true, true, true] rfl rfl
    · refine im_aload_n (pc := 19) dX0_spread_19 rfl rfl ?_
      refine im_gr (pc := 20) fl_X0_63 dX0_spread_20 fun r52 => ?_
      refine im_iload_n (pc := 23) dX0_spread_23 rfl rfl ?_
      refine cl_X0_200 yd_beside_im (pc := 24) (by decide) dX0_spread_24 (Nat.le_of_ble_eq_true rfl) fun x53 => ?_
      refine im_goto (pc := 27) (tgt := 31) dX0_spread_27 (by decide) ?_
      refine im_ior (pc := 31) dX0_spread_31 ?_
      refine im_istore_n (pc := 32) (lv' := [some (.inr v0), some (.inl v1), some (.inl (v2 ||| x53)), some (.inl v3)]) dX0_spread_32 rfl (by decide) rfl ?_
      refine im_iinc (pc := 33) (v := (v3 + 1)) (lv' := [some (.inr v0), some (.inl v1), some (.inl (v2 ||| x53)), some (.inl (v3 + 1))]) dX0_spread_33 rfl rfl (by decide) rfl ?_
      refine im_goto (pc := 36) (tgt := 4) dX0_spread_36 (by decide) ?_
      exact Im.back [true, true, true, true] rfl rfl
theorem tp_spread_L4_ok (X : CT) (v0 : Option Nat) (v1 : Int32) (v2 : Int32) (v3 : Int32) (h : PH) : Im X (cX0_spread, 4, RX0, "spread", (some .int), 6) 4 [some (.inr v0), some (.inl v1), some (.inl v2), some (.inl v3)] [] h (tp_spread_L4 v0 v1 v2 v3 h) (szP h) (kP X h) := by
  unfold tp_spread_L4
  exact Im.iter (lv := (fun s : Int32 × Int32 => [some (.inr v0), some (.inl v1), some (.inl s.1), some (.inl s.2)])) (hp := (fun s : Int32 × Int32 => h)) (fun s => tp_spread_b4_ok X v0 v1 s.1 s.2 h) _ rfl rfl
noncomputable def tp_spread_0 (v0 : Option Nat) (v1 : Int32) (h : PH) : Option (Int32) :=
  tp_spread_L4 v0 v1 v1 0 h
theorem tp_spread_0_ok (X : CT) (v0 : Option Nat) (v1 : Int32) (h : PH) : Im X (cX0_spread, 4, RX0, "spread", (some .int), 6) 0 [some (.inr v0), some (.inl v1), none, none] [] h (tp_spread_0 v0 v1 h) (szP h) (kP X h) := by
  unfold tp_spread_0
  refine im_iload_n (pc := 0) dX0_spread_0 rfl rfl ?_
  refine im_istore_n (pc := 1) (lv' := [some (.inr v0), some (.inl v1), some (.inl v1), none]) dX0_spread_1 rfl (by decide) rfl ?_
  refine im_iconst (pc := 2) (v := 0) dX0_spread_2 (by decide) ?_
  refine im_istore_n (pc := 3) (lv' := [some (.inr v0), some (.inl v1), some (.inl v1), some (.inl 0)]) dX0_spread_3 rfl (by decide) rfl ?_
  exact Im.drop [true, true, true, true] rfl (tp_spread_L4_ok X v0 v1 v1 0 h)
noncomputable def tp_spread (a0 : Option Nat) (a1 : Int32) (h : PH) : Option (Int32) := grd (isC [0] a0 h) (tp_spread_0 a0 a1 h)
theorem tp_spread_im : IM_X0_spread tp_spread 6 := by
  intro a0 a1 h r e
  obtain ⟨e1, e2⟩ := grd_some e
  exact ⟨e1, SpI.ofP (k := 2) (plainFor_of_name (by decide)) rfl (fun X => Im.drop [true, true, false, false] rfl (tp_spread_0_ok X a0 a1 h)) e2⟩
theorem cl_X0_279 {X : CT} {cc : ByteArray} {nL : Nat} {mn : String} {ret : Option FieldType} {d d0 : Nat} {τ : Type} {pc : Nat} {lv : List (Option PV)} {st : List PV} {h : PH} {sz : τ → Nat × Nat} {K : τ → Prop} {f : Option Nat → Int32 → PH → Option (Int32)} (HR : IM_X0_spread f d0) {a0 : Option Nat} {a1 : Int32} {g : Int32 → Option τ} (hd : d0 + 1 ≤ d) (hdg : decode cc pc = .ok (.invokevirtual 279, 3)) (hst : st.length ≤ 8) (kk : ∀ r, Im X (cc, nL, RX0, mn, ret, d) (pc + 3) lv (.inl r :: st) h (g r) sz K) : Im X (cc, nL, RX0, mn, ret, d) pc lv (.inl a1 :: .inr a0 :: st) h ((f a0 a1 h).bind g) sz K := by
  refine im_cP (y := yX0_spread) (cY := cX0_spread) (nY := 4) (rY := (some .int)) (d' := d0) (av := [.inr a0, .inl a1]) (fun r e hX => ?_) (fun r e => (HR _ _ _ _ e).2) hd (by decide) hst rfl kk
  obtain ⟨a, c, fs, rfl, ec, hm⟩ := isC_some (HR _ _ _ _ e).1
  cases List.mem_singleton.mp hm
  exact cal_V (n := 1) hX (lw_V q1081 q1083 qs36 q106 q1084) (by decide +kernel) rfl rfl ec hdg

def IM_X0_heard (f : Option Nat → Int32 → Int32 → PH → Option (Int32)) (d : Nat) : Prop := ∀ (a0 : Option Nat) (a1 : Int32) (a2 : Int32) (h : PH) (r : Int32), f a0 a1 a2 h = some r → isC [0] a0 h = true ∧ SpI yX0_heard cX0_heard 5 (some .int) d [.inr a0, .inl a1, .inl a2] h r h
noncomputable def tp_heard_b80 (v0 : Option Nat) (v2 : Int32) (v3 : Int32) (v4 : Int32) (h : PH) : Option ((Int32 × Int32) ⊕ (Int32)) :=
  (tp_spread v0 v3 h).bind fun x51 =>
  (if x51 = v3 then
  (if v2 = 0 then
  some (.inr v4)
  else
  some (.inr v3))
  else
  (tp_spread v0 v3 h).bind fun x52 =>
  some (.inl (x52, (v4 + 1))))
noncomputable def tp_heard_L80 (v0 : Option Nat) (v2 : Int32) (v3 : Int32) (v4 : Int32) (h : PH) : Option (Int32) :=
  iter (fun s : Int32 × Int32 => tp_heard_b80 v0 v2 s.1 s.2 h) (v3, v4)
theorem tp_heard_b80_ok (X : CT) (v0 : Option Nat) (v2 : Int32) (v3 : Int32) (v4 : Int32) (h : PH) : Im X (cX0_heard, 5, RX0, "heard", (some .int), 7) 80 [some (.inr v0), none, some (.inl v2), some (.inl v3), some (.inl v4)] [] h (tp_heard_b80 v0 v2 v3 v4 h) (ez (fun s : Int32 × Int32 => h) (szP h)) (ek X 80 (fun s : Int32 × Int32 => [some (.inr v0), none, some (.inl v2), some (.inl s.1), some (.inl s.2)]) (fun s : Int32 × Int32 => h) (kP X h)) := by
  unfold tp_heard_b80
  refine im_aload_n (pc := 80) dX0_heard_80 rfl rfl ?_
  refine im_iload_n (pc := 81) dX0_heard_81 rfl rfl ?_
  refine cl_X0_279 tp_spread_im (pc := 82) (by decide) dX0_heard_82 (Nat.le_of_ble_eq_true rfl) fun x51 => ?_
  refine im_iload_n (pc := 85) dX0_heard_85 rfl rfl ?_
  refine im_icmp_eq (pc := 86) (tgt := 101) dX0_heard_86 (by decide) ?_ ?_
  · refine im_iload_n (pc := 101) dX0_heard_101 rfl rfl ?_
    refine im_if_ne (pc := 102) (tgt := 110) dX0_heard_102 (by decide) ?_ ?_
    · refine im_iload_n (pc := 110) dX0_heard_110 rfl rfl ?_
      exact Im.outS (im_iretP (pc := 111) dX0_heard_111)
    · refine im_iload (pc := 105) dX0_heard_105 rfl ?_
      refine im_goto (pc := 107) (tgt := 111) dX0_heard_107 (by decide) ?_
      exact Im.outS (im_iretP (pc := 111) dX0_heard_111)
  · refine im_aload_n (pc := 89) dX0_heard_89 rfl rfl ?_
    refine im_iload_n (pc := 90) dX0_heard_90 rfl rfl ?_
    refine cl_X0_279 tp_spread_im (pc := 91) (by decide) dX0_heard_91 (Nat.le_of_ble_eq_true rfl) fun x52 => ?_
    refine im_istore_n (pc := 94) (lv' := [some (.inr v0), none, some (.inl v2), some (.inl x52), some (.inl v4)]) dX0_heard_94 rfl (by decide) rfl ?_
    refine im_iinc (pc := 95) (v := (v4 + 1)) (lv' := [some (.inr v0), none, some (.inl v2), some (.inl x52), some (.inl (v4 + 1))]) dX0_heard_95 rfl rfl (by decide) rfl ?_
    refine im_goto (pc := 98) (tgt := 80) dX0_heard_98 (by decide) ?_
    exact Im.back [true, false, true, true, true] rfl rfl
theorem tp_heard_L80_ok (X : CT) (v0 : Option Nat) (v2 : Int32) (v3 : Int32) (v4 : Int32) (h : PH) : Im X (cX0_heard, 5, RX0, "heard", (some .int), 7) 80 [some (.inr v0), none, some (.inl v2), some (.inl v3), some (.inl v4)] [] h (tp_heard_L80 v0 v2 v3 v4 h) (szP h) (kP X h) := by
  unfold tp_heard_L80
  exact Im.iter (lv := (fun s : Int32 × Int32 => [some (.inr v0), none, some (.inl v2), some (.inl s.1), some (.inl s.2)])) (hp := (fun s : Int32 × Int32 => h)) (fun s => tp_heard_b80_ok X v0 v2 s.1 s.2 h) _ rfl rfl
noncomputable def tp_heard_b24 (v0 : Option Nat) (v1 : Int32) (v2 : Int32) (v3 : Int32) (v4 : Int32) (h : PH) : Option ((Int32 × Int32) ⊕ (Int32)) :=
  (if 16 ≤ v4 then
  (tp_heard_L80 v0 v2 v3 0 h).map .inr
  else
  (tp_isTold v0 v4 h).bind fun x51 =>
  (if x51 = 0 then
  some (.inl ((v3 ||| 0), (v4 + 1)))
  else
  (gfr [0] 1 v0 h).bind fun r52 =>
  (gfr [2] 0 r52 h).bind fun r53 =>
  (aldr 2 r53 v4 h).bind fun r54 =>
  (gfi [3] 0 r54 h).bind fun x55 =>
  (tp_has x55 v1 h).bind fun x56 =>
  (if x56 = 0 then
  some (.inl ((v3 ||| 0), (v4 + 1)))
  else
  some (.inl ((v3 ||| ((1 : Int32) <<< (v4 &&& 31))), (v4 + 1))))))
noncomputable def tp_heard_L24 (v0 : Option Nat) (v1 : Int32) (v2 : Int32) (v3 : Int32) (v4 : Int32) (h : PH) : Option (Int32) :=
  iter (fun s : Int32 × Int32 => tp_heard_b24 v0 v1 v2 s.1 s.2 h) (v3, v4)
theorem tp_heard_b24_ok (X : CT) (v0 : Option Nat) (v1 : Int32) (v2 : Int32) (v3 : Int32) (v4 : Int32) (h : PH) : Im X (cX0_heard, 5, RX0, "heard", (some .int), 7) 24 [some (.inr v0), some (.inl v1), some (.inl v2), some (.inl v3), some (.inl v4)] [] h (tp_heard_b24 v0 v1 v2 v3 v4 h) (ez (fun s : Int32 × Int32 => h) (szP h)) (ek X 24 (fun s : Int32 × Int32 => [some (.inr v0), some (.inl v1), some (.inl v2), some (.inl s.1), some (.inl s.2)]) (fun s : Int32 × Int32 => h) (kP X h)) := by
  unfold tp_heard_b24
  refine im_iload (pc := 24) dX0_heard_24 rfl ?_
  refine im_bipush (pc := 26) (v := 16) dX0_heard_26 (by decide) ?_
  refine im_icmp_ge (pc := 28) (tgt := 77) dX0_heard_28 (by decide) ?_ ?_
  · refine im_iconst (pc := 77) (v := 0) dX0_heard_77 (by decide) ?_
    refine im_istore (pc := 78) (lv' := [some (.inr v0), some (.inl v1), some (.inl v2), some (.inl v3), some (.inl 0)]) dX0_heard_78 (by decide) rfl ?_
    exact Im.out (Im.drop [true, false, true, true, true] rfl (tp_heard_L80_ok X v0 v2 v3 0 h))
  · refine im_iload_n (pc := 31) dX0_heard_31 rfl rfl ?_
    refine im_aload_n (pc := 32) dX0_heard_32 rfl rfl ?_
    refine im_iload (pc := 33) dX0_heard_33 rfl ?_
    refine cl_X0_187 tp_isTold_im (pc := 35) (by decide) dX0_heard_35 (Nat.le_of_ble_eq_true rfl) fun x51 => ?_
    refine im_if_eq (pc := 38) (tgt := 68) dX0_heard_38 (by decide) ?_ ?_
    · refine im_iconst (pc := 68) (v := 0) dX0_heard_68 (by decide) ?_
      refine im_ior (pc := 69) dX0_heard_69 ?_
      refine im_istore_n (pc := 70) (lv' := [some (.inr v0), some (.inl v1), some (.inl v2), some (.inl (v3 ||| 0)), some (.inl v4)]) dX0_heard_70 rfl (by decide) rfl ?_
      refine im_iinc (pc := 71) (v := (v4 + 1)) (lv' := [some (.inr v0), some (.inl v1), some (.inl v2), some (.inl (v3 ||| 0)), some (.inl (v4 + 1))]) dX0_heard_71 rfl rfl (by decide) rfl ?_
      refine im_goto (pc := 74) (tgt := 24) dX0_heard_74 (by decide) ?_
      exact Im.back [true, true, true, true, true] rfl rfl
    · refine im_aload_n (pc := 41) dX0_heard_41 rfl rfl ?_
      refine im_gr (pc := 42) fl_X0_63 dX0_heard_42 fun r52 => ?_
      refine im_gr (pc := 45) fl_X0_109 dX0_heard_45 fun r53 => ?_
      refine im_iload (pc := 48) dX0_heard_48 rfl ?_
      refine im_aald (pc := 50) (t := 2) (by decide) (by decide) dX0_heard_50 fun r54 => ?_
      refine im_gi (pc := 51) fl_X0_124 dX0_heard_51 fun x55 => ?_
      refine im_iload_n (pc := 54) dX0_heard_54 rfl rfl ?_
      refine cl_X0_232 tp_has_im (pc := 55) (by decide) dX0_heard_55 (Nat.le_of_ble_eq_true rfl) fun x56 => ?_
      refine im_if_eq (pc := 58) (tgt := 68) dX0_heard_58 (by decide) ?_ ?_
      · refine im_iconst (pc := 68) (v := 0) dX0_heard_68 (by decide) ?_
        refine im_ior (pc := 69) dX0_heard_69 ?_
        refine im_istore_n (pc := 70) (lv' := [some (.inr v0), some (.inl v1), some (.inl v2), some (.inl (v3 ||| 0)), some (.inl v4)]) dX0_heard_70 rfl (by decide) rfl ?_
        refine im_iinc (pc := 71) (v := (v4 + 1)) (lv' := [some (.inr v0), some (.inl v1), some (.inl v2), some (.inl (v3 ||| 0)), some (.inl (v4 + 1))]) dX0_heard_71 rfl rfl (by decide) rfl ?_
        refine im_goto (pc := 74) (tgt := 24) dX0_heard_74 (by decide) ?_
        exact Im.back [true, true, true, true, true] rfl rfl
      · refine im_iconst (pc := 61) (v := 1) dX0_heard_61 (by decide) ?_
        refine im_iload (pc := 62) dX0_heard_62 rfl ?_
        refine im_ishl (pc := 64) dX0_heard_64 ?_
        refine im_goto (pc := 65) (tgt := 69) dX0_heard_65 (by decide) ?_
        refine im_ior (pc := 69) dX0_heard_69 ?_
        refine im_istore_n (pc := 70) (lv' := [some (.inr v0), some (.inl v1), some (.inl v2), some (.inl (v3 ||| ((1 : Int32) <<< (v4 &&& 31)))), some (.inl v4)]) dX0_heard_70 rfl (by decide) rfl ?_
        refine im_iinc (pc := 71) (v := (v4 + 1)) (lv' := [some (.inr v0), some (.inl v1), some (.inl v2), some (.inl (v3 ||| ((1 : Int32) <<< (v4 &&& 31)))), some (.inl (v4 + 1))]) dX0_heard_71 rfl rfl (by decide) rfl ?_
        refine im_goto (pc := 74) (tgt := 24) dX0_heard_74 (by decide) ?_
        exact Im.back [true, true, true, true, true] rfl rfl
theorem tp_heard_L24_ok (X : CT) (v0 : Option Nat) (v1 : Int32) (v2 : Int32) (v3 : Int32) (v4 : Int32) (h : PH) : Im X (cX0_heard, 5, RX0, "heard", (some .int), 7) 24 [some (.inr v0), some (.inl v1), some (.inl v2), some (.inl v3), some (.inl v4)] [] h (tp_heard_L24 v0 v1 v2 v3 v4 h) (szP h) (kP X h) := by
  unfold tp_heard_L24
  exact Im.iter (lv := (fun s : Int32 × Int32 => [some (.inr v0), some (.inl v1), some (.inl v2), some (.inl s.1), some (.inl s.2)])) (hp := (fun s : Int32 × Int32 => h)) (fun s => tp_heard_b24_ok X v0 v1 v2 s.1 s.2 h) _ rfl rfl
noncomputable def tp_heard_0 (v0 : Option Nat) (v1 : Int32) (v2 : Int32) (h : PH) : Option (Int32) :=
  (tp_in v1 16 h).bind fun x51 =>
  (if x51 = 0 then
  some ((-1))
  else
  (tp_in v2 2 h).bind fun x52 =>
  (if x52 = 0 then
  some ((-1))
  else
  tp_heard_L24 v0 v1 v2 0 0 h))
theorem tp_heard_0_ok (X : CT) (v0 : Option Nat) (v1 : Int32) (v2 : Int32) (h : PH) : Im X (cX0_heard, 5, RX0, "heard", (some .int), 7) 0 [some (.inr v0), some (.inl v1), some (.inl v2), none, none] [] h (tp_heard_0 v0 v1 v2 h) (szP h) (kP X h) := by
  unfold tp_heard_0
  refine im_iload_n (pc := 0) dX0_heard_0 rfl rfl ?_
  refine im_bipush (pc := 1) (v := 16) dX0_heard_1 (by decide) ?_
  refine cl_X0_25 tp_in_im (pc := 3) (by decide) dX0_heard_3 (Nat.le_of_ble_eq_true rfl) fun x51 => ?_
  refine im_if_eq (pc := 6) (tgt := 17) dX0_heard_6 (by decide) ?_ ?_
  · refine im_iconst (pc := 17) (v := (-1)) dX0_heard_17 (by decide) ?_
    exact im_iretP (pc := 18) dX0_heard_18
  · refine im_iload_n (pc := 9) dX0_heard_9 rfl rfl ?_
    refine im_iconst (pc := 10) (v := 2) dX0_heard_10 (by decide) ?_
    refine cl_X0_25 tp_in_im (pc := 11) (by decide) dX0_heard_11 (Nat.le_of_ble_eq_true rfl) fun x52 => ?_
    refine im_if_ne (pc := 14) (tgt := 19) dX0_heard_14 (by decide) ?_ ?_
    · refine im_iconst (pc := 19) (v := 0) dX0_heard_19 (by decide) ?_
      refine im_istore_n (pc := 20) (lv' := [some (.inr v0), some (.inl v1), some (.inl v2), some (.inl 0), none]) dX0_heard_20 rfl (by decide) rfl ?_
      refine im_iconst (pc := 21) (v := 0) dX0_heard_21 (by decide) ?_
      refine im_istore (pc := 22) (lv' := [some (.inr v0), some (.inl v1), some (.inl v2), some (.inl 0), some (.inl 0)]) dX0_heard_22 (by decide) rfl ?_
      exact Im.drop [true, true, true, true, true] rfl (tp_heard_L24_ok X v0 v1 v2 0 0 h)
    · refine im_iconst (pc := 17) (v := (-1)) dX0_heard_17 (by decide) ?_
      exact im_iretP (pc := 18) dX0_heard_18
noncomputable def tp_heard (a0 : Option Nat) (a1 : Int32) (a2 : Int32) (h : PH) : Option (Int32) := grd (isC [0] a0 h) (tp_heard_0 a0 a1 a2 h)
theorem tp_heard_im : IM_X0_heard tp_heard 7 := by
  intro a0 a1 a2 h r e
  obtain ⟨e1, e2⟩ := grd_some e
  exact ⟨e1, SpI.ofP (k := 2) (plainFor_of_name (by decide)) rfl (fun X => Im.drop [true, true, true, false, false] rfl (tp_heard_0_ok X a0 a1 a2 h)) e2⟩
def IM_X0_circleOf (f : Option Nat → Int32 → PH → Option (Int32)) (d : Nat) : Prop := ∀ (a0 : Option Nat) (a1 : Int32) (h : PH) (r : Int32), f a0 a1 h = some r → isC [0] a0 h = true ∧ SpI yX0_circleOf cX0_circleOf 3 (some .int) d [.inr a0, .inl a1] h r h
noncomputable def tp_circleOf_b4 (v0 : Option Nat) (v2 : Int32) (h : PH) : Option ((Int32) ⊕ (Int32)) :=
  (tp_spread v0 v2 h).bind fun x51 =>
  (if x51 = v2 then
  some (.inr v2)
  else
  (tp_spread v0 v2 h).bind fun x52 =>
  some (.inl x52))
noncomputable def tp_circleOf_L4 (v0 : Option Nat) (v2 : Int32) (h : PH) : Option (Int32) :=
  iter (fun s : Int32 => tp_circleOf_b4 v0 s h) v2
theorem tp_circleOf_b4_ok (X : CT) (v0 : Option Nat) (v2 : Int32) (h : PH) : Im X (cX0_circleOf, 3, RX0, "circleOf", (some .int), 7) 4 [some (.inr v0), none, some (.inl v2)] [] h (tp_circleOf_b4 v0 v2 h) (ez (fun s : Int32 => h) (szP h)) (ek X 4 (fun s : Int32 => [some (.inr v0), none, some (.inl s)]) (fun s : Int32 => h) (kP X h)) := by
  unfold tp_circleOf_b4
  refine im_aload_n (pc := 4) dX0_circleOf_4 rfl rfl ?_
  refine im_iload_n (pc := 5) dX0_circleOf_5 rfl rfl ?_
  refine cl_X0_279 tp_spread_im (pc := 6) (by decide) dX0_circleOf_6 (Nat.le_of_ble_eq_true rfl) fun x51 => ?_
  refine im_iload_n (pc := 9) dX0_circleOf_9 rfl rfl ?_
  refine im_icmp_eq (pc := 10) (tgt := 22) dX0_circleOf_10 (by decide) ?_ ?_
  · refine im_iload_n (pc := 22) dX0_circleOf_22 rfl rfl ?_
    exact Im.outS (im_iretP (pc := 23) dX0_circleOf_23)
  · refine im_aload_n (pc := 13) dX0_circleOf_13 rfl rfl ?_
    refine im_iload_n (pc := 14) dX0_circleOf_14 rfl rfl ?_
    refine cl_X0_279 tp_spread_im (pc := 15) (by decide) dX0_circleOf_15 (Nat.le_of_ble_eq_true rfl) fun x52 => ?_
    refine im_istore_n (pc := 18) (lv' := [some (.inr v0), none, some (.inl x52)]) dX0_circleOf_18 rfl (by decide) rfl ?_
    refine im_goto (pc := 19) (tgt := 4) dX0_circleOf_19 (by decide) ?_
    exact Im.back [true, false, true] rfl rfl
theorem tp_circleOf_L4_ok (X : CT) (v0 : Option Nat) (v2 : Int32) (h : PH) : Im X (cX0_circleOf, 3, RX0, "circleOf", (some .int), 7) 4 [some (.inr v0), none, some (.inl v2)] [] h (tp_circleOf_L4 v0 v2 h) (szP h) (kP X h) := by
  unfold tp_circleOf_L4
  exact Im.iter (lv := (fun s : Int32 => [some (.inr v0), none, some (.inl s)])) (hp := (fun s : Int32 => h)) (fun s => tp_circleOf_b4_ok X v0 s h) _ rfl rfl
noncomputable def tp_circleOf_0 (v0 : Option Nat) (v1 : Int32) (h : PH) : Option (Int32) :=
  tp_circleOf_L4 v0 ((1 : Int32) <<< (v1 &&& 31)) h
theorem tp_circleOf_0_ok (X : CT) (v0 : Option Nat) (v1 : Int32) (h : PH) : Im X (cX0_circleOf, 3, RX0, "circleOf", (some .int), 7) 0 [some (.inr v0), some (.inl v1), none] [] h (tp_circleOf_0 v0 v1 h) (szP h) (kP X h) := by
  unfold tp_circleOf_0
  refine im_iconst (pc := 0) (v := 1) dX0_circleOf_0 (by decide) ?_
  refine im_iload_n (pc := 1) dX0_circleOf_1 rfl rfl ?_
  refine im_ishl (pc := 2) dX0_circleOf_2 ?_
  refine im_istore_n (pc := 3) (lv' := [some (.inr v0), some (.inl v1), some (.inl ((1 : Int32) <<< (v1 &&& 31)))]) dX0_circleOf_3 rfl (by decide) rfl ?_
  exact Im.drop [true, false, true] rfl (tp_circleOf_L4_ok X v0 ((1 : Int32) <<< (v1 &&& 31)) h)
noncomputable def tp_circleOf (a0 : Option Nat) (a1 : Int32) (h : PH) : Option (Int32) := grd (isC [0] a0 h) (tp_circleOf_0 a0 a1 h)
theorem tp_circleOf_im : IM_X0_circleOf tp_circleOf 7 := by
  intro a0 a1 h r e
  obtain ⟨e1, e2⟩ := grd_some e
  exact ⟨e1, SpI.ofP (k := 1) (plainFor_of_name (by decide)) rfl (fun X => Im.drop [true, true, false] rfl (tp_circleOf_0_ok X a0 a1 h)) e2⟩
theorem cl_X0_282 {X : CT} {cc : ByteArray} {nL : Nat} {mn : String} {ret : Option FieldType} {d d0 : Nat} {τ : Type} {pc : Nat} {lv : List (Option PV)} {st : List PV} {h : PH} {sz : τ → Nat × Nat} {K : τ → Prop} {f : Option Nat → Int32 → PH → Option (Int32)} (HR : IM_X0_circleOf f d0) {a0 : Option Nat} {a1 : Int32} {g : Int32 → Option τ} (hd : d0 + 1 ≤ d) (hdg : decode cc pc = .ok (.invokevirtual 282, 3)) (hst : st.length ≤ 8) (kk : ∀ r, Im X (cc, nL, RX0, mn, ret, d) (pc + 3) lv (.inl r :: st) h (g r) sz K) : Im X (cc, nL, RX0, mn, ret, d) pc lv (.inl a1 :: .inr a0 :: st) h ((f a0 a1 h).bind g) sz K := by
  refine im_cP (y := yX0_circleOf) (cY := cX0_circleOf) (nY := 3) (rY := (some .int)) (d' := d0) (av := [.inr a0, .inl a1]) (fun r e hX => ?_) (fun r e => (HR _ _ _ _ e).2) hd (by decide) hst rfl kk
  obtain ⟨a, c, fs, rfl, ec, hm⟩ := isC_some (HR _ _ _ _ e).1
  cases List.mem_singleton.mp hm
  exact cal_V (n := 1) hX (lw_V q1089 q1091 qs37 q106 q1092) (by decide +kernel) rfl rfl ec hdg

def IM_X0_circles (f : Option Nat → Int32 → PH → Option (Int32)) (d : Nat) : Prop := ∀ (a0 : Option Nat) (a1 : Int32) (h : PH) (r : Int32), f a0 a1 h = some r → isC [0] a0 h = true ∧ SpI yX0_circles cX0_circles 4 (some .int) d [.inr a0, .inl a1] h r h
noncomputable def tp_circles_b47 (v0 : Option Nat) (v2 : Int32) (v3 : Int32) (h : PH) : Option ((Int32 × Int32) ⊕ (Int32)) :=
  (if 16 ≤ v3 then
  some (.inr v2)
  else
  (gfr [0] 1 v0 h).bind fun r51 =>
  (gfr [2] 0 r51 h).bind fun r52 =>
  (aldr 2 r52 v3 h).bind fun r53 =>
  (pe_isLaid r53 h).bind fun x54 =>
  (if x54 = 0 then
  some (.inl ((v2 + 0), (v3 + 1)))
  else
  (tp_circleOf v0 v3 h).bind fun x55 =>
  (tp_lowest x55 h).bind fun x56 =>
  (if x56 = v3 then
  some (.inl ((v2 + 1), (v3 + 1)))
  else
  some (.inl ((v2 + 0), (v3 + 1))))))
noncomputable def tp_circles_L47 (v0 : Option Nat) (v2 : Int32) (v3 : Int32) (h : PH) : Option (Int32) :=
  iter (fun s : Int32 × Int32 => tp_circles_b47 v0 s.1 s.2 h) (v2, v3)
theorem tp_circles_b47_ok (X : CT) (v0 : Option Nat) (v2 : Int32) (v3 : Int32) (h : PH) : Im X (cX0_circles, 4, RX0, "circles", (some .int), 8) 47 [some (.inr v0), none, some (.inl v2), some (.inl v3)] [] h (tp_circles_b47 v0 v2 v3 h) (ez (fun s : Int32 × Int32 => h) (szP h)) (ek X 47 (fun s : Int32 × Int32 => [some (.inr v0), none, some (.inl s.1), some (.inl s.2)]) (fun s : Int32 × Int32 => h) (kP X h)) := by
  unfold tp_circles_b47
  refine im_iload_n (pc := 47) dX0_circles_47 rfl rfl ?_
  refine im_bipush (pc := 48) (v := 16) dX0_circles_48 (by decide) ?_
  refine im_icmp_ge (pc := 50) (tgt := 94) dX0_circles_50 (by decide) ?_ ?_
  · refine im_iload_n (pc := 94) dX0_circles_94 rfl rfl ?_
    exact Im.outS (im_iretP (pc := 95) dX0_circles_95)
  · refine im_iload_n (pc := 53) dX0_circles_53 rfl rfl ?_
    refine im_aload_n (pc := 54) dX0_circles_54 rfl rfl ?_
    refine im_gr (pc := 55) fl_X0_63 dX0_circles_55 fun r51 => ?_
    refine im_gr (pc := 58) fl_X0_109 dX0_circles_58 fun r52 => ?_
    refine im_iload_n (pc := 61) dX0_circles_61 rfl rfl ?_
    refine im_aald (pc := 62) (t := 2) (by decide) (by decide) dX0_circles_62 fun r53 => ?_
    refine cl_X0_183 pe_isLaid_im (pc := 63) (by decide) dX0_circles_63 (Nat.le_of_ble_eq_true rfl) fun x54 => ?_
    refine im_if_eq (pc := 66) (tgt := 85) dX0_circles_66 (by decide) ?_ ?_
    · refine im_iconst (pc := 85) (v := 0) dX0_circles_85 (by decide) ?_
      refine im_iadd (pc := 86) dX0_circles_86 ?_
      refine im_istore_n (pc := 87) (lv' := [some (.inr v0), none, some (.inl (v2 + 0)), some (.inl v3)]) dX0_circles_87 rfl (by decide) rfl ?_
      refine im_iinc (pc := 88) (v := (v3 + 1)) (lv' := [some (.inr v0), none, some (.inl (v2 + 0)), some (.inl (v3 + 1))]) dX0_circles_88 rfl rfl (by decide) rfl ?_
      refine im_goto (pc := 91) (tgt := 47) dX0_circles_91 (by decide) ?_
      exact Im.back [true, false, true, true] rfl rfl
    · refine im_aload_n (pc := 69) dX0_circles_69 rfl rfl ?_
      refine im_iload_n (pc := 70) dX0_circles_70 rfl rfl ?_
      refine cl_X0_282 tp_circleOf_im (pc := 71) (by decide) dX0_circles_71 (Nat.le_of_ble_eq_true rfl) fun x55 => ?_
      refine cl_X0_267 tp_lowest_im (pc := 74) (by decide) dX0_circles_74 (Nat.le_of_ble_eq_true rfl) fun x56 => ?_
      refine im_iload_n (pc := 77) dX0_circles_77 rfl rfl ?_
      refine im_icmp_ne (pc := 78) (tgt := 85) dX0_circles_78 (by decide) ?_ ?_
      · refine im_iconst (pc := 85) (v := 0) dX0_circles_85 (by decide) ?_
        refine im_iadd (pc := 86) dX0_circles_86 ?_
        refine im_istore_n (pc := 87) (lv' := [some (.inr v0), none, some (.inl (v2 + 0)), some (.inl v3)]) dX0_circles_87 rfl (by decide) rfl ?_
        refine im_iinc (pc := 88) (v := (v3 + 1)) (lv' := [some (.inr v0), none, some (.inl (v2 + 0)), some (.inl (v3 + 1))]) dX0_circles_88 rfl rfl (by decide) rfl ?_
        refine im_goto (pc := 91) (tgt := 47) dX0_circles_91 (by decide) ?_
        exact Im.back [true, false, true, true] rfl rfl
      · refine im_iconst (pc := 81) (v := 1) dX0_circles_81 (by decide) ?_
        refine im_goto (pc := 82) (tgt := 86) dX0_circles_82 (by decide) ?_
        refine im_iadd (pc := 86) dX0_circles_86 ?_
        refine im_istore_n (pc := 87) (lv' := [some (.inr v0), none, some (.inl (v2 + 1)), some (.inl v3)]) dX0_circles_87 rfl (by decide) rfl ?_
        refine im_iinc (pc := 88) (v := (v3 + 1)) (lv' := [some (.inr v0), none, some (.inl (v2 + 1)), some (.inl (v3 + 1))]) dX0_circles_88 rfl rfl (by decide) rfl ?_
        refine im_goto (pc := 91) (tgt := 47) dX0_circles_91 (by decide) ?_
        exact Im.back [true, false, true, true] rfl rfl
theorem tp_circles_L47_ok (X : CT) (v0 : Option Nat) (v2 : Int32) (v3 : Int32) (h : PH) : Im X (cX0_circles, 4, RX0, "circles", (some .int), 8) 47 [some (.inr v0), none, some (.inl v2), some (.inl v3)] [] h (tp_circles_L47 v0 v2 v3 h) (szP h) (kP X h) := by
  unfold tp_circles_L47
  exact Im.iter (lv := (fun s : Int32 × Int32 => [some (.inr v0), none, some (.inl s.1), some (.inl s.2)])) (hp := (fun s : Int32 × Int32 => h)) (fun s => tp_circles_b47_ok X v0 s.1 s.2 h) _ rfl rfl
noncomputable def tp_circles_0 (v0 : Option Nat) (v1 : Int32) (h : PH) : Option (Int32) :=
  (if v1 = 100 then
  tp_circles_L47 v0 0 0 h
  else
  (tp_isTold v0 v1 h).bind fun x51 =>
  (if x51 = 0 then
  some ((-1))
  else
  (gfr [0] 1 v0 h).bind fun r52 =>
  (gfr [2] 0 r52 h).bind fun r53 =>
  (aldr 2 r53 v1 h).bind fun r54 =>
  (pe_isLaid r54 h).bind fun x55 =>
  (if x55 = 0 then
  some (0)
  else
  (tp_circleOf v0 v1 h).bind fun x56 =>
  some (x56))))
theorem tp_circles_0_ok (X : CT) (v0 : Option Nat) (v1 : Int32) (h : PH) : Im X (cX0_circles, 4, RX0, "circles", (some .int), 8) 0 [some (.inr v0), some (.inl v1), none, none] [] h (tp_circles_0 v0 v1 h) (szP h) (kP X h) := by
  unfold tp_circles_0
  refine im_iload_n (pc := 0) dX0_circles_0 rfl rfl ?_
  refine im_bipush (pc := 1) (v := 100) dX0_circles_1 (by decide) ?_
  refine im_icmp_eq (pc := 3) (tgt := 43) dX0_circles_3 (by decide) ?_ ?_
  · refine im_iconst (pc := 43) (v := 0) dX0_circles_43 (by decide) ?_
    refine im_istore_n (pc := 44) (lv' := [some (.inr v0), some (.inl v1), some (.inl 0), none]) dX0_circles_44 rfl (by decide) rfl ?_
    refine im_iconst (pc := 45) (v := 0) dX0_circles_45 (by decide) ?_
    refine im_istore_n (pc := 46) (lv' := [some (.inr v0), some (.inl v1), some (.inl 0), some (.inl 0)]) dX0_circles_46 rfl (by decide) rfl ?_
    exact Im.drop [true, false, true, true] rfl (tp_circles_L47_ok X v0 0 0 h)
  · refine im_aload_n (pc := 6) dX0_circles_6 rfl rfl ?_
    refine im_iload_n (pc := 7) dX0_circles_7 rfl rfl ?_
    refine cl_X0_187 tp_isTold_im (pc := 8) (by decide) dX0_circles_8 (Nat.le_of_ble_eq_true rfl) fun x51 => ?_
    refine im_if_ne (pc := 11) (tgt := 18) dX0_circles_11 (by decide) ?_ ?_
    · refine im_aload_n (pc := 18) dX0_circles_18 rfl rfl ?_
      refine im_gr (pc := 19) fl_X0_63 dX0_circles_19 fun r52 => ?_
      refine im_gr (pc := 22) fl_X0_109 dX0_circles_22 fun r53 => ?_
      refine im_iload_n (pc := 25) dX0_circles_25 rfl rfl ?_
      refine im_aald (pc := 26) (t := 2) (by decide) (by decide) dX0_circles_26 fun r54 => ?_
      refine cl_X0_183 pe_isLaid_im (pc := 27) (by decide) dX0_circles_27 (Nat.le_of_ble_eq_true rfl) fun x55 => ?_
      refine im_if_eq (pc := 30) (tgt := 41) dX0_circles_30 (by decide) ?_ ?_
      · refine im_iconst (pc := 41) (v := 0) dX0_circles_41 (by decide) ?_
        exact im_iretP (pc := 42) dX0_circles_42
      · refine im_aload_n (pc := 33) dX0_circles_33 rfl rfl ?_
        refine im_iload_n (pc := 34) dX0_circles_34 rfl rfl ?_
        refine cl_X0_282 tp_circleOf_im (pc := 35) (by decide) dX0_circles_35 (Nat.le_of_ble_eq_true rfl) fun x56 => ?_
        refine im_goto (pc := 38) (tgt := 42) dX0_circles_38 (by decide) ?_
        exact im_iretP (pc := 42) dX0_circles_42
    · refine im_iconst (pc := 14) (v := (-1)) dX0_circles_14 (by decide) ?_
      refine im_goto (pc := 15) (tgt := 42) dX0_circles_15 (by decide) ?_
      exact im_iretP (pc := 42) dX0_circles_42
noncomputable def tp_circles (a0 : Option Nat) (a1 : Int32) (h : PH) : Option (Int32) := grd (isC [0] a0 h) (tp_circles_0 a0 a1 h)
theorem tp_circles_im : IM_X0_circles tp_circles 8 := by
  intro a0 a1 h r e
  obtain ⟨e1, e2⟩ := grd_some e
  exact ⟨e1, SpI.ofP (k := 2) (plainFor_of_name (by decide)) rfl (fun X => Im.drop [true, true, false, false] rfl (tp_circles_0_ok X a0 a1 h)) e2⟩
def IM_X0_from (f : Option Nat → Int32 → Int32 → PH → Option (Int32)) (d : Nat) : Prop := ∀ (a0 : Option Nat) (a1 : Int32) (a2 : Int32) (h : PH) (r : Int32), f a0 a1 a2 h = some r → isC [0] a0 h = true ∧ SpI yX0_from cX0_from 5 (some .int) d [.inr a0, .inl a1, .inl a2] h r h
noncomputable def tp_from_b70 (v0 : Option Nat) (v2 : Int32) (v3 : Int32) (v4 : Int32) (h : PH) : Option ((Int32 × Int32) ⊕ (Int32)) :=
  (tp_has v4 v2 h).bind fun x51 =>
  (if x51 = 0 then
  (tp_spread v0 v4 h).bind fun x52 =>
  some (.inl ((v3 + 1), x52))
  else
  some (.inr v3))
noncomputable def tp_from_L70 (v0 : Option Nat) (v2 : Int32) (v3 : Int32) (v4 : Int32) (h : PH) : Option (Int32) :=
  iter (fun s : Int32 × Int32 => tp_from_b70 v0 v2 s.1 s.2 h) (v3, v4)
theorem tp_from_b70_ok (X : CT) (v0 : Option Nat) (v2 : Int32) (v3 : Int32) (v4 : Int32) (h : PH) : Im X (cX0_from, 5, RX0, "from", (some .int), 8) 70 [some (.inr v0), none, some (.inl v2), some (.inl v3), some (.inl v4)] [] h (tp_from_b70 v0 v2 v3 v4 h) (ez (fun s : Int32 × Int32 => h) (szP h)) (ek X 70 (fun s : Int32 × Int32 => [some (.inr v0), none, some (.inl v2), some (.inl s.1), some (.inl s.2)]) (fun s : Int32 × Int32 => h) (kP X h)) := by
  unfold tp_from_b70
  refine im_iload (pc := 70) dX0_from_70 rfl ?_
  refine im_iload_n (pc := 72) dX0_from_72 rfl rfl ?_
  refine cl_X0_232 tp_has_im (pc := 73) (by decide) dX0_from_73 (Nat.le_of_ble_eq_true rfl) fun x51 => ?_
  refine im_if_ne (pc := 76) (tgt := 93) dX0_from_76 (by decide) ?_ ?_
  · refine im_iload_n (pc := 93) dX0_from_93 rfl rfl ?_
    exact Im.outS (im_iretP (pc := 94) dX0_from_94)
  · refine im_iinc (pc := 79) (v := (v3 + 1)) (lv' := [some (.inr v0), none, some (.inl v2), some (.inl (v3 + 1)), some (.inl v4)]) dX0_from_79 rfl rfl (by decide) rfl ?_
    refine im_aload_n (pc := 82) dX0_from_82 rfl rfl ?_
    refine im_iload (pc := 83) dX0_from_83 rfl ?_
    refine cl_X0_279 tp_spread_im (pc := 85) (by decide) dX0_from_85 (Nat.le_of_ble_eq_true rfl) fun x52 => ?_
    refine im_istore (pc := 88) (lv' := [some (.inr v0), none, some (.inl v2), some (.inl (v3 + 1)), some (.inl x52)]) dX0_from_88 (by decide) rfl ?_
    refine im_goto (pc := 90) (tgt := 70) dX0_from_90 (by decide) ?_
    exact Im.back [true, false, true, true, true] rfl rfl
theorem tp_from_L70_ok (X : CT) (v0 : Option Nat) (v2 : Int32) (v3 : Int32) (v4 : Int32) (h : PH) : Im X (cX0_from, 5, RX0, "from", (some .int), 8) 70 [some (.inr v0), none, some (.inl v2), some (.inl v3), some (.inl v4)] [] h (tp_from_L70 v0 v2 v3 v4 h) (szP h) (kP X h) := by
  unfold tp_from_L70
  exact Im.iter (lv := (fun s : Int32 × Int32 => [some (.inr v0), none, some (.inl v2), some (.inl s.1), some (.inl s.2)])) (hp := (fun s : Int32 × Int32 => h)) (fun s => tp_from_b70_ok X v0 v2 s.1 s.2 h) _ rfl rfl
noncomputable def tp_from_0 (v0 : Option Nat) (v1 : Int32) (v2 : Int32) (h : PH) : Option (Int32) :=
  (tp_isTold v0 v1 h).bind fun x51 =>
  (if x51 = 0 then
  some ((-1))
  else
  (tp_isTold v0 v2 h).bind fun x52 =>
  (if x52 = 0 then
  some ((-1))
  else
  (gfr [0] 1 v0 h).bind fun r53 =>
  (gfr [2] 0 r53 h).bind fun r54 =>
  (aldr 2 r54 v1 h).bind fun r55 =>
  (pe_isLaid r55 h).bind fun x56 =>
  (if x56 = 0 then
  some ((-2))
  else
  (gfr [0] 1 v0 h).bind fun r57 =>
  (gfr [2] 0 r57 h).bind fun r58 =>
  (aldr 2 r58 v2 h).bind fun r59 =>
  (pe_isLaid r59 h).bind fun x60 =>
  (if x60 = 0 then
  some ((-2))
  else
  (tp_circleOf v0 v1 h).bind fun x61 =>
  (tp_has x61 v2 h).bind fun x62 =>
  (if x62 = 0 then
  some ((-2))
  else
  tp_from_L70 v0 v2 0 ((1 : Int32) <<< (v1 &&& 31)) h)))))
theorem tp_from_0_ok (X : CT) (v0 : Option Nat) (v1 : Int32) (v2 : Int32) (h : PH) : Im X (cX0_from, 5, RX0, "from", (some .int), 8) 0 [some (.inr v0), some (.inl v1), some (.inl v2), none, none] [] h (tp_from_0 v0 v1 v2 h) (szP h) (kP X h) := by
  unfold tp_from_0
  refine im_aload_n (pc := 0) dX0_from_0 rfl rfl ?_
  refine im_iload_n (pc := 1) dX0_from_1 rfl rfl ?_
  refine cl_X0_187 tp_isTold_im (pc := 2) (by decide) dX0_from_2 (Nat.le_of_ble_eq_true rfl) fun x51 => ?_
  refine im_if_eq (pc := 5) (tgt := 16) dX0_from_5 (by decide) ?_ ?_
  · refine im_iconst (pc := 16) (v := (-1)) dX0_from_16 (by decide) ?_
    exact im_iretP (pc := 17) dX0_from_17
  · refine im_aload_n (pc := 8) dX0_from_8 rfl rfl ?_
    refine im_iload_n (pc := 9) dX0_from_9 rfl rfl ?_
    refine cl_X0_187 tp_isTold_im (pc := 10) (by decide) dX0_from_10 (Nat.le_of_ble_eq_true rfl) fun x52 => ?_
    refine im_if_ne (pc := 13) (tgt := 18) dX0_from_13 (by decide) ?_ ?_
    · refine im_aload_n (pc := 18) dX0_from_18 rfl rfl ?_
      refine im_gr (pc := 19) fl_X0_63 dX0_from_19 fun r53 => ?_
      refine im_gr (pc := 22) fl_X0_109 dX0_from_22 fun r54 => ?_
      refine im_iload_n (pc := 25) dX0_from_25 rfl rfl ?_
      refine im_aald (pc := 26) (t := 2) (by decide) (by decide) dX0_from_26 fun r55 => ?_
      refine cl_X0_183 pe_isLaid_im (pc := 27) (by decide) dX0_from_27 (Nat.le_of_ble_eq_true rfl) fun x56 => ?_
      refine im_if_eq (pc := 30) (tgt := 60) dX0_from_30 (by decide) ?_ ?_
      · refine im_bipush (pc := 60) (v := (-2)) dX0_from_60 (by decide) ?_
        exact im_iretP (pc := 62) dX0_from_62
      · refine im_aload_n (pc := 33) dX0_from_33 rfl rfl ?_
        refine im_gr (pc := 34) fl_X0_63 dX0_from_34 fun r57 => ?_
        refine im_gr (pc := 37) fl_X0_109 dX0_from_37 fun r58 => ?_
        refine im_iload_n (pc := 40) dX0_from_40 rfl rfl ?_
        refine im_aald (pc := 41) (t := 2) (by decide) (by decide) dX0_from_41 fun r59 => ?_
        refine cl_X0_183 pe_isLaid_im (pc := 42) (by decide) dX0_from_42 (Nat.le_of_ble_eq_true rfl) fun x60 => ?_
        refine im_if_eq (pc := 45) (tgt := 60) dX0_from_45 (by decide) ?_ ?_
        · refine im_bipush (pc := 60) (v := (-2)) dX0_from_60 (by decide) ?_
          exact im_iretP (pc := 62) dX0_from_62
        · refine im_aload_n (pc := 48) dX0_from_48 rfl rfl ?_
          refine im_iload_n (pc := 49) dX0_from_49 rfl rfl ?_
          refine cl_X0_282 tp_circleOf_im (pc := 50) (by decide) dX0_from_50 (Nat.le_of_ble_eq_true rfl) fun x61 => ?_
          refine im_iload_n (pc := 53) dX0_from_53 rfl rfl ?_
          refine cl_X0_232 tp_has_im (pc := 54) (by decide) dX0_from_54 (Nat.le_of_ble_eq_true rfl) fun x62 => ?_
          refine im_if_ne (pc := 57) (tgt := 63) dX0_from_57 (by decide) ?_ ?_
          · refine im_iconst (pc := 63) (v := 0) dX0_from_63 (by decide) ?_
            refine im_istore_n (pc := 64) (lv' := [some (.inr v0), some (.inl v1), some (.inl v2), some (.inl 0), none]) dX0_from_64 rfl (by decide) rfl ?_
            refine im_iconst (pc := 65) (v := 1) dX0_from_65 (by decide) ?_
            refine im_iload_n (pc := 66) dX0_from_66 rfl rfl ?_
            refine im_ishl (pc := 67) dX0_from_67 ?_
            refine im_istore (pc := 68) (lv' := [some (.inr v0), some (.inl v1), some (.inl v2), some (.inl 0), some (.inl ((1 : Int32) <<< (v1 &&& 31)))]) dX0_from_68 (by decide) rfl ?_
            exact Im.drop [true, false, true, true, true] rfl (tp_from_L70_ok X v0 v2 0 ((1 : Int32) <<< (v1 &&& 31)) h)
          · refine im_bipush (pc := 60) (v := (-2)) dX0_from_60 (by decide) ?_
            exact im_iretP (pc := 62) dX0_from_62
    · refine im_iconst (pc := 16) (v := (-1)) dX0_from_16 (by decide) ?_
      exact im_iretP (pc := 17) dX0_from_17
noncomputable def tp_from (a0 : Option Nat) (a1 : Int32) (a2 : Int32) (h : PH) : Option (Int32) := grd (isC [0] a0 h) (tp_from_0 a0 a1 a2 h)
theorem tp_from_im : IM_X0_from tp_from 8 := by
  intro a0 a1 a2 h r e
  obtain ⟨e1, e2⟩ := grd_some e
  exact ⟨e1, SpI.ofP (k := 2) (plainFor_of_name (by decide)) rfl (fun X => Im.drop [true, true, true, false, false] rfl (tp_from_0_ok X a0 a1 a2 h)) e2⟩
def IM_X0_saying (f : Option Nat → Int32 → PH → Option (Int32)) (d : Nat) : Prop := ∀ (a0 : Option Nat) (a1 : Int32) (h : PH) (r : Int32), f a0 a1 h = some r → isC [0] a0 h = true ∧ SpI yX0_saying cX0_saying 2 (some .int) d [.inr a0, .inl a1] h r h
noncomputable def tp_saying_0 (v0 : Option Nat) (v1 : Int32) (h : PH) : Option (Int32) :=
  (gfr [0] 4 v0 h).bind fun r51 =>
  (ald 1 r51 (2 * v1) h).bind fun x52 =>
  (gfr [0] 4 v0 h).bind fun r53 =>
  (ald 1 r53 ((2 * v1) + 1) h).bind fun x54 =>
  some ((((x52 &&& 255) <<< (8 &&& 31)) ||| (x54 &&& 255)))
theorem tp_saying_0_ok (X : CT) (v0 : Option Nat) (v1 : Int32) (h : PH) : Im X (cX0_saying, 2, RX0, "saying", (some .int), 1) 0 [some (.inr v0), some (.inl v1)] [] h (tp_saying_0 v0 v1 h) (szP h) (kP X h) := by
  unfold tp_saying_0
  refine im_aload_n (pc := 0) dX0_saying_0 rfl rfl ?_
  refine im_gr (pc := 1) fl_X0_73 dX0_saying_1 fun r51 => ?_
  refine im_iconst (pc := 4) (v := 2) dX0_saying_4 (by decide) ?_
  refine im_iload_n (pc := 5) dX0_saying_5 rfl rfl ?_
  refine im_imul (pc := 6) dX0_saying_6 ?_
  refine im_bald (pc := 7) dX0_saying_7 fun x52 => ?_
  refine im_sipush (pc := 8) (v := 255) dX0_saying_8 (by decide) ?_
  refine im_iand (pc := 11) dX0_saying_11 ?_
  refine im_bipush (pc := 12) (v := 8) dX0_saying_12 (by decide) ?_
  refine im_ishl (pc := 14) dX0_saying_14 ?_
  refine im_aload_n (pc := 15) dX0_saying_15 rfl rfl ?_
  refine im_gr (pc := 16) fl_X0_73 dX0_saying_16 fun r53 => ?_
  refine im_iconst (pc := 19) (v := 2) dX0_saying_19 (by decide) ?_
  refine im_iload_n (pc := 20) dX0_saying_20 rfl rfl ?_
  refine im_imul (pc := 21) dX0_saying_21 ?_
  refine im_iconst (pc := 22) (v := 1) dX0_saying_22 (by decide) ?_
  refine im_iadd (pc := 23) dX0_saying_23 ?_
  refine im_bald (pc := 24) dX0_saying_24 fun x54 => ?_
  refine im_sipush (pc := 25) (v := 255) dX0_saying_25 (by decide) ?_
  refine im_iand (pc := 28) dX0_saying_28 ?_
  refine im_ior (pc := 29) dX0_saying_29 ?_
  exact im_iretP (pc := 30) dX0_saying_30
noncomputable def tp_saying (a0 : Option Nat) (a1 : Int32) (h : PH) : Option (Int32) := grd (isC [0] a0 h) (tp_saying_0 a0 a1 h)
theorem tp_saying_im : IM_X0_saying tp_saying 1 := by
  intro a0 a1 h r e
  obtain ⟨e1, e2⟩ := grd_some e
  exact ⟨e1, SpI.ofP (k := 0) (plainFor_of_name (by decide)) rfl (fun X => Im.drop [true, true] rfl (tp_saying_0_ok X a0 a1 h)) e2⟩
theorem fl_X0_99 : ∀ c ∈ [0], FL RX0 99 c 18 := List.forall_mem_cons.mpr ⟨⟨RX0, TX0, 20, rfl, in_X0, by decide, Or.inl q295⟩, fun _ h => absurd h List.not_mem_nil⟩
theorem cl_X0_285 {X : CT} {cc : ByteArray} {nL : Nat} {mn : String} {ret : Option FieldType} {d d0 : Nat} {τ : Type} {pc : Nat} {lv : List (Option PV)} {st : List PV} {h : PH} {sz : τ → Nat × Nat} {K : τ → Prop} {f : Option Nat → Int32 → PH → Option (Int32)} (HR : IM_X0_saying f d0) {a0 : Option Nat} {a1 : Int32} {g : Int32 → Option τ} (hd : d0 + 1 ≤ d) (hdg : decode cc pc = .ok (.invokevirtual 285, 3)) (hst : st.length ≤ 8) (kk : ∀ r, Im X (cc, nL, RX0, mn, ret, d) (pc + 3) lv (.inl r :: st) h (g r) sz K) : Im X (cc, nL, RX0, mn, ret, d) pc lv (.inl a1 :: .inr a0 :: st) h ((f a0 a1 h).bind g) sz K := by
  refine im_cP (y := yX0_saying) (cY := cX0_saying) (nY := 2) (rY := (some .int)) (d' := d0) (av := [.inr a0, .inl a1]) (fun r e hX => ?_) (fun r e => (HR _ _ _ _ e).2) hd (by decide) hst rfl kk
  obtain ⟨a, c, fs, rfl, ec, hm⟩ := isC_some (HR _ _ _ _ e).1
  cases List.mem_singleton.mp hm
  exact cal_V (n := 1) hX (lw_V q1101 q1103 qs38 q106 q1104) (by decide +kernel) rfl rfl ec hdg

def IM_X0_thread (f : Option Nat → Int32 → Int32 → PH → Option (Int32 × PH)) (d : Nat) : Prop := ∀ (a0 : Option Nat) (a1 : Int32) (a2 : Int32) (h : PH) (r : Int32) (h' : PH), f a0 a1 a2 h = some (r, h') → isC [0] a0 h = true ∧ SpI yX0_thread cX0_thread 7 (some .int) d [.inr a0, .inl a1, .inl a2] h r h'
noncomputable def tp_thread_b68 (v0 : Option Nat) (v1 : Int32) (v2 : Int32) (v3 : Int32) (v4 : Int32) (v5 : Int32) (h : PH) : Option ((Int32 × PH) ⊕ ((Int32 × Int32 × PH) ⊕ (Int32 × PH))) :=
  (if v1 ≤ v5 then
  (gfr [0] 18 v0 h).bind fun r51 =>
  (ald 0 r51 v4 h).bind fun x52 =>
  (jM_max v3 x52 h).bind fun x53 =>
  some (.inr (.inl (x53, (v4 + (-1)), h)))
  else
  (tp_saying v0 v4 h).bind fun x54 =>
  (tp_saying v0 v5 h).bind fun x55 =>
  (if (x54 &&& x55) = 0 then
  some (.inl ((v5 + 1), h))
  else
  (gfr [0] 18 v0 h).bind fun r56 =>
  (gfr [0] 18 v0 h).bind fun r57 =>
  (ald 0 r57 v4 h).bind fun x58 =>
  (gfr [0] 18 v0 h).bind fun r59 =>
  (ald 0 r59 v5 h).bind fun x60 =>
  (jM_max x58 (x60 + 1) h).bind fun x61 =>
  (ast 0 r56 v4 x61 h).bind fun h62 =>
  some (.inl ((v5 + 1), h62))))
noncomputable def tp_thread_L68 (v0 : Option Nat) (v1 : Int32) (v2 : Int32) (v3 : Int32) (v4 : Int32) (v5 : Int32) (h : PH) : Option ((Int32 × Int32 × PH) ⊕ (Int32 × PH)) :=
  iter (fun s : Int32 × PH => tp_thread_b68 v0 v1 v2 v3 v4 s.1 s.2) (v5, h)
theorem tp_thread_b68_ok (X : CT) (v0 : Option Nat) (v1 : Int32) (v2 : Int32) (v3 : Int32) (v4 : Int32) (v5 : Int32) (h : PH) : Im X (cX0_thread, 7, RX0, "thread", (some .int), 2) 68 [some (.inr v0), some (.inl v1), some (.inl v2), some (.inl v3), some (.inl v4), some (.inl v5), none] [] h (tp_thread_b68 v0 v1 v2 v3 v4 v5 h) (ez (fun s : Int32 × PH => s.2) (ez (fun s : Int32 × Int32 × PH => s.2.2) szI)) (ek X 68 (fun s : Int32 × PH => [some (.inr v0), some (.inl v1), some (.inl v2), some (.inl v3), some (.inl v4), some (.inl s.1), none]) (fun s : Int32 × PH => s.2) (ek X 49 (fun s : Int32 × Int32 × PH => [some (.inr v0), some (.inl v1), some (.inl v2), some (.inl s.1), some (.inl s.2.1), none, none]) (fun s : Int32 × Int32 × PH => s.2.2) (kI X))) := by
  unfold tp_thread_b68
  refine im_iload (pc := 68) dX0_thread_68 rfl ?_
  refine im_iload_n (pc := 70) dX0_thread_70 rfl rfl ?_
  refine im_icmp_ge (pc := 71) (tgt := 122) dX0_thread_71 (by decide) ?_ ?_
  · refine im_iload_n (pc := 122) dX0_thread_122 rfl rfl ?_
    refine im_aload_n (pc := 123) dX0_thread_123 rfl rfl ?_
    refine im_gr (pc := 124) fl_X0_99 dX0_thread_124 fun r51 => ?_
    refine im_iload (pc := 127) dX0_thread_127 rfl ?_
    refine im_iald (pc := 129) dX0_thread_129 fun x52 => ?_
    refine cl_X0_7 jM_max_im (pc := 130) (by decide) dX0_thread_130 (Nat.le_of_ble_eq_true rfl) fun x53 => ?_
    refine im_istore_n (pc := 133) (lv' := [some (.inr v0), some (.inl v1), some (.inl v2), some (.inl x53), some (.inl v4), some (.inl v5), none]) dX0_thread_133 rfl (by decide) rfl ?_
    refine im_iinc (pc := 134) (v := (v4 + (-1))) (lv' := [some (.inr v0), some (.inl v1), some (.inl v2), some (.inl x53), some (.inl (v4 + (-1))), some (.inl v5), none]) dX0_thread_134 rfl rfl (by decide) rfl ?_
    refine im_goto (pc := 137) (tgt := 49) dX0_thread_137 (by decide) ?_
    exact Im.outS (Im.back [true, true, true, true, true, false, false] rfl rfl)
  · refine im_aload_n (pc := 74) dX0_thread_74 rfl rfl ?_
    refine im_iload (pc := 75) dX0_thread_75 rfl ?_
    refine cl_X0_285 tp_saying_im (pc := 77) (by decide) dX0_thread_77 (Nat.le_of_ble_eq_true rfl) fun x54 => ?_
    refine im_aload_n (pc := 80) dX0_thread_80 rfl rfl ?_
    refine im_iload (pc := 81) dX0_thread_81 rfl ?_
    refine cl_X0_285 tp_saying_im (pc := 83) (by decide) dX0_thread_83 (Nat.le_of_ble_eq_true rfl) fun x55 => ?_
    refine im_iand (pc := 86) dX0_thread_86 ?_
    refine im_if_eq (pc := 87) (tgt := 116) dX0_thread_87 (by decide) ?_ ?_
    · refine im_iinc (pc := 116) (v := (v5 + 1)) (lv' := [some (.inr v0), some (.inl v1), some (.inl v2), some (.inl v3), some (.inl v4), some (.inl (v5 + 1)), none]) dX0_thread_116 rfl rfl (by decide) rfl ?_
      refine im_goto (pc := 119) (tgt := 68) dX0_thread_119 (by decide) ?_
      exact Im.back [true, true, true, true, true, true, false] rfl rfl
    · refine im_aload_n (pc := 90) dX0_thread_90 rfl rfl ?_
      refine im_gr (pc := 91) fl_X0_99 dX0_thread_91 fun r56 => ?_
      refine im_iload (pc := 94) dX0_thread_94 rfl ?_
      refine im_aload_n (pc := 96) dX0_thread_96 rfl rfl ?_
      refine im_gr (pc := 97) fl_X0_99 dX0_thread_97 fun r57 => ?_
      refine im_iload (pc := 100) dX0_thread_100 rfl ?_
      refine im_iald (pc := 102) dX0_thread_102 fun x58 => ?_
      refine im_aload_n (pc := 103) dX0_thread_103 rfl rfl ?_
      refine im_gr (pc := 104) fl_X0_99 dX0_thread_104 fun r59 => ?_
      refine im_iload (pc := 107) dX0_thread_107 rfl ?_
      refine im_iald (pc := 109) dX0_thread_109 fun x60 => ?_
      refine im_iconst (pc := 110) (v := 1) dX0_thread_110 (by decide) ?_
      refine im_iadd (pc := 111) dX0_thread_111 ?_
      refine cl_X0_7 jM_max_im (pc := 112) (by decide) dX0_thread_112 (Nat.le_of_ble_eq_true rfl) fun x61 => ?_
      refine im_iast (pc := 115) dX0_thread_115 fun h62 => ?_
      refine im_iinc (pc := 116) (v := (v5 + 1)) (lv' := [some (.inr v0), some (.inl v1), some (.inl v2), some (.inl v3), some (.inl v4), some (.inl (v5 + 1)), none]) dX0_thread_116 rfl rfl (by decide) rfl ?_
      refine im_goto (pc := 119) (tgt := 68) dX0_thread_119 (by decide) ?_
      exact Im.back [true, true, true, true, true, true, false] rfl rfl
theorem tp_thread_L68_ok (X : CT) (v0 : Option Nat) (v1 : Int32) (v2 : Int32) (v3 : Int32) (v4 : Int32) (v5 : Int32) (h : PH) : Im X (cX0_thread, 7, RX0, "thread", (some .int), 2) 68 [some (.inr v0), some (.inl v1), some (.inl v2), some (.inl v3), some (.inl v4), some (.inl v5), none] [] h (tp_thread_L68 v0 v1 v2 v3 v4 v5 h) (ez (fun s : Int32 × Int32 × PH => s.2.2) szI) (ek X 49 (fun s : Int32 × Int32 × PH => [some (.inr v0), some (.inl v1), some (.inl v2), some (.inl s.1), some (.inl s.2.1), none, none]) (fun s : Int32 × Int32 × PH => s.2.2) (kI X)) := by
  unfold tp_thread_L68
  exact Im.iter (lv := (fun s : Int32 × PH => [some (.inr v0), some (.inl v1), some (.inl v2), some (.inl v3), some (.inl v4), some (.inl s.1), none])) (hp := (fun s : Int32 × PH => s.2)) (fun s => tp_thread_b68_ok X v0 v1 v2 v3 v4 s.1 s.2) _ rfl rfl
noncomputable def tp_thread_b192 (v0 : Option Nat) (v2 : Int32) (v4 : Int32) (v5 : Int32) (v6 : Int32) (h : PH) : Option ((Int32) ⊕ ((Int32 × Int32) ⊕ (Int32 × PH))) :=
  (gfr [0] 18 v0 h).bind fun r51 =>
  (ald 0 r51 v4 h).bind fun x52 =>
  (gfr [0] 18 v0 h).bind fun r53 =>
  (ald 0 r53 v6 h).bind fun x54 =>
  (if x52 = (x54 - 1) then
  (tp_saying v0 v6 h).bind fun x55 =>
  (tp_saying v0 v4 h).bind fun x56 =>
  (if (x55 &&& x56) = 0 then
  some (.inl (v4 + 1))
  else
  some (.inr (.inl (v4, (v5 + 1)))))
  else
  some (.inl (v4 + 1)))
noncomputable def tp_thread_L192 (v0 : Option Nat) (v2 : Int32) (v4 : Int32) (v5 : Int32) (v6 : Int32) (h : PH) : Option ((Int32 × Int32) ⊕ (Int32 × PH)) :=
  iter (fun s : Int32 => tp_thread_b192 v0 v2 s v5 v6 h) v4
theorem tp_thread_b192_ok (X : CT) (v0 : Option Nat) (v2 : Int32) (v4 : Int32) (v5 : Int32) (v6 : Int32) (h : PH) : Im X (cX0_thread, 7, RX0, "thread", (some .int), 2) 192 [some (.inr v0), none, some (.inl v2), none, some (.inl v4), some (.inl v5), some (.inl v6)] [] h (tp_thread_b192 v0 v2 v4 v5 v6 h) (ez (fun s : Int32 => h) (ez (fun s : Int32 × Int32 => h) szI)) (ek X 192 (fun s : Int32 => [some (.inr v0), none, some (.inl v2), none, some (.inl s), some (.inl v5), some (.inl v6)]) (fun s : Int32 => h) (ek X 179 (fun s : Int32 × Int32 => [some (.inr v0), none, some (.inl v2), none, some (.inl s.1), some (.inl s.2), none]) (fun s : Int32 × Int32 => h) (kI X))) := by
  unfold tp_thread_b192
  refine im_aload_n (pc := 192) dX0_thread_192 rfl rfl ?_
  refine im_gr (pc := 193) fl_X0_99 dX0_thread_193 fun r51 => ?_
  refine im_iload (pc := 196) dX0_thread_196 rfl ?_
  refine im_iald (pc := 198) dX0_thread_198 fun x52 => ?_
  refine im_aload_n (pc := 199) dX0_thread_199 rfl rfl ?_
  refine im_gr (pc := 200) fl_X0_99 dX0_thread_200 fun r53 => ?_
  refine im_iload (pc := 203) dX0_thread_203 rfl ?_
  refine im_iald (pc := 205) dX0_thread_205 fun x54 => ?_
  refine im_iconst (pc := 206) (v := 1) dX0_thread_206 (by decide) ?_
  refine im_isub (pc := 207) dX0_thread_207 ?_
  refine im_icmp_ne (pc := 208) (tgt := 227) dX0_thread_208 (by decide) ?_ ?_
  · refine im_iinc (pc := 227) (v := (v4 + 1)) (lv' := [some (.inr v0), none, some (.inl v2), none, some (.inl (v4 + 1)), some (.inl v5), some (.inl v6)]) dX0_thread_227 rfl rfl (by decide) rfl ?_
    refine im_goto (pc := 230) (tgt := 192) dX0_thread_230 (by decide) ?_
    exact Im.back [true, false, true, false, true, true, true] rfl rfl
  · refine im_aload_n (pc := 211) dX0_thread_211 rfl rfl ?_
    refine im_iload (pc := 212) dX0_thread_212 rfl ?_
    refine cl_X0_285 tp_saying_im (pc := 214) (by decide) dX0_thread_214 (Nat.le_of_ble_eq_true rfl) fun x55 => ?_
    refine im_aload_n (pc := 217) dX0_thread_217 rfl rfl ?_
    refine im_iload (pc := 218) dX0_thread_218 rfl ?_
    refine cl_X0_285 tp_saying_im (pc := 220) (by decide) dX0_thread_220 (Nat.le_of_ble_eq_true rfl) fun x56 => ?_
    refine im_iand (pc := 223) dX0_thread_223 ?_
    refine im_if_ne (pc := 224) (tgt := 233) dX0_thread_224 (by decide) ?_ ?_
    · refine im_iinc (pc := 233) (v := (v5 + 1)) (lv' := [some (.inr v0), none, some (.inl v2), none, some (.inl v4), some (.inl (v5 + 1)), some (.inl v6)]) dX0_thread_233 rfl rfl (by decide) rfl ?_
      refine im_goto (pc := 236) (tgt := 179) dX0_thread_236 (by decide) ?_
      exact Im.outS (Im.back [true, false, true, false, true, true, false] rfl rfl)
    · refine im_iinc (pc := 227) (v := (v4 + 1)) (lv' := [some (.inr v0), none, some (.inl v2), none, some (.inl (v4 + 1)), some (.inl v5), some (.inl v6)]) dX0_thread_227 rfl rfl (by decide) rfl ?_
      refine im_goto (pc := 230) (tgt := 192) dX0_thread_230 (by decide) ?_
      exact Im.back [true, false, true, false, true, true, true] rfl rfl
theorem tp_thread_L192_ok (X : CT) (v0 : Option Nat) (v2 : Int32) (v4 : Int32) (v5 : Int32) (v6 : Int32) (h : PH) : Im X (cX0_thread, 7, RX0, "thread", (some .int), 2) 192 [some (.inr v0), none, some (.inl v2), none, some (.inl v4), some (.inl v5), some (.inl v6)] [] h (tp_thread_L192 v0 v2 v4 v5 v6 h) (ez (fun s : Int32 × Int32 => h) szI) (ek X 179 (fun s : Int32 × Int32 => [some (.inr v0), none, some (.inl v2), none, some (.inl s.1), some (.inl s.2), none]) (fun s : Int32 × Int32 => h) (kI X)) := by
  unfold tp_thread_L192
  exact Im.iter (lv := (fun s : Int32 => [some (.inr v0), none, some (.inl v2), none, some (.inl s), some (.inl v5), some (.inl v6)])) (hp := (fun s : Int32 => h)) (fun s => tp_thread_b192_ok X v0 v2 s v5 v6 h) _ rfl rfl
noncomputable def tp_thread_b179 (v0 : Option Nat) (v2 : Int32) (v4 : Int32) (v5 : Int32) (h : PH) : Option ((Int32 × Int32) ⊕ (Int32 × PH)) :=
  (if v2 ≤ v5 then
  some (.inr ((v4, h)))
  else
  tp_thread_L192 v0 v2 (v4 + 1) v5 v4 h)
noncomputable def tp_thread_L179 (v0 : Option Nat) (v2 : Int32) (v4 : Int32) (v5 : Int32) (h : PH) : Option (Int32 × PH) :=
  iter (fun s : Int32 × Int32 => tp_thread_b179 v0 v2 s.1 s.2 h) (v4, v5)
theorem tp_thread_b179_ok (X : CT) (v0 : Option Nat) (v2 : Int32) (v4 : Int32) (v5 : Int32) (h : PH) : Im X (cX0_thread, 7, RX0, "thread", (some .int), 2) 179 [some (.inr v0), none, some (.inl v2), none, some (.inl v4), some (.inl v5), none] [] h (tp_thread_b179 v0 v2 v4 v5 h) (ez (fun s : Int32 × Int32 => h) szI) (ek X 179 (fun s : Int32 × Int32 => [some (.inr v0), none, some (.inl v2), none, some (.inl s.1), some (.inl s.2), none]) (fun s : Int32 × Int32 => h) (kI X)) := by
  unfold tp_thread_b179
  refine im_iload (pc := 179) dX0_thread_179 rfl ?_
  refine im_iload_n (pc := 181) dX0_thread_181 rfl rfl ?_
  refine im_icmp_ge (pc := 182) (tgt := 239) dX0_thread_182 (by decide) ?_ ?_
  · refine im_iload (pc := 239) dX0_thread_239 rfl ?_
    exact Im.outS (im_iret (pc := 241) dX0_thread_241)
  · refine im_iload (pc := 185) dX0_thread_185 rfl ?_
    refine im_istore (pc := 187) (lv' := [some (.inr v0), none, some (.inl v2), none, some (.inl v4), some (.inl v5), some (.inl v4)]) dX0_thread_187 (by decide) rfl ?_
    refine im_iinc (pc := 189) (v := (v4 + 1)) (lv' := [some (.inr v0), none, some (.inl v2), none, some (.inl (v4 + 1)), some (.inl v5), some (.inl v4)]) dX0_thread_189 rfl rfl (by decide) rfl ?_
    exact Im.drop [true, false, true, false, true, true, true] rfl (tp_thread_L192_ok X v0 v2 (v4 + 1) v5 v4 h)
theorem tp_thread_L179_ok (X : CT) (v0 : Option Nat) (v2 : Int32) (v4 : Int32) (v5 : Int32) (h : PH) : Im X (cX0_thread, 7, RX0, "thread", (some .int), 2) 179 [some (.inr v0), none, some (.inl v2), none, some (.inl v4), some (.inl v5), none] [] h (tp_thread_L179 v0 v2 v4 v5 h) szI (kI X) := by
  unfold tp_thread_L179
  exact Im.iter (lv := (fun s : Int32 × Int32 => [some (.inr v0), none, some (.inl v2), none, some (.inl s.1), some (.inl s.2), none])) (hp := (fun s : Int32 × Int32 => h)) (fun s => tp_thread_b179_ok X v0 v2 s.1 s.2 h) _ rfl rfl
noncomputable def tp_thread_b159 (v0 : Option Nat) (v2 : Int32) (v3 : Int32) (v4 : Int32) (h : PH) : Option ((Int32) ⊕ (Int32 × PH)) :=
  (gfr [0] 18 v0 h).bind fun r51 =>
  (ald 0 r51 v4 h).bind fun x52 =>
  (if x52 = v3 then
  (tp_thread_L179 v0 v2 v4 0 h).map .inr
  else
  some (.inl (v4 + 1)))
noncomputable def tp_thread_L159 (v0 : Option Nat) (v2 : Int32) (v3 : Int32) (v4 : Int32) (h : PH) : Option (Int32 × PH) :=
  iter (fun s : Int32 => tp_thread_b159 v0 v2 v3 s h) v4
theorem tp_thread_b159_ok (X : CT) (v0 : Option Nat) (v2 : Int32) (v3 : Int32) (v4 : Int32) (h : PH) : Im X (cX0_thread, 7, RX0, "thread", (some .int), 2) 159 [some (.inr v0), none, some (.inl v2), some (.inl v3), some (.inl v4), none, none] [] h (tp_thread_b159 v0 v2 v3 v4 h) (ez (fun s : Int32 => h) szI) (ek X 159 (fun s : Int32 => [some (.inr v0), none, some (.inl v2), some (.inl v3), some (.inl s), none, none]) (fun s : Int32 => h) (kI X)) := by
  unfold tp_thread_b159
  refine im_aload_n (pc := 159) dX0_thread_159 rfl rfl ?_
  refine im_gr (pc := 160) fl_X0_99 dX0_thread_160 fun r51 => ?_
  refine im_iload (pc := 163) dX0_thread_163 rfl ?_
  refine im_iald (pc := 165) dX0_thread_165 fun x52 => ?_
  refine im_iload_n (pc := 166) dX0_thread_166 rfl rfl ?_
  refine im_icmp_eq (pc := 167) (tgt := 176) dX0_thread_167 (by decide) ?_ ?_
  · refine im_iconst (pc := 176) (v := 0) dX0_thread_176 (by decide) ?_
    refine im_istore (pc := 177) (lv' := [some (.inr v0), none, some (.inl v2), some (.inl v3), some (.inl v4), some (.inl 0), none]) dX0_thread_177 (by decide) rfl ?_
    exact Im.out (Im.drop [true, false, true, false, true, true, false] rfl (tp_thread_L179_ok X v0 v2 v4 0 h))
  · refine im_iinc (pc := 170) (v := (v4 + 1)) (lv' := [some (.inr v0), none, some (.inl v2), some (.inl v3), some (.inl (v4 + 1)), none, none]) dX0_thread_170 rfl rfl (by decide) rfl ?_
    refine im_goto (pc := 173) (tgt := 159) dX0_thread_173 (by decide) ?_
    exact Im.back [true, false, true, true, true, false, false] rfl rfl
theorem tp_thread_L159_ok (X : CT) (v0 : Option Nat) (v2 : Int32) (v3 : Int32) (v4 : Int32) (h : PH) : Im X (cX0_thread, 7, RX0, "thread", (some .int), 2) 159 [some (.inr v0), none, some (.inl v2), some (.inl v3), some (.inl v4), none, none] [] h (tp_thread_L159 v0 v2 v3 v4 h) szI (kI X) := by
  unfold tp_thread_L159
  exact Im.iter (lv := (fun s : Int32 => [some (.inr v0), none, some (.inl v2), some (.inl v3), some (.inl s), none, none])) (hp := (fun s : Int32 => h)) (fun s => tp_thread_b159_ok X v0 v2 v3 s h) _ rfl rfl
noncomputable def tp_thread_b49 (v0 : Option Nat) (v1 : Int32) (v2 : Int32) (v3 : Int32) (v4 : Int32) (h : PH) : Option ((Int32 × Int32 × PH) ⊕ (Int32 × PH)) :=
  (if v4 < 0 then
  (if v2 = 100 then
  some (.inr ((v3, h)))
  else
  (if v2 < v3 then
  (tp_thread_L159 v0 v2 v3 0 h).map .inr
  else
  some (.inr (((-4), h)))))
  else
  (gfr [0] 18 v0 h).bind fun r51 =>
  (ast 0 r51 v4 1 h).bind fun h52 =>
  tp_thread_L68 v0 v1 v2 v3 v4 (v4 + 1) h52)
noncomputable def tp_thread_L49 (v0 : Option Nat) (v1 : Int32) (v2 : Int32) (v3 : Int32) (v4 : Int32) (h : PH) : Option (Int32 × PH) :=
  iter (fun s : Int32 × Int32 × PH => tp_thread_b49 v0 v1 v2 s.1 s.2.1 s.2.2) (v3, v4, h)
theorem tp_thread_b49_ok (X : CT) (v0 : Option Nat) (v1 : Int32) (v2 : Int32) (v3 : Int32) (v4 : Int32) (h : PH) : Im X (cX0_thread, 7, RX0, "thread", (some .int), 2) 49 [some (.inr v0), some (.inl v1), some (.inl v2), some (.inl v3), some (.inl v4), none, none] [] h (tp_thread_b49 v0 v1 v2 v3 v4 h) (ez (fun s : Int32 × Int32 × PH => s.2.2) szI) (ek X 49 (fun s : Int32 × Int32 × PH => [some (.inr v0), some (.inl v1), some (.inl v2), some (.inl s.1), some (.inl s.2.1), none, none]) (fun s : Int32 × Int32 × PH => s.2.2) (kI X)) := by
  unfold tp_thread_b49
  refine im_iload (pc := 49) dX0_thread_49 rfl ?_
  refine im_if_lt (pc := 51) (tgt := 140) dX0_thread_51 (by decide) ?_ ?_
  · refine im_iload_n (pc := 140) dX0_thread_140 rfl rfl ?_
    refine im_bipush (pc := 141) (v := 100) dX0_thread_141 (by decide) ?_
    refine im_icmp_ne (pc := 143) (tgt := 148) dX0_thread_143 (by decide) ?_ ?_
    · refine im_iload_n (pc := 148) dX0_thread_148 rfl rfl ?_
      refine im_iload_n (pc := 149) dX0_thread_149 rfl rfl ?_
      refine im_icmp_lt (pc := 150) (tgt := 156) dX0_thread_150 (by decide) ?_ ?_
      · refine im_iconst (pc := 156) (v := 0) dX0_thread_156 (by decide) ?_
        refine im_istore (pc := 157) (lv' := [some (.inr v0), some (.inl v1), some (.inl v2), some (.inl v3), some (.inl 0), none, none]) dX0_thread_157 (by decide) rfl ?_
        exact Im.out (Im.drop [true, false, true, true, true, false, false] rfl (tp_thread_L159_ok X v0 v2 v3 0 h))
      · refine im_bipush (pc := 153) (v := (-4)) dX0_thread_153 (by decide) ?_
        exact Im.outS (im_iret (pc := 155) dX0_thread_155)
    · refine im_iload_n (pc := 146) dX0_thread_146 rfl rfl ?_
      exact Im.outS (im_iret (pc := 147) dX0_thread_147)
  · refine im_aload_n (pc := 54) dX0_thread_54 rfl rfl ?_
    refine im_gr (pc := 55) fl_X0_99 dX0_thread_55 fun r51 => ?_
    refine im_iload (pc := 58) dX0_thread_58 rfl ?_
    refine im_iconst (pc := 60) (v := 1) dX0_thread_60 (by decide) ?_
    refine im_iast (pc := 61) dX0_thread_61 fun h52 => ?_
    refine im_iload (pc := 62) dX0_thread_62 rfl ?_
    refine im_iconst (pc := 64) (v := 1) dX0_thread_64 (by decide) ?_
    refine im_iadd (pc := 65) dX0_thread_65 ?_
    refine im_istore (pc := 66) (lv' := [some (.inr v0), some (.inl v1), some (.inl v2), some (.inl v3), some (.inl v4), some (.inl (v4 + 1)), none]) dX0_thread_66 (by decide) rfl ?_
    exact Im.drop [true, true, true, true, true, true, false] rfl (tp_thread_L68_ok X v0 v1 v2 v3 v4 (v4 + 1) h52)
theorem tp_thread_L49_ok (X : CT) (v0 : Option Nat) (v1 : Int32) (v2 : Int32) (v3 : Int32) (v4 : Int32) (h : PH) : Im X (cX0_thread, 7, RX0, "thread", (some .int), 2) 49 [some (.inr v0), some (.inl v1), some (.inl v2), some (.inl v3), some (.inl v4), none, none] [] h (tp_thread_L49 v0 v1 v2 v3 v4 h) szI (kI X) := by
  unfold tp_thread_L49
  exact Im.iter (lv := (fun s : Int32 × Int32 × PH => [some (.inr v0), some (.inl v1), some (.inl v2), some (.inl s.1), some (.inl s.2.1), none, none])) (hp := (fun s : Int32 × Int32 × PH => s.2.2)) (fun s => tp_thread_b49_ok X v0 v1 v2 s.1 s.2.1 s.2.2) _ rfl rfl
noncomputable def tp_thread_25 (v0 : Option Nat) (v1 : Int32) (v2 : Int32) (h : PH) : Option (Int32 × PH) :=
  (gfi [0] 6 v0 h).bind fun x51 =>
  (if (2 * v1) ≤ x51 then
  (pf [0] 6 v0 (.inl 0) h).bind fun h52 =>
  tp_thread_L49 v0 v1 v2 0 (v1 - 1) h52
  else
  some (((-1), h)))
theorem tp_thread_25_ok (X : CT) (v0 : Option Nat) (v1 : Int32) (v2 : Int32) (h : PH) : Im X (cX0_thread, 7, RX0, "thread", (some .int), 2) 25 [some (.inr v0), some (.inl v1), some (.inl v2), none, none, none, none] [] h (tp_thread_25 v0 v1 v2 h) szI (kI X) := by
  unfold tp_thread_25
  refine im_iconst (pc := 25) (v := 2) dX0_thread_25 (by decide) ?_
  refine im_iload_n (pc := 26) dX0_thread_26 rfl rfl ?_
  refine im_imul (pc := 27) dX0_thread_27 ?_
  refine im_aload_n (pc := 28) dX0_thread_28 rfl rfl ?_
  refine im_gi (pc := 29) fl_X0_133 dX0_thread_29 fun x51 => ?_
  refine im_icmp_le (pc := 32) (tgt := 37) dX0_thread_32 (by decide) ?_ ?_
  · refine im_aload_n (pc := 37) dX0_thread_37 rfl rfl ?_
    refine im_iconst (pc := 38) (v := 0) dX0_thread_38 (by decide) ?_
    refine im_pf (pc := 39) fp_X0_133 (okT_i _) dX0_thread_39 fun h52 => ?_
    refine im_iconst (pc := 42) (v := 0) dX0_thread_42 (by decide) ?_
    refine im_istore_n (pc := 43) (lv' := [some (.inr v0), some (.inl v1), some (.inl v2), some (.inl 0), none, none, none]) dX0_thread_43 rfl (by decide) rfl ?_
    refine im_iload_n (pc := 44) dX0_thread_44 rfl rfl ?_
    refine im_iconst (pc := 45) (v := 1) dX0_thread_45 (by decide) ?_
    refine im_isub (pc := 46) dX0_thread_46 ?_
    refine im_istore (pc := 47) (lv' := [some (.inr v0), some (.inl v1), some (.inl v2), some (.inl 0), some (.inl (v1 - 1)), none, none]) dX0_thread_47 (by decide) rfl ?_
    exact Im.drop [true, true, true, true, true, false, false] rfl (tp_thread_L49_ok X v0 v1 v2 0 (v1 - 1) h52)
  · refine im_iconst (pc := 35) (v := (-1)) dX0_thread_35 (by decide) ?_
    exact im_iret (pc := 36) dX0_thread_36
noncomputable def tp_thread_0 (v0 : Option Nat) (v1 : Int32) (v2 : Int32) (h : PH) : Option (Int32 × PH) :=
  (tp_within v1 1 20 h).bind fun x51 =>
  (if x51 = 0 then
  some (((-1), h))
  else
  (if v2 = 100 then
  tp_thread_25 v0 v1 v2 h
  else
  (tp_in v2 20 h).bind fun x52 =>
  (if x52 = 0 then
  some (((-1), h))
  else
  tp_thread_25 v0 v1 v2 h)))
theorem tp_thread_0_ok (X : CT) (v0 : Option Nat) (v1 : Int32) (v2 : Int32) (h : PH) : Im X (cX0_thread, 7, RX0, "thread", (some .int), 2) 0 [some (.inr v0), some (.inl v1), some (.inl v2), none, none, none, none] [] h (tp_thread_0 v0 v1 v2 h) szI (kI X) := by
  unfold tp_thread_0
  refine im_iload_n (pc := 0) dX0_thread_0 rfl rfl ?_
  refine im_iconst (pc := 1) (v := 1) dX0_thread_1 (by decide) ?_
  refine im_bipush (pc := 2) (v := 20) dX0_thread_2 (by decide) ?_
  refine cl_X0_120 tp_within_im (pc := 4) (by decide) dX0_thread_4 (Nat.le_of_ble_eq_true rfl) fun x51 => ?_
  refine im_if_eq (pc := 7) (tgt := 35) dX0_thread_7 (by decide) ?_ ?_
  · refine im_iconst (pc := 35) (v := (-1)) dX0_thread_35 (by decide) ?_
    exact im_iret (pc := 36) dX0_thread_36
  · refine im_iload_n (pc := 10) dX0_thread_10 rfl rfl ?_
    refine im_bipush (pc := 11) (v := 100) dX0_thread_11 (by decide) ?_
    refine im_icmp_eq (pc := 13) (tgt := 25) dX0_thread_13 (by decide) ?_ ?_
    · exact Im.drop [true, true, true, false, false, false, false] rfl (tp_thread_25_ok X v0 v1 v2 h)
    · refine im_iload_n (pc := 16) dX0_thread_16 rfl rfl ?_
      refine im_bipush (pc := 17) (v := 20) dX0_thread_17 (by decide) ?_
      refine cl_X0_25 tp_in_im (pc := 19) (by decide) dX0_thread_19 (Nat.le_of_ble_eq_true rfl) fun x52 => ?_
      refine im_if_eq (pc := 22) (tgt := 35) dX0_thread_22 (by decide) ?_ ?_
      · refine im_iconst (pc := 35) (v := (-1)) dX0_thread_35 (by decide) ?_
        exact im_iret (pc := 36) dX0_thread_36
      · exact Im.drop [true, true, true, false, false, false, false] rfl (tp_thread_25_ok X v0 v1 v2 h)
noncomputable def tp_thread (a0 : Option Nat) (a1 : Int32) (a2 : Int32) (h : PH) : Option (Int32 × PH) := grd (isC [0] a0 h) (tp_thread_0 a0 a1 a2 h)
theorem tp_thread_im : IM_X0_thread tp_thread 2 := by
  intro a0 a1 a2 h r h' e
  obtain ⟨e1, e2⟩ := grd_some e
  exact ⟨e1, SpI.of (k := 4) (plainFor_of_name (by decide)) rfl (fun X => Im.drop [true, true, true, false, false, false, false] rfl (tp_thread_0_ok X a0 a1 a2 h)) e2⟩
def IM_X0_talkOn (f : Option Nat → Int32 → PH → Option (Int32)) (d : Nat) : Prop := ∀ (a0 : Option Nat) (a1 : Int32) (h : PH) (r : Int32), f a0 a1 h = some r → isC [0] a0 h = true ∧ SpI yX0_talkOn cX0_talkOn 3 (some .int) d [.inr a0, .inl a1] h r h
noncomputable def tp_talkOn_0 (v0 : Option Nat) (v1 : Int32) (h : PH) : Option (Int32) :=
  (gfr [0] 1 v0 h).bind fun r51 =>
  (yd_whoLiesAt r51 v1 h).bind fun x52 =>
  (if x52 = (-1) then
  some (0)
  else
  (gfr [0] 1 v0 h).bind fun r53 =>
  (gfr [0] 1 v0 h).bind fun r54 =>
  (yd_beside r54 x52 h).bind fun x55 =>
  (yd_talkWith r53 x52 x55 h).bind fun x56 =>
  some (x56))
theorem tp_talkOn_0_ok (X : CT) (v0 : Option Nat) (v1 : Int32) (h : PH) : Im X (cX0_talkOn, 3, RX0, "talkOn", (some .int), 6) 0 [some (.inr v0), some (.inl v1), none] [] h (tp_talkOn_0 v0 v1 h) (szP h) (kP X h) := by
  unfold tp_talkOn_0
  refine im_aload_n (pc := 0) dX0_talkOn_0 rfl rfl ?_
  refine im_gr (pc := 1) fl_X0_63 dX0_talkOn_1 fun r51 => ?_
  refine im_iload_n (pc := 4) dX0_talkOn_4 rfl rfl ?_
  refine cl_X0_218 yd_whoLiesAt_im (pc := 5) (by decide) dX0_talkOn_5 (Nat.le_of_ble_eq_true rfl) fun x52 => ?_
  refine im_istore_n (pc := 8) (lv' := [some (.inr v0), some (.inl v1), some (.inl x52)]) dX0_talkOn_8 rfl (by decide) rfl ?_
  refine im_iload_n (pc := 9) dX0_talkOn_9 rfl rfl ?_
  refine im_iconst (pc := 10) (v := (-1)) dX0_talkOn_10 (by decide) ?_
  refine im_icmp_ne (pc := 11) (tgt := 18) dX0_talkOn_11 (by decide) ?_ ?_
  · refine im_aload_n (pc := 18) dX0_talkOn_18 rfl rfl ?_
    refine im_gr (pc := 19) fl_X0_63 dX0_talkOn_19 fun r53 => ?_
    refine im_iload_n (pc := 22) dX0_talkOn_22 rfl rfl ?_
    refine im_aload_n (pc := 23) dX0_talkOn_23 rfl rfl ?_
    refine im_gr (pc := 24) fl_X0_63 dX0_talkOn_24 fun r54 => ?_
    refine im_iload_n (pc := 27) dX0_talkOn_27 rfl rfl ?_
    refine cl_X0_200 yd_beside_im (pc := 28) (by decide) dX0_talkOn_28 (Nat.le_of_ble_eq_true rfl) fun x55 => ?_
    refine cl_X0_215 yd_talkWith_im (pc := 31) (by decide) dX0_talkOn_31 (Nat.le_of_ble_eq_true rfl) fun x56 => ?_
    exact im_iretP (pc := 34) dX0_talkOn_34
  · refine im_iconst (pc := 14) (v := 0) dX0_talkOn_14 (by decide) ?_
    refine im_goto (pc := 15) (tgt := 34) dX0_talkOn_15 (by decide) ?_
    exact im_iretP (pc := 34) dX0_talkOn_34
noncomputable def tp_talkOn (a0 : Option Nat) (a1 : Int32) (h : PH) : Option (Int32) := grd (isC [0] a0 h) (tp_talkOn_0 a0 a1 h)
theorem tp_talkOn_im : IM_X0_talkOn tp_talkOn 6 := by
  intro a0 a1 h r e
  obtain ⟨e1, e2⟩ := grd_some e
  exact ⟨e1, SpI.ofP (k := 1) (plainFor_of_name (by decide)) rfl (fun X => Im.drop [true, true, false] rfl (tp_talkOn_0_ok X a0 a1 h)) e2⟩
theorem cl_X0_288 {X : CT} {cc : ByteArray} {nL : Nat} {mn : String} {ret : Option FieldType} {d d0 : Nat} {τ : Type} {pc : Nat} {lv : List (Option PV)} {st : List PV} {h : PH} {sz : τ → Nat × Nat} {K : τ → Prop} {f : Option Nat → Int32 → PH → Option (Int32)} (HR : IM_X0_talkOn f d0) {a0 : Option Nat} {a1 : Int32} {g : Int32 → Option τ} (hd : d0 + 1 ≤ d) (hdg : decode cc pc = .ok (.invokevirtual 288, 3)) (hst : st.length ≤ 8) (kk : ∀ r, Im X (cc, nL, RX0, mn, ret, d) (pc + 3) lv (.inl r :: st) h (g r) sz K) : Im X (cc, nL, RX0, mn, ret, d) pc lv (.inl a1 :: .inr a0 :: st) h ((f a0 a1 h).bind g) sz K := by
  refine im_cP (y := yX0_talkOn) (cY := cX0_talkOn) (nY := 3) (rY := (some .int)) (d' := d0) (av := [.inr a0, .inl a1]) (fun r e hX => ?_) (fun r e => (HR _ _ _ _ e).2) hd (by decide) hst rfl kk
  obtain ⟨a, c, fs, rfl, ec, hm⟩ := isC_some (HR _ _ _ _ e).1
  cases List.mem_singleton.mp hm
  exact cal_V (n := 1) hX (lw_V q1109 q1111 qs39 q106 q1112) (by decide +kernel) rfl rfl ec hdg

def IM_X0_good (f : Option Nat → Int32 → Int32 → PH → Option (Int32)) (d : Nat) : Prop := ∀ (a0 : Option Nat) (a1 : Int32) (a2 : Int32) (h : PH) (r : Int32), f a0 a1 a2 h = some r → isC [0] a0 h = true ∧ SpI yX0_good cX0_good 9 (some .int) d [.inr a0, .inl a1, .inl a2] h r h
noncomputable def tp_good_b48 (v0 : Option Nat) (v1 : Int32) (v2 : Int32) (v3 : Int32) (v4 : Int32) (v5 : Int32) (v6 : Int32) (v7 : Int32) (v8 : Int32) (h : PH) : Option ((Int32 × Int32 × Int32 × Int32 × Int32) ⊕ ((Int32 × Int32 × Int32 × Int32) ⊕ (Int32))) :=
  (if 10 ≤ v8 then
  some (.inr (.inl (v3, v4, v5, (v6 + 1))))
  else
  (tp_talkOn v0 ((10 * v1) + v8) h).bind fun x51 =>
  (if v5 < (v7 + x51) then
  some (.inl (v6, v8, (v7 + x51), (v7 + x51), (v8 + 1)))
  else
  some (.inl (v3, v4, v5, (v7 + x51), (v8 + 1)))))
noncomputable def tp_good_L48 (v0 : Option Nat) (v1 : Int32) (v2 : Int32) (v3 : Int32) (v4 : Int32) (v5 : Int32) (v6 : Int32) (v7 : Int32) (v8 : Int32) (h : PH) : Option ((Int32 × Int32 × Int32 × Int32) ⊕ (Int32)) :=
  iter (fun s : Int32 × Int32 × Int32 × Int32 × Int32 => tp_good_b48 v0 v1 v2 s.1 s.2.1 s.2.2.1 v6 s.2.2.2.1 s.2.2.2.2 h) (v3, v4, v5, v7, v8)
theorem tp_good_b48_ok (X : CT) (v0 : Option Nat) (v1 : Int32) (v2 : Int32) (v3 : Int32) (v4 : Int32) (v5 : Int32) (v6 : Int32) (v7 : Int32) (v8 : Int32) (h : PH) : Im X (cX0_good, 9, RX0, "good", (some .int), 7) 48 [some (.inr v0), some (.inl v1), some (.inl v2), some (.inl v3), some (.inl v4), some (.inl v5), some (.inl v6), some (.inl v7), some (.inl v8)] [] h (tp_good_b48 v0 v1 v2 v3 v4 v5 v6 v7 v8 h) (ez (fun s : Int32 × Int32 × Int32 × Int32 × Int32 => h) (ez (fun s : Int32 × Int32 × Int32 × Int32 => h) (szP h))) (ek X 48 (fun s : Int32 × Int32 × Int32 × Int32 × Int32 => [some (.inr v0), some (.inl v1), some (.inl v2), some (.inl s.1), some (.inl s.2.1), some (.inl s.2.2.1), some (.inl v6), some (.inl s.2.2.2.1), some (.inl s.2.2.2.2)]) (fun s : Int32 × Int32 × Int32 × Int32 × Int32 => h) (ek X 34 (fun s : Int32 × Int32 × Int32 × Int32 => [some (.inr v0), some (.inl v1), some (.inl v2), some (.inl s.1), some (.inl s.2.1), some (.inl s.2.2.1), some (.inl s.2.2.2), none, none]) (fun s : Int32 × Int32 × Int32 × Int32 => h) (kP X h))) := by
  unfold tp_good_b48
  refine im_iload (pc := 48) dX0_good_48 rfl ?_
  refine im_bipush (pc := 50) (v := 10) dX0_good_50 (by decide) ?_
  refine im_icmp_ge (pc := 52) (tgt := 98) dX0_good_52 (by decide) ?_ ?_
  · refine im_iinc (pc := 98) (v := (v6 + 1)) (lv' := [some (.inr v0), some (.inl v1), some (.inl v2), some (.inl v3), some (.inl v4), some (.inl v5), some (.inl (v6 + 1)), some (.inl v7), some (.inl v8)]) dX0_good_98 rfl rfl (by decide) rfl ?_
    refine im_goto (pc := 101) (tgt := 34) dX0_good_101 (by decide) ?_
    exact Im.outS (Im.back [true, true, true, true, true, true, true, false, false] rfl rfl)
  · refine im_iload (pc := 55) dX0_good_55 rfl ?_
    refine im_aload_n (pc := 57) dX0_good_57 rfl rfl ?_
    refine im_bipush (pc := 58) (v := 10) dX0_good_58 (by decide) ?_
    refine im_iload_n (pc := 60) dX0_good_60 rfl rfl ?_
    refine im_imul (pc := 61) dX0_good_61 ?_
    refine im_iload (pc := 62) dX0_good_62 rfl ?_
    refine im_iadd (pc := 64) dX0_good_64 ?_
    refine cl_X0_288 tp_talkOn_im (pc := 65) (by decide) dX0_good_65 (Nat.le_of_ble_eq_true rfl) fun x51 => ?_
    refine im_iadd (pc := 68) dX0_good_68 ?_
    refine im_istore (pc := 69) (lv' := [some (.inr v0), some (.inl v1), some (.inl v2), some (.inl v3), some (.inl v4), some (.inl v5), some (.inl v6), some (.inl (v7 + x51)), some (.inl v8)]) dX0_good_69 (by decide) rfl ?_
    refine im_iload (pc := 71) dX0_good_71 rfl ?_
    refine im_iload (pc := 73) dX0_good_73 rfl ?_
    refine im_icmp_gt (pc := 75) (tgt := 81) dX0_good_75 (by decide) ?_ ?_
    · refine im_iload (pc := 81) dX0_good_81 rfl ?_
      refine im_istore_n (pc := 83) (lv' := [some (.inr v0), some (.inl v1), some (.inl v2), some (.inl v6), some (.inl v4), some (.inl v5), some (.inl v6), some (.inl (v7 + x51)), some (.inl v8)]) dX0_good_83 rfl (by decide) rfl ?_
      refine im_iload (pc := 84) dX0_good_84 rfl ?_
      refine im_istore (pc := 86) (lv' := [some (.inr v0), some (.inl v1), some (.inl v2), some (.inl v6), some (.inl v8), some (.inl v5), some (.inl v6), some (.inl (v7 + x51)), some (.inl v8)]) dX0_good_86 (by decide) rfl ?_
      refine im_iload (pc := 88) dX0_good_88 rfl ?_
      refine im_istore (pc := 90) (lv' := [some (.inr v0), some (.inl v1), some (.inl v2), some (.inl v6), some (.inl v8), some (.inl (v7 + x51)), some (.inl v6), some (.inl (v7 + x51)), some (.inl v8)]) dX0_good_90 (by decide) rfl ?_
      refine im_iinc (pc := 92) (v := (v8 + 1)) (lv' := [some (.inr v0), some (.inl v1), some (.inl v2), some (.inl v6), some (.inl v8), some (.inl (v7 + x51)), some (.inl v6), some (.inl (v7 + x51)), some (.inl (v8 + 1))]) dX0_good_92 rfl rfl (by decide) rfl ?_
      refine im_goto (pc := 95) (tgt := 48) dX0_good_95 (by decide) ?_
      exact Im.back [true, true, true, true, true, true, true, true, true] rfl rfl
    · refine im_goto (pc := 78) (tgt := 92) dX0_good_78 (by decide) ?_
      refine im_iinc (pc := 92) (v := (v8 + 1)) (lv' := [some (.inr v0), some (.inl v1), some (.inl v2), some (.inl v3), some (.inl v4), some (.inl v5), some (.inl v6), some (.inl (v7 + x51)), some (.inl (v8 + 1))]) dX0_good_92 rfl rfl (by decide) rfl ?_
      refine im_goto (pc := 95) (tgt := 48) dX0_good_95 (by decide) ?_
      exact Im.back [true, true, true, true, true, true, true, true, true] rfl rfl
theorem tp_good_L48_ok (X : CT) (v0 : Option Nat) (v1 : Int32) (v2 : Int32) (v3 : Int32) (v4 : Int32) (v5 : Int32) (v6 : Int32) (v7 : Int32) (v8 : Int32) (h : PH) : Im X (cX0_good, 9, RX0, "good", (some .int), 7) 48 [some (.inr v0), some (.inl v1), some (.inl v2), some (.inl v3), some (.inl v4), some (.inl v5), some (.inl v6), some (.inl v7), some (.inl v8)] [] h (tp_good_L48 v0 v1 v2 v3 v4 v5 v6 v7 v8 h) (ez (fun s : Int32 × Int32 × Int32 × Int32 => h) (szP h)) (ek X 34 (fun s : Int32 × Int32 × Int32 × Int32 => [some (.inr v0), some (.inl v1), some (.inl v2), some (.inl s.1), some (.inl s.2.1), some (.inl s.2.2.1), some (.inl s.2.2.2), none, none]) (fun s : Int32 × Int32 × Int32 × Int32 => h) (kP X h)) := by
  unfold tp_good_L48
  exact Im.iter (lv := (fun s : Int32 × Int32 × Int32 × Int32 × Int32 => [some (.inr v0), some (.inl v1), some (.inl v2), some (.inl s.1), some (.inl s.2.1), some (.inl s.2.2.1), some (.inl v6), some (.inl s.2.2.2.1), some (.inl s.2.2.2.2)])) (hp := (fun s : Int32 × Int32 × Int32 × Int32 × Int32 => h)) (fun s => tp_good_b48_ok X v0 v1 v2 s.1 s.2.1 s.2.2.1 v6 s.2.2.2.1 s.2.2.2.2 h) _ rfl rfl
noncomputable def tp_good_b34 (v0 : Option Nat) (v1 : Int32) (v2 : Int32) (v3 : Int32) (v4 : Int32) (v5 : Int32) (v6 : Int32) (h : PH) : Option ((Int32 × Int32 × Int32 × Int32) ⊕ (Int32)) :=
  (if 10 ≤ v6 then
  (if v2 = 0 then
  some (.inr v3)
  else
  (if v2 = 1 then
  some (.inr v4)
  else
  some (.inr v5)))
  else
  tp_good_L48 v0 v1 v2 v3 v4 v5 v6 0 v6 h)
noncomputable def tp_good_L34 (v0 : Option Nat) (v1 : Int32) (v2 : Int32) (v3 : Int32) (v4 : Int32) (v5 : Int32) (v6 : Int32) (h : PH) : Option (Int32) :=
  iter (fun s : Int32 × Int32 × Int32 × Int32 => tp_good_b34 v0 v1 v2 s.1 s.2.1 s.2.2.1 s.2.2.2 h) (v3, v4, v5, v6)
theorem tp_good_b34_ok (X : CT) (v0 : Option Nat) (v1 : Int32) (v2 : Int32) (v3 : Int32) (v4 : Int32) (v5 : Int32) (v6 : Int32) (h : PH) : Im X (cX0_good, 9, RX0, "good", (some .int), 7) 34 [some (.inr v0), some (.inl v1), some (.inl v2), some (.inl v3), some (.inl v4), some (.inl v5), some (.inl v6), none, none] [] h (tp_good_b34 v0 v1 v2 v3 v4 v5 v6 h) (ez (fun s : Int32 × Int32 × Int32 × Int32 => h) (szP h)) (ek X 34 (fun s : Int32 × Int32 × Int32 × Int32 => [some (.inr v0), some (.inl v1), some (.inl v2), some (.inl s.1), some (.inl s.2.1), some (.inl s.2.2.1), some (.inl s.2.2.2), none, none]) (fun s : Int32 × Int32 × Int32 × Int32 => h) (kP X h)) := by
  unfold tp_good_b34
  refine im_iload (pc := 34) dX0_good_34 rfl ?_
  refine im_bipush (pc := 36) (v := 10) dX0_good_36 (by decide) ?_
  refine im_icmp_ge (pc := 38) (tgt := 104) dX0_good_38 (by decide) ?_ ?_
  · refine im_iload_n (pc := 104) dX0_good_104 rfl rfl ?_
    refine im_if_ne (pc := 105) (tgt := 112) dX0_good_105 (by decide) ?_ ?_
    · refine im_iload_n (pc := 112) dX0_good_112 rfl rfl ?_
      refine im_iconst (pc := 113) (v := 1) dX0_good_113 (by decide) ?_
      refine im_icmp_ne (pc := 114) (tgt := 122) dX0_good_114 (by decide) ?_ ?_
      · refine im_iload (pc := 122) dX0_good_122 rfl ?_
        exact Im.outS (im_iretP (pc := 124) dX0_good_124)
      · refine im_iload (pc := 117) dX0_good_117 rfl ?_
        refine im_goto (pc := 119) (tgt := 124) dX0_good_119 (by decide) ?_
        exact Im.outS (im_iretP (pc := 124) dX0_good_124)
    · refine im_iload_n (pc := 108) dX0_good_108 rfl rfl ?_
      refine im_goto (pc := 109) (tgt := 124) dX0_good_109 (by decide) ?_
      exact Im.outS (im_iretP (pc := 124) dX0_good_124)
  · refine im_iconst (pc := 41) (v := 0) dX0_good_41 (by decide) ?_
    refine im_istore (pc := 42) (lv' := [some (.inr v0), some (.inl v1), some (.inl v2), some (.inl v3), some (.inl v4), some (.inl v5), some (.inl v6), some (.inl 0), none]) dX0_good_42 (by decide) rfl ?_
    refine im_iload (pc := 44) dX0_good_44 rfl ?_
    refine im_istore (pc := 46) (lv' := [some (.inr v0), some (.inl v1), some (.inl v2), some (.inl v3), some (.inl v4), some (.inl v5), some (.inl v6), some (.inl 0), some (.inl v6)]) dX0_good_46 (by decide) rfl ?_
    exact Im.drop [true, true, true, true, true, true, true, true, true] rfl (tp_good_L48_ok X v0 v1 v2 v3 v4 v5 v6 0 v6 h)
theorem tp_good_L34_ok (X : CT) (v0 : Option Nat) (v1 : Int32) (v2 : Int32) (v3 : Int32) (v4 : Int32) (v5 : Int32) (v6 : Int32) (h : PH) : Im X (cX0_good, 9, RX0, "good", (some .int), 7) 34 [some (.inr v0), some (.inl v1), some (.inl v2), some (.inl v3), some (.inl v4), some (.inl v5), some (.inl v6), none, none] [] h (tp_good_L34 v0 v1 v2 v3 v4 v5 v6 h) (szP h) (kP X h) := by
  unfold tp_good_L34
  exact Im.iter (lv := (fun s : Int32 × Int32 × Int32 × Int32 => [some (.inr v0), some (.inl v1), some (.inl v2), some (.inl s.1), some (.inl s.2.1), some (.inl s.2.2.1), some (.inl s.2.2.2), none, none])) (hp := (fun s : Int32 × Int32 × Int32 × Int32 => h)) (fun s => tp_good_b34_ok X v0 v1 v2 s.1 s.2.1 s.2.2.1 s.2.2.2 h) _ rfl rfl
noncomputable def tp_good_0 (v0 : Option Nat) (v1 : Int32) (v2 : Int32) (h : PH) : Option (Int32) :=
  (tp_in v1 6 h).bind fun x51 =>
  (if x51 = 0 then
  some ((-1000))
  else
  (tp_in v2 3 h).bind fun x52 =>
  (if x52 = 0 then
  some ((-1000))
  else
  tp_good_L34 v0 v1 v2 0 0 (-268435456) 0 h))
theorem tp_good_0_ok (X : CT) (v0 : Option Nat) (v1 : Int32) (v2 : Int32) (h : PH) : Im X (cX0_good, 9, RX0, "good", (some .int), 7) 0 [some (.inr v0), some (.inl v1), some (.inl v2), none, none, none, none, none, none] [] h (tp_good_0 v0 v1 v2 h) (szP h) (kP X h) := by
  unfold tp_good_0
  refine im_iload_n (pc := 0) dX0_good_0 rfl rfl ?_
  refine im_bipush (pc := 1) (v := 6) dX0_good_1 (by decide) ?_
  refine cl_X0_25 tp_in_im (pc := 3) (by decide) dX0_good_3 (Nat.le_of_ble_eq_true rfl) fun x51 => ?_
  refine im_if_eq (pc := 6) (tgt := 17) dX0_good_6 (by decide) ?_ ?_
  · refine im_sipush (pc := 17) (v := (-1000)) dX0_good_17 (by decide) ?_
    exact im_iretP (pc := 20) dX0_good_20
  · refine im_iload_n (pc := 9) dX0_good_9 rfl rfl ?_
    refine im_iconst (pc := 10) (v := 3) dX0_good_10 (by decide) ?_
    refine cl_X0_25 tp_in_im (pc := 11) (by decide) dX0_good_11 (Nat.le_of_ble_eq_true rfl) fun x52 => ?_
    refine im_if_ne (pc := 14) (tgt := 21) dX0_good_14 (by decide) ?_ ?_
    · refine im_iconst (pc := 21) (v := 0) dX0_good_21 (by decide) ?_
      refine im_istore_n (pc := 22) (lv' := [some (.inr v0), some (.inl v1), some (.inl v2), some (.inl 0), none, none, none, none, none]) dX0_good_22 rfl (by decide) rfl ?_
      refine im_iconst (pc := 23) (v := 0) dX0_good_23 (by decide) ?_
      refine im_istore (pc := 24) (lv' := [some (.inr v0), some (.inl v1), some (.inl v2), some (.inl 0), some (.inl 0), none, none, none, none]) dX0_good_24 (by decide) rfl ?_
      refine im_ldcw (pc := 26) q1035 dX0_good_26 ?_
      refine im_istore (pc := 29) (lv' := [some (.inr v0), some (.inl v1), some (.inl v2), some (.inl 0), some (.inl 0), some (.inl (-268435456)), none, none, none]) dX0_good_29 (by decide) rfl ?_
      refine im_iconst (pc := 31) (v := 0) dX0_good_31 (by decide) ?_
      refine im_istore (pc := 32) (lv' := [some (.inr v0), some (.inl v1), some (.inl v2), some (.inl 0), some (.inl 0), some (.inl (-268435456)), some (.inl 0), none, none]) dX0_good_32 (by decide) rfl ?_
      exact Im.drop [true, true, true, true, true, true, true, false, false] rfl (tp_good_L34_ok X v0 v1 v2 0 0 (-268435456) 0 h)
    · refine im_sipush (pc := 17) (v := (-1000)) dX0_good_17 (by decide) ?_
      exact im_iretP (pc := 20) dX0_good_20
noncomputable def tp_good (a0 : Option Nat) (a1 : Int32) (a2 : Int32) (h : PH) : Option (Int32) := grd (isC [0] a0 h) (tp_good_0 a0 a1 a2 h)
theorem tp_good_im : IM_X0_good tp_good 7 := by
  intro a0 a1 a2 h r e
  obtain ⟨e1, e2⟩ := grd_some e
  exact ⟨e1, SpI.ofP (k := 6) (plainFor_of_name (by decide)) rfl (fun X => Im.drop [true, true, true, false, false, false, false, false, false] rfl (tp_good_0_ok X a0 a1 a2 h)) e2⟩
