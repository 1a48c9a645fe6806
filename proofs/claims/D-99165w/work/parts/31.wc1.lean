set_option maxRecDepth 100000
theorem cl_X7_77 {X : CT} {cc : ByteArray} {nL : Nat} {mn : String} {ret : Option FieldType} {d d0 : Nat} {τ : Type} {pc : Nat} {lv : List (Option PV)} {st : List PV} {h : PH} {sz : τ → Nat × Nat} {K : τ → Prop} {f : Option Nat → Int32 → PH → Option (Int32)} (HR : IM_J0_indexOf f d0) {a0 : Option Nat} {a1 : Int32} {g : Int32 → Option τ} (hd : d0 + 1 ≤ d) (hdg : decode cc pc = .ok (.invokevirtual 77, 3)) (hst : st.length ≤ 8) (kk : ∀ r, Im X (cc, nL, RX7, mn, ret, d) (pc + 3) lv (.inl r :: st) h (g r) sz K) : Im X (cc, nL, RX7, mn, ret, d) pc lv (.inl a1 :: .inr a0 :: st) h ((f a0 a1 h).bind g) sz K := by
  refine im_cP (y := yJ0_indexOf) (cY := cJ0_indexOf) (nY := 2) (rY := (some .int)) (d' := d0) (av := [.inr a0, .inl a1]) (fun r e hX => ?_) (fun r e => (HR _ _ _ _ e).2) hd (by decide) hst rfl kk
  obtain ⟨a, c, fs, rfl, ec, hm⟩ := isC_some (HR _ _ _ _ e).1
  cases List.mem_singleton.mp hm
  exact cal_VS (n := 1) hX (lw_V q409 q410 q411 q114 q412) (by decide +kernel) rfl ec hdg

theorem nw_X7_68 : NW RX7 68 8 [.inl 0] := ⟨RX10, TX10, tyX10, rfl, in_X10, tyX10_ok, q525, q526, q122, fun G j hj => by
  have hj : j < 1 := hj
  match j, hj with
  | 0, _ => rfl⟩
theorem cl_X7_70 {X : CT} {cc : ByteArray} {nL : Nat} {mn : String} {ret : Option FieldType} {d d0 : Nat} {τ : Type} {pc : Nat} {lv : List (Option PV)} {st : List PV} {h : PH} {sz : τ → Nat × Nat} {K : τ → Prop} {f : Option Nat → PH → Option (Int32 × PH)} (HR : IM_X7_number f d0) {a0 : Option Nat} {g : Int32 → PH → Option τ} (hd : d0 + 1 ≤ d) (hdg : decode cc pc = .ok (.invokevirtual 70, 3)) (hst : st.length ≤ 8) (kk : ∀ r h', Im X (cc, nL, RX7, mn, ret, d) (pc + 3) lv (.inl r :: st) h' (g r h') sz K) : Im X (cc, nL, RX7, mn, ret, d) pc lv (.inr a0 :: st) h (bd2 (f a0 h) g) sz K := by
  refine im_cI (y := yX7_number) (cY := cX7_number) (nY := 3) (rY := (some .int)) (d' := d0) (av := [.inr a0]) (fun r h' e hX => ?_) (fun r h' e => (HR _ _ _ _ e).2) hd (by decide) hst rfl kk
  obtain ⟨a, c, fs, rfl, ec, hm⟩ := isC_some (HR _ _ _ _ e).1
  cases List.mem_singleton.mp hm
  exact cal_V (n := 0) hX (lw_V q527 q529 qs11 q113 q530) (by decide +kernel) rfl rfl ec hdg

theorem cl_X7_73 {X : CT} {cc : ByteArray} {nL : Nat} {mn : String} {ret : Option FieldType} {d d0 : Nat} {τ : Type} {pc : Nat} {lv : List (Option PV)} {st : List PV} {h : PH} {sz : τ → Nat × Nat} {K : τ → Prop} {f : Option Nat → Int32 → PH → Option (PH)} (HR : IM_X10_init f d0) {a0 : Option Nat} {a1 : Int32} {g : PH → Option τ} (hd : d0 + 1 ≤ d) (hdg : decode cc pc = .ok (.invokespecial 73, 3)) (hst : st.length ≤ 8) (kk : ∀ h', Im X (cc, nL, RX7, mn, ret, d) (pc + 3) lv st h' (g h') sz K) : Im X (cc, nL, RX7, mn, ret, d) pc lv (.inl a1 :: .inr a0 :: st) h ((f a0 a1 h).bind g) sz K := by
  refine im_cV (y := yX10_init) (cY := cX10_init) (nY := 2) (rY := none) (d' := d0) (av := [.inr a0, .inl a1]) (fun h' e hX => ?_) (fun h' e => (HR _ _ _ _ e).2) hd (by decide) hst rfl kk
  obtain ⟨a, c, fs, rfl, ec, hm⟩ := isC_some (HR _ _ _ _ e).1
  exact cal_I (n := 1) hX q531 q532 q122 q533 rfl (by decide +kernel) rfl hdg

theorem cl_X7_57 {X : CT} {cc : ByteArray} {nL : Nat} {mn : String} {ret : Option FieldType} {d d0 : Nat} {τ : Type} {pc : Nat} {lv : List (Option PV)} {st : List PV} {h : PH} {sz : τ → Nat × Nat} {K : τ → Prop} {f : Option Nat → PH → Option (PH)} (HR : IM_X7_opens f d0) {a0 : Option Nat} {g : PH → Option τ} (hd : d0 + 1 ≤ d) (hdg : decode cc pc = .ok (.invokevirtual 57, 3)) (hst : st.length ≤ 8) (kk : ∀ h', Im X (cc, nL, RX7, mn, ret, d) (pc + 3) lv st h' (g h') sz K) : Im X (cc, nL, RX7, mn, ret, d) pc lv (.inr a0 :: st) h ((f a0 h).bind g) sz K := by
  refine im_cV (y := yX7_opens) (cY := cX7_opens) (nY := 1) (rY := none) (d' := d0) (av := [.inr a0]) (fun h' e hX => ?_) (fun h' e => (HR _ _ _ e).2) hd (by decide) hst rfl kk
  obtain ⟨a, c, fs, rfl, ec, hm⟩ := isC_some (HR _ _ _ e).1
  cases List.mem_singleton.mp hm
  exact cal_V (n := 0) hX (lw_V q513 q515 qs8 q113 q516) (by decide +kernel) rfl rfl ec hdg

def IM_X7_sum (f : Option Nat → PH → Option (Option Nat × PH)) (d : Nat) : Prop := ∀ (a0 : Option Nat) (h : PH) (r : Option Nat) (h' : PH), f a0 h = some (r, h') → isC [6] a0 h = true ∧ SpR yX7_sum cX7_sum 4 (some (.object "TalkingPlots$Sum")) d [.inr a0] h r h'
theorem cl_X7_60 {X : CT} {cc : ByteArray} {nL : Nat} {mn : String} {ret : Option FieldType} {d d0 : Nat} {τ : Type} {pc : Nat} {lv : List (Option PV)} {st : List PV} {h : PH} {sz : τ → Nat × Nat} {K : τ → Prop} {f : Option Nat → PH → Option (Option Nat × PH)} (HR : IM_X7_sum f d0) {a0 : Option Nat} {g : Option Nat → PH → Option τ} (hd : d0 + 1 ≤ d) (hdg : decode cc pc = .ok (.invokevirtual 60, 3)) (hst : st.length ≤ 8) (kk : ∀ r h', Im X (cc, nL, RX7, mn, ret, d) (pc + 3) lv (.inr r :: st) h' (g r h') sz K) : Im X (cc, nL, RX7, mn, ret, d) pc lv (.inr a0 :: st) h (bd2 (f a0 h) g) sz K := by
  refine im_cR (y := yX7_sum) (cY := cX7_sum) (nY := 4) (rY := (some (.object "TalkingPlots$Sum"))) (d' := d0) (av := [.inr a0]) (fun r h' e hX => ?_) (fun r h' e => (HR _ _ _ _ e).2) hd (by decide) hst rfl kk
  obtain ⟨a, c, fs, rfl, ec, hm⟩ := isC_some (HR _ _ _ _ e).1
  cases List.mem_singleton.mp hm
  exact cal_V (n := 0) hX (lw_V q499 q501 qs5 q113 q502) (by decide +kernel) rfl rfl ec hdg

theorem cl_X7_64 {X : CT} {cc : ByteArray} {nL : Nat} {mn : String} {ret : Option FieldType} {d d0 : Nat} {τ : Type} {pc : Nat} {lv : List (Option PV)} {st : List PV} {h : PH} {sz : τ → Nat × Nat} {K : τ → Prop} {f : Option Nat → Int32 → PH → Option (PH)} (HR : IM_X7_must f d0) {a0 : Option Nat} {a1 : Int32} {g : PH → Option τ} (hd : d0 + 1 ≤ d) (hdg : decode cc pc = .ok (.invokevirtual 64, 3)) (hst : st.length ≤ 8) (kk : ∀ h', Im X (cc, nL, RX7, mn, ret, d) (pc + 3) lv st h' (g h') sz K) : Im X (cc, nL, RX7, mn, ret, d) pc lv (.inl a1 :: .inr a0 :: st) h ((f a0 a1 h).bind g) sz K := by
  refine im_cV (y := yX7_must) (cY := cX7_must) (nY := 2) (rY := none) (d' := d0) (av := [.inr a0, .inl a1]) (fun h' e hX => ?_) (fun h' e => (HR _ _ _ _ e).2) hd (by decide) hst rfl kk
  obtain ⟨a, c, fs, rfl, ec, hm⟩ := isC_some (HR _ _ _ _ e).1
  cases List.mem_singleton.mp hm
  exact cal_V (n := 1) hX (lw_V q517 q519 qs9 q113 q520) (by decide +kernel) rfl rfl ec hdg

theorem nw_X7_83 : NW RX7 83 9 [.inl 0] := ⟨RX11, TX11, tyX11, rfl, in_X11, tyX11_ok, q543, q544, q123, fun G j hj => by
  have hj : j < 1 := hj
  match j, hj with
  | 0, _ => rfl⟩
theorem cl_X7_85 {X : CT} {cc : ByteArray} {nL : Nat} {mn : String} {ret : Option FieldType} {d d0 : Nat} {τ : Type} {pc : Nat} {lv : List (Option PV)} {st : List PV} {h : PH} {sz : τ → Nat × Nat} {K : τ → Prop} {f : Option Nat → Int32 → PH → Option (PH)} (HR : IM_X11_init f d0) {a0 : Option Nat} {a1 : Int32} {g : PH → Option τ} (hd : d0 + 1 ≤ d) (hdg : decode cc pc = .ok (.invokespecial 85, 3)) (hst : st.length ≤ 8) (kk : ∀ h', Im X (cc, nL, RX7, mn, ret, d) (pc + 3) lv st h' (g h') sz K) : Im X (cc, nL, RX7, mn, ret, d) pc lv (.inl a1 :: .inr a0 :: st) h ((f a0 a1 h).bind g) sz K := by
  refine im_cV (y := yX11_init) (cY := cX11_init) (nY := 2) (rY := none) (d' := d0) (av := [.inr a0, .inl a1]) (fun h' e hX => ?_) (fun h' e => (HR _ _ _ _ e).2) hd (by decide) hst rfl kk
  obtain ⟨a, c, fs, rfl, ec, hm⟩ := isC_some (HR _ _ _ _ e).1
  exact cal_I (n := 1) hX q545 q546 q123 q547 rfl (by decide +kernel) rfl hdg

def IM_X7_factor (f : Option Nat → PH → Option (Option Nat × PH)) (d : Nat) : Prop := ∀ (a0 : Option Nat) (h : PH) (r : Option Nat) (h' : PH), f a0 h = some (r, h') → isC [6] a0 h = true ∧ SpR yX7_factor cX7_factor 3 (some (.object "TalkingPlots$Sum")) d [.inr a0] h r h'
noncomputable def rd_factor_44 (rec : Option Nat → PH → Option (Option Nat × PH)) (v0 : Option Nat) (v2 : Option Nat) (h : PH) : Option (Option Nat × PH) :=
  (gfi [6] 3 v0 h).bind fun x51 =>
  (pf [6] 3 v0 (.inl (x51 - 1)) h).bind fun h52 =>
  some ((v2, h52))
theorem rd_factor_44_ok (X : CT) {rec : Option Nat → PH → Option (Option Nat × PH)} {d0 d : Nat} (HR : IM_X7_sum rec d0) (hd0 : 20 ≤ d0) (hd : d0 + 1 ≤ d) (v0 : Option Nat) (v2 : Option Nat) (h : PH) : Im X (cX7_factor, 3, RX7, "factor", (some (.object "TalkingPlots$Sum")), d) 44 [some (.inr v0), none, some (.inr v2)] [] h (rd_factor_44 rec v0 v2 h) szI (kR X) := by
  unfold rd_factor_44
  refine im_aload_n (pc := 44) dX7_factor_44 rfl rfl ?_
  refine im_dup (pc := 45) dX7_factor_45 ?_
  refine im_gi (pc := 46) fl_X7_54 dX7_factor_46 fun x51 => ?_
  refine im_iconst (pc := 49) (v := 1) dX7_factor_49 (by decide) ?_
  refine im_isub (pc := 50) dX7_factor_50 ?_
  refine im_pf (pc := 51) fp_X7_54 (okT_i _) dX7_factor_51 fun h52 => ?_
  refine im_aload_n (pc := 54) dX7_factor_54 rfl rfl ?_
  exact im_aret (pc := 55) dX7_factor_55
noncomputable def rd_factor_30 (rec : Option Nat → PH → Option (Option Nat × PH)) (v0 : Option Nat) (s0 : Option Nat) (h : PH) : Option (Option Nat × PH) :=
  (rd_isGood v0 h).bind fun x51 =>
  (if x51 = 0 then
  rd_factor_44 rec v0 s0 h
  else
  (rd_must v0 93 h).bind fun h52 =>
  rd_factor_44 rec v0 s0 h52)
theorem rd_factor_30_ok (X : CT) {rec : Option Nat → PH → Option (Option Nat × PH)} {d0 d : Nat} (HR : IM_X7_sum rec d0) (hd0 : 20 ≤ d0) (hd : d0 + 1 ≤ d) (v0 : Option Nat) (s0 : Option Nat) (h : PH) : Im X (cX7_factor, 3, RX7, "factor", (some (.object "TalkingPlots$Sum")), d) 30 [some (.inr v0), none, none] [.inr s0] h (rd_factor_30 rec v0 s0 h) szI (kR X) := by
  unfold rd_factor_30
  refine im_astore_n (pc := 30) (lv' := [some (.inr v0), none, some (.inr s0)]) dX7_factor_30 rfl (by decide) rfl ?_
  refine im_aload_n (pc := 31) dX7_factor_31 rfl rfl ?_
  refine cl_X7_43 rd_isGood_im (pc := 32) (by omega) dX7_factor_32 (Nat.le_of_ble_eq_true rfl) fun x51 => ?_
  refine im_if_eq (pc := 35) (tgt := 44) dX7_factor_35 (by decide) ?_ ?_
  · exact Im.drop [true, false, true] rfl (rd_factor_44_ok X HR hd0 hd v0 s0 h)
  · refine im_aload_n (pc := 38) dX7_factor_38 rfl rfl ?_
    refine im_bipush (pc := 39) (v := 93) dX7_factor_39 (by decide) ?_
    refine cl_X7_64 rd_must_im (pc := 41) (by omega) dX7_factor_41 (Nat.le_of_ble_eq_true rfl) fun h52 => ?_
    exact Im.drop [true, false, true] rfl (rd_factor_44_ok X HR hd0 hd v0 s0 h52)
noncomputable def rd_factor_97 (rec : Option Nat → PH → Option (Option Nat × PH)) (v0 : Option Nat) (v1 : Int32) (h : PH) : Option (Option Nat × PH) :=
  (gfi [6] 2 v0 h).bind fun x51 =>
  (pf [6] 2 v0 (.inl (x51 + 1)) h).bind fun h52 =>
  (nw 9 [.inl 0] h52).bind fun h53 =>
  (le_init (some h52.1) v1 h53).bind fun h54 =>
  some (((some h52.1), h54))
theorem rd_factor_97_ok (X : CT) {rec : Option Nat → PH → Option (Option Nat × PH)} {d0 d : Nat} (HR : IM_X7_sum rec d0) (hd0 : 20 ≤ d0) (hd : d0 + 1 ≤ d) (v0 : Option Nat) (v1 : Int32) (h : PH) : Im X (cX7_factor, 3, RX7, "factor", (some (.object "TalkingPlots$Sum")), d) 97 [some (.inr v0), some (.inl v1), none] [] h (rd_factor_97 rec v0 v1 h) szI (kR X) := by
  unfold rd_factor_97
  refine im_aload_n (pc := 97) dX7_factor_97 rfl rfl ?_
  refine im_dup (pc := 98) dX7_factor_98 ?_
  refine im_gi (pc := 99) fl_X7_26 dX7_factor_99 fun x51 => ?_
  refine im_iconst (pc := 102) (v := 1) dX7_factor_102 (by decide) ?_
  refine im_iadd (pc := 103) dX7_factor_103 ?_
  refine im_pf (pc := 104) fp_X7_26 (okT_i _) dX7_factor_104 fun h52 => ?_
  refine im_new (pc := 107) nw_X7_83 dX7_factor_107 fun h53 => ?_
  refine im_dup (pc := 110) dX7_factor_110 ?_
  refine im_iload_n (pc := 111) dX7_factor_111 rfl rfl ?_
  refine cl_X7_85 le_init_im (pc := 112) (by omega) dX7_factor_112 (Nat.le_of_ble_eq_true rfl) fun h54 => ?_
  exact im_aret (pc := 115) dX7_factor_115
noncomputable def rd_factor_88 (rec : Option Nat → PH → Option (Option Nat × PH)) (v0 : Option Nat) (v1 : Int32) (h : PH) : Option (Option Nat × PH) :=
  (gfi [6] 2 v0 h).bind fun x51 =>
  (rd_bad v0 1 x51 h).bind fun h52 =>
  rd_factor_97 rec v0 v1 h52
theorem rd_factor_88_ok (X : CT) {rec : Option Nat → PH → Option (Option Nat × PH)} {d0 d : Nat} (HR : IM_X7_sum rec d0) (hd0 : 20 ≤ d0) (hd : d0 + 1 ≤ d) (v0 : Option Nat) (v1 : Int32) (h : PH) : Im X (cX7_factor, 3, RX7, "factor", (some (.object "TalkingPlots$Sum")), d) 88 [some (.inr v0), some (.inl v1), none] [] h (rd_factor_88 rec v0 v1 h) szI (kR X) := by
  unfold rd_factor_88
  refine im_aload_n (pc := 88) dX7_factor_88 rfl rfl ?_
  refine im_iconst (pc := 89) (v := 1) dX7_factor_89 (by decide) ?_
  refine im_aload_n (pc := 90) dX7_factor_90 rfl rfl ?_
  refine im_gi (pc := 91) fl_X7_26 dX7_factor_91 fun x51 => ?_
  refine cl_X7_50 rd_bad_im (pc := 94) (by omega) dX7_factor_94 (Nat.le_of_ble_eq_true rfl) fun h52 => ?_
  exact Im.drop [true, true, false] rfl (rd_factor_97_ok X HR hd0 hd v0 v1 h52)
noncomputable def rd_factor_0 (rec : Option Nat → PH → Option (Option Nat × PH)) (v0 : Option Nat) (h : PH) : Option (Option Nat × PH) :=
  (rd_here v0 h).bind fun x51 =>
  (if x51 = 91 then
  (rd_opens v0 h).bind fun h58 =>
  (rd_isGood v0 h58).bind fun x59 =>
  (if x59 = 0 then
  rd_factor_30 rec v0 none h58
  else
  bd2 (rec v0 h58) fun r61 h60 =>
  rd_factor_30 rec v0 r61 h60)
  else
  (rd_seesDigit v0 h).bind fun x52 =>
  (if x52 = 0 then
  (if x51 = 0 then
  rd_factor_88 rec v0 x51 h
  else
  (jS_indexOf (some 3) x51 h).bind fun x53 =>
  (if 0 ≤ x53 then
  rd_factor_97 rec v0 x51 h
  else
  rd_factor_88 rec v0 x51 h))
  else
  (nw 8 [.inl 0] h).bind fun h54 =>
  bd2 (rd_number v0 h54) fun x56 h55 =>
  (nu_init (some h.1) x56 h55).bind fun h57 =>
  some (((some h.1), h57))))
theorem rd_factor_0_ok (X : CT) {rec : Option Nat → PH → Option (Option Nat × PH)} {d0 d : Nat} (HR : IM_X7_sum rec d0) (hd0 : 20 ≤ d0) (hd : d0 + 1 ≤ d) (v0 : Option Nat) (h : PH) : Im X (cX7_factor, 3, RX7, "factor", (some (.object "TalkingPlots$Sum")), d) 0 [some (.inr v0), none, none] [] h (rd_factor_0 rec v0 h) szI (kR X) := by
  unfold rd_factor_0
  refine im_aload_n (pc := 0) dX7_factor_0 rfl rfl ?_
  refine cl_X7_39 rd_here_im (pc := 1) (by omega) dX7_factor_1 (Nat.le_of_ble_eq_true rfl) fun x51 => ?_
  refine im_istore_n (pc := 4) (lv' := [some (.inr v0), some (.inl x51), none]) dX7_factor_4 rfl (by decide) rfl ?_
  refine im_iload_n (pc := 5) dX7_factor_5 rfl rfl ?_
  refine im_bipush (pc := 6) (v := 91) dX7_factor_6 (by decide) ?_
  refine im_icmp_ne (pc := 8) (tgt := 56) dX7_factor_8 (by decide) ?_ ?_
  · refine im_aload_n (pc := 56) dX7_factor_56 rfl rfl ?_
    refine cl_X7_47 rd_seesDigit_im (pc := 57) (by omega) dX7_factor_57 (Nat.le_of_ble_eq_true rfl) fun x52 => ?_
    refine im_if_eq (pc := 60) (tgt := 75) dX7_factor_60 (by decide) ?_ ?_
    · refine im_iload_n (pc := 75) dX7_factor_75 rfl rfl ?_
      refine im_if_eq (pc := 76) (tgt := 88) dX7_factor_76 (by decide) ?_ ?_
      · exact Im.drop [true, true, false] rfl (rd_factor_88_ok X HR hd0 hd v0 x51 h)
      · refine im_ldcPks (pc := 79) dX7_factor_79 ?_
        refine im_iload_n (pc := 81) dX7_factor_81 rfl rfl ?_
        refine cl_X7_77 jS_indexOf_im (pc := 82) (by omega) dX7_factor_82 (Nat.le_of_ble_eq_true rfl) fun x53 => ?_
        refine im_if_ge (pc := 85) (tgt := 97) dX7_factor_85 (by decide) ?_ ?_
        · exact Im.drop [true, true, false] rfl (rd_factor_97_ok X HR hd0 hd v0 x51 h)
        · exact Im.drop [true, true, false] rfl (rd_factor_88_ok X HR hd0 hd v0 x51 h)
    · refine im_new (pc := 63) nw_X7_68 dX7_factor_63 fun h54 => ?_
      refine im_dup (pc := 66) dX7_factor_66 ?_
      refine im_aload_n (pc := 67) dX7_factor_67 rfl rfl ?_
      refine cl_X7_70 rd_number_im (pc := 68) (by omega) dX7_factor_68 (Nat.le_of_ble_eq_true rfl) fun x56 h55 => ?_
      refine cl_X7_73 nu_init_im (pc := 71) (by omega) dX7_factor_71 (Nat.le_of_ble_eq_true rfl) fun h57 => ?_
      exact im_aret (pc := 74) dX7_factor_74
  · refine im_aload_n (pc := 11) dX7_factor_11 rfl rfl ?_
    refine cl_X7_57 rd_opens_im (pc := 12) (by omega) dX7_factor_12 (Nat.le_of_ble_eq_true rfl) fun h58 => ?_
    refine im_aload_n (pc := 15) dX7_factor_15 rfl rfl ?_
    refine cl_X7_43 rd_isGood_im (pc := 16) (by omega) dX7_factor_16 (Nat.le_of_ble_eq_true rfl) fun x59 => ?_
    refine im_if_eq (pc := 19) (tgt := 29) dX7_factor_19 (by decide) ?_ ?_
    · refine im_null (pc := 29) dX7_factor_29 ?_
      exact Im.drop [true, false, false] rfl (rd_factor_30_ok X HR hd0 hd v0 none h58)
    · refine im_aload_n (pc := 22) dX7_factor_22 rfl rfl ?_
      refine cl_X7_60 HR (pc := 23) (by omega) dX7_factor_23 (Nat.le_of_ble_eq_true rfl) fun r61 h60 => ?_
      refine im_goto (pc := 26) (tgt := 30) dX7_factor_26 (by decide) ?_
      exact Im.drop [true, false, false] rfl (rd_factor_30_ok X HR hd0 hd v0 r61 h60)
noncomputable def rd_factor (rec : Option Nat → PH → Option (Option Nat × PH)) (a0 : Option Nat) (h : PH) : Option (Option Nat × PH) := grd (isC [6] a0 h) (rd_factor_0 rec a0 h)
theorem rd_factor_im {rec : Option Nat → PH → Option (Option Nat × PH)} {d0 : Nat} (HR : IM_X7_sum rec d0) (hd0 : 20 ≤ d0) : IM_X7_factor (rd_factor rec) (d0 + 1) := by
  intro a0 h r h' e
  obtain ⟨e1, e2⟩ := grd_some e
  exact ⟨e1, SpR.of (k := 2) (plainFor_of_name (by decide)) rfl (fun X => Im.drop [true, false, false] rfl (rd_factor_0_ok X HR hd0 (Nat.le_refl _) a0 h)) e2⟩
theorem nw_X7_86 : NW RX7 86 7 [.inl 0, .inr none, .inr none] := ⟨RX9, TX9, tyX9, rfl, in_X9, tyX9_ok, q503, q504, q121, fun G j hj => by
  have hj : j < 3 := hj
  match j, hj with
  | 0, _ => rfl
  | 1, _ => rfl
  | 2, _ => rfl⟩
theorem cl_X7_88 {X : CT} {cc : ByteArray} {nL : Nat} {mn : String} {ret : Option FieldType} {d d0 : Nat} {τ : Type} {pc : Nat} {lv : List (Option PV)} {st : List PV} {h : PH} {sz : τ → Nat × Nat} {K : τ → Prop} {f : Option Nat → PH → Option (Option Nat × PH)} (HR : IM_X7_factor f d0) {a0 : Option Nat} {g : Option Nat → PH → Option τ} (hd : d0 + 1 ≤ d) (hdg : decode cc pc = .ok (.invokevirtual 88, 3)) (hst : st.length ≤ 8) (kk : ∀ r h', Im X (cc, nL, RX7, mn, ret, d) (pc + 3) lv (.inr r :: st) h' (g r h') sz K) : Im X (cc, nL, RX7, mn, ret, d) pc lv (.inr a0 :: st) h (bd2 (f a0 h) g) sz K := by
  refine im_cR (y := yX7_factor) (cY := cX7_factor) (nY := 3) (rY := (some (.object "TalkingPlots$Sum"))) (d' := d0) (av := [.inr a0]) (fun r h' e hX => ?_) (fun r h' e => (HR _ _ _ _ e).2) hd (by decide) hst rfl kk
  obtain ⟨a, c, fs, rfl, ec, hm⟩ := isC_some (HR _ _ _ _ e).1
  cases List.mem_singleton.mp hm
  exact cal_V (n := 0) hX (lw_V q509 q511 qs7 q113 q512) (by decide +kernel) rfl rfl ec hdg

theorem cl_X7_91 {X : CT} {cc : ByteArray} {nL : Nat} {mn : String} {ret : Option FieldType} {d d0 : Nat} {τ : Type} {pc : Nat} {lv : List (Option PV)} {st : List PV} {h : PH} {sz : τ → Nat × Nat} {K : τ → Prop} {f : Option Nat → Int32 → Option Nat → PH → Option (PH)} (HR : IM_X9_init f d0) {a0 : Option Nat} {a1 : Int32} {a2 : Option Nat} {g : PH → Option τ} (hd : d0 + 1 ≤ d) (hdg : decode cc pc = .ok (.invokespecial 91, 3)) (hst : st.length ≤ 8) (kk : ∀ h', Im X (cc, nL, RX7, mn, ret, d) (pc + 3) lv st h' (g h') sz K) : Im X (cc, nL, RX7, mn, ret, d) pc lv (.inr a2 :: .inl a1 :: .inr a0 :: st) h ((f a0 a1 a2 h).bind g) sz K := by
  refine im_cV (y := yX9_init) (cY := cX9_init) (nY := 3) (rY := none) (d' := d0) (av := [.inr a0, .inl a1, .inr a2]) (fun h' e hX => ?_) (fun h' e => (HR _ _ _ _ _ e).2) hd (by decide) hst rfl kk
  obtain ⟨a, c, fs, rfl, ec, hm⟩ := isC_some (HR _ _ _ _ _ e).1
  exact cal_I (n := 2) hX q553 q554 q121 q555 rfl (by decide +kernel) rfl hdg

theorem fp_X7_94 : ∀ c ∈ [7], FP RX7 94 c 2 (.object "TalkingPlots$Row") := List.forall_mem_cons.mpr ⟨⟨RX9, TX9, 3, rfl, in_X9, by decide, apt_X9, rfl, by decide +kernel, Or.inr ⟨_, lw_n q560 rfl⟩⟩, fun _ h => absurd h List.not_mem_nil⟩
theorem fl_X7_94 : ∀ c ∈ [7], FL RX7 94 c 2 := List.forall_mem_cons.mpr ⟨⟨RX9, TX9, 3, rfl, in_X9, by decide, Or.inr ⟨_, lw_n q560 rfl⟩⟩, fun _ h => absurd h List.not_mem_nil⟩
def IM_X7_product (f : Option Nat → PH → Option (Option Nat × PH)) (d : Nat) : Prop := ∀ (a0 : Option Nat) (h : PH) (r : Option Nat) (h' : PH), f a0 h = some (r, h') → isC [6] a0 h = true ∧ SpR yX7_product cX7_product 4 (some (.object "TalkingPlots$Sum")) d [.inr a0] h r h'
noncomputable def rd_product_49 (rec : Option Nat → PH → Option (Option Nat × PH)) (v0 : Option Nat) (v1 : Option Nat) (v2 : Option Nat) (h : PH) : Option ((Option Nat × PH) ⊕ (Option Nat × PH)) :=
  (rd_here v0 h).bind fun x51 =>
  (gfi [6] 2 v0 h).bind fun x52 =>
  (pf [6] 2 v0 (.inl (x52 + 1)) h).bind fun h53 =>
  (nw 7 [.inl 0, .inr none, .inr none] h53).bind fun h54 =>
  bd2 (rd_factor rec v0 h54) fun r56 h55 =>
  (ro_init (some h53.1) x51 r56 h55).bind fun h57 =>
  (pf [7] 2 v2 (.inr (some h53.1)) h57).bind fun h58 =>
  (gfr [7] 2 v2 h58).bind fun r59 =>
  some (.inl (r59, h58))
theorem rd_product_49_ok (X : CT) {rec : Option Nat → PH → Option (Option Nat × PH)} {d0 d : Nat} (HR : IM_X7_sum rec d0) (hd0 : 20 ≤ d0) (hd : d0 + 2 ≤ d) (v0 : Option Nat) (v1 : Option Nat) (v2 : Option Nat) (h : PH) : Im X (cX7_product, 4, RX7, "product", (some (.object "TalkingPlots$Sum")), d) 49 [some (.inr v0), some (.inr v1), some (.inr v2), none] [] h (rd_product_49 rec v0 v1 v2 h) (ez (fun s : Option Nat × PH => s.2) szI) (ek X 15 (fun s : Option Nat × PH => [some (.inr v0), some (.inr v1), some (.inr s.1), none]) (fun s : Option Nat × PH => s.2) (kR X)) := by
  unfold rd_product_49
  refine im_aload_n (pc := 49) dX7_product_49 rfl rfl ?_
  refine cl_X7_39 rd_here_im (pc := 50) (by omega) dX7_product_50 (Nat.le_of_ble_eq_true rfl) fun x51 => ?_
  refine im_istore_n (pc := 53) (lv' := [some (.inr v0), some (.inr v1), some (.inr v2), some (.inl x51)]) dX7_product_53 rfl (by decide) rfl ?_
  refine im_aload_n (pc := 54) dX7_product_54 rfl rfl ?_
  refine im_dup (pc := 55) dX7_product_55 ?_
  refine im_gi (pc := 56) fl_X7_26 dX7_product_56 fun x52 => ?_
  refine im_iconst (pc := 59) (v := 1) dX7_product_59 (by decide) ?_
  refine im_iadd (pc := 60) dX7_product_60 ?_
  refine im_pf (pc := 61) fp_X7_26 (okT_i _) dX7_product_61 fun h53 => ?_
  refine im_aload_n (pc := 64) dX7_product_64 rfl rfl ?_
  refine im_new (pc := 65) nw_X7_86 dX7_product_65 fun h54 => ?_
  refine im_dup (pc := 68) dX7_product_68 ?_
  refine im_iload_n (pc := 69) dX7_product_69 rfl rfl ?_
  refine im_aload_n (pc := 70) dX7_product_70 rfl rfl ?_
  refine cl_X7_88 (rd_factor_im HR hd0) (pc := 71) (by omega) dX7_product_71 (Nat.le_of_ble_eq_true rfl) fun r56 h55 => ?_
  refine cl_X7_91 ro_init_im (pc := 74) (by omega) dX7_product_74 (Nat.le_of_ble_eq_true rfl) fun h57 => ?_
  refine im_pf (pc := 77) fp_X7_94 (okT_o _ _) dX7_product_77 fun h58 => ?_
  refine im_aload_n (pc := 80) dX7_product_80 rfl rfl ?_
  refine im_gr (pc := 81) fl_X7_94 dX7_product_81 fun r59 => ?_
  refine im_astore_n (pc := 84) (lv' := [some (.inr v0), some (.inr v1), some (.inr r59), some (.inl x51)]) dX7_product_84 rfl (by decide) rfl ?_
  refine im_goto (pc := 85) (tgt := 15) dX7_product_85 (by decide) ?_
  exact Im.back [true, true, true, false] rfl rfl
noncomputable def rd_product_b15 (rec : Option Nat → PH → Option (Option Nat × PH)) (v0 : Option Nat) (v1 : Option Nat) (v2 : Option Nat) (h : PH) : Option ((Option Nat × PH) ⊕ (Option Nat × PH)) :=
  (rd_isGood v0 h).bind fun x51 =>
  (if x51 = 0 then
  some (.inr ((v1, h)))
  else
  (rd_here v0 h).bind fun x52 =>
  (if x52 = 42 then
  rd_product_49 rec v0 v1 v2 h
  else
  (rd_here v0 h).bind fun x53 =>
  (if x53 = 47 then
  rd_product_49 rec v0 v1 v2 h
  else
  (rd_here v0 h).bind fun x54 =>
  (if x54 = 37 then
  rd_product_49 rec v0 v1 v2 h
  else
  some (.inr ((v1, h)))))))
noncomputable def rd_product_L15 (rec : Option Nat → PH → Option (Option Nat × PH)) (v0 : Option Nat) (v1 : Option Nat) (v2 : Option Nat) (h : PH) : Option (Option Nat × PH) :=
  iter (fun s : Option Nat × PH => rd_product_b15 rec v0 v1 s.1 s.2) (v2, h)
theorem rd_product_b15_ok (X : CT) {rec : Option Nat → PH → Option (Option Nat × PH)} {d0 d : Nat} (HR : IM_X7_sum rec d0) (hd0 : 20 ≤ d0) (hd : d0 + 2 ≤ d) (v0 : Option Nat) (v1 : Option Nat) (v2 : Option Nat) (h : PH) : Im X (cX7_product, 4, RX7, "product", (some (.object "TalkingPlots$Sum")), d) 15 [some (.inr v0), some (.inr v1), some (.inr v2), none] [] h (rd_product_b15 rec v0 v1 v2 h) (ez (fun s : Option Nat × PH => s.2) szI) (ek X 15 (fun s : Option Nat × PH => [some (.inr v0), some (.inr v1), some (.inr s.1), none]) (fun s : Option Nat × PH => s.2) (kR X)) := by
  unfold rd_product_b15
  refine im_aload_n (pc := 15) dX7_product_15 rfl rfl ?_
  refine cl_X7_43 rd_isGood_im (pc := 16) (by omega) dX7_product_16 (Nat.le_of_ble_eq_true rfl) fun x51 => ?_
  refine im_if_eq (pc := 19) (tgt := 88) dX7_product_19 (by decide) ?_ ?_
  · refine im_aload_n (pc := 88) dX7_product_88 rfl rfl ?_
    exact Im.outS (im_aret (pc := 89) dX7_product_89)
  · refine im_aload_n (pc := 22) dX7_product_22 rfl rfl ?_
    refine cl_X7_39 rd_here_im (pc := 23) (by omega) dX7_product_23 (Nat.le_of_ble_eq_true rfl) fun x52 => ?_
    refine im_bipush (pc := 26) (v := 42) dX7_product_26 (by decide) ?_
    refine im_icmp_eq (pc := 28) (tgt := 49) dX7_product_28 (by decide) ?_ ?_
    · exact Im.drop [true, true, true, false] rfl (rd_product_49_ok X HR hd0 hd v0 v1 v2 h)
    · refine im_aload_n (pc := 31) dX7_product_31 rfl rfl ?_
      refine cl_X7_39 rd_here_im (pc := 32) (by omega) dX7_product_32 (Nat.le_of_ble_eq_true rfl) fun x53 => ?_
      refine im_bipush (pc := 35) (v := 47) dX7_product_35 (by decide) ?_
      refine im_icmp_eq (pc := 37) (tgt := 49) dX7_product_37 (by decide) ?_ ?_
      · exact Im.drop [true, true, true, false] rfl (rd_product_49_ok X HR hd0 hd v0 v1 v2 h)
      · refine im_aload_n (pc := 40) dX7_product_40 rfl rfl ?_
        refine cl_X7_39 rd_here_im (pc := 41) (by omega) dX7_product_41 (Nat.le_of_ble_eq_true rfl) fun x54 => ?_
        refine im_bipush (pc := 44) (v := 37) dX7_product_44 (by decide) ?_
        refine im_icmp_ne (pc := 46) (tgt := 88) dX7_product_46 (by decide) ?_ ?_
        · refine im_aload_n (pc := 88) dX7_product_88 rfl rfl ?_
          exact Im.outS (im_aret (pc := 89) dX7_product_89)
        · exact Im.drop [true, true, true, false] rfl (rd_product_49_ok X HR hd0 hd v0 v1 v2 h)
theorem rd_product_L15_ok (X : CT) {rec : Option Nat → PH → Option (Option Nat × PH)} {d0 d : Nat} (HR : IM_X7_sum rec d0) (hd0 : 20 ≤ d0) (hd : d0 + 2 ≤ d) (v0 : Option Nat) (v1 : Option Nat) (v2 : Option Nat) (h : PH) : Im X (cX7_product, 4, RX7, "product", (some (.object "TalkingPlots$Sum")), d) 15 [some (.inr v0), some (.inr v1), some (.inr v2), none] [] h (rd_product_L15 rec v0 v1 v2 h) szI (kR X) := by
  unfold rd_product_L15
  exact Im.iter (lv := (fun s : Option Nat × PH => [some (.inr v0), some (.inr v1), some (.inr s.1), none])) (hp := (fun s : Option Nat × PH => s.2)) (fun s => rd_product_b15_ok X HR hd0 hd v0 v1 s.1 s.2) _ rfl rfl
noncomputable def rd_product_0 (rec : Option Nat → PH → Option (Option Nat × PH)) (v0 : Option Nat) (h : PH) : Option (Option Nat × PH) :=
  (nw 7 [.inl 0, .inr none, .inr none] h).bind fun h51 =>
  bd2 (rd_factor rec v0 h51) fun r53 h52 =>
  (ro_init (some h.1) 0 r53 h52).bind fun h54 =>
  rd_product_L15 rec v0 (some h.1) (some h.1) h54
theorem rd_product_0_ok (X : CT) {rec : Option Nat → PH → Option (Option Nat × PH)} {d0 d : Nat} (HR : IM_X7_sum rec d0) (hd0 : 20 ≤ d0) (hd : d0 + 2 ≤ d) (v0 : Option Nat) (h : PH) : Im X (cX7_product, 4, RX7, "product", (some (.object "TalkingPlots$Sum")), d) 0 [some (.inr v0), none, none, none] [] h (rd_product_0 rec v0 h) szI (kR X) := by
  unfold rd_product_0
  refine im_new (pc := 0) nw_X7_86 dX7_product_0 fun h51 => ?_
  refine im_dup (pc := 3) dX7_product_3 ?_
  refine im_iconst (pc := 4) (v := 0) dX7_product_4 (by decide) ?_
  refine im_aload_n (pc := 5) dX7_product_5 rfl rfl ?_
  refine cl_X7_88 (rd_factor_im HR hd0) (pc := 6) (by omega) dX7_product_6 (Nat.le_of_ble_eq_true rfl) fun r53 h52 => ?_
  refine cl_X7_91 ro_init_im (pc := 9) (by omega) dX7_product_9 (Nat.le_of_ble_eq_true rfl) fun h54 => ?_
  refine im_astore_n (pc := 12) (lv' := [some (.inr v0), some (.inr (some h.1)), none, none]) dX7_product_12 rfl (by decide) rfl ?_
  refine im_aload_n (pc := 13) dX7_product_13 rfl rfl ?_
  refine im_astore_n (pc := 14) (lv' := [some (.inr v0), some (.inr (some h.1)), some (.inr (some h.1)), none]) dX7_product_14 rfl (by decide) rfl ?_
  exact Im.drop [true, true, true, false] rfl (rd_product_L15_ok X HR hd0 hd v0 (some h.1) (some h.1) h54)
noncomputable def rd_product (rec : Option Nat → PH → Option (Option Nat × PH)) (a0 : Option Nat) (h : PH) : Option (Option Nat × PH) := grd (isC [6] a0 h) (rd_product_0 rec a0 h)
theorem rd_product_im {rec : Option Nat → PH → Option (Option Nat × PH)} {d0 : Nat} (HR : IM_X7_sum rec d0) (hd0 : 20 ≤ d0) : IM_X7_product (rd_product rec) (d0 + 2) := by
  intro a0 h r h' e
  obtain ⟨e1, e2⟩ := grd_some e
  exact ⟨e1, SpR.of (k := 3) (plainFor_of_name (by decide)) rfl (fun X => Im.drop [true, false, false, false] rfl (rd_product_0_ok X HR hd0 (Nat.le_refl _) a0 h)) e2⟩
theorem cl_X7_98 {X : CT} {cc : ByteArray} {nL : Nat} {mn : String} {ret : Option FieldType} {d d0 : Nat} {τ : Type} {pc : Nat} {lv : List (Option PV)} {st : List PV} {h : PH} {sz : τ → Nat × Nat} {K : τ → Prop} {f : Option Nat → PH → Option (Option Nat × PH)} (HR : IM_X7_product f d0) {a0 : Option Nat} {g : Option Nat → PH → Option τ} (hd : d0 + 1 ≤ d) (hdg : decode cc pc = .ok (.invokevirtual 98, 3)) (hst : st.length ≤ 8) (kk : ∀ r h', Im X (cc, nL, RX7, mn, ret, d) (pc + 3) lv (.inr r :: st) h' (g r h') sz K) : Im X (cc, nL, RX7, mn, ret, d) pc lv (.inr a0 :: st) h (bd2 (f a0 h) g) sz K := by
  refine im_cR (y := yX7_product) (cY := cX7_product) (nY := 4) (rY := (some (.object "TalkingPlots$Sum"))) (d' := d0) (av := [.inr a0]) (fun r h' e hX => ?_) (fun r h' e => (HR _ _ _ _ e).2) hd (by decide) hst rfl kk
  obtain ⟨a, c, fs, rfl, ec, hm⟩ := isC_some (HR _ _ _ _ e).1
  cases List.mem_singleton.mp hm
  exact cal_V (n := 0) hX (lw_V q505 q507 qs6 q113 q508) (by decide +kernel) rfl rfl ec hdg

noncomputable def rd_sum_40 (rec : Option Nat → PH → Option (Option Nat × PH)) (v0 : Option Nat) (v1 : Option Nat) (v2 : Option Nat) (h : PH) : Option ((Option Nat × PH) ⊕ (Option Nat × PH)) :=
  (rd_here v0 h).bind fun x51 =>
  (gfi [6] 2 v0 h).bind fun x52 =>
  (pf [6] 2 v0 (.inl (x52 + 1)) h).bind fun h53 =>
  (nw 7 [.inl 0, .inr none, .inr none] h53).bind fun h54 =>
  bd2 (rd_product rec v0 h54) fun r56 h55 =>
  (ro_init (some h53.1) x51 r56 h55).bind fun h57 =>
  (pf [7] 2 v2 (.inr (some h53.1)) h57).bind fun h58 =>
  (gfr [7] 2 v2 h58).bind fun r59 =>
  some (.inl (r59, h58))
theorem rd_sum_40_ok (X : CT) {rec : Option Nat → PH → Option (Option Nat × PH)} {d0 d : Nat} (HR : IM_X7_sum rec d0) (hd0 : 20 ≤ d0) (hd : d0 + 3 ≤ d) (v0 : Option Nat) (v1 : Option Nat) (v2 : Option Nat) (h : PH) : Im X (cX7_sum, 4, RX7, "sum", (some (.object "TalkingPlots$Sum")), d) 40 [some (.inr v0), some (.inr v1), some (.inr v2), none] [] h (rd_sum_40 rec v0 v1 v2 h) (ez (fun s : Option Nat × PH => s.2) szI) (ek X 15 (fun s : Option Nat × PH => [some (.inr v0), some (.inr v1), some (.inr s.1), none]) (fun s : Option Nat × PH => s.2) (kR X)) := by
  unfold rd_sum_40
  refine im_aload_n (pc := 40) dX7_sum_40 rfl rfl ?_
  refine cl_X7_39 rd_here_im (pc := 41) (by omega) dX7_sum_41 (Nat.le_of_ble_eq_true rfl) fun x51 => ?_
  refine im_istore_n (pc := 44) (lv' := [some (.inr v0), some (.inr v1), some (.inr v2), some (.inl x51)]) dX7_sum_44 rfl (by decide) rfl ?_
  refine im_aload_n (pc := 45) dX7_sum_45 rfl rfl ?_
  refine im_dup (pc := 46) dX7_sum_46 ?_
  refine im_gi (pc := 47) fl_X7_26 dX7_sum_47 fun x52 => ?_
  refine im_iconst (pc := 50) (v := 1) dX7_sum_50 (by decide) ?_
  refine im_iadd (pc := 51) dX7_sum_51 ?_
  refine im_pf (pc := 52) fp_X7_26 (okT_i _) dX7_sum_52 fun h53 => ?_
  refine im_aload_n (pc := 55) dX7_sum_55 rfl rfl ?_
  refine im_new (pc := 56) nw_X7_86 dX7_sum_56 fun h54 => ?_
  refine im_dup (pc := 59) dX7_sum_59 ?_
  refine im_iload_n (pc := 60) dX7_sum_60 rfl rfl ?_
  refine im_aload_n (pc := 61) dX7_sum_61 rfl rfl ?_
  refine cl_X7_98 (rd_product_im HR hd0) (pc := 62) (by omega) dX7_sum_62 (Nat.le_of_ble_eq_true rfl) fun r56 h55 => ?_
  refine cl_X7_91 ro_init_im (pc := 65) (by omega) dX7_sum_65 (Nat.le_of_ble_eq_true rfl) fun h57 => ?_
  refine im_pf (pc := 68) fp_X7_94 (okT_o _ _) dX7_sum_68 fun h58 => ?_
  refine im_aload_n (pc := 71) dX7_sum_71 rfl rfl ?_
  refine im_gr (pc := 72) fl_X7_94 dX7_sum_72 fun r59 => ?_
  refine im_astore_n (pc := 75) (lv' := [some (.inr v0), some (.inr v1), some (.inr r59), some (.inl x51)]) dX7_sum_75 rfl (by decide) rfl ?_
  refine im_goto (pc := 76) (tgt := 15) dX7_sum_76 (by decide) ?_
  exact Im.back [true, true, true, false] rfl rfl
noncomputable def rd_sum_b15 (rec : Option Nat → PH → Option (Option Nat × PH)) (v0 : Option Nat) (v1 : Option Nat) (v2 : Option Nat) (h : PH) : Option ((Option Nat × PH) ⊕ (Option Nat × PH)) :=
  (rd_isGood v0 h).bind fun x51 =>
  (if x51 = 0 then
  some (.inr ((v1, h)))
  else
  (rd_here v0 h).bind fun x52 =>
  (if x52 = 43 then
  rd_sum_40 rec v0 v1 v2 h
  else
  (rd_here v0 h).bind fun x53 =>
  (if x53 = 45 then
  rd_sum_40 rec v0 v1 v2 h
  else
  some (.inr ((v1, h))))))
noncomputable def rd_sum_L15 (rec : Option Nat → PH → Option (Option Nat × PH)) (v0 : Option Nat) (v1 : Option Nat) (v2 : Option Nat) (h : PH) : Option (Option Nat × PH) :=
  iter (fun s : Option Nat × PH => rd_sum_b15 rec v0 v1 s.1 s.2) (v2, h)
theorem rd_sum_b15_ok (X : CT) {rec : Option Nat → PH → Option (Option Nat × PH)} {d0 d : Nat} (HR : IM_X7_sum rec d0) (hd0 : 20 ≤ d0) (hd : d0 + 3 ≤ d) (v0 : Option Nat) (v1 : Option Nat) (v2 : Option Nat) (h : PH) : Im X (cX7_sum, 4, RX7, "sum", (some (.object "TalkingPlots$Sum")), d) 15 [some (.inr v0), some (.inr v1), some (.inr v2), none] [] h (rd_sum_b15 rec v0 v1 v2 h) (ez (fun s : Option Nat × PH => s.2) szI) (ek X 15 (fun s : Option Nat × PH => [some (.inr v0), some (.inr v1), some (.inr s.1), none]) (fun s : Option Nat × PH => s.2) (kR X)) := by
  unfold rd_sum_b15
  refine im_aload_n (pc := 15) dX7_sum_15 rfl rfl ?_
  refine cl_X7_43 rd_isGood_im (pc := 16) (by omega) dX7_sum_16 (Nat.le_of_ble_eq_true rfl) fun x51 => ?_
  refine im_if_eq (pc := 19) (tgt := 79) dX7_sum_19 (by decide) ?_ ?_
  · refine im_aload_n (pc := 79) dX7_sum_79 rfl rfl ?_
    exact Im.outS (im_aret (pc := 80) dX7_sum_80)
  · refine im_aload_n (pc := 22) dX7_sum_22 rfl rfl ?_
    refine cl_X7_39 rd_here_im (pc := 23) (by omega) dX7_sum_23 (Nat.le_of_ble_eq_true rfl) fun x52 => ?_
    refine im_bipush (pc := 26) (v := 43) dX7_sum_26 (by decide) ?_
    refine im_icmp_eq (pc := 28) (tgt := 40) dX7_sum_28 (by decide) ?_ ?_
    · exact Im.drop [true, true, true, false] rfl (rd_sum_40_ok X HR hd0 hd v0 v1 v2 h)
    · refine im_aload_n (pc := 31) dX7_sum_31 rfl rfl ?_
      refine cl_X7_39 rd_here_im (pc := 32) (by omega) dX7_sum_32 (Nat.le_of_ble_eq_true rfl) fun x53 => ?_
      refine im_bipush (pc := 35) (v := 45) dX7_sum_35 (by decide) ?_
      refine im_icmp_ne (pc := 37) (tgt := 79) dX7_sum_37 (by decide) ?_ ?_
      · refine im_aload_n (pc := 79) dX7_sum_79 rfl rfl ?_
        exact Im.outS (im_aret (pc := 80) dX7_sum_80)
      · exact Im.drop [true, true, true, false] rfl (rd_sum_40_ok X HR hd0 hd v0 v1 v2 h)
theorem rd_sum_L15_ok (X : CT) {rec : Option Nat → PH → Option (Option Nat × PH)} {d0 d : Nat} (HR : IM_X7_sum rec d0) (hd0 : 20 ≤ d0) (hd : d0 + 3 ≤ d) (v0 : Option Nat) (v1 : Option Nat) (v2 : Option Nat) (h : PH) : Im X (cX7_sum, 4, RX7, "sum", (some (.object "TalkingPlots$Sum")), d) 15 [some (.inr v0), some (.inr v1), some (.inr v2), none] [] h (rd_sum_L15 rec v0 v1 v2 h) szI (kR X) := by
  unfold rd_sum_L15
  exact Im.iter (lv := (fun s : Option Nat × PH => [some (.inr v0), some (.inr v1), some (.inr s.1), none])) (hp := (fun s : Option Nat × PH => s.2)) (fun s => rd_sum_b15_ok X HR hd0 hd v0 v1 s.1 s.2) _ rfl rfl
noncomputable def rd_sum_0 (rec : Option Nat → PH → Option (Option Nat × PH)) (v0 : Option Nat) (h : PH) : Option (Option Nat × PH) :=
  (nw 7 [.inl 0, .inr none, .inr none] h).bind fun h51 =>
  bd2 (rd_product rec v0 h51) fun r53 h52 =>
  (ro_init (some h.1) 0 r53 h52).bind fun h54 =>
  rd_sum_L15 rec v0 (some h.1) (some h.1) h54
theorem rd_sum_0_ok (X : CT) {rec : Option Nat → PH → Option (Option Nat × PH)} {d0 d : Nat} (HR : IM_X7_sum rec d0) (hd0 : 20 ≤ d0) (hd : d0 + 3 ≤ d) (v0 : Option Nat) (h : PH) : Im X (cX7_sum, 4, RX7, "sum", (some (.object "TalkingPlots$Sum")), d) 0 [some (.inr v0), none, none, none] [] h (rd_sum_0 rec v0 h) szI (kR X) := by
  unfold rd_sum_0
  refine im_new (pc := 0) nw_X7_86 dX7_sum_0 fun h51 => ?_
  refine im_dup (pc := 3) dX7_sum_3 ?_
  refine im_iconst (pc := 4) (v := 0) dX7_sum_4 (by decide) ?_
  refine im_aload_n (pc := 5) dX7_sum_5 rfl rfl ?_
  refine cl_X7_98 (rd_product_im HR hd0) (pc := 6) (by omega) dX7_sum_6 (Nat.le_of_ble_eq_true rfl) fun r53 h52 => ?_
  refine cl_X7_91 ro_init_im (pc := 9) (by omega) dX7_sum_9 (Nat.le_of_ble_eq_true rfl) fun h54 => ?_
  refine im_astore_n (pc := 12) (lv' := [some (.inr v0), some (.inr (some h.1)), none, none]) dX7_sum_12 rfl (by decide) rfl ?_
  refine im_aload_n (pc := 13) dX7_sum_13 rfl rfl ?_
  refine im_astore_n (pc := 14) (lv' := [some (.inr v0), some (.inr (some h.1)), some (.inr (some h.1)), none]) dX7_sum_14 rfl (by decide) rfl ?_
  exact Im.drop [true, true, true, false] rfl (rd_sum_L15_ok X HR hd0 hd v0 (some h.1) (some h.1) h54)
noncomputable def rd_sum_r (rec : Option Nat → PH → Option (Option Nat × PH)) (a0 : Option Nat) (h : PH) : Option (Option Nat × PH) := grd (isC [6] a0 h) (rd_sum_0 rec a0 h)
theorem rd_sum_r_im {rec : Option Nat → PH → Option (Option Nat × PH)} {d0 : Nat} (HR : IM_X7_sum rec d0) (hd0 : 20 ≤ d0) : IM_X7_sum (rd_sum_r rec) (d0 + 3) := by
  intro a0 h r h' e
  obtain ⟨e1, e2⟩ := grd_some e
  exact ⟨e1, SpR.of (k := 3) (plainFor_of_name (by decide)) rfl (fun X => Im.drop [true, false, false, false] rfl (rd_sum_0_ok X HR hd0 (Nat.le_refl _) a0 h)) e2⟩
noncomputable def rd_sum : Nat → Option Nat → PH → Option (Option Nat × PH)
  | 0 => fun _ _ => none
  | n + 1 => rd_sum_r (rd_sum n)
theorem rd_sum_im : ∀ n : Nat, IM_X7_sum (rd_sum n) (20 + 3 * n)
  | 0 => by
    intro a0 h r h' e
    cases e
  | n + 1 => by
    have := rd_sum_r_im (rd_sum_im n) (by omega)
    rw [show 20 + 3 * (n + 1) = 20 + 3 * n + 3 by omega]
    exact this
def IM_X12_init (f : Option Nat → PH → Option (PH)) (d : Nat) : Prop := ∀ (a0 : Option Nat) (h : PH) (h' : PH), f a0 h = some h' → isC [10, 11, 12] a0 h = true ∧ SpV yX12_init cX12_init 1 none d [.inr a0] h h'
noncomputable def co_init_0 (v0 : Option Nat) (h : PH) : Option (PH) :=
  nul v0 none (
  some (h))
theorem co_init_0_ok (X : CT) (v0 : Option Nat) (h : PH) : Im X (cX12_init, 1, RX12, "<init>", none, 1) 0 [some (.inr v0)] [] h (co_init_0 v0 h) szV (kV X) := by
  unfold co_init_0
  refine im_aload_n (pc := 0) dX12_init_0 rfl rfl ?_
  refine im_objInit (pc := 1) (by decide) q590 q138 q139 (Nat.le_of_ble_eq_true rfl) dX12_init_1 ?_
  exact im_vret (pc := 4) dX12_init_4
noncomputable def co_init (a0 : Option Nat) (h : PH) : Option (PH) := grd (isC [10, 11, 12] a0 h) (co_init_0 a0 h)
theorem co_init_im : IM_X12_init co_init 1 := by
  intro a0 h h' e
  obtain ⟨e1, e2⟩ := grd_some e
  exact ⟨e1, SpV.of (k := 0) (plainFor_of_name (by decide)) rfl (fun X => Im.drop [true] rfl (co_init_0_ok X a0 h)) e2⟩
theorem cl_X13_1 {X : CT} {cc : ByteArray} {nL : Nat} {mn : String} {ret : Option FieldType} {d d0 : Nat} {τ : Type} {pc : Nat} {lv : List (Option PV)} {st : List PV} {h : PH} {sz : τ → Nat × Nat} {K : τ → Prop} {f : Option Nat → PH → Option (PH)} (HR : IM_X12_init f d0) {a0 : Option Nat} {g : PH → Option τ} (hd : d0 + 1 ≤ d) (hdg : decode cc pc = .ok (.invokespecial 1, 3)) (hst : st.length ≤ 8) (kk : ∀ h', Im X (cc, nL, RX13, mn, ret, d) (pc + 3) lv st h' (g h') sz K) : Im X (cc, nL, RX13, mn, ret, d) pc lv (.inr a0 :: st) h ((f a0 h).bind g) sz K := by
  refine im_cV (y := yX12_init) (cY := cX12_init) (nY := 1) (rY := none) (d' := d0) (av := [.inr a0]) (fun h' e hX => ?_) (fun h' e => (HR _ _ _ e).2) hd (by decide) hst rfl kk
  obtain ⟨a, c, fs, rfl, ec, hm⟩ := isC_some (HR _ _ _ e).1
  exact cal_IN (n := 0) hX (lw_n q614 rfl) q588 q124 q589 rfl (by decide +kernel) rfl hdg

theorem apt_X13 : Apt 10 3 := apt_of rfl in_X13 tyX13 tyX13_ok nmX13
theorem fp_X13_7 : ∀ c ∈ [10], FPF RX13 7 c 0 (.object "TalkingPlots$Condition") := List.forall_mem_cons.mpr ⟨⟨RX13, TX13, 3, rfl, in_X13, by decide, apt_X13, rfl, rfl, by decide +kernel, q615⟩, fun _ h => absurd h List.not_mem_nil⟩
theorem fp_X13_13 : ∀ c ∈ [10], FPF RX13 13 c 1 .int := List.forall_mem_cons.mpr ⟨⟨RX13, TX13, 3, rfl, in_X13, by decide, apt_X13, rfl, rfl, by decide +kernel, q616⟩, fun _ h => absurd h List.not_mem_nil⟩
def IM_X13_init (f : Option Nat → Option Nat → Int32 → PH → Option (PH)) (d : Nat) : Prop := ∀ (a0 : Option Nat) (a1 : Option Nat) (a2 : Int32) (h : PH) (h' : PH), f a0 a1 a2 h = some h' → isC [10] a0 h = true ∧ SpV yX13_init cX13_init 3 none d [.inr a0, .inr a1, .inl a2] h h'
noncomputable def so_init_0 (v0 : Option Nat) (v1 : Option Nat) (v2 : Int32) (h : PH) : Option (PH) :=
  (co_init v0 h).bind fun h51 =>
  (pf [10] 0 v0 (.inr v1) h51).bind fun h52 =>
  (pf [10] 1 v0 (.inl v2) h52).bind fun h53 =>
  some (h53)
theorem so_init_0_ok (X : CT) (v0 : Option Nat) (v1 : Option Nat) (v2 : Int32) (h : PH) : Im X (cX13_init, 3, RX13, "<init>", none, 2) 0 [some (.inr v0), some (.inr v1), some (.inl v2)] [] h (so_init_0 v0 v1 v2 h) szV (kV X) := by
  unfold so_init_0
  refine im_aload_n (pc := 0) dX13_init_0 rfl rfl ?_
  refine cl_X13_1 co_init_im (pc := 1) (by decide) dX13_init_1 (Nat.le_of_ble_eq_true rfl) fun h51 => ?_
  refine im_aload_n (pc := 4) dX13_init_4 rfl rfl ?_
  refine im_aload_n (pc := 5) dX13_init_5 rfl rfl ?_
  refine im_pfF (pc := 6) fp_X13_7 (okT_o _ _) dX13_init_6 fun h52 => ?_
  refine im_aload_n (pc := 9) dX13_init_9 rfl rfl ?_
  refine im_iload_n (pc := 10) dX13_init_10 rfl rfl ?_
  refine im_pfF (pc := 11) fp_X13_13 (okT_i _) dX13_init_11 fun h53 => ?_
  exact im_vret (pc := 14) dX13_init_14
noncomputable def so_init (a0 : Option Nat) (a1 : Option Nat) (a2 : Int32) (h : PH) : Option (PH) := grd (isC [10] a0 h) (so_init_0 a0 a1 a2 h)
theorem so_init_im : IM_X13_init so_init 2 := by
  intro a0 a1 a2 h h' e
  obtain ⟨e1, e2⟩ := grd_some e
  exact ⟨e1, SpV.of (k := 0) (plainFor_of_name (by decide)) rfl (fun X => Im.drop [true, true, true] rfl (so_init_0_ok X a0 a1 a2 h)) e2⟩
theorem cl_X14_1 {X : CT} {cc : ByteArray} {nL : Nat} {mn : String} {ret : Option FieldType} {d d0 : Nat} {τ : Type} {pc : Nat} {lv : List (Option PV)} {st : List PV} {h : PH} {sz : τ → Nat × Nat} {K : τ → Prop} {f : Option Nat → PH → Option (PH)} (HR : IM_X12_init f d0) {a0 : Option Nat} {g : PH → Option τ} (hd : d0 + 1 ≤ d) (hdg : decode cc pc = .ok (.invokespecial 1, 3)) (hst : st.length ≤ 8) (kk : ∀ h', Im X (cc, nL, RX14, mn, ret, d) (pc + 3) lv st h' (g h') sz K) : Im X (cc, nL, RX14, mn, ret, d) pc lv (.inr a0 :: st) h ((f a0 h).bind g) sz K := by
  refine im_cV (y := yX12_init) (cY := cX12_init) (nY := 1) (rY := none) (d' := d0) (av := [.inr a0]) (fun h' e hX => ?_) (fun h' e => (HR _ _ _ e).2) hd (by decide) hst rfl kk
  obtain ⟨a, c, fs, rfl, ec, hm⟩ := isC_some (HR _ _ _ e).1
  exact cal_IN (n := 0) hX (lw_n q587 rfl) q588 q124 q589 rfl (by decide +kernel) rfl hdg

theorem apt_X14 : Apt 11 1 := apt_of rfl in_X14 tyX14 tyX14_ok nmX14
theorem fp_X14_7 : ∀ c ∈ [11], FPF RX14 7 c 0 (.object "TalkingPlots$Condition") := List.forall_mem_cons.mpr ⟨⟨RX14, TX14, 1, rfl, in_X14, by decide, apt_X14, rfl, rfl, by decide +kernel, q591⟩, fun _ h => absurd h List.not_mem_nil⟩
def IM_X14_init (f : Option Nat → Option Nat → PH → Option (PH)) (d : Nat) : Prop := ∀ (a0 : Option Nat) (a1 : Option Nat) (h : PH) (h' : PH), f a0 a1 h = some h' → isC [11] a0 h = true ∧ SpV yX14_init cX14_init 2 none d [.inr a0, .inr a1] h h'
noncomputable def no_init_0 (v0 : Option Nat) (v1 : Option Nat) (h : PH) : Option (PH) :=
  (co_init v0 h).bind fun h51 =>
  (pf [11] 0 v0 (.inr v1) h51).bind fun h52 =>
  some (h52)
theorem no_init_0_ok (X : CT) (v0 : Option Nat) (v1 : Option Nat) (h : PH) : Im X (cX14_init, 2, RX14, "<init>", none, 2) 0 [some (.inr v0), some (.inr v1)] [] h (no_init_0 v0 v1 h) szV (kV X) := by
  unfold no_init_0
  refine im_aload_n (pc := 0) dX14_init_0 rfl rfl ?_
  refine cl_X14_1 co_init_im (pc := 1) (by decide) dX14_init_1 (Nat.le_of_ble_eq_true rfl) fun h51 => ?_
  refine im_aload_n (pc := 4) dX14_init_4 rfl rfl ?_
  refine im_aload_n (pc := 5) dX14_init_5 rfl rfl ?_
  refine im_pfF (pc := 6) fp_X14_7 (okT_o _ _) dX14_init_6 fun h52 => ?_
  exact im_vret (pc := 9) dX14_init_9
noncomputable def no_init (a0 : Option Nat) (a1 : Option Nat) (h : PH) : Option (PH) := grd (isC [11] a0 h) (no_init_0 a0 a1 h)
theorem no_init_im : IM_X14_init no_init 2 := by
  intro a0 a1 h h' e
  obtain ⟨e1, e2⟩ := grd_some e
  exact ⟨e1, SpV.of (k := 0) (plainFor_of_name (by decide)) rfl (fun X => Im.drop [true, true] rfl (no_init_0_ok X a0 a1 h)) e2⟩
theorem cl_X15_1 {X : CT} {cc : ByteArray} {nL : Nat} {mn : String} {ret : Option FieldType} {d d0 : Nat} {τ : Type} {pc : Nat} {lv : List (Option PV)} {st : List PV} {h : PH} {sz : τ → Nat × Nat} {K : τ → Prop} {f : Option Nat → PH → Option (PH)} (HR : IM_X12_init f d0) {a0 : Option Nat} {g : PH → Option τ} (hd : d0 + 1 ≤ d) (hdg : decode cc pc = .ok (.invokespecial 1, 3)) (hst : st.length ≤ 8) (kk : ∀ h', Im X (cc, nL, RX15, mn, ret, d) (pc + 3) lv st h' (g h') sz K) : Im X (cc, nL, RX15, mn, ret, d) pc lv (.inr a0 :: st) h ((f a0 h).bind g) sz K := by
  refine im_cV (y := yX12_init) (cY := cX12_init) (nY := 1) (rY := none) (d' := d0) (av := [.inr a0]) (fun h' e hX => ?_) (fun h' e => (HR _ _ _ e).2) hd (by decide) hst rfl kk
  obtain ⟨a, c, fs, rfl, ec, hm⟩ := isC_some (HR _ _ _ e).1
  exact cal_IN (n := 0) hX (lw_n q600 rfl) q588 q124 q589 rfl (by decide +kernel) rfl hdg

theorem apt_X15 : Apt 12 3 := apt_of rfl in_X15 tyX15 tyX15_ok nmX15
theorem fp_X15_7 : ∀ c ∈ [12], FPF RX15 7 c 0 (.object "TalkingPlots$Sum") := List.forall_mem_cons.mpr ⟨⟨RX15, TX15, 3, rfl, in_X15, by decide, apt_X15, rfl, rfl, by decide +kernel, q601⟩, fun _ h => absurd h List.not_mem_nil⟩
theorem fp_X15_13 : ∀ c ∈ [12], FPF RX15 13 c 2 .int := List.forall_mem_cons.mpr ⟨⟨RX15, TX15, 3, rfl, in_X15, by decide, apt_X15, rfl, rfl, by decide +kernel, q603⟩, fun _ h => absurd h List.not_mem_nil⟩
theorem fp_X15_17 : ∀ c ∈ [12], FPF RX15 17 c 1 (.object "TalkingPlots$Sum") := List.forall_mem_cons.mpr ⟨⟨RX15, TX15, 3, rfl, in_X15, by decide, apt_X15, rfl, rfl, by decide +kernel, q602⟩, fun _ h => absurd h List.not_mem_nil⟩
def IM_X15_init (f : Option Nat → Option Nat → Int32 → Option Nat → PH → Option (PH)) (d : Nat) : Prop := ∀ (a0 : Option Nat) (a1 : Option Nat) (a2 : Int32) (a3 : Option Nat) (h : PH) (h' : PH), f a0 a1 a2 a3 h = some h' → isC [12] a0 h = true ∧ SpV yX15_init cX15_init 4 none d [.inr a0, .inr a1, .inl a2, .inr a3] h h'
noncomputable def cp_init_0 (v0 : Option Nat) (v1 : Option Nat) (v2 : Int32) (v3 : Option Nat) (h : PH) : Option (PH) :=
  (co_init v0 h).bind fun h51 =>
  (pf [12] 0 v0 (.inr v1) h51).bind fun h52 =>
  (pf [12] 2 v0 (.inl v2) h52).bind fun h53 =>
  (pf [12] 1 v0 (.inr v3) h53).bind fun h54 =>
  some (h54)
theorem cp_init_0_ok (X : CT) (v0 : Option Nat) (v1 : Option Nat) (v2 : Int32) (v3 : Option Nat) (h : PH) : Im X (cX15_init, 4, RX15, "<init>", none, 2) 0 [some (.inr v0), some (.inr v1), some (.inl v2), some (.inr v3)] [] h (cp_init_0 v0 v1 v2 v3 h) szV (kV X) := by
  unfold cp_init_0
  refine im_aload_n (pc := 0) dX15_init_0 rfl rfl ?_
  refine cl_X15_1 co_init_im (pc := 1) (by decide) dX15_init_1 (Nat.le_of_ble_eq_true rfl) fun h51 => ?_
  refine im_aload_n (pc := 4) dX15_init_4 rfl rfl ?_
  refine im_aload_n (pc := 5) dX15_init_5 rfl rfl ?_
  refine im_pfF (pc := 6) fp_X15_7 (okT_o _ _) dX15_init_6 fun h52 => ?_
  refine im_aload_n (pc := 9) dX15_init_9 rfl rfl ?_
  refine im_iload_n (pc := 10) dX15_init_10 rfl rfl ?_
  refine im_pfF (pc := 11) fp_X15_13 (okT_i _) dX15_init_11 fun h53 => ?_
  refine im_aload_n (pc := 14) dX15_init_14 rfl rfl ?_
  refine im_aload_n (pc := 15) dX15_init_15 rfl rfl ?_
  refine im_pfF (pc := 16) fp_X15_17 (okT_o _ _) dX15_init_16 fun h54 => ?_
  exact im_vret (pc := 19) dX15_init_19
noncomputable def cp_init (a0 : Option Nat) (a1 : Option Nat) (a2 : Int32) (a3 : Option Nat) (h : PH) : Option (PH) := grd (isC [12] a0 h) (cp_init_0 a0 a1 a2 a3 h)
theorem cp_init_im : IM_X15_init cp_init 2 := by
  intro a0 a1 a2 a3 h h' e
  obtain ⟨e1, e2⟩ := grd_some e
  exact ⟨e1, SpV.of (k := 0) (plainFor_of_name (by decide)) rfl (fun X => Im.drop [true, true, true, true] rfl (cp_init_0_ok X a0 a1 a2 a3 h)) e2⟩
theorem nw_X7_118 : NW RX7 118 10 [.inr none, .inl 0, .inr none] := ⟨RX13, TX13, tyX13, rfl, in_X13, tyX13_ok, q572, q573, q125, fun G j hj => by
  have hj : j < 3 := hj
  match j, hj with
  | 0, _ => rfl
  | 1, _ => rfl
  | 2, _ => rfl⟩
def IM_X7_piece (f : Option Nat → PH → Option (Option Nat × PH)) (d : Nat) : Prop := ∀ (a0 : Option Nat) (h : PH) (r : Option Nat) (h' : PH), f a0 h = some (r, h') → isC [6] a0 h = true ∧ SpR yX7_piece cX7_piece 4 (some (.object "TalkingPlots$Condition")) d [.inr a0] h r h'
theorem cl_X7_101 {X : CT} {cc : ByteArray} {nL : Nat} {mn : String} {ret : Option FieldType} {d d0 : Nat} {τ : Type} {pc : Nat} {lv : List (Option PV)} {st : List PV} {h : PH} {sz : τ → Nat × Nat} {K : τ → Prop} {f : Option Nat → PH → Option (Option Nat × PH)} (HR : IM_X7_piece f d0) {a0 : Option Nat} {g : Option Nat → PH → Option τ} (hd : d0 + 1 ≤ d) (hdg : decode cc pc = .ok (.invokevirtual 101, 3)) (hst : st.length ≤ 8) (kk : ∀ r h', Im X (cc, nL, RX7, mn, ret, d) (pc + 3) lv (.inr r :: st) h' (g r h') sz K) : Im X (cc, nL, RX7, mn, ret, d) pc lv (.inr a0 :: st) h (bd2 (f a0 h) g) sz K := by
  refine im_cR (y := yX7_piece) (cY := cX7_piece) (nY := 4) (rY := (some (.object "TalkingPlots$Condition"))) (d' := d0) (av := [.inr a0]) (fun r h' e hX => ?_) (fun r h' e => (HR _ _ _ _ e).2) hd (by decide) hst rfl kk
  obtain ⟨a, c, fs, rfl, ec, hm⟩ := isC_some (HR _ _ _ _ e).1
  cases List.mem_singleton.mp hm
  exact cal_V (n := 0) hX (lw_V q578 q580 qs14 q113 q581) (by decide +kernel) rfl rfl ec hdg

theorem cl_X7_120 {X : CT} {cc : ByteArray} {nL : Nat} {mn : String} {ret : Option FieldType} {d d0 : Nat} {τ : Type} {pc : Nat} {lv : List (Option PV)} {st : List PV} {h : PH} {sz : τ → Nat × Nat} {K : τ → Prop} {f : Option Nat → Option Nat → Int32 → PH → Option (PH)} (HR : IM_X13_init f d0) {a0 : Option Nat} {a1 : Option Nat} {a2 : Int32} {g : PH → Option τ} (hd : d0 + 1 ≤ d) (hdg : decode cc pc = .ok (.invokespecial 120, 3)) (hst : st.length ≤ 8) (kk : ∀ h', Im X (cc, nL, RX7, mn, ret, d) (pc + 3) lv st h' (g h') sz K) : Im X (cc, nL, RX7, mn, ret, d) pc lv (.inl a2 :: .inr a1 :: .inr a0 :: st) h ((f a0 a1 a2 h).bind g) sz K := by
  refine im_cV (y := yX13_init) (cY := cX13_init) (nY := 3) (rY := none) (d' := d0) (av := [.inr a0, .inr a1, .inl a2]) (fun h' e hX => ?_) (fun h' e => (HR _ _ _ _ _ e).2) hd (by decide) hst rfl kk
  obtain ⟨a, c, fs, rfl, ec, hm⟩ := isC_some (HR _ _ _ _ _ e).1
  exact cal_I (n := 2) hX q611 q612 q125 q613 rfl (by decide +kernel) rfl hdg

theorem fp_X7_123 : ∀ c ∈ [10], FP RX7 123 c 2 (.object "TalkingPlots$Some") := List.forall_mem_cons.mpr ⟨⟨RX13, TX13, 3, rfl, in_X13, by decide, apt_X13, rfl, by decide +kernel, Or.inr ⟨_, lw_n q618 rfl⟩⟩, fun _ h => absurd h List.not_mem_nil⟩
theorem fl_X7_123 : ∀ c ∈ [10], FL RX7 123 c 2 := List.forall_mem_cons.mpr ⟨⟨RX13, TX13, 3, rfl, in_X13, by decide, Or.inr ⟨_, lw_n q618 rfl⟩⟩, fun _ h => absurd h List.not_mem_nil⟩
def IM_X7_pieces (f : Option Nat → PH → Option (Option Nat × PH)) (d : Nat) : Prop := ∀ (a0 : Option Nat) (h : PH) (r : Option Nat) (h' : PH), f a0 h = some (r, h') → isC [6] a0 h = true ∧ SpR yX7_pieces cX7_pieces 3 (some (.object "TalkingPlots$Condition")) d [.inr a0] h r h'
noncomputable def rd_pieces_b15 (rec : Option Nat → PH → Option (Option Nat × PH)) (v0 : Option Nat) (v1 : Option Nat) (v2 : Option Nat) (h : PH) : Option ((Option Nat × PH) ⊕ (Option Nat × PH)) :=
  (rd_isGood v0 h).bind fun x51 =>
  (if x51 = 0 then
  some (.inr ((v1, h)))
  else
  (rd_here v0 h).bind fun x52 =>
  (if x52 = 38 then
  (gfi [6] 2 v0 h).bind fun x53 =>
  (pf [6] 2 v0 (.inl (x53 + 1)) h).bind fun h54 =>
  (nw 10 [.inr none, .inl 0, .inr none] h54).bind fun h55 =>
  bd2 (rec v0 h55) fun r57 h56 =>
  (so_init (some h54.1) r57 0 h56).bind fun h58 =>
  (pf [10] 2 v2 (.inr (some h54.1)) h58).bind fun h59 =>
  (gfr [10] 2 v2 h59).bind fun r60 =>
  some (.inl (r60, h59))
  else
  some (.inr ((v1, h)))))
noncomputable def rd_pieces_L15 (rec : Option Nat → PH → Option (Option Nat × PH)) (v0 : Option Nat) (v1 : Option Nat) (v2 : Option Nat) (h : PH) : Option (Option Nat × PH) :=
  iter (fun s : Option Nat × PH => rd_pieces_b15 rec v0 v1 s.1 s.2) (v2, h)
theorem rd_pieces_b15_ok (X : CT) {rec : Option Nat → PH → Option (Option Nat × PH)} {d0 d : Nat} (HR : IM_X7_piece rec d0) (hd0 : 60 ≤ d0) (hd : d0 + 1 ≤ d) (v0 : Option Nat) (v1 : Option Nat) (v2 : Option Nat) (h : PH) : Im X (cX7_pieces, 3, RX7, "pieces", (some (.object "TalkingPlots$Condition")), d) 15 [some (.inr v0), some (.inr v1), some (.inr v2)] [] h (rd_pieces_b15 rec v0 v1 v2 h) (ez (fun s : Option Nat × PH => s.2) szI) (ek X 15 (fun s : Option Nat × PH => [some (.inr v0), some (.inr v1), some (.inr s.1)]) (fun s : Option Nat × PH => s.2) (kR X)) := by
  unfold rd_pieces_b15
  refine im_aload_n (pc := 15) dX7_pieces_15 rfl rfl ?_
  refine cl_X7_43 rd_isGood_im (pc := 16) (by omega) dX7_pieces_16 (Nat.le_of_ble_eq_true rfl) fun x51 => ?_
  refine im_if_eq (pc := 19) (tgt := 65) dX7_pieces_19 (by decide) ?_ ?_
  · refine im_aload_n (pc := 65) dX7_pieces_65 rfl rfl ?_
    exact Im.outS (im_aret (pc := 66) dX7_pieces_66)
  · refine im_aload_n (pc := 22) dX7_pieces_22 rfl rfl ?_
    refine cl_X7_39 rd_here_im (pc := 23) (by omega) dX7_pieces_23 (Nat.le_of_ble_eq_true rfl) fun x52 => ?_
    refine im_bipush (pc := 26) (v := 38) dX7_pieces_26 (by decide) ?_
    refine im_icmp_ne (pc := 28) (tgt := 65) dX7_pieces_28 (by decide) ?_ ?_
    · refine im_aload_n (pc := 65) dX7_pieces_65 rfl rfl ?_
      exact Im.outS (im_aret (pc := 66) dX7_pieces_66)
    · refine im_aload_n (pc := 31) dX7_pieces_31 rfl rfl ?_
      refine im_dup (pc := 32) dX7_pieces_32 ?_
      refine im_gi (pc := 33) fl_X7_26 dX7_pieces_33 fun x53 => ?_
      refine im_iconst (pc := 36) (v := 1) dX7_pieces_36 (by decide) ?_
      refine im_iadd (pc := 37) dX7_pieces_37 ?_
      refine im_pf (pc := 38) fp_X7_26 (okT_i _) dX7_pieces_38 fun h54 => ?_
      refine im_aload_n (pc := 41) dX7_pieces_41 rfl rfl ?_
      refine im_new (pc := 42) nw_X7_118 dX7_pieces_42 fun h55 => ?_
      refine im_dup (pc := 45) dX7_pieces_45 ?_
      refine im_aload_n (pc := 46) dX7_pieces_46 rfl rfl ?_
      refine cl_X7_101 HR (pc := 47) (by omega) dX7_pieces_47 (Nat.le_of_ble_eq_true rfl) fun r57 h56 => ?_
      refine im_iconst (pc := 50) (v := 0) dX7_pieces_50 (by decide) ?_
      refine cl_X7_120 so_init_im (pc := 51) (by omega) dX7_pieces_51 (Nat.le_of_ble_eq_true rfl) fun h58 => ?_
      refine im_pf (pc := 54) fp_X7_123 (okT_o _ _) dX7_pieces_54 fun h59 => ?_
      refine im_aload_n (pc := 57) dX7_pieces_57 rfl rfl ?_
      refine im_gr (pc := 58) fl_X7_123 dX7_pieces_58 fun r60 => ?_
      refine im_astore_n (pc := 61) (lv' := [some (.inr v0), some (.inr v1), some (.inr r60)]) dX7_pieces_61 rfl (by decide) rfl ?_
      refine im_goto (pc := 62) (tgt := 15) dX7_pieces_62 (by decide) ?_
      exact Im.back [true, true, true] rfl rfl
theorem rd_pieces_L15_ok (X : CT) {rec : Option Nat → PH → Option (Option Nat × PH)} {d0 d : Nat} (HR : IM_X7_piece rec d0) (hd0 : 60 ≤ d0) (hd : d0 + 1 ≤ d) (v0 : Option Nat) (v1 : Option Nat) (v2 : Option Nat) (h : PH) : Im X (cX7_pieces, 3, RX7, "pieces", (some (.object "TalkingPlots$Condition")), d) 15 [some (.inr v0), some (.inr v1), some (.inr v2)] [] h (rd_pieces_L15 rec v0 v1 v2 h) szI (kR X) := by
  unfold rd_pieces_L15
  exact Im.iter (lv := (fun s : Option Nat × PH => [some (.inr v0), some (.inr v1), some (.inr s.1)])) (hp := (fun s : Option Nat × PH => s.2)) (fun s => rd_pieces_b15_ok X HR hd0 hd v0 v1 s.1 s.2) _ rfl rfl
noncomputable def rd_pieces_0 (rec : Option Nat → PH → Option (Option Nat × PH)) (v0 : Option Nat) (h : PH) : Option (Option Nat × PH) :=
  (nw 10 [.inr none, .inl 0, .inr none] h).bind fun h51 =>
  bd2 (rec v0 h51) fun r53 h52 =>
  (so_init (some h.1) r53 0 h52).bind fun h54 =>
  rd_pieces_L15 rec v0 (some h.1) (some h.1) h54
theorem rd_pieces_0_ok (X : CT) {rec : Option Nat → PH → Option (Option Nat × PH)} {d0 d : Nat} (HR : IM_X7_piece rec d0) (hd0 : 60 ≤ d0) (hd : d0 + 1 ≤ d) (v0 : Option Nat) (h : PH) : Im X (cX7_pieces, 3, RX7, "pieces", (some (.object "TalkingPlots$Condition")), d) 0 [some (.inr v0), none, none] [] h (rd_pieces_0 rec v0 h) szI (kR X) := by
  unfold rd_pieces_0
  refine im_new (pc := 0) nw_X7_118 dX7_pieces_0 fun h51 => ?_
  refine im_dup (pc := 3) dX7_pieces_3 ?_
  refine im_aload_n (pc := 4) dX7_pieces_4 rfl rfl ?_
  refine cl_X7_101 HR (pc := 5) (by omega) dX7_pieces_5 (Nat.le_of_ble_eq_true rfl) fun r53 h52 => ?_
  refine im_iconst (pc := 8) (v := 0) dX7_pieces_8 (by decide) ?_
  refine cl_X7_120 so_init_im (pc := 9) (by omega) dX7_pieces_9 (Nat.le_of_ble_eq_true rfl) fun h54 => ?_
  refine im_astore_n (pc := 12) (lv' := [some (.inr v0), some (.inr (some h.1)), none]) dX7_pieces_12 rfl (by decide) rfl ?_
  refine im_aload_n (pc := 13) dX7_pieces_13 rfl rfl ?_
  refine im_astore_n (pc := 14) (lv' := [some (.inr v0), some (.inr (some h.1)), some (.inr (some h.1))]) dX7_pieces_14 rfl (by decide) rfl ?_
  exact Im.drop [true, true, true] rfl (rd_pieces_L15_ok X HR hd0 hd v0 (some h.1) (some h.1) h54)
noncomputable def rd_pieces (rec : Option Nat → PH → Option (Option Nat × PH)) (a0 : Option Nat) (h : PH) : Option (Option Nat × PH) := grd (isC [6] a0 h) (rd_pieces_0 rec a0 h)
theorem rd_pieces_im {rec : Option Nat → PH → Option (Option Nat × PH)} {d0 : Nat} (HR : IM_X7_piece rec d0) (hd0 : 60 ≤ d0) : IM_X7_pieces (rd_pieces rec) (d0 + 1) := by
  intro a0 h r h' e
  obtain ⟨e1, e2⟩ := grd_some e
  exact ⟨e1, SpR.of (k := 2) (plainFor_of_name (by decide)) rfl (fun X => Im.drop [true, false, false] rfl (rd_pieces_0_ok X HR hd0 (Nat.le_refl _) a0 h)) e2⟩
theorem cl_X7_126 {X : CT} {cc : ByteArray} {nL : Nat} {mn : String} {ret : Option FieldType} {d d0 : Nat} {τ : Type} {pc : Nat} {lv : List (Option PV)} {st : List PV} {h : PH} {sz : τ → Nat × Nat} {K : τ → Prop} {f : Option Nat → PH → Option (Option Nat × PH)} (HR : IM_X7_pieces f d0) {a0 : Option Nat} {g : Option Nat → PH → Option τ} (hd : d0 + 1 ≤ d) (hdg : decode cc pc = .ok (.invokevirtual 126, 3)) (hst : st.length ≤ 8) (kk : ∀ r h', Im X (cc, nL, RX7, mn, ret, d) (pc + 3) lv (.inr r :: st) h' (g r h') sz K) : Im X (cc, nL, RX7, mn, ret, d) pc lv (.inr a0 :: st) h (bd2 (f a0 h) g) sz K := by
  refine im_cR (y := yX7_pieces) (cY := cX7_pieces) (nY := 3) (rY := (some (.object "TalkingPlots$Condition"))) (d' := d0) (av := [.inr a0]) (fun r h' e hX => ?_) (fun r h' e => (HR _ _ _ _ e).2) hd (by decide) hst rfl kk
  obtain ⟨a, c, fs, rfl, ec, hm⟩ := isC_some (HR _ _ _ _ e).1
  cases List.mem_singleton.mp hm
  exact cal_V (n := 0) hX (lw_V q574 q576 qs13 q113 q577) (by decide +kernel) rfl rfl ec hdg

def IM_X7_condition (f : Option Nat → PH → Option (Option Nat × PH)) (d : Nat) : Prop := ∀ (a0 : Option Nat) (h : PH) (r : Option Nat) (h' : PH), f a0 h = some (r, h') → isC [6] a0 h = true ∧ SpR yX7_condition cX7_condition 3 (some (.object "TalkingPlots$Condition")) d [.inr a0] h r h'
noncomputable def rd_condition_93 (rec : Option Nat → PH → Option (Option Nat × PH)) (v0 : Option Nat) (v1 : Option Nat) (h : PH) : Option (Option Nat × PH) :=
  (gfi [6] 3 v0 h).bind fun x51 =>
  (pf [6] 3 v0 (.inl (x51 - 1)) h).bind fun h52 =>
  some ((v1, h52))
theorem rd_condition_93_ok (X : CT) {rec : Option Nat → PH → Option (Option Nat × PH)} {d0 d : Nat} (HR : IM_X7_piece rec d0) (hd0 : 60 ≤ d0) (hd : d0 + 2 ≤ d) (v0 : Option Nat) (v1 : Option Nat) (h : PH) : Im X (cX7_condition, 3, RX7, "condition", (some (.object "TalkingPlots$Condition")), d) 93 [some (.inr v0), some (.inr v1), none] [] h (rd_condition_93 rec v0 v1 h) szI (kR X) := by
  unfold rd_condition_93
  refine im_aload_n (pc := 93) dX7_condition_93 rfl rfl ?_
  refine im_dup (pc := 94) dX7_condition_94 ?_
  refine im_gi (pc := 95) fl_X7_54 dX7_condition_95 fun x51 => ?_
  refine im_iconst (pc := 98) (v := 1) dX7_condition_98 (by decide) ?_
  refine im_isub (pc := 99) dX7_condition_99 ?_
  refine im_pf (pc := 100) fp_X7_54 (okT_i _) dX7_condition_100 fun h52 => ?_
  refine im_aload_n (pc := 103) dX7_condition_103 rfl rfl ?_
  exact im_aret (pc := 104) dX7_condition_104
noncomputable def rd_condition_80 (rec : Option Nat → PH → Option (Option Nat × PH)) (v0 : Option Nat) (v1 : Option Nat) (h : PH) : Option (Option Nat × PH) :=
  (rd_isGood v0 h).bind fun x51 =>
  (if x51 = 0 then
  rd_condition_93 rec v0 v1 h
  else
  (rd_must v0 41 h).bind fun h52 =>
  rd_condition_93 rec v0 v1 h52)
theorem rd_condition_80_ok (X : CT) {rec : Option Nat → PH → Option (Option Nat × PH)} {d0 d : Nat} (HR : IM_X7_piece rec d0) (hd0 : 60 ≤ d0) (hd : d0 + 2 ≤ d) (v0 : Option Nat) (v1 : Option Nat) (h : PH) : Im X (cX7_condition, 3, RX7, "condition", (some (.object "TalkingPlots$Condition")), d) 80 [some (.inr v0), some (.inr v1), none] [] h (rd_condition_80 rec v0 v1 h) szI (kR X) := by
  unfold rd_condition_80
  refine im_aload_n (pc := 80) dX7_condition_80 rfl rfl ?_
  refine cl_X7_43 rd_isGood_im (pc := 81) (by omega) dX7_condition_81 (Nat.le_of_ble_eq_true rfl) fun x51 => ?_
  refine im_if_eq (pc := 84) (tgt := 93) dX7_condition_84 (by decide) ?_ ?_
  · exact Im.drop [true, true, false] rfl (rd_condition_93_ok X HR hd0 hd v0 v1 h)
  · refine im_aload_n (pc := 87) dX7_condition_87 rfl rfl ?_
    refine im_bipush (pc := 88) (v := 41) dX7_condition_88 (by decide) ?_
    refine cl_X7_64 rd_must_im (pc := 90) (by omega) dX7_condition_90 (Nat.le_of_ble_eq_true rfl) fun h52 => ?_
    exact Im.drop [true, true, false] rfl (rd_condition_93_ok X HR hd0 hd v0 v1 h52)
noncomputable def rd_condition_b30 (rec : Option Nat → PH → Option (Option Nat × PH)) (v0 : Option Nat) (v1 : Option Nat) (v2 : Option Nat) (h : PH) : Option ((Option Nat × PH) ⊕ (Option Nat × PH)) :=
  (rd_isGood v0 h).bind fun x51 =>
  (if x51 = 0 then
  (rd_condition_80 rec v0 v1 h).map .inr
  else
  (rd_here v0 h).bind fun x52 =>
  (if x52 = 124 then
  (gfi [6] 2 v0 h).bind fun x53 =>
  (pf [6] 2 v0 (.inl (x53 + 1)) h).bind fun h54 =>
  (nw 10 [.inr none, .inl 0, .inr none] h54).bind fun h55 =>
  bd2 (rd_pieces rec v0 h55) fun r57 h56 =>
  (so_init (some h54.1) r57 1 h56).bind fun h58 =>
  (pf [10] 2 v2 (.inr (some h54.1)) h58).bind fun h59 =>
  (gfr [10] 2 v2 h59).bind fun r60 =>
  some (.inl (r60, h59))
  else
  (rd_condition_80 rec v0 v1 h).map .inr))
noncomputable def rd_condition_L30 (rec : Option Nat → PH → Option (Option Nat × PH)) (v0 : Option Nat) (v1 : Option Nat) (v2 : Option Nat) (h : PH) : Option (Option Nat × PH) :=
  iter (fun s : Option Nat × PH => rd_condition_b30 rec v0 v1 s.1 s.2) (v2, h)
theorem rd_condition_b30_ok (X : CT) {rec : Option Nat → PH → Option (Option Nat × PH)} {d0 d : Nat} (HR : IM_X7_piece rec d0) (hd0 : 60 ≤ d0) (hd : d0 + 2 ≤ d) (v0 : Option Nat) (v1 : Option Nat) (v2 : Option Nat) (h : PH) : Im X (cX7_condition, 3, RX7, "condition", (some (.object "TalkingPlots$Condition")), d) 30 [some (.inr v0), some (.inr v1), some (.inr v2)] [] h (rd_condition_b30 rec v0 v1 v2 h) (ez (fun s : Option Nat × PH => s.2) szI) (ek X 30 (fun s : Option Nat × PH => [some (.inr v0), some (.inr v1), some (.inr s.1)]) (fun s : Option Nat × PH => s.2) (kR X)) := by
  unfold rd_condition_b30
  refine im_aload_n (pc := 30) dX7_condition_30 rfl rfl ?_
  refine cl_X7_43 rd_isGood_im (pc := 31) (by omega) dX7_condition_31 (Nat.le_of_ble_eq_true rfl) fun x51 => ?_
  refine im_if_eq (pc := 34) (tgt := 80) dX7_condition_34 (by decide) ?_ ?_
  · exact Im.out (Im.drop [true, true, false] rfl (rd_condition_80_ok X HR hd0 hd v0 v1 h))
  · refine im_aload_n (pc := 37) dX7_condition_37 rfl rfl ?_
    refine cl_X7_39 rd_here_im (pc := 38) (by omega) dX7_condition_38 (Nat.le_of_ble_eq_true rfl) fun x52 => ?_
    refine im_bipush (pc := 41) (v := 124) dX7_condition_41 (by decide) ?_
    refine im_icmp_ne (pc := 43) (tgt := 80) dX7_condition_43 (by decide) ?_ ?_
    · exact Im.out (Im.drop [true, true, false] rfl (rd_condition_80_ok X HR hd0 hd v0 v1 h))
    · refine im_aload_n (pc := 46) dX7_condition_46 rfl rfl ?_
      refine im_dup (pc := 47) dX7_condition_47 ?_
      refine im_gi (pc := 48) fl_X7_26 dX7_condition_48 fun x53 => ?_
      refine im_iconst (pc := 51) (v := 1) dX7_condition_51 (by decide) ?_
      refine im_iadd (pc := 52) dX7_condition_52 ?_
      refine im_pf (pc := 53) fp_X7_26 (okT_i _) dX7_condition_53 fun h54 => ?_
      refine im_aload_n (pc := 56) dX7_condition_56 rfl rfl ?_
      refine im_new (pc := 57) nw_X7_118 dX7_condition_57 fun h55 => ?_
      refine im_dup (pc := 60) dX7_condition_60 ?_
      refine im_aload_n (pc := 61) dX7_condition_61 rfl rfl ?_
      refine cl_X7_126 (rd_pieces_im HR hd0) (pc := 62) (by omega) dX7_condition_62 (Nat.le_of_ble_eq_true rfl) fun r57 h56 => ?_
      refine im_iconst (pc := 65) (v := 1) dX7_condition_65 (by decide) ?_
      refine cl_X7_120 so_init_im (pc := 66) (by omega) dX7_condition_66 (Nat.le_of_ble_eq_true rfl) fun h58 => ?_
      refine im_pf (pc := 69) fp_X7_123 (okT_o _ _) dX7_condition_69 fun h59 => ?_
      refine im_aload_n (pc := 72) dX7_condition_72 rfl rfl ?_
      refine im_gr (pc := 73) fl_X7_123 dX7_condition_73 fun r60 => ?_
      refine im_astore_n (pc := 76) (lv' := [some (.inr v0), some (.inr v1), some (.inr r60)]) dX7_condition_76 rfl (by decide) rfl ?_
      refine im_goto (pc := 77) (tgt := 30) dX7_condition_77 (by decide) ?_
      exact Im.back [true, true, true] rfl rfl
theorem rd_condition_L30_ok (X : CT) {rec : Option Nat → PH → Option (Option Nat × PH)} {d0 d : Nat} (HR : IM_X7_piece rec d0) (hd0 : 60 ≤ d0) (hd : d0 + 2 ≤ d) (v0 : Option Nat) (v1 : Option Nat) (v2 : Option Nat) (h : PH) : Im X (cX7_condition, 3, RX7, "condition", (some (.object "TalkingPlots$Condition")), d) 30 [some (.inr v0), some (.inr v1), some (.inr v2)] [] h (rd_condition_L30 rec v0 v1 v2 h) szI (kR X) := by
  unfold rd_condition_L30
  exact Im.iter (lv := (fun s : Option Nat × PH => [some (.inr v0), some (.inr v1), some (.inr s.1)])) (hp := (fun s : Option Nat × PH => s.2)) (fun s => rd_condition_b30_ok X HR hd0 hd v0 v1 s.1 s.2) _ rfl rfl
noncomputable def rd_condition_0 (rec : Option Nat → PH → Option (Option Nat × PH)) (v0 : Option Nat) (h : PH) : Option (Option Nat × PH) :=
  (rd_opens v0 h).bind fun h51 =>
  (rd_isGood v0 h51).bind fun x52 =>
  (if x52 = 0 then
  rd_condition_L30 rec v0 none none h51
  else
  (nw 10 [.inr none, .inl 0, .inr none] h51).bind fun h53 =>
  bd2 (rd_pieces rec v0 h53) fun r55 h54 =>
  (so_init (some h51.1) r55 1 h54).bind fun h56 =>
  rd_condition_L30 rec v0 (some h51.1) (some h51.1) h56)
theorem rd_condition_0_ok (X : CT) {rec : Option Nat → PH → Option (Option Nat × PH)} {d0 d : Nat} (HR : IM_X7_piece rec d0) (hd0 : 60 ≤ d0) (hd : d0 + 2 ≤ d) (v0 : Option Nat) (h : PH) : Im X (cX7_condition, 3, RX7, "condition", (some (.object "TalkingPlots$Condition")), d) 0 [some (.inr v0), none, none] [] h (rd_condition_0 rec v0 h) szI (kR X) := by
  unfold rd_condition_0
  refine im_aload_n (pc := 0) dX7_condition_0 rfl rfl ?_
  refine cl_X7_57 rd_opens_im (pc := 1) (by omega) dX7_condition_1 (Nat.le_of_ble_eq_true rfl) fun h51 => ?_
  refine im_aload_n (pc := 4) dX7_condition_4 rfl rfl ?_
  refine cl_X7_43 rd_isGood_im (pc := 5) (by omega) dX7_condition_5 (Nat.le_of_ble_eq_true rfl) fun x52 => ?_
  refine im_if_eq (pc := 8) (tgt := 26) dX7_condition_8 (by decide) ?_ ?_
  · refine im_null (pc := 26) dX7_condition_26 ?_
    refine im_astore_n (pc := 27) (lv' := [some (.inr v0), some (.inr none), none]) dX7_condition_27 rfl (by decide) rfl ?_
    refine im_aload_n (pc := 28) dX7_condition_28 rfl rfl ?_
    refine im_astore_n (pc := 29) (lv' := [some (.inr v0), some (.inr none), some (.inr none)]) dX7_condition_29 rfl (by decide) rfl ?_
    exact Im.drop [true, true, true] rfl (rd_condition_L30_ok X HR hd0 hd v0 none none h51)
  · refine im_new (pc := 11) nw_X7_118 dX7_condition_11 fun h53 => ?_
    refine im_dup (pc := 14) dX7_condition_14 ?_
    refine im_aload_n (pc := 15) dX7_condition_15 rfl rfl ?_
    refine cl_X7_126 (rd_pieces_im HR hd0) (pc := 16) (by omega) dX7_condition_16 (Nat.le_of_ble_eq_true rfl) fun r55 h54 => ?_
    refine im_iconst (pc := 19) (v := 1) dX7_condition_19 (by decide) ?_
    refine cl_X7_120 so_init_im (pc := 20) (by omega) dX7_condition_20 (Nat.le_of_ble_eq_true rfl) fun h56 => ?_
    refine im_goto (pc := 23) (tgt := 27) dX7_condition_23 (by decide) ?_
    refine im_astore_n (pc := 27) (lv' := [some (.inr v0), some (.inr (some h51.1)), none]) dX7_condition_27 rfl (by decide) rfl ?_
    refine im_aload_n (pc := 28) dX7_condition_28 rfl rfl ?_
    refine im_astore_n (pc := 29) (lv' := [some (.inr v0), some (.inr (some h51.1)), some (.inr (some h51.1))]) dX7_condition_29 rfl (by decide) rfl ?_
    exact Im.drop [true, true, true] rfl (rd_condition_L30_ok X HR hd0 hd v0 (some h51.1) (some h51.1) h56)
noncomputable def rd_condition (rec : Option Nat → PH → Option (Option Nat × PH)) (a0 : Option Nat) (h : PH) : Option (Option Nat × PH) := grd (isC [6] a0 h) (rd_condition_0 rec a0 h)
theorem rd_condition_im {rec : Option Nat → PH → Option (Option Nat × PH)} {d0 : Nat} (HR : IM_X7_piece rec d0) (hd0 : 60 ≤ d0) : IM_X7_condition (rd_condition rec) (d0 + 2) := by
  intro a0 h r h' e
  obtain ⟨e1, e2⟩ := grd_some e
  exact ⟨e1, SpR.of (k := 2) (plainFor_of_name (by decide)) rfl (fun X => Im.drop [true, false, false] rfl (rd_condition_0_ok X HR hd0 (Nat.le_refl _) a0 h)) e2⟩
theorem cl_X7_110 {X : CT} {cc : ByteArray} {nL : Nat} {mn : String} {ret : Option FieldType} {d d0 : Nat} {τ : Type} {pc : Nat} {lv : List (Option PV)} {st : List PV} {h : PH} {sz : τ → Nat × Nat} {K : τ → Prop} {f : Option Nat → PH → Option (Option Nat × PH)} (HR : IM_X7_condition f d0) {a0 : Option Nat} {g : Option Nat → PH → Option τ} (hd : d0 + 1 ≤ d) (hdg : decode cc pc = .ok (.invokevirtual 110, 3)) (hst : st.length ≤ 8) (kk : ∀ r h', Im X (cc, nL, RX7, mn, ret, d) (pc + 3) lv (.inr r :: st) h' (g r h') sz K) : Im X (cc, nL, RX7, mn, ret, d) pc lv (.inr a0 :: st) h (bd2 (f a0 h) g) sz K := by
  refine im_cR (y := yX7_condition) (cY := cX7_condition) (nY := 3) (rY := (some (.object "TalkingPlots$Condition"))) (d' := d0) (av := [.inr a0]) (fun r h' e hX => ?_) (fun r h' e => (HR _ _ _ _ e).2) hd (by decide) hst rfl kk
  obtain ⟨a, c, fs, rfl, ec, hm⟩ := isC_some (HR _ _ _ _ e).1
  cases List.mem_singleton.mp hm
  exact cal_V (n := 0) hX (lw_V q568 q570 qs12 q113 q571) (by decide +kernel) rfl rfl ec hdg

theorem nw_X7_105 : NW RX7 105 11 [.inr none] := ⟨RX14, TX14, tyX14, rfl, in_X14, tyX14_ok, q582, q583, q126, fun G j hj => by
  have hj : j < 1 := hj
  match j, hj with
  | 0, _ => rfl⟩
theorem cl_X7_107 {X : CT} {cc : ByteArray} {nL : Nat} {mn : String} {ret : Option FieldType} {d d0 : Nat} {τ : Type} {pc : Nat} {lv : List (Option PV)} {st : List PV} {h : PH} {sz : τ → Nat × Nat} {K : τ → Prop} {f : Option Nat → Option Nat → PH → Option (PH)} (HR : IM_X14_init f d0) {a0 : Option Nat} {a1 : Option Nat} {g : PH → Option τ} (hd : d0 + 1 ≤ d) (hdg : decode cc pc = .ok (.invokespecial 107, 3)) (hst : st.length ≤ 8) (kk : ∀ h', Im X (cc, nL, RX7, mn, ret, d) (pc + 3) lv st h' (g h') sz K) : Im X (cc, nL, RX7, mn, ret, d) pc lv (.inr a1 :: .inr a0 :: st) h ((f a0 a1 h).bind g) sz K := by
  refine im_cV (y := yX14_init) (cY := cX14_init) (nY := 2) (rY := none) (d' := d0) (av := [.inr a0, .inr a1]) (fun h' e hX => ?_) (fun h' e => (HR _ _ _ _ e).2) hd (by decide) hst rfl kk
  obtain ⟨a, c, fs, rfl, ec, hm⟩ := isC_some (HR _ _ _ _ e).1
  exact cal_I (n := 1) hX q584 q585 q126 q586 rfl (by decide +kernel) rfl hdg

theorem nw_X7_113 : NW RX7 113 12 [.inr none, .inr none, .inl 0] := ⟨RX15, TX15, tyX15, rfl, in_X15, tyX15_ok, q595, q596, q127, fun G j hj => by
  have hj : j < 3 := hj
  match j, hj with
  | 0, _ => rfl
  | 1, _ => rfl
  | 2, _ => rfl⟩
theorem cl_X7_115 {X : CT} {cc : ByteArray} {nL : Nat} {mn : String} {ret : Option FieldType} {d d0 : Nat} {τ : Type} {pc : Nat} {lv : List (Option PV)} {st : List PV} {h : PH} {sz : τ → Nat × Nat} {K : τ → Prop} {f : Option Nat → Option Nat → Int32 → Option Nat → PH → Option (PH)} (HR : IM_X15_init f d0) {a0 : Option Nat} {a1 : Option Nat} {a2 : Int32} {a3 : Option Nat} {g : PH → Option τ} (hd : d0 + 1 ≤ d) (hdg : decode cc pc = .ok (.invokespecial 115, 3)) (hst : st.length ≤ 8) (kk : ∀ h', Im X (cc, nL, RX7, mn, ret, d) (pc + 3) lv st h' (g h') sz K) : Im X (cc, nL, RX7, mn, ret, d) pc lv (.inr a3 :: .inl a2 :: .inr a1 :: .inr a0 :: st) h ((f a0 a1 a2 a3 h).bind g) sz K := by
  refine im_cV (y := yX15_init) (cY := cX15_init) (nY := 4) (rY := none) (d' := d0) (av := [.inr a0, .inr a1, .inl a2, .inr a3]) (fun h' e hX => ?_) (fun h' e => (HR _ _ _ _ _ _ e).2) hd (by decide) hst rfl kk
  obtain ⟨a, c, fs, rfl, ec, hm⟩ := isC_some (HR _ _ _ _ _ _ e).1
  exact cal_I (n := 3) hX q597 q598 q127 q599 rfl (by decide +kernel) rfl hdg

noncomputable def rd_piece_30 (rec : Option Nat → PH → Option (Option Nat × PH)) (v0 : Option Nat) (s0 : Option Nat) (h : PH) : Option (Option Nat × PH) :=
  (gfi [6] 3 v0 h).bind fun x51 =>
  (pf [6] 3 v0 (.inl (x51 - 1)) h).bind fun h52 =>
  (nw 11 [.inr none] h52).bind fun h53 =>
  (no_init (some h52.1) s0 h53).bind fun h54 =>
  some (((some h52.1), h54))
theorem rd_piece_30_ok (X : CT) {rec : Option Nat → PH → Option (Option Nat × PH)} {d0 d : Nat} (HR : IM_X7_piece rec d0) (hd0 : 60 ≤ d0) (hd : d0 + 3 ≤ d) (v0 : Option Nat) (s0 : Option Nat) (h : PH) : Im X (cX7_piece, 4, RX7, "piece", (some (.object "TalkingPlots$Condition")), d) 30 [some (.inr v0), none, none, none] [.inr s0] h (rd_piece_30 rec v0 s0 h) szI (kR X) := by
  unfold rd_piece_30
  refine im_astore_n (pc := 30) (lv' := [some (.inr v0), none, some (.inr s0), none]) dX7_piece_30 rfl (by decide) rfl ?_
  refine im_aload_n (pc := 31) dX7_piece_31 rfl rfl ?_
  refine im_dup (pc := 32) dX7_piece_32 ?_
  refine im_gi (pc := 33) fl_X7_54 dX7_piece_33 fun x51 => ?_
  refine im_iconst (pc := 36) (v := 1) dX7_piece_36 (by decide) ?_
  refine im_isub (pc := 37) dX7_piece_37 ?_
  refine im_pf (pc := 38) fp_X7_54 (okT_i _) dX7_piece_38 fun h52 => ?_
  refine im_new (pc := 41) nw_X7_105 dX7_piece_41 fun h53 => ?_
  refine im_dup (pc := 44) dX7_piece_44 ?_
  refine im_aload_n (pc := 45) dX7_piece_45 rfl rfl ?_
  refine cl_X7_107 no_init_im (pc := 46) (by omega) dX7_piece_46 (Nat.le_of_ble_eq_true rfl) fun h54 => ?_
  exact im_aret (pc := 49) dX7_piece_49
noncomputable def rd_piece_129 (rec : Option Nat → PH → Option (Option Nat × PH)) (s0 : Option Nat) (s1 : Int32) (s2 : Option Nat) (s3 : Option Nat) (s4 : Option Nat) (h : PH) : Option (Option Nat × PH) :=
  (cp_init s3 s2 s1 s0 h).bind fun h51 =>
  some ((s4, h51))
theorem rd_piece_129_ok (X : CT) {rec : Option Nat → PH → Option (Option Nat × PH)} {d0 d : Nat} (HR : IM_X7_piece rec d0) (hd0 : 60 ≤ d0) (hd : d0 + 3 ≤ d) (s0 : Option Nat) (s1 : Int32) (s2 : Option Nat) (s3 : Option Nat) (s4 : Option Nat) (h : PH) : Im X (cX7_piece, 4, RX7, "piece", (some (.object "TalkingPlots$Condition")), d) 129 [none, none, none, none] [.inr s0, .inl s1, .inr s2, .inr s3, .inr s4] h (rd_piece_129 rec s0 s1 s2 s3 s4 h) szI (kR X) := by
  unfold rd_piece_129
  refine cl_X7_115 cp_init_im (pc := 129) (by omega) dX7_piece_129 (Nat.le_of_ble_eq_true rfl) fun h51 => ?_
  exact im_aret (pc := 132) dX7_piece_132
noncomputable def rd_piece_98 (rec : Option Nat → PH → Option (Option Nat × PH)) (v0 : Option Nat) (v2 : Option Nat) (v3 : Int32) (h : PH) : Option (Option Nat × PH) :=
  (gfi [6] 2 v0 h).bind fun x51 =>
  (pf [6] 2 v0 (.inl (x51 + 1)) h).bind fun h52 =>
  (nw 12 [.inr none, .inr none, .inl 0] h52).bind fun h53 =>
  (rd_isGood v0 h53).bind fun x54 =>
  (if x54 = 0 then
  rd_piece_129 rec none v3 v2 (some h52.1) (some h52.1) h53
  else
  bd2 (rd_sum 10 v0 h53) fun r56 h55 =>
  rd_piece_129 rec r56 v3 v2 (some h52.1) (some h52.1) h55)
theorem rd_piece_98_ok (X : CT) {rec : Option Nat → PH → Option (Option Nat × PH)} {d0 d : Nat} (HR : IM_X7_piece rec d0) (hd0 : 60 ≤ d0) (hd : d0 + 3 ≤ d) (v0 : Option Nat) (v2 : Option Nat) (v3 : Int32) (h : PH) : Im X (cX7_piece, 4, RX7, "piece", (some (.object "TalkingPlots$Condition")), d) 98 [some (.inr v0), none, some (.inr v2), some (.inl v3)] [] h (rd_piece_98 rec v0 v2 v3 h) szI (kR X) := by
  unfold rd_piece_98
  refine im_aload_n (pc := 98) dX7_piece_98 rfl rfl ?_
  refine im_dup (pc := 99) dX7_piece_99 ?_
  refine im_gi (pc := 100) fl_X7_26 dX7_piece_100 fun x51 => ?_
  refine im_iconst (pc := 103) (v := 1) dX7_piece_103 (by decide) ?_
  refine im_iadd (pc := 104) dX7_piece_104 ?_
  refine im_pf (pc := 105) fp_X7_26 (okT_i _) dX7_piece_105 fun h52 => ?_
  refine im_new (pc := 108) nw_X7_113 dX7_piece_108 fun h53 => ?_
  refine im_dup (pc := 111) dX7_piece_111 ?_
  refine im_aload_n (pc := 112) dX7_piece_112 rfl rfl ?_
  refine im_iload_n (pc := 113) dX7_piece_113 rfl rfl ?_
  refine im_aload_n (pc := 114) dX7_piece_114 rfl rfl ?_
  refine cl_X7_43 rd_isGood_im (pc := 115) (by omega) dX7_piece_115 (Nat.le_of_ble_eq_true rfl) fun x54 => ?_
  refine im_if_eq (pc := 118) (tgt := 128) dX7_piece_118 (by decide) ?_ ?_
  · refine im_null (pc := 128) dX7_piece_128 ?_
    exact Im.drop [false, false, false, false] rfl (rd_piece_129_ok X HR hd0 hd none v3 v2 (some h52.1) (some h52.1) h53)
  · refine im_aload_n (pc := 121) dX7_piece_121 rfl rfl ?_
    refine cl_X7_60 (rd_sum_im 10) (pc := 122) (by omega) dX7_piece_122 (Nat.le_of_ble_eq_true rfl) fun r56 h55 => ?_
    refine im_goto (pc := 125) (tgt := 129) dX7_piece_125 (by decide) ?_
    exact Im.drop [false, false, false, false] rfl (rd_piece_129_ok X HR hd0 hd r56 v3 v2 (some h52.1) (some h52.1) h55)
noncomputable def rd_piece_0 (rec : Option Nat → PH → Option (Option Nat × PH)) (v0 : Option Nat) (h : PH) : Option (Option Nat × PH) :=
  (rd_here v0 h).bind fun x51 =>
  (if x51 = 33 then
  (rd_opens v0 h).bind fun h59 =>
  (rd_isGood v0 h59).bind fun x60 =>
  (if x60 = 0 then
  rd_piece_30 rec v0 none h59
  else
  bd2 (rec v0 h59) fun r62 h61 =>
  rd_piece_30 rec v0 r62 h61)
  else
  (if x51 = 40 then
  bd2 (rd_condition rec v0 h) fun r58 h57 =>
  some ((r58, h57))
  else
  bd2 (rd_sum 10 v0 h) fun r53 h52 =>
  (rd_here v0 h52).bind fun x54 =>
  (if x54 = 60 then
  rd_piece_98 rec v0 r53 x54 h52
  else
  (if x54 = 62 then
  rd_piece_98 rec v0 r53 x54 h52
  else
  (if x54 = 61 then
  rd_piece_98 rec v0 r53 x54 h52
  else
  (gfi [6] 2 v0 h52).bind fun x55 =>
  (rd_bad v0 1 x55 h52).bind fun h56 =>
  rd_piece_98 rec v0 r53 x54 h56)))))
theorem rd_piece_0_ok (X : CT) {rec : Option Nat → PH → Option (Option Nat × PH)} {d0 d : Nat} (HR : IM_X7_piece rec d0) (hd0 : 60 ≤ d0) (hd : d0 + 3 ≤ d) (v0 : Option Nat) (h : PH) : Im X (cX7_piece, 4, RX7, "piece", (some (.object "TalkingPlots$Condition")), d) 0 [some (.inr v0), none, none, none] [] h (rd_piece_0 rec v0 h) szI (kR X) := by
  unfold rd_piece_0
  refine im_aload_n (pc := 0) dX7_piece_0 rfl rfl ?_
  refine cl_X7_39 rd_here_im (pc := 1) (by omega) dX7_piece_1 (Nat.le_of_ble_eq_true rfl) fun x51 => ?_
  refine im_istore_n (pc := 4) (lv' := [some (.inr v0), some (.inl x51), none, none]) dX7_piece_4 rfl (by decide) rfl ?_
  refine im_iload_n (pc := 5) dX7_piece_5 rfl rfl ?_
  refine im_bipush (pc := 6) (v := 33) dX7_piece_6 (by decide) ?_
  refine im_icmp_ne (pc := 8) (tgt := 50) dX7_piece_8 (by decide) ?_ ?_
  · refine im_iload_n (pc := 50) dX7_piece_50 rfl rfl ?_
    refine im_bipush (pc := 51) (v := 40) dX7_piece_51 (by decide) ?_
    refine im_icmp_ne (pc := 53) (tgt := 61) dX7_piece_53 (by decide) ?_ ?_
    · refine im_aload_n (pc := 61) dX7_piece_61 rfl rfl ?_
      refine cl_X7_60 (rd_sum_im 10) (pc := 62) (by omega) dX7_piece_62 (Nat.le_of_ble_eq_true rfl) fun r53 h52 => ?_
      refine im_astore_n (pc := 65) (lv' := [some (.inr v0), some (.inl x51), some (.inr r53), none]) dX7_piece_65 rfl (by decide) rfl ?_
      refine im_aload_n (pc := 66) dX7_piece_66 rfl rfl ?_
      refine cl_X7_39 rd_here_im (pc := 67) (by omega) dX7_piece_67 (Nat.le_of_ble_eq_true rfl) fun x54 => ?_
      refine im_istore_n (pc := 70) (lv' := [some (.inr v0), some (.inl x51), some (.inr r53), some (.inl x54)]) dX7_piece_70 rfl (by decide) rfl ?_
      refine im_iload_n (pc := 71) dX7_piece_71 rfl rfl ?_
      refine im_bipush (pc := 72) (v := 60) dX7_piece_72 (by decide) ?_
      refine im_icmp_eq (pc := 74) (tgt := 98) dX7_piece_74 (by decide) ?_ ?_
      · exact Im.drop [true, false, true, true] rfl (rd_piece_98_ok X HR hd0 hd v0 r53 x54 h52)
      · refine im_iload_n (pc := 77) dX7_piece_77 rfl rfl ?_
        refine im_bipush (pc := 78) (v := 62) dX7_piece_78 (by decide) ?_
        refine im_icmp_eq (pc := 80) (tgt := 98) dX7_piece_80 (by decide) ?_ ?_
        · exact Im.drop [true, false, true, true] rfl (rd_piece_98_ok X HR hd0 hd v0 r53 x54 h52)
        · refine im_iload_n (pc := 83) dX7_piece_83 rfl rfl ?_
          refine im_bipush (pc := 84) (v := 61) dX7_piece_84 (by decide) ?_
          refine im_icmp_eq (pc := 86) (tgt := 98) dX7_piece_86 (by decide) ?_ ?_
          · exact Im.drop [true, false, true, true] rfl (rd_piece_98_ok X HR hd0 hd v0 r53 x54 h52)
          · refine im_aload_n (pc := 89) dX7_piece_89 rfl rfl ?_
            refine im_iconst (pc := 90) (v := 1) dX7_piece_90 (by decide) ?_
            refine im_aload_n (pc := 91) dX7_piece_91 rfl rfl ?_
            refine im_gi (pc := 92) fl_X7_26 dX7_piece_92 fun x55 => ?_
            refine cl_X7_50 rd_bad_im (pc := 95) (by omega) dX7_piece_95 (Nat.le_of_ble_eq_true rfl) fun h56 => ?_
            exact Im.drop [true, false, true, true] rfl (rd_piece_98_ok X HR hd0 hd v0 r53 x54 h56)
    · refine im_aload_n (pc := 56) dX7_piece_56 rfl rfl ?_
      refine cl_X7_110 (rd_condition_im HR hd0) (pc := 57) (by omega) dX7_piece_57 (Nat.le_of_ble_eq_true rfl) fun r58 h57 => ?_
      exact im_aret (pc := 60) dX7_piece_60
  · refine im_aload_n (pc := 11) dX7_piece_11 rfl rfl ?_
    refine cl_X7_57 rd_opens_im (pc := 12) (by omega) dX7_piece_12 (Nat.le_of_ble_eq_true rfl) fun h59 => ?_
    refine im_aload_n (pc := 15) dX7_piece_15 rfl rfl ?_
    refine cl_X7_43 rd_isGood_im (pc := 16) (by omega) dX7_piece_16 (Nat.le_of_ble_eq_true rfl) fun x60 => ?_
    refine im_if_eq (pc := 19) (tgt := 29) dX7_piece_19 (by decide) ?_ ?_
    · refine im_null (pc := 29) dX7_piece_29 ?_
      exact Im.drop [true, false, false, false] rfl (rd_piece_30_ok X HR hd0 hd v0 none h59)
    · refine im_aload_n (pc := 22) dX7_piece_22 rfl rfl ?_
      refine cl_X7_101 HR (pc := 23) (by omega) dX7_piece_23 (Nat.le_of_ble_eq_true rfl) fun r62 h61 => ?_
      refine im_goto (pc := 26) (tgt := 30) dX7_piece_26 (by decide) ?_
      exact Im.drop [true, false, false, false] rfl (rd_piece_30_ok X HR hd0 hd v0 r62 h61)
noncomputable def rd_piece_r (rec : Option Nat → PH → Option (Option Nat × PH)) (a0 : Option Nat) (h : PH) : Option (Option Nat × PH) := grd (isC [6] a0 h) (rd_piece_0 rec a0 h)
theorem rd_piece_r_im {rec : Option Nat → PH → Option (Option Nat × PH)} {d0 : Nat} (HR : IM_X7_piece rec d0) (hd0 : 60 ≤ d0) : IM_X7_piece (rd_piece_r rec) (d0 + 3) := by
  intro a0 h r h' e
  obtain ⟨e1, e2⟩ := grd_some e
  exact ⟨e1, SpR.of (k := 3) (plainFor_of_name (by decide)) rfl (fun X => Im.drop [true, false, false, false] rfl (rd_piece_0_ok X HR hd0 (Nat.le_refl _) a0 h)) e2⟩
noncomputable def rd_piece : Nat → Option Nat → PH → Option (Option Nat × PH)
  | 0 => fun _ _ => none
  | n + 1 => rd_piece_r (rd_piece n)
theorem rd_piece_im : ∀ n : Nat, IM_X7_piece (rd_piece n) (60 + 3 * n)
  | 0 => by
    intro a0 h r h' e
    cases e
  | n + 1 => by
    have := rd_piece_r_im (rd_piece_im n) (by omega)
    rw [show 60 + 3 * (n + 1) = 60 + 3 * n + 3 by omega]
    exact this
theorem fl_X7_18 : ∀ c ∈ [6], FL RX7 18 c 1 := List.forall_mem_cons.mpr ⟨⟨RX7, TX7, 7, rfl, in_X7, by decide, Or.inl q370⟩, fun _ h => absurd h List.not_mem_nil⟩
theorem fl_X7_131 : ∀ c ∈ [4], FL RX7 131 c 3 := List.forall_mem_cons.mpr ⟨⟨RX5, TX5, 4, rfl, in_X5, by decide, Or.inr ⟨_, lw_n q259 rfl⟩⟩, fun _ h => absurd h List.not_mem_nil⟩
theorem fl_X7_134 : ∀ c ∈ [4], FL RX7 134 c 0 := List.forall_mem_cons.mpr ⟨⟨RX5, TX5, 4, rfl, in_X5, by decide, Or.inr ⟨_, lw_n q253 rfl⟩⟩, fun _ h => absurd h List.not_mem_nil⟩
theorem fl_X7_138 : ∀ c ∈ [4], FL RX7 138 c 1 := List.forall_mem_cons.mpr ⟨⟨RX5, TX5, 4, rfl, in_X5, by decide, Or.inr ⟨_, lw_n q255 rfl⟩⟩, fun _ h => absurd h List.not_mem_nil⟩
theorem fl_X7_142 : ∀ c ∈ [4], FL RX7 142 c 2 := List.forall_mem_cons.mpr ⟨⟨RX5, TX5, 4, rfl, in_X5, by decide, Or.inr ⟨_, lw_n q257 rfl⟩⟩, fun _ h => absurd h List.not_mem_nil⟩
theorem fp_X7_131 : ∀ c ∈ [4], FP RX7 131 c 3 .int := List.forall_mem_cons.mpr ⟨⟨RX5, TX5, 4, rfl, in_X5, by decide, apt_X5, rfl, by decide +kernel, Or.inr ⟨_, lw_n q259 rfl⟩⟩, fun _ h => absurd h List.not_mem_nil⟩
def IM_X7_clause (f : Option Nat → PH → Option (PH)) (d : Nat) : Prop := ∀ (a0 : Option Nat) (h : PH) (h' : PH), f a0 h = some h' → isC [6] a0 h = true ∧ SpV yX7_clause cX7_clause 4 none d [.inr a0] h h'
noncomputable def rd_clause_129 (v0 : Option Nat) (v1 : Int32) (v2 : Option Nat) (s0 : Option Nat) (h : PH) : Option (PH) :=
  (gfr [6] 1 v0 h).bind fun r51 =>
  (gfr [4] 0 r51 h).bind fun r52 =>
  (gfr [6] 1 v0 h).bind fun r53 =>
  (gfi [4] 3 r53 h).bind fun x54 =>
  (ast 0 r52 x54 v1 h).bind fun h55 =>
  (gfr [6] 1 v0 h55).bind fun r56 =>
  (gfr [4] 1 r56 h55).bind fun r57 =>
  (gfr [6] 1 v0 h55).bind fun r58 =>
  (gfi [4] 3 r58 h55).bind fun x59 =>
  (astr 3 r57 x59 v2 h55).bind fun h60 =>
  (gfr [6] 1 v0 h60).bind fun r61 =>
  (gfr [4] 2 r61 h60).bind fun r62 =>
  (gfr [6] 1 v0 h60).bind fun r63 =>
  (gfi [4] 3 r63 h60).bind fun x64 =>
  (astr 4 r62 x64 s0 h60).bind fun h65 =>
  (gfr [6] 1 v0 h65).bind fun r66 =>
  (gfi [4] 3 r66 h65).bind fun x67 =>
  (pf [4] 3 r66 (.inl (x67 + 1)) h65).bind fun h68 =>
  some (h68)
theorem rd_clause_129_ok (X : CT) (v0 : Option Nat) (v1 : Int32) (v2 : Option Nat) (s0 : Option Nat) (h : PH) : Im X (cX7_clause, 4, RX7, "clause", none, 93) 129 [some (.inr v0), some (.inl v1), some (.inr v2), none] [.inr s0] h (rd_clause_129 v0 v1 v2 s0 h) szV (kV X) := by
  unfold rd_clause_129
  refine im_astore_n (pc := 129) (lv' := [some (.inr v0), some (.inl v1), some (.inr v2), some (.inr s0)]) dX7_clause_129 rfl (by decide) rfl ?_
  refine im_aload_n (pc := 130) dX7_clause_130 rfl rfl ?_
  refine im_gr (pc := 131) fl_X7_18 dX7_clause_131 fun r51 => ?_
  refine im_gr (pc := 134) fl_X7_134 dX7_clause_134 fun r52 => ?_
  refine im_aload_n (pc := 137) dX7_clause_137 rfl rfl ?_
  refine im_gr (pc := 138) fl_X7_18 dX7_clause_138 fun r53 => ?_
  refine im_gi (pc := 141) fl_X7_131 dX7_clause_141 fun x54 => ?_
  refine im_iload_n (pc := 144) dX7_clause_144 rfl rfl ?_
  refine im_iast (pc := 145) dX7_clause_145 fun h55 => ?_
  refine im_aload_n (pc := 146) dX7_clause_146 rfl rfl ?_
  refine im_gr (pc := 147) fl_X7_18 dX7_clause_147 fun r56 => ?_
  refine im_gr (pc := 150) fl_X7_138 dX7_clause_150 fun r57 => ?_
  refine im_aload_n (pc := 153) dX7_clause_153 rfl rfl ?_
  refine im_gr (pc := 154) fl_X7_18 dX7_clause_154 fun r58 => ?_
  refine im_gi (pc := 157) fl_X7_131 dX7_clause_157 fun x59 => ?_
  refine im_aload_n (pc := 160) dX7_clause_160 rfl rfl ?_
  refine im_aast (pc := 161) (t := 3) (by decide) (by decide) dX7_clause_161 fun h60 => ?_
  refine im_aload_n (pc := 162) dX7_clause_162 rfl rfl ?_
  refine im_gr (pc := 163) fl_X7_18 dX7_clause_163 fun r61 => ?_
  refine im_gr (pc := 166) fl_X7_142 dX7_clause_166 fun r62 => ?_
  refine im_aload_n (pc := 169) dX7_clause_169 rfl rfl ?_
  refine im_gr (pc := 170) fl_X7_18 dX7_clause_170 fun r63 => ?_
  refine im_gi (pc := 173) fl_X7_131 dX7_clause_173 fun x64 => ?_
  refine im_aload_n (pc := 176) dX7_clause_176 rfl rfl ?_
  refine im_aast (pc := 177) (t := 4) (by decide) (by decide) dX7_clause_177 fun h65 => ?_
  refine im_aload_n (pc := 178) dX7_clause_178 rfl rfl ?_
  refine im_gr (pc := 179) fl_X7_18 dX7_clause_179 fun r66 => ?_
  refine im_dup (pc := 182) dX7_clause_182 ?_
  refine im_gi (pc := 183) fl_X7_131 dX7_clause_183 fun x67 => ?_
  refine im_iconst (pc := 186) (v := 1) dX7_clause_186 (by decide) ?_
  refine im_iadd (pc := 187) dX7_clause_187 ?_
  refine im_pf (pc := 188) fp_X7_131 (okT_i _) dX7_clause_188 fun h68 => ?_
  exact im_vret (pc := 191) dX7_clause_191
noncomputable def rd_clause_114 (v0 : Option Nat) (v1 : Int32) (v2 : Option Nat) (h : PH) : Option (PH) :=
  (rd_isGood v0 h).bind fun x51 =>
  (if x51 = 0 then
  rd_clause_129 v0 v1 v2 none h
  else
  bd2 (rd_condition (rd_piece 10) v0 h) fun r53 h52 =>
  rd_clause_129 v0 v1 v2 r53 h52)
theorem rd_clause_114_ok (X : CT) (v0 : Option Nat) (v1 : Int32) (v2 : Option Nat) (h : PH) : Im X (cX7_clause, 4, RX7, "clause", none, 93) 114 [some (.inr v0), some (.inl v1), some (.inr v2), none] [] h (rd_clause_114 v0 v1 v2 h) szV (kV X) := by
  unfold rd_clause_114
  refine im_aload_n (pc := 114) dX7_clause_114 rfl rfl ?_
  refine cl_X7_43 rd_isGood_im (pc := 115) (by decide) dX7_clause_115 (Nat.le_of_ble_eq_true rfl) fun x51 => ?_
  refine im_if_eq (pc := 118) (tgt := 128) dX7_clause_118 (by decide) ?_ ?_
  · refine im_null (pc := 128) dX7_clause_128 ?_
    exact Im.drop [true, true, true, false] rfl (rd_clause_129_ok X v0 v1 v2 none h)
  · refine im_aload_n (pc := 121) dX7_clause_121 rfl rfl ?_
    refine cl_X7_110 (rd_condition_im (rd_piece_im 10) (by decide)) (pc := 122) (by decide) dX7_clause_122 (Nat.le_of_ble_eq_true rfl) fun r53 h52 => ?_
    refine im_goto (pc := 125) (tgt := 129) dX7_clause_125 (by decide) ?_
    exact Im.drop [true, true, true, false] rfl (rd_clause_129_ok X v0 v1 v2 r53 h52)
noncomputable def rd_clause_88 (v0 : Option Nat) (v1 : Int32) (s0 : Option Nat) (h : PH) : Option (PH) :=
  (rd_isGood v0 h).bind fun x51 =>
  (if x51 = 0 then
  rd_clause_114 v0 v1 s0 h
  else
  (rd_here v0 h).bind fun x52 =>
  (if x52 = 40 then
  rd_clause_114 v0 v1 s0 h
  else
  (gfi [6] 2 v0 h).bind fun x53 =>
  (rd_bad v0 1 x53 h).bind fun h54 =>
  rd_clause_114 v0 v1 s0 h54))
theorem rd_clause_88_ok (X : CT) (v0 : Option Nat) (v1 : Int32) (s0 : Option Nat) (h : PH) : Im X (cX7_clause, 4, RX7, "clause", none, 93) 88 [some (.inr v0), some (.inl v1), none, none] [.inr s0] h (rd_clause_88 v0 v1 s0 h) szV (kV X) := by
  unfold rd_clause_88
  refine im_astore_n (pc := 88) (lv' := [some (.inr v0), some (.inl v1), some (.inr s0), none]) dX7_clause_88 rfl (by decide) rfl ?_
  refine im_aload_n (pc := 89) dX7_clause_89 rfl rfl ?_
  refine cl_X7_43 rd_isGood_im (pc := 90) (by decide) dX7_clause_90 (Nat.le_of_ble_eq_true rfl) fun x51 => ?_
  refine im_if_eq (pc := 93) (tgt := 114) dX7_clause_93 (by decide) ?_ ?_
  · exact Im.drop [true, true, true, false] rfl (rd_clause_114_ok X v0 v1 s0 h)
  · refine im_aload_n (pc := 96) dX7_clause_96 rfl rfl ?_
    refine cl_X7_39 rd_here_im (pc := 97) (by decide) dX7_clause_97 (Nat.le_of_ble_eq_true rfl) fun x52 => ?_
    refine im_bipush (pc := 100) (v := 40) dX7_clause_100 (by decide) ?_
    refine im_icmp_eq (pc := 102) (tgt := 114) dX7_clause_102 (by decide) ?_ ?_
    · exact Im.drop [true, true, true, false] rfl (rd_clause_114_ok X v0 v1 s0 h)
    · refine im_aload_n (pc := 105) dX7_clause_105 rfl rfl ?_
      refine im_iconst (pc := 106) (v := 1) dX7_clause_106 (by decide) ?_
      refine im_aload_n (pc := 107) dX7_clause_107 rfl rfl ?_
      refine im_gi (pc := 108) fl_X7_26 dX7_clause_108 fun x53 => ?_
      refine cl_X7_50 rd_bad_im (pc := 111) (by decide) dX7_clause_111 (Nat.le_of_ble_eq_true rfl) fun h54 => ?_
      exact Im.drop [true, true, true, false] rfl (rd_clause_114_ok X v0 v1 s0 h54)
noncomputable def rd_clause_51 (v0 : Option Nat) (v1 : Int32) (h : PH) : Option (PH) :=
  (rd_isGood v0 h).bind fun x51 =>
  (if x51 = 0 then
  some (h)
  else
  (gfi [6] 2 v0 h).bind fun x52 =>
  (pf [6] 2 v0 (.inl (x52 + 1)) h).bind fun h53 =>
  (pf [6] 3 v0 (.inl 0) h53).bind fun h54 =>
  (if v1 = 113 then
  rd_clause_88 v0 v1 none h54
  else
  bd2 (rd_sum 10 v0 h54) fun r56 h55 =>
  rd_clause_88 v0 v1 r56 h55))
theorem rd_clause_51_ok (X : CT) (v0 : Option Nat) (v1 : Int32) (h : PH) : Im X (cX7_clause, 4, RX7, "clause", none, 93) 51 [some (.inr v0), some (.inl v1), none, none] [] h (rd_clause_51 v0 v1 h) szV (kV X) := by
  unfold rd_clause_51
  refine im_aload_n (pc := 51) dX7_clause_51 rfl rfl ?_
  refine cl_X7_43 rd_isGood_im (pc := 52) (by decide) dX7_clause_52 (Nat.le_of_ble_eq_true rfl) fun x51 => ?_
  refine im_if_ne (pc := 55) (tgt := 59) dX7_clause_55 (by decide) ?_ ?_
  · refine im_aload_n (pc := 59) dX7_clause_59 rfl rfl ?_
    refine im_dup (pc := 60) dX7_clause_60 ?_
    refine im_gi (pc := 61) fl_X7_26 dX7_clause_61 fun x52 => ?_
    refine im_iconst (pc := 64) (v := 1) dX7_clause_64 (by decide) ?_
    refine im_iadd (pc := 65) dX7_clause_65 ?_
    refine im_pf (pc := 66) fp_X7_26 (okT_i _) dX7_clause_66 fun h53 => ?_
    refine im_aload_n (pc := 69) dX7_clause_69 rfl rfl ?_
    refine im_iconst (pc := 70) (v := 0) dX7_clause_70 (by decide) ?_
    refine im_pf (pc := 71) fp_X7_54 (okT_i _) dX7_clause_71 fun h54 => ?_
    refine im_iload_n (pc := 74) dX7_clause_74 rfl rfl ?_
    refine im_bipush (pc := 75) (v := 113) dX7_clause_75 (by decide) ?_
    refine im_icmp_ne (pc := 77) (tgt := 84) dX7_clause_77 (by decide) ?_ ?_
    · refine im_aload_n (pc := 84) dX7_clause_84 rfl rfl ?_
      refine cl_X7_60 (rd_sum_im 10) (pc := 85) (by decide) dX7_clause_85 (Nat.le_of_ble_eq_true rfl) fun r56 h55 => ?_
      exact Im.drop [true, true, false, false] rfl (rd_clause_88_ok X v0 v1 r56 h55)
    · refine im_null (pc := 80) dX7_clause_80 ?_
      refine im_goto (pc := 81) (tgt := 88) dX7_clause_81 (by decide) ?_
      exact Im.drop [true, true, false, false] rfl (rd_clause_88_ok X v0 v1 none h54)
  · exact im_vret (pc := 58) dX7_clause_58
noncomputable def rd_clause_18 (v0 : Option Nat) (v1 : Int32) (h : PH) : Option (PH) :=
  (gfi [6] 2 v0 h).bind fun x51 =>
  (rd_bad v0 1 x51 h).bind fun h52 =>
  rd_clause_51 v0 v1 h52
theorem rd_clause_18_ok (X : CT) (v0 : Option Nat) (v1 : Int32) (h : PH) : Im X (cX7_clause, 4, RX7, "clause", none, 93) 18 [some (.inr v0), some (.inl v1), none, none] [] h (rd_clause_18 v0 v1 h) szV (kV X) := by
  unfold rd_clause_18
  refine im_aload_n (pc := 18) dX7_clause_18 rfl rfl ?_
  refine im_iconst (pc := 19) (v := 1) dX7_clause_19 (by decide) ?_
  refine im_aload_n (pc := 20) dX7_clause_20 rfl rfl ?_
  refine im_gi (pc := 21) fl_X7_26 dX7_clause_21 fun x51 => ?_
  refine cl_X7_50 rd_bad_im (pc := 24) (by decide) dX7_clause_24 (Nat.le_of_ble_eq_true rfl) fun h52 => ?_
  refine im_goto (pc := 27) (tgt := 51) dX7_clause_27 (by decide) ?_
  exact Im.drop [true, true, false, false] rfl (rd_clause_51_ok X v0 v1 h52)
noncomputable def rd_clause_0 (v0 : Option Nat) (h : PH) : Option (PH) :=
  (rd_here v0 h).bind fun x51 =>
  (if x51 = 0 then
  rd_clause_18 v0 x51 h
  else
  (jS_indexOf (some 5) x51 h).bind fun x52 =>
  (if 0 ≤ x52 then
  (gfr [6] 1 v0 h).bind fun r53 =>
  (gfi [4] 3 r53 h).bind fun x54 =>
  (if x54 = 16 then
  (gfi [6] 2 v0 h).bind fun x55 =>
  (rd_bad v0 4 x55 h).bind fun h56 =>
  rd_clause_51 v0 x51 h56
  else
  rd_clause_51 v0 x51 h)
  else
  rd_clause_18 v0 x51 h))
theorem rd_clause_0_ok (X : CT) (v0 : Option Nat) (h : PH) : Im X (cX7_clause, 4, RX7, "clause", none, 93) 0 [some (.inr v0), none, none, none] [] h (rd_clause_0 v0 h) szV (kV X) := by
  unfold rd_clause_0
  refine im_aload_n (pc := 0) dX7_clause_0 rfl rfl ?_
  refine cl_X7_39 rd_here_im (pc := 1) (by decide) dX7_clause_1 (Nat.le_of_ble_eq_true rfl) fun x51 => ?_
  refine im_istore_n (pc := 4) (lv' := [some (.inr v0), some (.inl x51), none, none]) dX7_clause_4 rfl (by decide) rfl ?_
  refine im_iload_n (pc := 5) dX7_clause_5 rfl rfl ?_
  refine im_if_eq (pc := 6) (tgt := 18) dX7_clause_6 (by decide) ?_ ?_
  · exact Im.drop [true, true, false, false] rfl (rd_clause_18_ok X v0 x51 h)
  · refine im_ldcEhg (pc := 9) dX7_clause_9 ?_
    refine im_iload_n (pc := 11) dX7_clause_11 rfl rfl ?_
    refine cl_X7_77 jS_indexOf_im (pc := 12) (by decide) dX7_clause_12 (Nat.le_of_ble_eq_true rfl) fun x52 => ?_
    refine im_if_ge (pc := 15) (tgt := 30) dX7_clause_15 (by decide) ?_ ?_
    · refine im_aload_n (pc := 30) dX7_clause_30 rfl rfl ?_
      refine im_gr (pc := 31) fl_X7_18 dX7_clause_31 fun r53 => ?_
      refine im_gi (pc := 34) fl_X7_131 dX7_clause_34 fun x54 => ?_
      refine im_bipush (pc := 37) (v := 16) dX7_clause_37 (by decide) ?_
      refine im_icmp_ne (pc := 39) (tgt := 51) dX7_clause_39 (by decide) ?_ ?_
      · exact Im.drop [true, true, false, false] rfl (rd_clause_51_ok X v0 x51 h)
      · refine im_aload_n (pc := 42) dX7_clause_42 rfl rfl ?_
        refine im_iconst (pc := 43) (v := 4) dX7_clause_43 (by decide) ?_
        refine im_aload_n (pc := 44) dX7_clause_44 rfl rfl ?_
        refine im_gi (pc := 45) fl_X7_26 dX7_clause_45 fun x55 => ?_
        refine cl_X7_50 rd_bad_im (pc := 48) (by decide) dX7_clause_48 (Nat.le_of_ble_eq_true rfl) fun h56 => ?_
        exact Im.drop [true, true, false, false] rfl (rd_clause_51_ok X v0 x51 h56)
    · exact Im.drop [true, true, false, false] rfl (rd_clause_18_ok X v0 x51 h)
noncomputable def rd_clause (a0 : Option Nat) (h : PH) : Option (PH) := grd (isC [6] a0 h) (rd_clause_0 a0 h)
theorem rd_clause_im : IM_X7_clause rd_clause 93 := by
  intro a0 h h' e
  obtain ⟨e1, e2⟩ := grd_some e
  exact ⟨e1, SpV.of (k := 3) (plainFor_of_name (by decide)) rfl (fun X => Im.drop [true, false, false, false] rfl (rd_clause_0_ok X a0 h)) e2⟩
theorem cl_X7_146 {X : CT} {cc : ByteArray} {nL : Nat} {mn : String} {ret : Option FieldType} {d d0 : Nat} {τ : Type} {pc : Nat} {lv : List (Option PV)} {st : List PV} {h : PH} {sz : τ → Nat × Nat} {K : τ → Prop} {f : Option Nat → PH → Option (PH)} (HR : IM_X7_clause f d0) {a0 : Option Nat} {g : PH → Option τ} (hd : d0 + 1 ≤ d) (hdg : decode cc pc = .ok (.invokevirtual 146, 3)) (hst : st.length ≤ 8) (kk : ∀ h', Im X (cc, nL, RX7, mn, ret, d) (pc + 3) lv st h' (g h') sz K) : Im X (cc, nL, RX7, mn, ret, d) pc lv (.inr a0 :: st) h ((f a0 h).bind g) sz K := by
  refine im_cV (y := yX7_clause) (cY := cX7_clause) (nY := 4) (rY := none) (d' := d0) (av := [.inr a0]) (fun h' e hX => ?_) (fun h' e => (HR _ _ _ e).2) hd (by decide) hst rfl kk
  obtain ⟨a, c, fs, rfl, ec, hm⟩ := isC_some (HR _ _ _ e).1
  cases List.mem_singleton.mp hm
  exact cal_V (n := 0) hX (lw_V q400 q402 qs2 q113 q403) (by decide +kernel) rfl rfl ec hdg

theorem fl_X7_36 : ∀ c ∈ [6], FL RX7 36 c 5 := List.forall_mem_cons.mpr ⟨⟨RX7, TX7, 7, rfl, in_X7, by decide, Or.inl q375⟩, fun _ h => absurd h List.not_mem_nil⟩
def IM_X7_read (f : Option Nat → PH → Option (Int32 × PH)) (d : Nat) : Prop := ∀ (a0 : Option Nat) (h : PH) (r : Int32) (h' : PH), f a0 h = some (r, h') → isC [6] a0 h = true ∧ SpI yX7_read cX7_read 2 (some .int) d [.inr a0] h r h'
noncomputable def rd_read_40 (v0 : Option Nat) (s0 : Int32) (h : PH) : Option ((Int32 × PH) ⊕ (Int32 × PH)) :=
  (if s0 = 0 then
  some (.inl (s0, h))
  else
  (rd_must v0 59 h).bind fun h51 =>
  some (.inl (s0, h51)))
theorem rd_read_40_ok (X : CT) (v0 : Option Nat) (s0 : Int32) (h : PH) : Im X (cX7_read, 2, RX7, "read", (some .int), 94) 40 [some (.inr v0), none] [.inl s0] h (rd_read_40 v0 s0 h) (ez (fun s : Int32 × PH => s.2) szI) (ek X 2 (fun s : Int32 × PH => [some (.inr v0), some (.inl s.1)]) (fun s : Int32 × PH => s.2) (kI X)) := by
  unfold rd_read_40
  refine im_istore_n (pc := 40) (lv' := [some (.inr v0), some (.inl s0)]) dX7_read_40 rfl (by decide) rfl ?_
  refine im_iload_n (pc := 41) dX7_read_41 rfl rfl ?_
  refine im_if_eq (pc := 42) (tgt := 2) dX7_read_42 (by decide) ?_ ?_
  · exact Im.back [true, true] rfl rfl
  · refine im_aload_n (pc := 45) dX7_read_45 rfl rfl ?_
    refine im_bipush (pc := 46) (v := 59) dX7_read_46 (by decide) ?_
    refine cl_X7_64 rd_must_im (pc := 48) (by decide) dX7_read_48 (Nat.le_of_ble_eq_true rfl) fun h51 => ?_
    refine im_goto (pc := 51) (tgt := 2) dX7_read_51 (by decide) ?_
    exact Im.back [true, true] rfl rfl
noncomputable def rd_read_54 (v0 : Option Nat) (h : PH) : Option (Int32 × PH) :=
  (rd_isGood v0 h).bind fun x51 =>
  (if x51 = 0 then
  (gfi [6] 4 v0 h).bind fun x52 =>
  (gfi [6] 5 v0 h).bind fun x53 =>
  some (((((-1000) * x52) - x53), h))
  else
  (gfr [6] 1 v0 h).bind fun r54 =>
  (gfi [4] 3 r54 h).bind fun x55 =>
  some ((x55, h)))
theorem rd_read_54_ok (X : CT) (v0 : Option Nat) (h : PH) : Im X (cX7_read, 2, RX7, "read", (some .int), 94) 54 [some (.inr v0), none] [] h (rd_read_54 v0 h) szI (kI X) := by
  unfold rd_read_54
  refine im_aload_n (pc := 54) dX7_read_54 rfl rfl ?_
  refine cl_X7_43 rd_isGood_im (pc := 55) (by decide) dX7_read_55 (Nat.le_of_ble_eq_true rfl) fun x51 => ?_
  refine im_if_eq (pc := 58) (tgt := 71) dX7_read_58 (by decide) ?_ ?_
  · refine im_sipush (pc := 71) (v := (-1000)) dX7_read_71 (by decide) ?_
    refine im_aload_n (pc := 74) dX7_read_74 rfl rfl ?_
    refine im_gi (pc := 75) fl_X7_33 dX7_read_75 fun x52 => ?_
    refine im_imul (pc := 78) dX7_read_78 ?_
    refine im_aload_n (pc := 79) dX7_read_79 rfl rfl ?_
    refine im_gi (pc := 80) fl_X7_36 dX7_read_80 fun x53 => ?_
    refine im_isub (pc := 83) dX7_read_83 ?_
    exact im_iret (pc := 84) dX7_read_84
  · refine im_aload_n (pc := 61) dX7_read_61 rfl rfl ?_
    refine im_gr (pc := 62) fl_X7_18 dX7_read_62 fun r54 => ?_
    refine im_gi (pc := 65) fl_X7_131 dX7_read_65 fun x55 => ?_
    refine im_goto (pc := 68) (tgt := 84) dX7_read_68 (by decide) ?_
    exact im_iret (pc := 84) dX7_read_84
noncomputable def rd_read_b2 (v0 : Option Nat) (v1 : Int32) (h : PH) : Option ((Int32 × PH) ⊕ (Int32 × PH)) :=
  (if v1 = 0 then
  (rd_read_54 v0 h).map .inr
  else
  (rd_isGood v0 h).bind fun x51 =>
  (if x51 = 0 then
  (rd_read_54 v0 h).map .inr
  else
  (rd_clause v0 h).bind fun h52 =>
  (rd_isGood v0 h52).bind fun x53 =>
  (if x53 = 0 then
  rd_read_40 v0 0 h52
  else
  (gfi [6] 2 v0 h52).bind fun x54 =>
  (gfi [6] 0 v0 h52).bind fun x55 =>
  (if x55 ≤ x54 then
  rd_read_40 v0 0 h52
  else
  rd_read_40 v0 1 h52))))
noncomputable def rd_read_L2 (v0 : Option Nat) (v1 : Int32) (h : PH) : Option (Int32 × PH) :=
  iter (fun s : Int32 × PH => rd_read_b2 v0 s.1 s.2) (v1, h)
theorem rd_read_b2_ok (X : CT) (v0 : Option Nat) (v1 : Int32) (h : PH) : Im X (cX7_read, 2, RX7, "read", (some .int), 94) 2 [some (.inr v0), some (.inl v1)] [] h (rd_read_b2 v0 v1 h) (ez (fun s : Int32 × PH => s.2) szI) (ek X 2 (fun s : Int32 × PH => [some (.inr v0), some (.inl s.1)]) (fun s : Int32 × PH => s.2) (kI X)) := by
  unfold rd_read_b2
  refine im_iload_n (pc := 2) dX7_read_2 rfl rfl ?_
  refine im_if_eq (pc := 3) (tgt := 54) dX7_read_3 (by decide) ?_ ?_
  · exact Im.out (Im.drop [true, false] rfl (rd_read_54_ok X v0 h))
  · refine im_aload_n (pc := 6) dX7_read_6 rfl rfl ?_
    refine cl_X7_43 rd_isGood_im (pc := 7) (by decide) dX7_read_7 (Nat.le_of_ble_eq_true rfl) fun x51 => ?_
    refine im_if_eq (pc := 10) (tgt := 54) dX7_read_10 (by decide) ?_ ?_
    · exact Im.out (Im.drop [true, false] rfl (rd_read_54_ok X v0 h))
    · refine im_aload_n (pc := 13) dX7_read_13 rfl rfl ?_
      refine cl_X7_146 rd_clause_im (pc := 14) (by decide) dX7_read_14 (Nat.le_of_ble_eq_true rfl) fun h52 => ?_
      refine im_aload_n (pc := 17) dX7_read_17 rfl rfl ?_
      refine cl_X7_43 rd_isGood_im (pc := 18) (by decide) dX7_read_18 (Nat.le_of_ble_eq_true rfl) fun x53 => ?_
      refine im_if_eq (pc := 21) (tgt := 39) dX7_read_21 (by decide) ?_ ?_
      · refine im_iconst (pc := 39) (v := 0) dX7_read_39 (by decide) ?_
        exact Im.drop [true, false] rfl (rd_read_40_ok X v0 0 h52)
      · refine im_aload_n (pc := 24) dX7_read_24 rfl rfl ?_
        refine im_gi (pc := 25) fl_X7_26 dX7_read_25 fun x54 => ?_
        refine im_aload_n (pc := 28) dX7_read_28 rfl rfl ?_
        refine im_gi (pc := 29) fl_X7_22 dX7_read_29 fun x55 => ?_
        refine im_icmp_ge (pc := 32) (tgt := 39) dX7_read_32 (by decide) ?_ ?_
        · refine im_iconst (pc := 39) (v := 0) dX7_read_39 (by decide) ?_
          exact Im.drop [true, false] rfl (rd_read_40_ok X v0 0 h52)
        · refine im_iconst (pc := 35) (v := 1) dX7_read_35 (by decide) ?_
          refine im_goto (pc := 36) (tgt := 40) dX7_read_36 (by decide) ?_
          exact Im.drop [true, false] rfl (rd_read_40_ok X v0 1 h52)
theorem rd_read_L2_ok (X : CT) (v0 : Option Nat) (v1 : Int32) (h : PH) : Im X (cX7_read, 2, RX7, "read", (some .int), 94) 2 [some (.inr v0), some (.inl v1)] [] h (rd_read_L2 v0 v1 h) szI (kI X) := by
  unfold rd_read_L2
  exact Im.iter (lv := (fun s : Int32 × PH => [some (.inr v0), some (.inl s.1)])) (hp := (fun s : Int32 × PH => s.2)) (fun s => rd_read_b2_ok X v0 s.1 s.2) _ rfl rfl
noncomputable def rd_read_0 (v0 : Option Nat) (h : PH) : Option (Int32 × PH) :=
  rd_read_L2 v0 1 h
theorem rd_read_0_ok (X : CT) (v0 : Option Nat) (h : PH) : Im X (cX7_read, 2, RX7, "read", (some .int), 94) 0 [some (.inr v0), none] [] h (rd_read_0 v0 h) szI (kI X) := by
  unfold rd_read_0
  refine im_iconst (pc := 0) (v := 1) dX7_read_0 (by decide) ?_
  refine im_istore_n (pc := 1) (lv' := [some (.inr v0), some (.inl 1)]) dX7_read_1 rfl (by decide) rfl ?_
  exact Im.drop [true, true] rfl (rd_read_L2_ok X v0 1 h)
noncomputable def rd_read (a0 : Option Nat) (h : PH) : Option (Int32 × PH) := grd (isC [6] a0 h) (rd_read_0 a0 h)
theorem rd_read_im : IM_X7_read rd_read 94 := by
  intro a0 h r h' e
  obtain ⟨e1, e2⟩ := grd_some e
  exact ⟨e1, SpI.of (k := 1) (plainFor_of_name (by decide)) rfl (fun X => Im.drop [true, false] rfl (rd_read_0_ok X a0 h)) e2⟩
theorem nw_X0_140 : NW RX0 140 6 [.inl 0, .inr none, .inl 0, .inl 0, .inl 0, .inl 0, .inr none] := ⟨RX7, TX7, tyX7, rfl, in_X7, tyX7_ok, q361, q362, q113, fun G j hj => by
  have hj : j < 7 := hj
  match j, hj with
  | 0, _ => rfl
  | 1, _ => rfl
  | 2, _ => rfl
  | 3, _ => rfl
  | 4, _ => rfl
  | 5, _ => rfl
  | 6, _ => rfl⟩
theorem cl_X0_142 {X : CT} {cc : ByteArray} {nL : Nat} {mn : String} {ret : Option FieldType} {d d0 : Nat} {τ : Type} {pc : Nat} {lv : List (Option PV)} {st : List PV} {h : PH} {sz : τ → Nat × Nat} {K : τ → Prop} {f : Option Nat → Option Nat → Int32 → PH → Option (PH)} (HR : IM_X7_init f d0) {a0 : Option Nat} {a1 : Option Nat} {a2 : Int32} {g : PH → Option τ} (hd : d0 + 1 ≤ d) (hdg : decode cc pc = .ok (.invokespecial 142, 3)) (hst : st.length ≤ 8) (kk : ∀ h', Im X (cc, nL, RX0, mn, ret, d) (pc + 3) lv st h' (g h') sz K) : Im X (cc, nL, RX0, mn, ret, d) pc lv (.inl a2 :: .inr a1 :: .inr a0 :: st) h ((f a0 a1 a2 h).bind g) sz K := by
  refine im_cV (y := yX7_init) (cY := cX7_init) (nY := 3) (rY := none) (d' := d0) (av := [.inr a0, .inr a1, .inl a2]) (fun h' e hX => ?_) (fun h' e => (HR _ _ _ _ _ e).2) hd (by decide) hst rfl kk
  obtain ⟨a, c, fs, rfl, ec, hm⟩ := isC_some (HR _ _ _ _ _ e).1
  exact cal_I (n := 2) hX q363 q364 q113 q365 rfl (by decide +kernel) rfl hdg

theorem cl_X0_145 {X : CT} {cc : ByteArray} {nL : Nat} {mn : String} {ret : Option FieldType} {d d0 : Nat} {τ : Type} {pc : Nat} {lv : List (Option PV)} {st : List PV} {h : PH} {sz : τ → Nat × Nat} {K : τ → Prop} {f : Option Nat → PH → Option (Int32 × PH)} (HR : IM_X7_read f d0) {a0 : Option Nat} {g : Int32 → PH → Option τ} (hd : d0 + 1 ≤ d) (hdg : decode cc pc = .ok (.invokevirtual 145, 3)) (hst : st.length ≤ 8) (kk : ∀ r h', Im X (cc, nL, RX0, mn, ret, d) (pc + 3) lv (.inl r :: st) h' (g r h') sz K) : Im X (cc, nL, RX0, mn, ret, d) pc lv (.inr a0 :: st) h (bd2 (f a0 h) g) sz K := by
  refine im_cI (y := yX7_read) (cY := cX7_read) (nY := 2) (rY := (some .int)) (d' := d0) (av := [.inr a0]) (fun r h' e hX => ?_) (fun r h' e => (HR _ _ _ _ e).2) hd (by decide) hst rfl kk
  obtain ⟨a, c, fs, rfl, ec, hm⟩ := isC_some (HR _ _ _ _ e).1
  cases List.mem_singleton.mp hm
  exact cal_V (n := 0) hX (lw_V q392 q393 q394 q113 q395) (by decide +kernel) rfl rfl ec hdg

theorem fl_X0_149 : ∀ c ∈ [6], FL RX0 149 c 1 := List.forall_mem_cons.mpr ⟨⟨RX7, TX7, 7, rfl, in_X7, by decide, Or.inr ⟨_, lw_n q371 rfl⟩⟩, fun _ h => absurd h List.not_mem_nil⟩
def IM_X0_law (f : Option Nat → Int32 → PH → Option (Int32 × PH)) (d : Nat) : Prop := ∀ (a0 : Option Nat) (a1 : Int32) (h : PH) (r : Int32) (h' : PH), f a0 a1 h = some (r, h') → isC [0] a0 h = true ∧ SpI yX0_law cX0_law 4 (some .int) d [.inr a0, .inl a1] h r h'
noncomputable def tp_law_0 (v0 : Option Nat) (v1 : Int32) (h : PH) : Option (Int32 × PH) :=
  (tp_within v1 1 240 h).bind fun x51 =>
  (if x51 = 0 then
  some (((-1), h))
  else
  (gfi [0] 6 v0 h).bind fun x52 =>
  (if v1 ≤ x52 then
  (pf [0] 6 v0 (.inl 0) h).bind fun h53 =>
  (nw 6 [.inl 0, .inr none, .inl 0, .inl 0, .inl 0, .inl 0, .inr none] h53).bind fun h54 =>
  (rd_init (some h53.1) v0 v1 h54).bind fun h55 =>
  bd2 (rd_read (some h53.1) h55) fun x57 h56 =>
  (if x57 < 0 then
  some ((x57, h56))
  else
  (gfr [6] 1 (some h53.1) h56).bind fun r58 =>
  (pf [0] 5 v0 (.inr r58) h56).bind fun h59 =>
  some ((x57, h59)))
  else
  some (((-1), h))))
theorem tp_law_0_ok (X : CT) (v0 : Option Nat) (v1 : Int32) (h : PH) : Im X (cX0_law, 4, RX0, "law", (some .int), 95) 0 [some (.inr v0), some (.inl v1), none, none] [] h (tp_law_0 v0 v1 h) szI (kI X) := by
  unfold tp_law_0
  refine im_iload_n (pc := 0) dX0_law_0 rfl rfl ?_
  refine im_iconst (pc := 1) (v := 1) dX0_law_1 (by decide) ?_
  refine im_sipush (pc := 2) (v := 240) dX0_law_2 (by decide) ?_
  refine cl_X0_120 tp_within_im (pc := 5) (by decide) dX0_law_5 (Nat.le_of_ble_eq_true rfl) fun x51 => ?_
  refine im_if_eq (pc := 8) (tgt := 19) dX0_law_8 (by decide) ?_ ?_
  · refine im_iconst (pc := 19) (v := (-1)) dX0_law_19 (by decide) ?_
    exact im_iret (pc := 20) dX0_law_20
  · refine im_iload_n (pc := 11) dX0_law_11 rfl rfl ?_
    refine im_aload_n (pc := 12) dX0_law_12 rfl rfl ?_
    refine im_gi (pc := 13) fl_X0_133 dX0_law_13 fun x52 => ?_
    refine im_icmp_le (pc := 16) (tgt := 21) dX0_law_16 (by decide) ?_ ?_
    · refine im_aload_n (pc := 21) dX0_law_21 rfl rfl ?_
      refine im_iconst (pc := 22) (v := 0) dX0_law_22 (by decide) ?_
      refine im_pf (pc := 23) fp_X0_133 (okT_i _) dX0_law_23 fun h53 => ?_
      refine im_new (pc := 26) nw_X0_140 dX0_law_26 fun h54 => ?_
      refine im_dup (pc := 29) dX0_law_29 ?_
      refine im_aload_n (pc := 30) dX0_law_30 rfl rfl ?_
      refine im_iload_n (pc := 31) dX0_law_31 rfl rfl ?_
      refine cl_X0_142 rd_init_im (pc := 32) (by decide) dX0_law_32 (Nat.le_of_ble_eq_true rfl) fun h55 => ?_
      refine im_astore_n (pc := 35) (lv' := [some (.inr v0), some (.inl v1), some (.inr (some h53.1)), none]) dX0_law_35 rfl (by decide) rfl ?_
      refine im_aload_n (pc := 36) dX0_law_36 rfl rfl ?_
      refine cl_X0_145 rd_read_im (pc := 37) (by decide) dX0_law_37 (Nat.le_of_ble_eq_true rfl) fun x57 h56 => ?_
      refine im_istore_n (pc := 40) (lv' := [some (.inr v0), some (.inl v1), some (.inr (some h53.1)), some (.inl x57)]) dX0_law_40 rfl (by decide) rfl ?_
      refine im_iload_n (pc := 41) dX0_law_41 rfl rfl ?_
      refine im_if_lt (pc := 42) (tgt := 53) dX0_law_42 (by decide) ?_ ?_
      · refine im_iload_n (pc := 53) dX0_law_53 rfl rfl ?_
        exact im_iret (pc := 54) dX0_law_54
      · refine im_aload_n (pc := 45) dX0_law_45 rfl rfl ?_
        refine im_aload_n (pc := 46) dX0_law_46 rfl rfl ?_
        refine im_gr (pc := 47) fl_X0_149 dX0_law_47 fun r58 => ?_
        refine im_pf (pc := 50) fp_X0_32 (okT_o _ _) dX0_law_50 fun h59 => ?_
        refine im_iload_n (pc := 53) dX0_law_53 rfl rfl ?_
        exact im_iret (pc := 54) dX0_law_54
    · refine im_iconst (pc := 19) (v := (-1)) dX0_law_19 (by decide) ?_
      exact im_iret (pc := 20) dX0_law_20
noncomputable def tp_law (a0 : Option Nat) (a1 : Int32) (h : PH) : Option (Int32 × PH) := grd (isC [0] a0 h) (tp_law_0 a0 a1 h)
theorem tp_law_im : IM_X0_law tp_law 95 := by
  intro a0 a1 h r h' e
  obtain ⟨e1, e2⟩ := grd_some e
  exact ⟨e1, SpI.of (k := 2) (plainFor_of_name (by decide)) rfl (fun X => Im.drop [true, true, false, false] rfl (tp_law_0_ok X a0 a1 h)) e2⟩
theorem fl_X4_15 : ∀ c ∈ [3], FL RX4 15 c 0 := List.forall_mem_cons.mpr ⟨⟨RX4, TX4, 4, rfl, in_X4, by decide, Or.inl q192⟩, fun _ h => absurd h List.not_mem_nil⟩
theorem fp_X4_15 : ∀ c ∈ [3], FP RX4 15 c 0 .int := List.forall_mem_cons.mpr ⟨⟨RX4, TX4, 4, rfl, in_X4, by decide, apt_X4, rfl, by decide +kernel, Or.inl q192⟩, fun _ h => absurd h List.not_mem_nil⟩
theorem fl_X4_18 : ∀ c ∈ [3], FL RX4 18 c 1 := List.forall_mem_cons.mpr ⟨⟨RX4, TX4, 4, rfl, in_X4, by decide, Or.inl q197⟩, fun _ h => absurd h List.not_mem_nil⟩
theorem fp_X4_18 : ∀ c ∈ [3], FP RX4 18 c 1 .int := List.forall_mem_cons.mpr ⟨⟨RX4, TX4, 4, rfl, in_X4, by decide, apt_X4, rfl, by decide +kernel, Or.inl q197⟩, fun _ h => absurd h List.not_mem_nil⟩
theorem fl_X4_9 : ∀ c ∈ [3], FL RX4 9 c 2 := List.forall_mem_cons.mpr ⟨⟨RX4, TX4, 4, rfl, in_X4, by decide, Or.inl q201⟩, fun _ h => absurd h List.not_mem_nil⟩
theorem fl_X4_21 : ∀ c ∈ [3], FL RX4 21 c 3 := List.forall_mem_cons.mpr ⟨⟨RX4, TX4, 4, rfl, in_X4, by decide, Or.inl q205⟩, fun _ h => absurd h List.not_mem_nil⟩
theorem fp_X4_21 : ∀ c ∈ [3], FP RX4 21 c 3 .boolean := List.forall_mem_cons.mpr ⟨⟨RX4, TX4, 4, rfl, in_X4, by decide, apt_X4, rfl, by decide +kernel, Or.inl q205⟩, fun _ h => absurd h List.not_mem_nil⟩
def IM_X4_takes (f : Option Nat → Option Nat → PH → Option (PH)) (d : Nat) : Prop := ∀ (a0 : Option Nat) (a1 : Option Nat) (h : PH) (h' : PH), f a0 a1 h = some h' → isC [3] a0 h = true ∧ SpV yX4_takes cX4_takes 2 none d [.inr a0, .inr a1] h h'
noncomputable def pe_takes_0 (v0 : Option Nat) (v1 : Option Nat) (h : PH) : Option (PH) :=
  (gfi [3] 0 v1 h).bind fun x51 =>
  (pf [3] 0 v0 (.inl x51) h).bind fun h52 =>
  (gfi [3] 1 v1 h52).bind fun x53 =>
  (pf [3] 1 v0 (.inl x53) h52).bind fun h54 =>
  (gfi [3] 2 v1 h54).bind fun x55 =>
  (pf [3] 2 v0 (.inl x55) h54).bind fun h56 =>
  (gfi [3] 3 v1 h56).bind fun x57 =>
  (pfz [3] 3 v0 x57 h56).bind fun h58 =>
  some (h58)
theorem pe_takes_0_ok (X : CT) (v0 : Option Nat) (v1 : Option Nat) (h : PH) : Im X (cX4_takes, 2, RX4, "takes", none, 1) 0 [some (.inr v0), some (.inr v1)] [] h (pe_takes_0 v0 v1 h) szV (kV X) := by
  unfold pe_takes_0
  refine im_aload_n (pc := 0) dX4_takes_0 rfl rfl ?_
  refine im_aload_n (pc := 1) dX4_takes_1 rfl rfl ?_
  refine im_gi (pc := 2) fl_X4_15 dX4_takes_2 fun x51 => ?_
  refine im_pf (pc := 5) fp_X4_15 (okT_i _) dX4_takes_5 fun h52 => ?_
  refine im_aload_n (pc := 8) dX4_takes_8 rfl rfl ?_
  refine im_aload_n (pc := 9) dX4_takes_9 rfl rfl ?_
  refine im_gi (pc := 10) fl_X4_18 dX4_takes_10 fun x53 => ?_
  refine im_pf (pc := 13) fp_X4_18 (okT_i _) dX4_takes_13 fun h54 => ?_
  refine im_aload_n (pc := 16) dX4_takes_16 rfl rfl ?_
  refine im_aload_n (pc := 17) dX4_takes_17 rfl rfl ?_
  refine im_gi (pc := 18) fl_X4_9 dX4_takes_18 fun x55 => ?_
  refine im_pf (pc := 21) fp_X4_9 (okT_i _) dX4_takes_21 fun h56 => ?_
  refine im_aload_n (pc := 24) dX4_takes_24 rfl rfl ?_
  refine im_aload_n (pc := 25) dX4_takes_25 rfl rfl ?_
  refine im_gi (pc := 26) fl_X4_21 dX4_takes_26 fun x57 => ?_
  refine im_pfz (pc := 29) fp_X4_21 dX4_takes_29 fun h58 => ?_
  exact im_vret (pc := 32) dX4_takes_32
noncomputable def pe_takes (a0 : Option Nat) (a1 : Option Nat) (h : PH) : Option (PH) := grd (isC [3] a0 h) (pe_takes_0 a0 a1 h)
theorem pe_takes_im : IM_X4_takes pe_takes 1 := by
  intro a0 a1 h h' e
  obtain ⟨e1, e2⟩ := grd_some e
  exact ⟨e1, SpV.of (k := 0) (plainFor_of_name (by decide)) rfl (fun X => Im.drop [true, true] rfl (pe_takes_0_ok X a0 a1 h)) e2⟩
theorem fl_X3_26 : ∀ c ∈ [2], FL RX3 26 c 1 := List.forall_mem_cons.mpr ⟨⟨RX3, TX3, 6, rfl, in_X3, by decide, Or.inl q220⟩, fun _ h => absurd h List.not_mem_nil⟩
theorem fp_X3_26 : ∀ c ∈ [2], FP RX3 26 c 1 .int := List.forall_mem_cons.mpr ⟨⟨RX3, TX3, 6, rfl, in_X3, by decide, apt_X3, rfl, by decide +kernel, Or.inl q220⟩, fun _ h => absurd h List.not_mem_nil⟩
theorem fl_X3_30 : ∀ c ∈ [2], FL RX3 30 c 2 := List.forall_mem_cons.mpr ⟨⟨RX3, TX3, 6, rfl, in_X3, by decide, Or.inl q222⟩, fun _ h => absurd h List.not_mem_nil⟩
theorem fp_X3_30 : ∀ c ∈ [2], FP RX3 30 c 2 .int := List.forall_mem_cons.mpr ⟨⟨RX3, TX3, 6, rfl, in_X3, by decide, apt_X3, rfl, by decide +kernel, Or.inl q222⟩, fun _ h => absurd h List.not_mem_nil⟩
theorem cl_X3_22 {X : CT} {cc : ByteArray} {nL : Nat} {mn : String} {ret : Option FieldType} {d d0 : Nat} {τ : Type} {pc : Nat} {lv : List (Option PV)} {st : List PV} {h : PH} {sz : τ → Nat × Nat} {K : τ → Prop} {f : Option Nat → Option Nat → PH → Option (PH)} (HR : IM_X4_takes f d0) {a0 : Option Nat} {a1 : Option Nat} {g : PH → Option τ} (hd : d0 + 1 ≤ d) (hdg : decode cc pc = .ok (.invokevirtual 22, 3)) (hst : st.length ≤ 8) (kk : ∀ h', Im X (cc, nL, RX3, mn, ret, d) (pc + 3) lv st h' (g h') sz K) : Im X (cc, nL, RX3, mn, ret, d) pc lv (.inr a1 :: .inr a0 :: st) h ((f a0 a1 h).bind g) sz K := by
  refine im_cV (y := yX4_takes) (cY := cX4_takes) (nY := 2) (rY := none) (d' := d0) (av := [.inr a0, .inr a1]) (fun h' e hX => ?_) (fun h' e => (HR _ _ _ _ e).2) hd (by decide) hst rfl kk
  obtain ⟨a, c, fs, rfl, ec, hm⟩ := isC_some (HR _ _ _ _ e).1
  cases List.mem_singleton.mp hm
  exact cal_V (n := 1) hX (lw_V q634 q635 q636 q110 q637) (by decide +kernel) rfl rfl ec hdg

def IM_X3_takes (f : Option Nat → Option Nat → PH → Option (Option Nat × PH)) (d : Nat) : Prop := ∀ (a0 : Option Nat) (a1 : Option Nat) (h : PH) (r : Option Nat) (h' : PH), f a0 a1 h = some (r, h') → isC [2] a0 h = true ∧ SpR yX3_takes cX3_takes 3 (some (.object "TalkingPlots$Yard")) d [.inr a0, .inr a1] h r h'
noncomputable def yd_takes_b2 (v0 : Option Nat) (v1 : Option Nat) (v2 : Int32) (h : PH) : Option ((Int32 × PH) ⊕ (Option Nat × PH)) :=
  (if 16 ≤ v2 then
  (gfi [2] 1 v1 h).bind fun x51 =>
  (pf [2] 1 v0 (.inl x51) h).bind fun h52 =>
  (gfi [2] 2 v1 h52).bind fun x53 =>
  (pf [2] 2 v0 (.inl x53) h52).bind fun h54 =>
  some (.inr ((v0, h54)))
  else
  (gfr [2] 0 v0 h).bind fun r55 =>
  (aldr 2 r55 v2 h).bind fun r56 =>
  (gfr [2] 0 v1 h).bind fun r57 =>
  (aldr 2 r57 v2 h).bind fun r58 =>
  (pe_takes r56 r58 h).bind fun h59 =>
  some (.inl ((v2 + 1), h59)))
noncomputable def yd_takes_L2 (v0 : Option Nat) (v1 : Option Nat) (v2 : Int32) (h : PH) : Option (Option Nat × PH) :=
  iter (fun s : Int32 × PH => yd_takes_b2 v0 v1 s.1 s.2) (v2, h)
theorem yd_takes_b2_ok (X : CT) (v0 : Option Nat) (v1 : Option Nat) (v2 : Int32) (h : PH) : Im X (cX3_takes, 3, RX3, "takes", (some (.object "TalkingPlots$Yard")), 2) 2 [some (.inr v0), some (.inr v1), some (.inl v2)] [] h (yd_takes_b2 v0 v1 v2 h) (ez (fun s : Int32 × PH => s.2) szI) (ek X 2 (fun s : Int32 × PH => [some (.inr v0), some (.inr v1), some (.inl s.1)]) (fun s : Int32 × PH => s.2) (kR X)) := by
  unfold yd_takes_b2
  refine im_iload_n (pc := 2) dX3_takes_2 rfl rfl ?_
  refine im_bipush (pc := 3) (v := 16) dX3_takes_3 (by decide) ?_
  refine im_icmp_ge (pc := 5) (tgt := 29) dX3_takes_5 (by decide) ?_ ?_
  · refine im_aload_n (pc := 29) dX3_takes_29 rfl rfl ?_
    refine im_aload_n (pc := 30) dX3_takes_30 rfl rfl ?_
    refine im_gi (pc := 31) fl_X3_26 dX3_takes_31 fun x51 => ?_
    refine im_pf (pc := 34) fp_X3_26 (okT_i _) dX3_takes_34 fun h52 => ?_
    refine im_aload_n (pc := 37) dX3_takes_37 rfl rfl ?_
    refine im_aload_n (pc := 38) dX3_takes_38 rfl rfl ?_
    refine im_gi (pc := 39) fl_X3_30 dX3_takes_39 fun x53 => ?_
    refine im_pf (pc := 42) fp_X3_30 (okT_i _) dX3_takes_42 fun h54 => ?_
    refine im_aload_n (pc := 45) dX3_takes_45 rfl rfl ?_
    exact Im.outS (im_aret (pc := 46) dX3_takes_46)
  · refine im_aload_n (pc := 8) dX3_takes_8 rfl rfl ?_
    refine im_gr (pc := 9) fl_X3_17 dX3_takes_9 fun r55 => ?_
    refine im_iload_n (pc := 12) dX3_takes_12 rfl rfl ?_
    refine im_aald (pc := 13) (t := 2) (by decide) (by decide) dX3_takes_13 fun r56 => ?_
    refine im_aload_n (pc := 14) dX3_takes_14 rfl rfl ?_
    refine im_gr (pc := 15) fl_X3_17 dX3_takes_15 fun r57 => ?_
    refine im_iload_n (pc := 18) dX3_takes_18 rfl rfl ?_
    refine im_aald (pc := 19) (t := 2) (by decide) (by decide) dX3_takes_19 fun r58 => ?_
    refine cl_X3_22 pe_takes_im (pc := 20) (by decide) dX3_takes_20 (Nat.le_of_ble_eq_true rfl) fun h59 => ?_
    refine im_iinc (pc := 23) (v := (v2 + 1)) (lv' := [some (.inr v0), some (.inr v1), some (.inl (v2 + 1))]) dX3_takes_23 rfl rfl (by decide) rfl ?_
    refine im_goto (pc := 26) (tgt := 2) dX3_takes_26 (by decide) ?_
    exact Im.back [true, true, true] rfl rfl
theorem yd_takes_L2_ok (X : CT) (v0 : Option Nat) (v1 : Option Nat) (v2 : Int32) (h : PH) : Im X (cX3_takes, 3, RX3, "takes", (some (.object "TalkingPlots$Yard")), 2) 2 [some (.inr v0), some (.inr v1), some (.inl v2)] [] h (yd_takes_L2 v0 v1 v2 h) szI (kR X) := by
  unfold yd_takes_L2
  exact Im.iter (lv := (fun s : Int32 × PH => [some (.inr v0), some (.inr v1), some (.inl s.1)])) (hp := (fun s : Int32 × PH => s.2)) (fun s => yd_takes_b2_ok X v0 v1 s.1 s.2) _ rfl rfl
noncomputable def yd_takes_0 (v0 : Option Nat) (v1 : Option Nat) (h : PH) : Option (Option Nat × PH) :=
  yd_takes_L2 v0 v1 0 h
theorem yd_takes_0_ok (X : CT) (v0 : Option Nat) (v1 : Option Nat) (h : PH) : Im X (cX3_takes, 3, RX3, "takes", (some (.object "TalkingPlots$Yard")), 2) 0 [some (.inr v0), some (.inr v1), none] [] h (yd_takes_0 v0 v1 h) szI (kR X) := by
  unfold yd_takes_0
  refine im_iconst (pc := 0) (v := 0) dX3_takes_0 (by decide) ?_
  refine im_istore_n (pc := 1) (lv' := [some (.inr v0), some (.inr v1), some (.inl 0)]) dX3_takes_1 rfl (by decide) rfl ?_
  exact Im.drop [true, true, true] rfl (yd_takes_L2_ok X v0 v1 0 h)
noncomputable def yd_takes (a0 : Option Nat) (a1 : Option Nat) (h : PH) : Option (Option Nat × PH) := grd (isC [2] a0 h) (yd_takes_0 a0 a1 h)
theorem yd_takes_im : IM_X3_takes yd_takes 2 := by
  intro a0 a1 h r h' e
  obtain ⟨e1, e2⟩ := grd_some e
  exact ⟨e1, SpR.of (k := 1) (plainFor_of_name (by decide)) rfl (fun X => Im.drop [true, true, false] rfl (yd_takes_0_ok X a0 a1 h)) e2⟩
-- apt_X17 is proved by hand
-- apt_X18 is proved by hand
theorem fp_X16_1 : ∀ c ∈ [13, 14], FPF RX16 1 c 4 (.object "TalkingPlots") := List.forall_mem_cons.mpr ⟨⟨RX17, TX17, 6, rfl, in_X17, by decide, apt_X17, rfl, rfl, by decide +kernel, q652⟩, List.forall_mem_cons.mpr ⟨⟨RX18, TX18, 9, rfl, in_X18, by decide, apt_X18, rfl, rfl, by decide +kernel, q652⟩, fun _ h => absurd h List.not_mem_nil⟩⟩
theorem fp_X16_13 : ∀ c ∈ [13, 14], FPF RX16 13 c 0 .int := List.forall_mem_cons.mpr ⟨⟨RX17, TX17, 6, rfl, in_X17, by decide, apt_X17, rfl, rfl, by decide +kernel, q648⟩, List.forall_mem_cons.mpr ⟨⟨RX18, TX18, 9, rfl, in_X18, by decide, apt_X18, rfl, rfl, by decide +kernel, q648⟩, fun _ h => absurd h List.not_mem_nil⟩⟩
def IM_X16_init (f : Option Nat → Option Nat → Int32 → PH → Option (PH)) (d : Nat) : Prop := ∀ (a0 : Option Nat) (a1 : Option Nat) (a2 : Int32) (h : PH) (h' : PH), f a0 a1 a2 h = some h' → isC [13, 14] a0 h = true ∧ SpV yX16_init cX16_init 3 none d [.inr a0, .inr a1, .inl a2] h h'
noncomputable def sc_init_0 (v0 : Option Nat) (v1 : Option Nat) (v2 : Int32) (h : PH) : Option (PH) :=
  (pf [13, 14] 4 v0 (.inr v1) h).bind fun h51 =>
  nul v0 none (
  (pf [13, 14] 0 v0 (.inl v2) h51).bind fun h52 =>
  some (h52))
theorem sc_init_0_ok (X : CT) (v0 : Option Nat) (v1 : Option Nat) (v2 : Int32) (h : PH) : Im X (cX16_init, 3, RX16, "<init>", none, 1) 0 [some (.inr v0), some (.inr v1), some (.inl v2)] [] h (sc_init_0 v0 v1 v2 h) szV (kV X) := by
  unfold sc_init_0
  refine im_aload_n (pc := 0) dX16_init_0 rfl rfl ?_
  refine im_aload_n (pc := 1) dX16_init_1 rfl rfl ?_
  refine im_pfF (pc := 2) fp_X16_1 (okT_o _ _) dX16_init_2 fun h51 => ?_
  refine im_aload_n (pc := 5) dX16_init_5 rfl rfl ?_
  refine im_objInit (pc := 6) (by decide) q646 q138 q139 (Nat.le_of_ble_eq_true rfl) dX16_init_6 ?_
  refine im_aload_n (pc := 9) dX16_init_9 rfl rfl ?_
  refine im_iload_n (pc := 10) dX16_init_10 rfl rfl ?_
  refine im_pfF (pc := 11) fp_X16_13 (okT_i _) dX16_init_11 fun h52 => ?_
  exact im_vret (pc := 14) dX16_init_14
noncomputable def sc_init (a0 : Option Nat) (a1 : Option Nat) (a2 : Int32) (h : PH) : Option (PH) := grd (isC [13, 14] a0 h) (sc_init_0 a0 a1 a2 h)
theorem sc_init_im : IM_X16_init sc_init 1 := by
  intro a0 a1 a2 h h' e
  obtain ⟨e1, e2⟩ := grd_some e
  exact ⟨e1, SpV.of (k := 0) (plainFor_of_name (by decide)) rfl (fun X => Im.drop [true, true, true] rfl (sc_init_0_ok X a0 a1 a2 h)) e2⟩
theorem fp_X17_3 : ∀ c ∈ [13], FPF RX17 3 c 5 (.object "TalkingPlots") := List.forall_mem_cons.mpr ⟨⟨RX17, TX17, 6, rfl, in_X17, by decide, apt_X17, rfl, rfl, by decide +kernel, q647⟩, fun _ h => absurd h List.not_mem_nil⟩
theorem cl_X17_9 {X : CT} {cc : ByteArray} {nL : Nat} {mn : String} {ret : Option FieldType} {d d0 : Nat} {τ : Type} {pc : Nat} {lv : List (Option PV)} {st : List PV} {h : PH} {sz : τ → Nat × Nat} {K : τ → Prop} {f : Option Nat → Option Nat → Int32 → PH → Option (PH)} (HR : IM_X16_init f d0) {a0 : Option Nat} {a1 : Option Nat} {a2 : Int32} {g : PH → Option τ} (hd : d0 + 1 ≤ d) (hdg : decode cc pc = .ok (.invokespecial 9, 3)) (hst : st.length ≤ 8) (kk : ∀ h', Im X (cc, nL, RX17, mn, ret, d) (pc + 3) lv st h' (g h') sz K) : Im X (cc, nL, RX17, mn, ret, d) pc lv (.inl a2 :: .inr a1 :: .inr a0 :: st) h ((f a0 a1 a2 h).bind g) sz K := by
  refine im_cV (y := yX16_init) (cY := cX16_init) (nY := 3) (rY := none) (d' := d0) (av := [.inr a0, .inr a1, .inl a2]) (fun h' e hX => ?_) (fun h' e => (HR _ _ _ _ _ e).2) hd (by decide) hst rfl kk
  obtain ⟨a, c, fs, rfl, ec, hm⟩ := isC_some (HR _ _ _ _ _ e).1
  exact cal_I (n := 2) hX q643 q644 q128 q645 rfl (by decide +kernel) rfl hdg

def IM_X17_init (f : Option Nat → Option Nat → Int32 → PH → Option (PH)) (d : Nat) : Prop := ∀ (a0 : Option Nat) (a1 : Option Nat) (a2 : Int32) (h : PH) (h' : PH), f a0 a1 a2 h = some h' → isC [13] a0 h = true ∧ SpV yX17_init cX17_init 3 none d [.inr a0, .inr a1, .inl a2] h h'
noncomputable def se_init_0 (v0 : Option Nat) (v1 : Option Nat) (v2 : Int32) (h : PH) : Option (PH) :=
  (pf [13] 5 v0 (.inr v1) h).bind fun h51 =>
  (sc_init v0 v1 v2 h51).bind fun h52 =>
  some (h52)
theorem se_init_0_ok (X : CT) (v0 : Option Nat) (v1 : Option Nat) (v2 : Int32) (h : PH) : Im X (cX17_init, 3, RX17, "<init>", none, 2) 0 [some (.inr v0), some (.inr v1), some (.inl v2)] [] h (se_init_0 v0 v1 v2 h) szV (kV X) := by
  unfold se_init_0
  refine im_aload_n (pc := 0) dX17_init_0 rfl rfl ?_
  refine im_aload_n (pc := 1) dX17_init_1 rfl rfl ?_
  refine im_pfF (pc := 2) fp_X17_3 (okT_o _ _) dX17_init_2 fun h51 => ?_
  refine im_aload_n (pc := 5) dX17_init_5 rfl rfl ?_
  refine im_aload_n (pc := 6) dX17_init_6 rfl rfl ?_
  refine im_iload_n (pc := 7) dX17_init_7 rfl rfl ?_
  refine cl_X17_9 sc_init_im (pc := 8) (by decide) dX17_init_8 (Nat.le_of_ble_eq_true rfl) fun h52 => ?_
  exact im_vret (pc := 11) dX17_init_11
noncomputable def se_init (a0 : Option Nat) (a1 : Option Nat) (a2 : Int32) (h : PH) : Option (PH) := grd (isC [13] a0 h) (se_init_0 a0 a1 a2 h)
theorem se_init_im : IM_X17_init se_init 2 := by
  intro a0 a1 a2 h h' e
  obtain ⟨e1, e2⟩ := grd_some e
  exact ⟨e1, SpV.of (k := 0) (plainFor_of_name (by decide)) rfl (fun X => Im.drop [true, true, true] rfl (se_init_0_ok X a0 a1 a2 h)) e2⟩
theorem fl_X16_26 : ∀ c ∈ [13, 14], FL RX16 26 c 2 := List.forall_mem_cons.mpr ⟨⟨RX17, TX17, 6, rfl, in_X17, by decide, Or.inl q650⟩, List.forall_mem_cons.mpr ⟨⟨RX18, TX18, 9, rfl, in_X18, by decide, Or.inl q650⟩, fun _ h => absurd h List.not_mem_nil⟩⟩
def IM_X16_isGood (f : Option Nat → PH → Option (Int32)) (d : Nat) : Prop := ∀ (a0 : Option Nat) (h : PH) (r : Int32), f a0 h = some r → isC [13, 14] a0 h = true ∧ SpI yX16_isGood cX16_isGood 1 (some .boolean) d [.inr a0] h r h
noncomputable def sc_isGood_0 (v0 : Option Nat) (h : PH) : Option (Int32) :=
  (gfi [13, 14] 2 v0 h).bind fun x51 =>
  (if x51 = 0 then
  some (1)
  else
  some (0))
theorem sc_isGood_0_ok (X : CT) (v0 : Option Nat) (h : PH) : Im X (cX16_isGood, 1, RX16, "isGood", (some .boolean), 1) 0 [some (.inr v0)] [] h (sc_isGood_0 v0 h) (szP h) (kP X h) := by
  unfold sc_isGood_0
  refine im_aload_n (pc := 0) dX16_isGood_0 rfl rfl ?_
  refine im_gi (pc := 1) fl_X16_26 dX16_isGood_1 fun x51 => ?_
  refine im_if_ne (pc := 4) (tgt := 11) dX16_isGood_4 (by decide) ?_ ?_
  · refine im_iconst (pc := 11) (v := 0) dX16_isGood_11 (by decide) ?_
    exact im_zretTP (pc := 12) (nar_z (Or.inl rfl)) dX16_isGood_12
  · refine im_iconst (pc := 7) (v := 1) dX16_isGood_7 (by decide) ?_
    refine im_goto (pc := 8) (tgt := 12) dX16_isGood_8 (by decide) ?_
    exact im_zretTP (pc := 12) (nar_z (Or.inr rfl)) dX16_isGood_12
noncomputable def sc_isGood (a0 : Option Nat) (h : PH) : Option (Int32) := grd (isC [13, 14] a0 h) (sc_isGood_0 a0 h)
theorem sc_isGood_im : IM_X16_isGood sc_isGood 1 := by
  intro a0 h r e
  obtain ⟨e1, e2⟩ := grd_some e
  exact ⟨e1, SpI.ofP (k := 0) (plainFor_of_name (by decide)) rfl (fun X => Im.drop [true] rfl (sc_isGood_0_ok X a0 h)) e2⟩
