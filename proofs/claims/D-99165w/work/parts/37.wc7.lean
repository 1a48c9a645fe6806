set_option maxRecDepth 100000
theorem fl_X0_102 : ∀ c ∈ [0], FL RX0 102 c 19 := List.forall_mem_cons.mpr ⟨⟨RX0, TX0, 20, rfl, in_X0, by decide, Or.inl q296⟩, fun _ h => absurd h List.not_mem_nil⟩
def IM_X0_laysSteps (f : Option Nat → Int32 → PH → Option (PH)) (d : Nat) : Prop := ∀ (a0 : Option Nat) (a1 : Int32) (h : PH) (h' : PH), f a0 a1 h = some h' → isC [0] a0 h = true ∧ SpV yX0_laysSteps cX0_laysSteps 7 none d [.inr a0, .inl a1] h h'
noncomputable def tp_laysSteps_b66 (v0 : Option Nat) (v2 : Int32) (v3 : Int32) (v4 : Int32) (v5 : Int32) (h : PH) : Option ((Int32 × Int32 × PH) ⊕ ((Int32 × Int32 × PH) ⊕ ((Int32 × Int32 × PH) ⊕ (PH)))) :=
  (if 4 ≤ v5 then
  some (.inr (.inl (v2, (v4 + 1), h)))
  else
  (gfr [0] 19 v0 h).bind fun r51 =>
  (ald 0 r51 v4 h).bind fun x52 =>
  (if x52 = v3 then
  (tp_next v4 v5 h).bind fun x53 =>
  (if x53 = (-1) then
  some (.inl (v2, (v5 + 1), h))
  else
  (gfr [0] 19 v0 h).bind fun r54 =>
  (ald 0 r54 x53 h).bind fun x55 =>
  (if x55 ≤ (v3 + 1) then
  some (.inl (v2, (v5 + 1), h))
  else
  (gfr [0] 1 v0 h).bind fun r56 =>
  (yd_whoLiesAt r56 x53 h).bind fun x57 =>
  (if x57 = (-1) then
  (gfr [0] 19 v0 h).bind fun r58 =>
  (ast 0 r58 x53 (v3 + 1) h).bind fun h59 =>
  some (.inl (1, (v5 + 1), h59))
  else
  some (.inl (v2, (v5 + 1), h)))))
  else
  some (.inr (.inl (v2, (v4 + 1), h)))))
noncomputable def tp_laysSteps_L66 (v0 : Option Nat) (v2 : Int32) (v3 : Int32) (v4 : Int32) (v5 : Int32) (h : PH) : Option ((Int32 × Int32 × PH) ⊕ ((Int32 × Int32 × PH) ⊕ (PH))) :=
  iter (fun s : Int32 × Int32 × PH => tp_laysSteps_b66 v0 s.1 v3 v4 s.2.1 s.2.2) (v2, v5, h)
theorem tp_laysSteps_b66_ok (X : CT) (v0 : Option Nat) (v2 : Int32) (v3 : Int32) (v4 : Int32) (v5 : Int32) (h : PH) : Im X (cX0_laysSteps, 7, RX0, "laysSteps", none, 3) 66 [some (.inr v0), none, some (.inl v2), some (.inl v3), some (.inl v4), some (.inl v5), none] [] h (tp_laysSteps_b66 v0 v2 v3 v4 v5 h) (ez (fun s : Int32 × Int32 × PH => s.2.2) (ez (fun s : Int32 × Int32 × PH => s.2.2) (ez (fun s : Int32 × Int32 × PH => s.2.2) szV))) (ek X 66 (fun s : Int32 × Int32 × PH => [some (.inr v0), none, some (.inl s.1), some (.inl v3), some (.inl v4), some (.inl s.2.1), none]) (fun s : Int32 × Int32 × PH => s.2.2) (ek X 56 (fun s : Int32 × Int32 × PH => [some (.inr v0), none, some (.inl s.1), some (.inl v3), some (.inl s.2.1), none, none]) (fun s : Int32 × Int32 × PH => s.2.2) (ek X 47 (fun s : Int32 × Int32 × PH => [some (.inr v0), none, some (.inl s.1), some (.inl s.2.1), none, none, none]) (fun s : Int32 × Int32 × PH => s.2.2) (kV X)))) := by
  unfold tp_laysSteps_b66
  refine im_iload (pc := 66) dX0_laysSteps_66 rfl ?_
  refine im_iconst (pc := 68) (v := 4) dX0_laysSteps_68 (by decide) ?_
  refine im_icmp_ge (pc := 69) (tgt := 145) dX0_laysSteps_69 (by decide) ?_ ?_
  · refine im_iinc (pc := 145) (v := (v4 + 1)) (lv' := [some (.inr v0), none, some (.inl v2), some (.inl v3), some (.inl (v4 + 1)), some (.inl v5), none]) dX0_laysSteps_145 rfl rfl (by decide) rfl ?_
    refine im_goto (pc := 148) (tgt := 56) dX0_laysSteps_148 (by decide) ?_
    exact Im.outS (Im.back [true, false, true, true, true, false, false] rfl rfl)
  · refine im_aload_n (pc := 72) dX0_laysSteps_72 rfl rfl ?_
    refine im_gr (pc := 73) fl_X0_102 dX0_laysSteps_73 fun r51 => ?_
    refine im_iload (pc := 76) dX0_laysSteps_76 rfl ?_
    refine im_iald (pc := 78) dX0_laysSteps_78 fun x52 => ?_
    refine im_iload_n (pc := 79) dX0_laysSteps_79 rfl rfl ?_
    refine im_icmp_ne (pc := 80) (tgt := 145) dX0_laysSteps_80 (by decide) ?_ ?_
    · refine im_iinc (pc := 145) (v := (v4 + 1)) (lv' := [some (.inr v0), none, some (.inl v2), some (.inl v3), some (.inl (v4 + 1)), some (.inl v5), none]) dX0_laysSteps_145 rfl rfl (by decide) rfl ?_
      refine im_goto (pc := 148) (tgt := 56) dX0_laysSteps_148 (by decide) ?_
      exact Im.outS (Im.back [true, false, true, true, true, false, false] rfl rfl)
    · refine im_iload (pc := 83) dX0_laysSteps_83 rfl ?_
      refine im_iload (pc := 85) dX0_laysSteps_85 rfl ?_
      refine cl_X0_29 tp_next_im (pc := 87) (by decide) dX0_laysSteps_87 (Nat.le_of_ble_eq_true rfl) fun x53 => ?_
      refine im_istore (pc := 90) (lv' := [some (.inr v0), none, some (.inl v2), some (.inl v3), some (.inl v4), some (.inl v5), some (.inl x53)]) dX0_laysSteps_90 (by decide) rfl ?_
      refine im_iload (pc := 92) dX0_laysSteps_92 rfl ?_
      refine im_iconst (pc := 94) (v := (-1)) dX0_laysSteps_94 (by decide) ?_
      refine im_icmp_eq (pc := 95) (tgt := 139) dX0_laysSteps_95 (by decide) ?_ ?_
      · refine im_iinc (pc := 139) (v := (v5 + 1)) (lv' := [some (.inr v0), none, some (.inl v2), some (.inl v3), some (.inl v4), some (.inl (v5 + 1)), some (.inl x53)]) dX0_laysSteps_139 rfl rfl (by decide) rfl ?_
        refine im_goto (pc := 142) (tgt := 66) dX0_laysSteps_142 (by decide) ?_
        exact Im.back [true, false, true, true, true, true, false] rfl rfl
      · refine im_aload_n (pc := 98) dX0_laysSteps_98 rfl rfl ?_
        refine im_gr (pc := 99) fl_X0_102 dX0_laysSteps_99 fun r54 => ?_
        refine im_iload (pc := 102) dX0_laysSteps_102 rfl ?_
        refine im_iald (pc := 104) dX0_laysSteps_104 fun x55 => ?_
        refine im_iload_n (pc := 105) dX0_laysSteps_105 rfl rfl ?_
        refine im_iconst (pc := 106) (v := 1) dX0_laysSteps_106 (by decide) ?_
        refine im_iadd (pc := 107) dX0_laysSteps_107 ?_
        refine im_icmp_le (pc := 108) (tgt := 139) dX0_laysSteps_108 (by decide) ?_ ?_
        · refine im_iinc (pc := 139) (v := (v5 + 1)) (lv' := [some (.inr v0), none, some (.inl v2), some (.inl v3), some (.inl v4), some (.inl (v5 + 1)), some (.inl x53)]) dX0_laysSteps_139 rfl rfl (by decide) rfl ?_
          refine im_goto (pc := 142) (tgt := 66) dX0_laysSteps_142 (by decide) ?_
          exact Im.back [true, false, true, true, true, true, false] rfl rfl
        · refine im_aload_n (pc := 111) dX0_laysSteps_111 rfl rfl ?_
          refine im_gr (pc := 112) fl_X0_63 dX0_laysSteps_112 fun r56 => ?_
          refine im_iload (pc := 115) dX0_laysSteps_115 rfl ?_
          refine cl_X0_218 yd_whoLiesAt_im (pc := 117) (by decide) dX0_laysSteps_117 (Nat.le_of_ble_eq_true rfl) fun x57 => ?_
          refine im_iconst (pc := 120) (v := (-1)) dX0_laysSteps_120 (by decide) ?_
          refine im_icmp_eq (pc := 121) (tgt := 127) dX0_laysSteps_121 (by decide) ?_ ?_
          · refine im_aload_n (pc := 127) dX0_laysSteps_127 rfl rfl ?_
            refine im_gr (pc := 128) fl_X0_102 dX0_laysSteps_128 fun r58 => ?_
            refine im_iload (pc := 131) dX0_laysSteps_131 rfl ?_
            refine im_iload_n (pc := 133) dX0_laysSteps_133 rfl rfl ?_
            refine im_iconst (pc := 134) (v := 1) dX0_laysSteps_134 (by decide) ?_
            refine im_iadd (pc := 135) dX0_laysSteps_135 ?_
            refine im_iast (pc := 136) dX0_laysSteps_136 fun h59 => ?_
            refine im_iconst (pc := 137) (v := 1) dX0_laysSteps_137 (by decide) ?_
            refine im_istore_n (pc := 138) (lv' := [some (.inr v0), none, some (.inl 1), some (.inl v3), some (.inl v4), some (.inl v5), some (.inl x53)]) dX0_laysSteps_138 rfl (by decide) rfl ?_
            refine im_iinc (pc := 139) (v := (v5 + 1)) (lv' := [some (.inr v0), none, some (.inl 1), some (.inl v3), some (.inl v4), some (.inl (v5 + 1)), some (.inl x53)]) dX0_laysSteps_139 rfl rfl (by decide) rfl ?_
            refine im_goto (pc := 142) (tgt := 66) dX0_laysSteps_142 (by decide) ?_
            exact Im.back [true, false, true, true, true, true, false] rfl rfl
          · refine im_goto (pc := 124) (tgt := 139) dX0_laysSteps_124 (by decide) ?_
            refine im_iinc (pc := 139) (v := (v5 + 1)) (lv' := [some (.inr v0), none, some (.inl v2), some (.inl v3), some (.inl v4), some (.inl (v5 + 1)), some (.inl x53)]) dX0_laysSteps_139 rfl rfl (by decide) rfl ?_
            refine im_goto (pc := 142) (tgt := 66) dX0_laysSteps_142 (by decide) ?_
            exact Im.back [true, false, true, true, true, true, false] rfl rfl
theorem tp_laysSteps_L66_ok (X : CT) (v0 : Option Nat) (v2 : Int32) (v3 : Int32) (v4 : Int32) (v5 : Int32) (h : PH) : Im X (cX0_laysSteps, 7, RX0, "laysSteps", none, 3) 66 [some (.inr v0), none, some (.inl v2), some (.inl v3), some (.inl v4), some (.inl v5), none] [] h (tp_laysSteps_L66 v0 v2 v3 v4 v5 h) (ez (fun s : Int32 × Int32 × PH => s.2.2) (ez (fun s : Int32 × Int32 × PH => s.2.2) szV)) (ek X 56 (fun s : Int32 × Int32 × PH => [some (.inr v0), none, some (.inl s.1), some (.inl v3), some (.inl s.2.1), none, none]) (fun s : Int32 × Int32 × PH => s.2.2) (ek X 47 (fun s : Int32 × Int32 × PH => [some (.inr v0), none, some (.inl s.1), some (.inl s.2.1), none, none, none]) (fun s : Int32 × Int32 × PH => s.2.2) (kV X))) := by
  unfold tp_laysSteps_L66
  exact Im.iter (lv := (fun s : Int32 × Int32 × PH => [some (.inr v0), none, some (.inl s.1), some (.inl v3), some (.inl v4), some (.inl s.2.1), none])) (hp := (fun s : Int32 × Int32 × PH => s.2.2)) (fun s => tp_laysSteps_b66_ok X v0 s.1 v3 v4 s.2.1 s.2.2) _ rfl rfl
noncomputable def tp_laysSteps_b56 (v0 : Option Nat) (v2 : Int32) (v3 : Int32) (v4 : Int32) (h : PH) : Option ((Int32 × Int32 × PH) ⊕ ((Int32 × Int32 × PH) ⊕ (PH))) :=
  (if 60 ≤ v4 then
  some (.inr (.inl (v2, (v3 + 1), h)))
  else
  tp_laysSteps_L66 v0 v2 v3 v4 0 h)
noncomputable def tp_laysSteps_L56 (v0 : Option Nat) (v2 : Int32) (v3 : Int32) (v4 : Int32) (h : PH) : Option ((Int32 × Int32 × PH) ⊕ (PH)) :=
  iter (fun s : Int32 × Int32 × PH => tp_laysSteps_b56 v0 s.1 v3 s.2.1 s.2.2) (v2, v4, h)
theorem tp_laysSteps_b56_ok (X : CT) (v0 : Option Nat) (v2 : Int32) (v3 : Int32) (v4 : Int32) (h : PH) : Im X (cX0_laysSteps, 7, RX0, "laysSteps", none, 3) 56 [some (.inr v0), none, some (.inl v2), some (.inl v3), some (.inl v4), none, none] [] h (tp_laysSteps_b56 v0 v2 v3 v4 h) (ez (fun s : Int32 × Int32 × PH => s.2.2) (ez (fun s : Int32 × Int32 × PH => s.2.2) szV)) (ek X 56 (fun s : Int32 × Int32 × PH => [some (.inr v0), none, some (.inl s.1), some (.inl v3), some (.inl s.2.1), none, none]) (fun s : Int32 × Int32 × PH => s.2.2) (ek X 47 (fun s : Int32 × Int32 × PH => [some (.inr v0), none, some (.inl s.1), some (.inl s.2.1), none, none, none]) (fun s : Int32 × Int32 × PH => s.2.2) (kV X))) := by
  unfold tp_laysSteps_b56
  refine im_iload (pc := 56) dX0_laysSteps_56 rfl ?_
  refine im_bipush (pc := 58) (v := 60) dX0_laysSteps_58 (by decide) ?_
  refine im_icmp_ge (pc := 60) (tgt := 151) dX0_laysSteps_60 (by decide) ?_ ?_
  · refine im_iinc (pc := 151) (v := (v3 + 1)) (lv' := [some (.inr v0), none, some (.inl v2), some (.inl (v3 + 1)), some (.inl v4), none, none]) dX0_laysSteps_151 rfl rfl (by decide) rfl ?_
    refine im_goto (pc := 154) (tgt := 47) dX0_laysSteps_154 (by decide) ?_
    exact Im.outS (Im.back [true, false, true, true, false, false, false] rfl rfl)
  · refine im_iconst (pc := 63) (v := 0) dX0_laysSteps_63 (by decide) ?_
    refine im_istore (pc := 64) (lv' := [some (.inr v0), none, some (.inl v2), some (.inl v3), some (.inl v4), some (.inl 0), none]) dX0_laysSteps_64 (by decide) rfl ?_
    exact Im.drop [true, false, true, true, true, true, false] rfl (tp_laysSteps_L66_ok X v0 v2 v3 v4 0 h)
theorem tp_laysSteps_L56_ok (X : CT) (v0 : Option Nat) (v2 : Int32) (v3 : Int32) (v4 : Int32) (h : PH) : Im X (cX0_laysSteps, 7, RX0, "laysSteps", none, 3) 56 [some (.inr v0), none, some (.inl v2), some (.inl v3), some (.inl v4), none, none] [] h (tp_laysSteps_L56 v0 v2 v3 v4 h) (ez (fun s : Int32 × Int32 × PH => s.2.2) szV) (ek X 47 (fun s : Int32 × Int32 × PH => [some (.inr v0), none, some (.inl s.1), some (.inl s.2.1), none, none, none]) (fun s : Int32 × Int32 × PH => s.2.2) (kV X)) := by
  unfold tp_laysSteps_L56
  exact Im.iter (lv := (fun s : Int32 × Int32 × PH => [some (.inr v0), none, some (.inl s.1), some (.inl v3), some (.inl s.2.1), none, none])) (hp := (fun s : Int32 × Int32 × PH => s.2.2)) (fun s => tp_laysSteps_b56_ok X v0 s.1 v3 s.2.1 s.2.2) _ rfl rfl
noncomputable def tp_laysSteps_b47 (v0 : Option Nat) (v2 : Int32) (v3 : Int32) (h : PH) : Option ((Int32 × Int32 × PH) ⊕ (PH)) :=
  (if v2 = 0 then
  some (.inr h)
  else
  tp_laysSteps_L56 v0 0 v3 0 h)
noncomputable def tp_laysSteps_L47 (v0 : Option Nat) (v2 : Int32) (v3 : Int32) (h : PH) : Option (PH) :=
  iter (fun s : Int32 × Int32 × PH => tp_laysSteps_b47 v0 s.1 s.2.1 s.2.2) (v2, v3, h)
theorem tp_laysSteps_b47_ok (X : CT) (v0 : Option Nat) (v2 : Int32) (v3 : Int32) (h : PH) : Im X (cX0_laysSteps, 7, RX0, "laysSteps", none, 3) 47 [some (.inr v0), none, some (.inl v2), some (.inl v3), none, none, none] [] h (tp_laysSteps_b47 v0 v2 v3 h) (ez (fun s : Int32 × Int32 × PH => s.2.2) szV) (ek X 47 (fun s : Int32 × Int32 × PH => [some (.inr v0), none, some (.inl s.1), some (.inl s.2.1), none, none, none]) (fun s : Int32 × Int32 × PH => s.2.2) (kV X)) := by
  unfold tp_laysSteps_b47
  refine im_iload_n (pc := 47) dX0_laysSteps_47 rfl rfl ?_
  refine im_if_eq (pc := 48) (tgt := 157) dX0_laysSteps_48 (by decide) ?_ ?_
  · exact Im.outS (im_vret (pc := 157) dX0_laysSteps_157)
  · refine im_iconst (pc := 51) (v := 0) dX0_laysSteps_51 (by decide) ?_
    refine im_istore_n (pc := 52) (lv' := [some (.inr v0), none, some (.inl 0), some (.inl v3), none, none, none]) dX0_laysSteps_52 rfl (by decide) rfl ?_
    refine im_iconst (pc := 53) (v := 0) dX0_laysSteps_53 (by decide) ?_
    refine im_istore (pc := 54) (lv' := [some (.inr v0), none, some (.inl 0), some (.inl v3), some (.inl 0), none, none]) dX0_laysSteps_54 (by decide) rfl ?_
    exact Im.drop [true, false, true, true, true, false, false] rfl (tp_laysSteps_L56_ok X v0 0 v3 0 h)
theorem tp_laysSteps_L47_ok (X : CT) (v0 : Option Nat) (v2 : Int32) (v3 : Int32) (h : PH) : Im X (cX0_laysSteps, 7, RX0, "laysSteps", none, 3) 47 [some (.inr v0), none, some (.inl v2), some (.inl v3), none, none, none] [] h (tp_laysSteps_L47 v0 v2 v3 h) szV (kV X) := by
  unfold tp_laysSteps_L47
  exact Im.iter (lv := (fun s : Int32 × Int32 × PH => [some (.inr v0), none, some (.inl s.1), some (.inl s.2.1), none, none, none])) (hp := (fun s : Int32 × Int32 × PH => s.2.2)) (fun s => tp_laysSteps_b47_ok X v0 s.1 s.2.1 s.2.2) _ rfl rfl
noncomputable def tp_laysSteps_b2 (v0 : Option Nat) (v1 : Int32) (v2 : Int32) (h : PH) : Option ((Int32 × PH) ⊕ (PH)) :=
  (if 60 ≤ v2 then
  (gfr [0] 1 v0 h).bind fun r51 =>
  (yd_whoLiesAt r51 v1 h).bind fun x52 =>
  (if x52 = (-1) then
  (gfr [0] 19 v0 h).bind fun r53 =>
  (ast 0 r53 v1 0 h).bind fun h54 =>
  (tp_laysSteps_L47 v0 1 0 h54).map .inr
  else
  some (.inr h))
  else
  (gfr [0] 19 v0 h).bind fun r55 =>
  (ast 0 r55 v2 268435456 h).bind fun h56 =>
  some (.inl ((v2 + 1), h56)))
noncomputable def tp_laysSteps_L2 (v0 : Option Nat) (v1 : Int32) (v2 : Int32) (h : PH) : Option (PH) :=
  iter (fun s : Int32 × PH => tp_laysSteps_b2 v0 v1 s.1 s.2) (v2, h)
theorem tp_laysSteps_b2_ok (X : CT) (v0 : Option Nat) (v1 : Int32) (v2 : Int32) (h : PH) : Im X (cX0_laysSteps, 7, RX0, "laysSteps", none, 3) 2 [some (.inr v0), some (.inl v1), some (.inl v2), none, none, none, none] [] h (tp_laysSteps_b2 v0 v1 v2 h) (ez (fun s : Int32 × PH => s.2) szV) (ek X 2 (fun s : Int32 × PH => [some (.inr v0), some (.inl v1), some (.inl s.1), none, none, none, none]) (fun s : Int32 × PH => s.2) (kV X)) := by
  unfold tp_laysSteps_b2
  refine im_iload_n (pc := 2) dX0_laysSteps_2 rfl rfl ?_
  refine im_bipush (pc := 3) (v := 60) dX0_laysSteps_3 (by decide) ?_
  refine im_icmp_ge (pc := 5) (tgt := 23) dX0_laysSteps_5 (by decide) ?_ ?_
  · refine im_aload_n (pc := 23) dX0_laysSteps_23 rfl rfl ?_
    refine im_gr (pc := 24) fl_X0_63 dX0_laysSteps_24 fun r51 => ?_
    refine im_iload_n (pc := 27) dX0_laysSteps_27 rfl rfl ?_
    refine cl_X0_218 yd_whoLiesAt_im (pc := 28) (by decide) dX0_laysSteps_28 (Nat.le_of_ble_eq_true rfl) fun x52 => ?_
    refine im_iconst (pc := 31) (v := (-1)) dX0_laysSteps_31 (by decide) ?_
    refine im_icmp_eq (pc := 32) (tgt := 36) dX0_laysSteps_32 (by decide) ?_ ?_
    · refine im_aload_n (pc := 36) dX0_laysSteps_36 rfl rfl ?_
      refine im_gr (pc := 37) fl_X0_102 dX0_laysSteps_37 fun r53 => ?_
      refine im_iload_n (pc := 40) dX0_laysSteps_40 rfl rfl ?_
      refine im_iconst (pc := 41) (v := 0) dX0_laysSteps_41 (by decide) ?_
      refine im_iast (pc := 42) dX0_laysSteps_42 fun h54 => ?_
      refine im_iconst (pc := 43) (v := 1) dX0_laysSteps_43 (by decide) ?_
      refine im_istore_n (pc := 44) (lv' := [some (.inr v0), some (.inl v1), some (.inl 1), none, none, none, none]) dX0_laysSteps_44 rfl (by decide) rfl ?_
      refine im_iconst (pc := 45) (v := 0) dX0_laysSteps_45 (by decide) ?_
      refine im_istore_n (pc := 46) (lv' := [some (.inr v0), some (.inl v1), some (.inl 1), some (.inl 0), none, none, none]) dX0_laysSteps_46 rfl (by decide) rfl ?_
      exact Im.out (Im.drop [true, false, true, true, false, false, false] rfl (tp_laysSteps_L47_ok X v0 1 0 h54))
    · exact Im.outS (im_vret (pc := 35) dX0_laysSteps_35)
  · refine im_aload_n (pc := 8) dX0_laysSteps_8 rfl rfl ?_
    refine im_gr (pc := 9) fl_X0_102 dX0_laysSteps_9 fun r55 => ?_
    refine im_iload_n (pc := 12) dX0_laysSteps_12 rfl rfl ?_
    refine im_ldcw (pc := 13) q1125 dX0_laysSteps_13 ?_
    refine im_iast (pc := 16) dX0_laysSteps_16 fun h56 => ?_
    refine im_iinc (pc := 17) (v := (v2 + 1)) (lv' := [some (.inr v0), some (.inl v1), some (.inl (v2 + 1)), none, none, none, none]) dX0_laysSteps_17 rfl rfl (by decide) rfl ?_
    refine im_goto (pc := 20) (tgt := 2) dX0_laysSteps_20 (by decide) ?_
    exact Im.back [true, true, true, false, false, false, false] rfl rfl
theorem tp_laysSteps_L2_ok (X : CT) (v0 : Option Nat) (v1 : Int32) (v2 : Int32) (h : PH) : Im X (cX0_laysSteps, 7, RX0, "laysSteps", none, 3) 2 [some (.inr v0), some (.inl v1), some (.inl v2), none, none, none, none] [] h (tp_laysSteps_L2 v0 v1 v2 h) szV (kV X) := by
  unfold tp_laysSteps_L2
  exact Im.iter (lv := (fun s : Int32 × PH => [some (.inr v0), some (.inl v1), some (.inl s.1), none, none, none, none])) (hp := (fun s : Int32 × PH => s.2)) (fun s => tp_laysSteps_b2_ok X v0 v1 s.1 s.2) _ rfl rfl
noncomputable def tp_laysSteps_0 (v0 : Option Nat) (v1 : Int32) (h : PH) : Option (PH) :=
  tp_laysSteps_L2 v0 v1 0 h
theorem tp_laysSteps_0_ok (X : CT) (v0 : Option Nat) (v1 : Int32) (h : PH) : Im X (cX0_laysSteps, 7, RX0, "laysSteps", none, 3) 0 [some (.inr v0), some (.inl v1), none, none, none, none, none] [] h (tp_laysSteps_0 v0 v1 h) szV (kV X) := by
  unfold tp_laysSteps_0
  refine im_iconst (pc := 0) (v := 0) dX0_laysSteps_0 (by decide) ?_
  refine im_istore_n (pc := 1) (lv' := [some (.inr v0), some (.inl v1), some (.inl 0), none, none, none, none]) dX0_laysSteps_1 rfl (by decide) rfl ?_
  exact Im.drop [true, true, true, false, false, false, false] rfl (tp_laysSteps_L2_ok X v0 v1 0 h)
noncomputable def tp_laysSteps (a0 : Option Nat) (a1 : Int32) (h : PH) : Option (PH) := grd (isC [0] a0 h) (tp_laysSteps_0 a0 a1 h)
theorem tp_laysSteps_im : IM_X0_laysSteps tp_laysSteps 3 := by
  intro a0 a1 h h' e
  obtain ⟨e1, e2⟩ := grd_some e
  exact ⟨e1, SpV.of (k := 5) (plainFor_of_name (by decide)) rfl (fun X => Im.drop [true, true, false, false, false, false, false] rfl (tp_laysSteps_0_ok X a0 a1 h)) e2⟩
theorem cl_X0_292 {X : CT} {cc : ByteArray} {nL : Nat} {mn : String} {ret : Option FieldType} {d d0 : Nat} {τ : Type} {pc : Nat} {lv : List (Option PV)} {st : List PV} {h : PH} {sz : τ → Nat × Nat} {K : τ → Prop} {f : Option Nat → Int32 → PH → Option (PH)} (HR : IM_X0_laysSteps f d0) {a0 : Option Nat} {a1 : Int32} {g : PH → Option τ} (hd : d0 + 1 ≤ d) (hdg : decode cc pc = .ok (.invokevirtual 292, 3)) (hst : st.length ≤ 8) (kk : ∀ h', Im X (cc, nL, RX0, mn, ret, d) (pc + 3) lv st h' (g h') sz K) : Im X (cc, nL, RX0, mn, ret, d) pc lv (.inl a1 :: .inr a0 :: st) h ((f a0 a1 h).bind g) sz K := by
  refine im_cV (y := yX0_laysSteps) (cY := cX0_laysSteps) (nY := 7) (rY := none) (d' := d0) (av := [.inr a0, .inl a1]) (fun h' e hX => ?_) (fun h' e => (HR _ _ _ _ e).2) hd (by decide) hst rfl kk
  obtain ⟨a, c, fs, rfl, ec, hm⟩ := isC_some (HR _ _ _ _ e).1
  cases List.mem_singleton.mp hm
  exact cal_V (n := 1) hX (lw_V q1121 q1123 qs41 q106 q1124) (by decide +kernel) rfl rfl ec hdg

def IM_X0_largestBlock (f : Option Nat → PH → Option (Int32 × PH)) (d : Nat) : Prop := ∀ (a0 : Option Nat) (h : PH) (r : Int32) (h' : PH), f a0 h = some (r, h') → isC [0] a0 h = true ∧ SpI yX0_largestBlock cX0_largestBlock 5 (some .int) d [.inr a0] h r h'
noncomputable def tp_largestBlock_b20 (v0 : Option Nat) (v1 : Int32) (v2 : Int32) (v3 : Int32) (v4 : Int32) (h : PH) : Option ((Int32 × Int32) ⊕ ((Int32 × Int32 × PH) ⊕ (Int32 × PH))) :=
  (if 60 ≤ v4 then
  (jM_max v1 v3 h).bind fun x51 =>
  some (.inr (.inl (x51, (v2 + 1), h)))
  else
  (gfr [0] 19 v0 h).bind fun r52 =>
  (ald 0 r52 v4 h).bind fun x53 =>
  (if 268435456 ≤ x53 then
  some (.inl ((v3 + 0), (v4 + 1)))
  else
  some (.inl ((v3 + 1), (v4 + 1)))))
noncomputable def tp_largestBlock_L20 (v0 : Option Nat) (v1 : Int32) (v2 : Int32) (v3 : Int32) (v4 : Int32) (h : PH) : Option ((Int32 × Int32 × PH) ⊕ (Int32 × PH)) :=
  iter (fun s : Int32 × Int32 => tp_largestBlock_b20 v0 v1 v2 s.1 s.2 h) (v3, v4)
theorem tp_largestBlock_b20_ok (X : CT) (v0 : Option Nat) (v1 : Int32) (v2 : Int32) (v3 : Int32) (v4 : Int32) (h : PH) : Im X (cX0_largestBlock, 5, RX0, "largestBlock", (some .int), 4) 20 [some (.inr v0), some (.inl v1), some (.inl v2), some (.inl v3), some (.inl v4)] [] h (tp_largestBlock_b20 v0 v1 v2 v3 v4 h) (ez (fun s : Int32 × Int32 => h) (ez (fun s : Int32 × Int32 × PH => s.2.2) szI)) (ek X 20 (fun s : Int32 × Int32 => [some (.inr v0), some (.inl v1), some (.inl v2), some (.inl s.1), some (.inl s.2)]) (fun s : Int32 × Int32 => h) (ek X 4 (fun s : Int32 × Int32 × PH => [some (.inr v0), some (.inl s.1), some (.inl s.2.1), none, none]) (fun s : Int32 × Int32 × PH => s.2.2) (kI X))) := by
  unfold tp_largestBlock_b20
  refine im_iload (pc := 20) dX0_largestBlock_20 rfl ?_
  refine im_bipush (pc := 22) (v := 60) dX0_largestBlock_22 (by decide) ?_
  refine im_icmp_ge (pc := 24) (tgt := 54) dX0_largestBlock_24 (by decide) ?_ ?_
  · refine im_iload_n (pc := 54) dX0_largestBlock_54 rfl rfl ?_
    refine im_iload_n (pc := 55) dX0_largestBlock_55 rfl rfl ?_
    refine cl_X0_7 jM_max_im (pc := 56) (by decide) dX0_largestBlock_56 (Nat.le_of_ble_eq_true rfl) fun x51 => ?_
    refine im_istore_n (pc := 59) (lv' := [some (.inr v0), some (.inl x51), some (.inl v2), some (.inl v3), some (.inl v4)]) dX0_largestBlock_59 rfl (by decide) rfl ?_
    refine im_iinc (pc := 60) (v := (v2 + 1)) (lv' := [some (.inr v0), some (.inl x51), some (.inl (v2 + 1)), some (.inl v3), some (.inl v4)]) dX0_largestBlock_60 rfl rfl (by decide) rfl ?_
    refine im_goto (pc := 63) (tgt := 4) dX0_largestBlock_63 (by decide) ?_
    exact Im.outS (Im.back [true, true, true, false, false] rfl rfl)
  · refine im_iload_n (pc := 27) dX0_largestBlock_27 rfl rfl ?_
    refine im_aload_n (pc := 28) dX0_largestBlock_28 rfl rfl ?_
    refine im_gr (pc := 29) fl_X0_102 dX0_largestBlock_29 fun r52 => ?_
    refine im_iload (pc := 32) dX0_largestBlock_32 rfl ?_
    refine im_iald (pc := 34) dX0_largestBlock_34 fun x53 => ?_
    refine im_ldcw (pc := 35) q1125 dX0_largestBlock_35 ?_
    refine im_icmp_ge (pc := 38) (tgt := 45) dX0_largestBlock_38 (by decide) ?_ ?_
    · refine im_iconst (pc := 45) (v := 0) dX0_largestBlock_45 (by decide) ?_
      refine im_iadd (pc := 46) dX0_largestBlock_46 ?_
      refine im_istore_n (pc := 47) (lv' := [some (.inr v0), some (.inl v1), some (.inl v2), some (.inl (v3 + 0)), some (.inl v4)]) dX0_largestBlock_47 rfl (by decide) rfl ?_
      refine im_iinc (pc := 48) (v := (v4 + 1)) (lv' := [some (.inr v0), some (.inl v1), some (.inl v2), some (.inl (v3 + 0)), some (.inl (v4 + 1))]) dX0_largestBlock_48 rfl rfl (by decide) rfl ?_
      refine im_goto (pc := 51) (tgt := 20) dX0_largestBlock_51 (by decide) ?_
      exact Im.back [true, true, true, true, true] rfl rfl
    · refine im_iconst (pc := 41) (v := 1) dX0_largestBlock_41 (by decide) ?_
      refine im_goto (pc := 42) (tgt := 46) dX0_largestBlock_42 (by decide) ?_
      refine im_iadd (pc := 46) dX0_largestBlock_46 ?_
      refine im_istore_n (pc := 47) (lv' := [some (.inr v0), some (.inl v1), some (.inl v2), some (.inl (v3 + 1)), some (.inl v4)]) dX0_largestBlock_47 rfl (by decide) rfl ?_
      refine im_iinc (pc := 48) (v := (v4 + 1)) (lv' := [some (.inr v0), some (.inl v1), some (.inl v2), some (.inl (v3 + 1)), some (.inl (v4 + 1))]) dX0_largestBlock_48 rfl rfl (by decide) rfl ?_
      refine im_goto (pc := 51) (tgt := 20) dX0_largestBlock_51 (by decide) ?_
      exact Im.back [true, true, true, true, true] rfl rfl
theorem tp_largestBlock_L20_ok (X : CT) (v0 : Option Nat) (v1 : Int32) (v2 : Int32) (v3 : Int32) (v4 : Int32) (h : PH) : Im X (cX0_largestBlock, 5, RX0, "largestBlock", (some .int), 4) 20 [some (.inr v0), some (.inl v1), some (.inl v2), some (.inl v3), some (.inl v4)] [] h (tp_largestBlock_L20 v0 v1 v2 v3 v4 h) (ez (fun s : Int32 × Int32 × PH => s.2.2) szI) (ek X 4 (fun s : Int32 × Int32 × PH => [some (.inr v0), some (.inl s.1), some (.inl s.2.1), none, none]) (fun s : Int32 × Int32 × PH => s.2.2) (kI X)) := by
  unfold tp_largestBlock_L20
  exact Im.iter (lv := (fun s : Int32 × Int32 => [some (.inr v0), some (.inl v1), some (.inl v2), some (.inl s.1), some (.inl s.2)])) (hp := (fun s : Int32 × Int32 => h)) (fun s => tp_largestBlock_b20_ok X v0 v1 v2 s.1 s.2 h) _ rfl rfl
noncomputable def tp_largestBlock_b4 (v0 : Option Nat) (v1 : Int32) (v2 : Int32) (h : PH) : Option ((Int32 × Int32 × PH) ⊕ (Int32 × PH)) :=
  (if 60 ≤ v2 then
  some (.inr ((v1, h)))
  else
  (tp_laysSteps v0 v2 h).bind fun h51 =>
  tp_largestBlock_L20 v0 v1 v2 0 0 h51)
noncomputable def tp_largestBlock_L4 (v0 : Option Nat) (v1 : Int32) (v2 : Int32) (h : PH) : Option (Int32 × PH) :=
  iter (fun s : Int32 × Int32 × PH => tp_largestBlock_b4 v0 s.1 s.2.1 s.2.2) (v1, v2, h)
theorem tp_largestBlock_b4_ok (X : CT) (v0 : Option Nat) (v1 : Int32) (v2 : Int32) (h : PH) : Im X (cX0_largestBlock, 5, RX0, "largestBlock", (some .int), 4) 4 [some (.inr v0), some (.inl v1), some (.inl v2), none, none] [] h (tp_largestBlock_b4 v0 v1 v2 h) (ez (fun s : Int32 × Int32 × PH => s.2.2) szI) (ek X 4 (fun s : Int32 × Int32 × PH => [some (.inr v0), some (.inl s.1), some (.inl s.2.1), none, none]) (fun s : Int32 × Int32 × PH => s.2.2) (kI X)) := by
  unfold tp_largestBlock_b4
  refine im_iload_n (pc := 4) dX0_largestBlock_4 rfl rfl ?_
  refine im_bipush (pc := 5) (v := 60) dX0_largestBlock_5 (by decide) ?_
  refine im_icmp_ge (pc := 7) (tgt := 66) dX0_largestBlock_7 (by decide) ?_ ?_
  · refine im_iload_n (pc := 66) dX0_largestBlock_66 rfl rfl ?_
    exact Im.outS (im_iret (pc := 67) dX0_largestBlock_67)
  · refine im_aload_n (pc := 10) dX0_largestBlock_10 rfl rfl ?_
    refine im_iload_n (pc := 11) dX0_largestBlock_11 rfl rfl ?_
    refine cl_X0_292 tp_laysSteps_im (pc := 12) (by decide) dX0_largestBlock_12 (Nat.le_of_ble_eq_true rfl) fun h51 => ?_
    refine im_iconst (pc := 15) (v := 0) dX0_largestBlock_15 (by decide) ?_
    refine im_istore_n (pc := 16) (lv' := [some (.inr v0), some (.inl v1), some (.inl v2), some (.inl 0), none]) dX0_largestBlock_16 rfl (by decide) rfl ?_
    refine im_iconst (pc := 17) (v := 0) dX0_largestBlock_17 (by decide) ?_
    refine im_istore (pc := 18) (lv' := [some (.inr v0), some (.inl v1), some (.inl v2), some (.inl 0), some (.inl 0)]) dX0_largestBlock_18 (by decide) rfl ?_
    exact Im.drop [true, true, true, true, true] rfl (tp_largestBlock_L20_ok X v0 v1 v2 0 0 h51)
theorem tp_largestBlock_L4_ok (X : CT) (v0 : Option Nat) (v1 : Int32) (v2 : Int32) (h : PH) : Im X (cX0_largestBlock, 5, RX0, "largestBlock", (some .int), 4) 4 [some (.inr v0), some (.inl v1), some (.inl v2), none, none] [] h (tp_largestBlock_L4 v0 v1 v2 h) szI (kI X) := by
  unfold tp_largestBlock_L4
  exact Im.iter (lv := (fun s : Int32 × Int32 × PH => [some (.inr v0), some (.inl s.1), some (.inl s.2.1), none, none])) (hp := (fun s : Int32 × Int32 × PH => s.2.2)) (fun s => tp_largestBlock_b4_ok X v0 s.1 s.2.1 s.2.2) _ rfl rfl
noncomputable def tp_largestBlock_0 (v0 : Option Nat) (h : PH) : Option (Int32 × PH) :=
  tp_largestBlock_L4 v0 0 0 h
theorem tp_largestBlock_0_ok (X : CT) (v0 : Option Nat) (h : PH) : Im X (cX0_largestBlock, 5, RX0, "largestBlock", (some .int), 4) 0 [some (.inr v0), none, none, none, none] [] h (tp_largestBlock_0 v0 h) szI (kI X) := by
  unfold tp_largestBlock_0
  refine im_iconst (pc := 0) (v := 0) dX0_largestBlock_0 (by decide) ?_
  refine im_istore_n (pc := 1) (lv' := [some (.inr v0), some (.inl 0), none, none, none]) dX0_largestBlock_1 rfl (by decide) rfl ?_
  refine im_iconst (pc := 2) (v := 0) dX0_largestBlock_2 (by decide) ?_
  refine im_istore_n (pc := 3) (lv' := [some (.inr v0), some (.inl 0), some (.inl 0), none, none]) dX0_largestBlock_3 rfl (by decide) rfl ?_
  exact Im.drop [true, true, true, false, false] rfl (tp_largestBlock_L4_ok X v0 0 0 h)
noncomputable def tp_largestBlock (a0 : Option Nat) (h : PH) : Option (Int32 × PH) := grd (isC [0] a0 h) (tp_largestBlock_0 a0 h)
theorem tp_largestBlock_im : IM_X0_largestBlock tp_largestBlock 4 := by
  intro a0 h r h' e
  obtain ⟨e1, e2⟩ := grd_some e
  exact ⟨e1, SpI.of (k := 4) (plainFor_of_name (by decide)) rfl (fun X => Im.drop [true, false, false, false, false] rfl (tp_largestBlock_0_ok X a0 h)) e2⟩
theorem cl_X0_295 {X : CT} {cc : ByteArray} {nL : Nat} {mn : String} {ret : Option FieldType} {d d0 : Nat} {τ : Type} {pc : Nat} {lv : List (Option PV)} {st : List PV} {h : PH} {sz : τ → Nat × Nat} {K : τ → Prop} {f : Option Nat → PH → Option (Int32 × PH)} (HR : IM_X0_largestBlock f d0) {a0 : Option Nat} {g : Int32 → PH → Option τ} (hd : d0 + 1 ≤ d) (hdg : decode cc pc = .ok (.invokevirtual 295, 3)) (hst : st.length ≤ 8) (kk : ∀ r h', Im X (cc, nL, RX0, mn, ret, d) (pc + 3) lv (.inl r :: st) h' (g r h') sz K) : Im X (cc, nL, RX0, mn, ret, d) pc lv (.inr a0 :: st) h (bd2 (f a0 h) g) sz K := by
  refine im_cI (y := yX0_largestBlock) (cY := cX0_largestBlock) (nY := 5) (rY := (some .int)) (d' := d0) (av := [.inr a0]) (fun r h' e hX => ?_) (fun r h' e => (HR _ _ _ _ e).2) hd (by decide) hst rfl kk
  obtain ⟨a, c, fs, rfl, ec, hm⟩ := isC_some (HR _ _ _ _ e).1
  cases List.mem_singleton.mp hm
  exact cal_V (n := 0) hX (lw_V q1117 q1119 qs40 q106 q1120) (by decide +kernel) rfl rfl ec hdg

def IM_X0_silent (f : Option Nat → Int32 → PH → Option (Int32 × PH)) (d : Nat) : Prop := ∀ (a0 : Option Nat) (a1 : Int32) (h : PH) (r : Int32) (h' : PH), f a0 a1 h = some (r, h') → isC [0] a0 h = true ∧ SpI yX0_silent cX0_silent 5 (some .int) d [.inr a0, .inl a1] h r h'
noncomputable def tp_silent_b28 (v0 : Option Nat) (v1 : Int32) (v2 : Int32) (v3 : Int32) (v4 : Int32) (h : PH) : Option ((Int32 × Int32 × Int32) ⊕ (Int32 × PH)) :=
  (if 60 ≤ v4 then
  (if v1 = 0 then
  some (.inr ((v2, h)))
  else
  some (.inr ((v3, h))))
  else
  (gfr [0] 1 v0 h).bind fun r51 =>
  (yd_whoLiesAt r51 v4 h).bind fun x52 =>
  (if x52 = (-1) then
  (gfr [0] 1 v0 h).bind fun r53 =>
  (yd_around r53 v4 h).bind fun x54 =>
  (if x54 = 0 then
  (if v3 = (-2) then
  some (.inl ((v2 + 1), v4, (v4 + 1)))
  else
  some (.inl ((v2 + 1), v3, (v4 + 1))))
  else
  some (.inl (v2, v3, (v4 + 1))))
  else
  some (.inl (v2, v3, (v4 + 1)))))
noncomputable def tp_silent_L28 (v0 : Option Nat) (v1 : Int32) (v2 : Int32) (v3 : Int32) (v4 : Int32) (h : PH) : Option (Int32 × PH) :=
  iter (fun s : Int32 × Int32 × Int32 => tp_silent_b28 v0 v1 s.1 s.2.1 s.2.2 h) (v2, v3, v4)
theorem tp_silent_b28_ok (X : CT) (v0 : Option Nat) (v1 : Int32) (v2 : Int32) (v3 : Int32) (v4 : Int32) (h : PH) : Im X (cX0_silent, 5, RX0, "silent", (some .int), 5) 28 [some (.inr v0), some (.inl v1), some (.inl v2), some (.inl v3), some (.inl v4)] [] h (tp_silent_b28 v0 v1 v2 v3 v4 h) (ez (fun s : Int32 × Int32 × Int32 => h) szI) (ek X 28 (fun s : Int32 × Int32 × Int32 => [some (.inr v0), some (.inl v1), some (.inl s.1), some (.inl s.2.1), some (.inl s.2.2)]) (fun s : Int32 × Int32 × Int32 => h) (kI X)) := by
  unfold tp_silent_b28
  refine im_iload (pc := 28) dX0_silent_28 rfl ?_
  refine im_bipush (pc := 30) (v := 60) dX0_silent_30 (by decide) ?_
  refine im_icmp_ge (pc := 32) (tgt := 85) dX0_silent_32 (by decide) ?_ ?_
  · refine im_iload_n (pc := 85) dX0_silent_85 rfl rfl ?_
    refine im_if_ne (pc := 86) (tgt := 93) dX0_silent_86 (by decide) ?_ ?_
    · refine im_iload_n (pc := 93) dX0_silent_93 rfl rfl ?_
      exact Im.outS (im_iret (pc := 94) dX0_silent_94)
    · refine im_iload_n (pc := 89) dX0_silent_89 rfl rfl ?_
      refine im_goto (pc := 90) (tgt := 94) dX0_silent_90 (by decide) ?_
      exact Im.outS (im_iret (pc := 94) dX0_silent_94)
  · refine im_aload_n (pc := 35) dX0_silent_35 rfl rfl ?_
    refine im_gr (pc := 36) fl_X0_63 dX0_silent_36 fun r51 => ?_
    refine im_iload (pc := 39) dX0_silent_39 rfl ?_
    refine cl_X0_218 yd_whoLiesAt_im (pc := 41) (by decide) dX0_silent_41 (Nat.le_of_ble_eq_true rfl) fun x52 => ?_
    refine im_iconst (pc := 44) (v := (-1)) dX0_silent_44 (by decide) ?_
    refine im_icmp_ne (pc := 45) (tgt := 79) dX0_silent_45 (by decide) ?_ ?_
    · refine im_iinc (pc := 79) (v := (v4 + 1)) (lv' := [some (.inr v0), some (.inl v1), some (.inl v2), some (.inl v3), some (.inl (v4 + 1))]) dX0_silent_79 rfl rfl (by decide) rfl ?_
      refine im_goto (pc := 82) (tgt := 28) dX0_silent_82 (by decide) ?_
      exact Im.back [true, true, true, true, true] rfl rfl
    · refine im_aload_n (pc := 48) dX0_silent_48 rfl rfl ?_
      refine im_gr (pc := 49) fl_X0_63 dX0_silent_49 fun r53 => ?_
      refine im_iload (pc := 52) dX0_silent_52 rfl ?_
      refine cl_X0_212 yd_around_im (pc := 54) (by decide) dX0_silent_54 (Nat.le_of_ble_eq_true rfl) fun x54 => ?_
      refine im_if_eq (pc := 57) (tgt := 63) dX0_silent_57 (by decide) ?_ ?_
      · refine im_iinc (pc := 63) (v := (v2 + 1)) (lv' := [some (.inr v0), some (.inl v1), some (.inl (v2 + 1)), some (.inl v3), some (.inl v4)]) dX0_silent_63 rfl rfl (by decide) rfl ?_
        refine im_iload_n (pc := 66) dX0_silent_66 rfl rfl ?_
        refine im_bipush (pc := 67) (v := (-2)) dX0_silent_67 (by decide) ?_
        refine im_icmp_ne (pc := 69) (tgt := 77) dX0_silent_69 (by decide) ?_ ?_
        · refine im_iload_n (pc := 77) dX0_silent_77 rfl rfl ?_
          refine im_istore_n (pc := 78) (lv' := [some (.inr v0), some (.inl v1), some (.inl (v2 + 1)), some (.inl v3), some (.inl v4)]) dX0_silent_78 rfl (by decide) rfl ?_
          refine im_iinc (pc := 79) (v := (v4 + 1)) (lv' := [some (.inr v0), some (.inl v1), some (.inl (v2 + 1)), some (.inl v3), some (.inl (v4 + 1))]) dX0_silent_79 rfl rfl (by decide) rfl ?_
          refine im_goto (pc := 82) (tgt := 28) dX0_silent_82 (by decide) ?_
          exact Im.back [true, true, true, true, true] rfl rfl
        · refine im_iload (pc := 72) dX0_silent_72 rfl ?_
          refine im_goto (pc := 74) (tgt := 78) dX0_silent_74 (by decide) ?_
          refine im_istore_n (pc := 78) (lv' := [some (.inr v0), some (.inl v1), some (.inl (v2 + 1)), some (.inl v4), some (.inl v4)]) dX0_silent_78 rfl (by decide) rfl ?_
          refine im_iinc (pc := 79) (v := (v4 + 1)) (lv' := [some (.inr v0), some (.inl v1), some (.inl (v2 + 1)), some (.inl v4), some (.inl (v4 + 1))]) dX0_silent_79 rfl rfl (by decide) rfl ?_
          refine im_goto (pc := 82) (tgt := 28) dX0_silent_82 (by decide) ?_
          exact Im.back [true, true, true, true, true] rfl rfl
      · refine im_goto (pc := 60) (tgt := 79) dX0_silent_60 (by decide) ?_
        refine im_iinc (pc := 79) (v := (v4 + 1)) (lv' := [some (.inr v0), some (.inl v1), some (.inl v2), some (.inl v3), some (.inl (v4 + 1))]) dX0_silent_79 rfl rfl (by decide) rfl ?_
        refine im_goto (pc := 82) (tgt := 28) dX0_silent_82 (by decide) ?_
        exact Im.back [true, true, true, true, true] rfl rfl
theorem tp_silent_L28_ok (X : CT) (v0 : Option Nat) (v1 : Int32) (v2 : Int32) (v3 : Int32) (v4 : Int32) (h : PH) : Im X (cX0_silent, 5, RX0, "silent", (some .int), 5) 28 [some (.inr v0), some (.inl v1), some (.inl v2), some (.inl v3), some (.inl v4)] [] h (tp_silent_L28 v0 v1 v2 v3 v4 h) szI (kI X) := by
  unfold tp_silent_L28
  exact Im.iter (lv := (fun s : Int32 × Int32 × Int32 => [some (.inr v0), some (.inl v1), some (.inl s.1), some (.inl s.2.1), some (.inl s.2.2)])) (hp := (fun s : Int32 × Int32 × Int32 => h)) (fun s => tp_silent_b28_ok X v0 v1 s.1 s.2.1 s.2.2 h) _ rfl rfl
noncomputable def tp_silent_0 (v0 : Option Nat) (v1 : Int32) (h : PH) : Option (Int32 × PH) :=
  (tp_in v1 3 h).bind fun x51 =>
  (if x51 = 0 then
  some (((-1), h))
  else
  (if v1 = 2 then
  bd2 (tp_largestBlock v0 h) fun x53 h52 =>
  some ((x53, h52))
  else
  tp_silent_L28 v0 v1 0 (-2) 0 h))
theorem tp_silent_0_ok (X : CT) (v0 : Option Nat) (v1 : Int32) (h : PH) : Im X (cX0_silent, 5, RX0, "silent", (some .int), 5) 0 [some (.inr v0), some (.inl v1), none, none, none] [] h (tp_silent_0 v0 v1 h) szI (kI X) := by
  unfold tp_silent_0
  refine im_iload_n (pc := 0) dX0_silent_0 rfl rfl ?_
  refine im_iconst (pc := 1) (v := 3) dX0_silent_1 (by decide) ?_
  refine cl_X0_25 tp_in_im (pc := 2) (by decide) dX0_silent_2 (Nat.le_of_ble_eq_true rfl) fun x51 => ?_
  refine im_if_ne (pc := 5) (tgt := 10) dX0_silent_5 (by decide) ?_ ?_
  · refine im_iload_n (pc := 10) dX0_silent_10 rfl rfl ?_
    refine im_iconst (pc := 11) (v := 2) dX0_silent_11 (by decide) ?_
    refine im_icmp_ne (pc := 12) (tgt := 20) dX0_silent_12 (by decide) ?_ ?_
    · refine im_iconst (pc := 20) (v := 0) dX0_silent_20 (by decide) ?_
      refine im_istore_n (pc := 21) (lv' := [some (.inr v0), some (.inl v1), some (.inl 0), none, none]) dX0_silent_21 rfl (by decide) rfl ?_
      refine im_bipush (pc := 22) (v := (-2)) dX0_silent_22 (by decide) ?_
      refine im_istore_n (pc := 24) (lv' := [some (.inr v0), some (.inl v1), some (.inl 0), some (.inl (-2)), none]) dX0_silent_24 rfl (by decide) rfl ?_
      refine im_iconst (pc := 25) (v := 0) dX0_silent_25 (by decide) ?_
      refine im_istore (pc := 26) (lv' := [some (.inr v0), some (.inl v1), some (.inl 0), some (.inl (-2)), some (.inl 0)]) dX0_silent_26 (by decide) rfl ?_
      exact Im.drop [true, true, true, true, true] rfl (tp_silent_L28_ok X v0 v1 0 (-2) 0 h)
    · refine im_aload_n (pc := 15) dX0_silent_15 rfl rfl ?_
      refine cl_X0_295 tp_largestBlock_im (pc := 16) (by decide) dX0_silent_16 (Nat.le_of_ble_eq_true rfl) fun x53 h52 => ?_
      exact im_iret (pc := 19) dX0_silent_19
  · refine im_iconst (pc := 8) (v := (-1)) dX0_silent_8 (by decide) ?_
    exact im_iret (pc := 9) dX0_silent_9
noncomputable def tp_silent (a0 : Option Nat) (a1 : Int32) (h : PH) : Option (Int32 × PH) := grd (isC [0] a0 h) (tp_silent_0 a0 a1 h)
theorem tp_silent_im : IM_X0_silent tp_silent 5 := by
  intro a0 a1 h r h' e
  obtain ⟨e1, e2⟩ := grd_some e
  exact ⟨e1, SpI.of (k := 3) (plainFor_of_name (by decide)) rfl (fun X => Im.drop [true, true, false, false, false] rfl (tp_silent_0_ok X a0 a1 h)) e2⟩
def IM_X0_stepsTo (f : Option Nat → Int32 → PH → Option (Int32)) (d : Nat) : Prop := ∀ (a0 : Option Nat) (a1 : Int32) (h : PH) (r : Int32), f a0 a1 h = some r → isC [0] a0 h = true ∧ SpI yX0_stepsTo cX0_stepsTo 5 (some .int) d [.inr a0, .inl a1] h r h
noncomputable def tp_stepsTo_b6 (v0 : Option Nat) (v1 : Int32) (v2 : Int32) (v3 : Int32) (h : PH) : Option ((Int32 × Int32) ⊕ (Int32)) :=
  (if 4 ≤ v3 then
  some (.inr v2)
  else
  (gfr [0] 1 v0 h).bind fun r51 =>
  (gfr [2] 0 r51 h).bind fun r52 =>
  (aldr 2 r52 v1 h).bind fun r53 =>
  (gfi [3] 2 r53 h).bind fun x54 =>
  (tp_next x54 v3 h).bind fun x55 =>
  (if x55 = (-1) then
  some (.inl (v2, (v3 + 1)))
  else
  (gfr [0] 19 v0 h).bind fun r56 =>
  (ald 0 r56 x55 h).bind fun x57 =>
  (jM_min v2 x57 h).bind fun x58 =>
  some (.inl (x58, (v3 + 1)))))
noncomputable def tp_stepsTo_L6 (v0 : Option Nat) (v1 : Int32) (v2 : Int32) (v3 : Int32) (h : PH) : Option (Int32) :=
  iter (fun s : Int32 × Int32 => tp_stepsTo_b6 v0 v1 s.1 s.2 h) (v2, v3)
theorem tp_stepsTo_b6_ok (X : CT) (v0 : Option Nat) (v1 : Int32) (v2 : Int32) (v3 : Int32) (h : PH) : Im X (cX0_stepsTo, 5, RX0, "stepsTo", (some .int), 3) 6 [some (.inr v0), some (.inl v1), some (.inl v2), some (.inl v3), none] [] h (tp_stepsTo_b6 v0 v1 v2 v3 h) (ez (fun s : Int32 × Int32 => h) (szP h)) (ek X 6 (fun s : Int32 × Int32 => [some (.inr v0), some (.inl v1), some (.inl s.1), some (.inl s.2), none]) (fun s : Int32 × Int32 => h) (kP X h)) := by
  unfold tp_stepsTo_b6
  refine im_iload_n (pc := 6) dX0_stepsTo_6 rfl rfl ?_
  refine im_iconst (pc := 7) (v := 4) dX0_stepsTo_7 (by decide) ?_
  refine im_icmp_ge (pc := 8) (tgt := 57) dX0_stepsTo_8 (by decide) ?_ ?_
  · refine im_iload_n (pc := 57) dX0_stepsTo_57 rfl rfl ?_
    exact Im.outS (im_iretP (pc := 58) dX0_stepsTo_58)
  · refine im_aload_n (pc := 11) dX0_stepsTo_11 rfl rfl ?_
    refine im_gr (pc := 12) fl_X0_63 dX0_stepsTo_12 fun r51 => ?_
    refine im_gr (pc := 15) fl_X0_109 dX0_stepsTo_15 fun r52 => ?_
    refine im_iload_n (pc := 18) dX0_stepsTo_18 rfl rfl ?_
    refine im_aald (pc := 19) (t := 2) (by decide) (by decide) dX0_stepsTo_19 fun r53 => ?_
    refine im_gi (pc := 20) fl_X0_130 dX0_stepsTo_20 fun x54 => ?_
    refine im_iload_n (pc := 23) dX0_stepsTo_23 rfl rfl ?_
    refine cl_X0_29 tp_next_im (pc := 24) (by decide) dX0_stepsTo_24 (Nat.le_of_ble_eq_true rfl) fun x55 => ?_
    refine im_istore (pc := 27) (lv' := [some (.inr v0), some (.inl v1), some (.inl v2), some (.inl v3), some (.inl x55)]) dX0_stepsTo_27 (by decide) rfl ?_
    refine im_iload (pc := 29) dX0_stepsTo_29 rfl ?_
    refine im_iconst (pc := 31) (v := (-1)) dX0_stepsTo_31 (by decide) ?_
    refine im_icmp_ne (pc := 32) (tgt := 39) dX0_stepsTo_32 (by decide) ?_ ?_
    · refine im_iload_n (pc := 39) dX0_stepsTo_39 rfl rfl ?_
      refine im_aload_n (pc := 40) dX0_stepsTo_40 rfl rfl ?_
      refine im_gr (pc := 41) fl_X0_102 dX0_stepsTo_41 fun r56 => ?_
      refine im_iload (pc := 44) dX0_stepsTo_44 rfl ?_
      refine im_iald (pc := 46) dX0_stepsTo_46 fun x57 => ?_
      refine cl_X0_1 jM_min_im (pc := 47) (by decide) dX0_stepsTo_47 (Nat.le_of_ble_eq_true rfl) fun x58 => ?_
      refine im_istore_n (pc := 50) (lv' := [some (.inr v0), some (.inl v1), some (.inl x58), some (.inl v3), some (.inl x55)]) dX0_stepsTo_50 rfl (by decide) rfl ?_
      refine im_iinc (pc := 51) (v := (v3 + 1)) (lv' := [some (.inr v0), some (.inl v1), some (.inl x58), some (.inl (v3 + 1)), some (.inl x55)]) dX0_stepsTo_51 rfl rfl (by decide) rfl ?_
      refine im_goto (pc := 54) (tgt := 6) dX0_stepsTo_54 (by decide) ?_
      exact Im.back [true, true, true, true, false] rfl rfl
    · refine im_iload_n (pc := 35) dX0_stepsTo_35 rfl rfl ?_
      refine im_goto (pc := 36) (tgt := 50) dX0_stepsTo_36 (by decide) ?_
      refine im_istore_n (pc := 50) (lv' := [some (.inr v0), some (.inl v1), some (.inl v2), some (.inl v3), some (.inl x55)]) dX0_stepsTo_50 rfl (by decide) rfl ?_
      refine im_iinc (pc := 51) (v := (v3 + 1)) (lv' := [some (.inr v0), some (.inl v1), some (.inl v2), some (.inl (v3 + 1)), some (.inl x55)]) dX0_stepsTo_51 rfl rfl (by decide) rfl ?_
      refine im_goto (pc := 54) (tgt := 6) dX0_stepsTo_54 (by decide) ?_
      exact Im.back [true, true, true, true, false] rfl rfl
theorem tp_stepsTo_L6_ok (X : CT) (v0 : Option Nat) (v1 : Int32) (v2 : Int32) (v3 : Int32) (h : PH) : Im X (cX0_stepsTo, 5, RX0, "stepsTo", (some .int), 3) 6 [some (.inr v0), some (.inl v1), some (.inl v2), some (.inl v3), none] [] h (tp_stepsTo_L6 v0 v1 v2 v3 h) (szP h) (kP X h) := by
  unfold tp_stepsTo_L6
  exact Im.iter (lv := (fun s : Int32 × Int32 => [some (.inr v0), some (.inl v1), some (.inl s.1), some (.inl s.2), none])) (hp := (fun s : Int32 × Int32 => h)) (fun s => tp_stepsTo_b6_ok X v0 v1 s.1 s.2 h) _ rfl rfl
noncomputable def tp_stepsTo_0 (v0 : Option Nat) (v1 : Int32) (h : PH) : Option (Int32) :=
  tp_stepsTo_L6 v0 v1 268435456 0 h
theorem tp_stepsTo_0_ok (X : CT) (v0 : Option Nat) (v1 : Int32) (h : PH) : Im X (cX0_stepsTo, 5, RX0, "stepsTo", (some .int), 3) 0 [some (.inr v0), some (.inl v1), none, none, none] [] h (tp_stepsTo_0 v0 v1 h) (szP h) (kP X h) := by
  unfold tp_stepsTo_0
  refine im_ldcw (pc := 0) q1125 dX0_stepsTo_0 ?_
  refine im_istore_n (pc := 3) (lv' := [some (.inr v0), some (.inl v1), some (.inl 268435456), none, none]) dX0_stepsTo_3 rfl (by decide) rfl ?_
  refine im_iconst (pc := 4) (v := 0) dX0_stepsTo_4 (by decide) ?_
  refine im_istore_n (pc := 5) (lv' := [some (.inr v0), some (.inl v1), some (.inl 268435456), some (.inl 0), none]) dX0_stepsTo_5 rfl (by decide) rfl ?_
  exact Im.drop [true, true, true, true, false] rfl (tp_stepsTo_L6_ok X v0 v1 268435456 0 h)
noncomputable def tp_stepsTo (a0 : Option Nat) (a1 : Int32) (h : PH) : Option (Int32) := grd (isC [0] a0 h) (tp_stepsTo_0 a0 a1 h)
theorem tp_stepsTo_im : IM_X0_stepsTo tp_stepsTo 3 := by
  intro a0 a1 h r e
  obtain ⟨e1, e2⟩ := grd_some e
  exact ⟨e1, SpI.ofP (k := 3) (plainFor_of_name (by decide)) rfl (fun X => Im.drop [true, true, false, false, false] rfl (tp_stepsTo_0_ok X a0 a1 h)) e2⟩
theorem cl_X0_298 {X : CT} {cc : ByteArray} {nL : Nat} {mn : String} {ret : Option FieldType} {d d0 : Nat} {τ : Type} {pc : Nat} {lv : List (Option PV)} {st : List PV} {h : PH} {sz : τ → Nat × Nat} {K : τ → Prop} {f : Option Nat → Int32 → PH → Option (Int32)} (HR : IM_X0_stepsTo f d0) {a0 : Option Nat} {a1 : Int32} {g : Int32 → Option τ} (hd : d0 + 1 ≤ d) (hdg : decode cc pc = .ok (.invokevirtual 298, 3)) (hst : st.length ≤ 8) (kk : ∀ r, Im X (cc, nL, RX0, mn, ret, d) (pc + 3) lv (.inl r :: st) h (g r) sz K) : Im X (cc, nL, RX0, mn, ret, d) pc lv (.inl a1 :: .inr a0 :: st) h ((f a0 a1 h).bind g) sz K := by
  refine im_cP (y := yX0_stepsTo) (cY := cX0_stepsTo) (nY := 5) (rY := (some .int)) (d' := d0) (av := [.inr a0, .inl a1]) (fun r e hX => ?_) (fun r e => (HR _ _ _ _ e).2) hd (by decide) hst rfl kk
  obtain ⟨a, c, fs, rfl, ec, hm⟩ := isC_some (HR _ _ _ _ e).1
  cases List.mem_singleton.mp hm
  exact cal_V (n := 1) hX (lw_V q1130 q1132 qs42 q106 q1133) (by decide +kernel) rfl rfl ec hdg

def IM_X0_visit (f : Option Nat → Int32 → PH → Option (Int32 × PH)) (d : Nat) : Prop := ∀ (a0 : Option Nat) (a1 : Int32) (h : PH) (r : Int32) (h' : PH), f a0 a1 h = some (r, h') → isC [0] a0 h = true ∧ SpI yX0_visit cX0_visit 2 (some .int) d [.inr a0, .inl a1] h r h'
noncomputable def tp_visit_0 (v0 : Option Nat) (v1 : Int32) (h : PH) : Option (Int32 × PH) :=
  (tp_isTold v0 v1 h).bind fun x51 =>
  (if x51 = 0 then
  some (((-1), h))
  else
  (gfr [0] 1 v0 h).bind fun r52 =>
  (gfr [2] 0 r52 h).bind fun r53 =>
  (aldr 2 r53 v1 h).bind fun r54 =>
  (pe_isLaid r54 h).bind fun x55 =>
  (if x55 = 0 then
  some (((-2), h))
  else
  (tp_laysSteps v0 0 h).bind fun h56 =>
  (tp_stepsTo v0 v1 h56).bind fun x57 =>
  (if x57 = 268435456 then
  some (((-2), h56))
  else
  (tp_stepsTo v0 v1 h56).bind fun x58 =>
  some ((x58, h56)))))
theorem tp_visit_0_ok (X : CT) (v0 : Option Nat) (v1 : Int32) (h : PH) : Im X (cX0_visit, 2, RX0, "visit", (some .int), 4) 0 [some (.inr v0), some (.inl v1)] [] h (tp_visit_0 v0 v1 h) szI (kI X) := by
  unfold tp_visit_0
  refine im_aload_n (pc := 0) dX0_visit_0 rfl rfl ?_
  refine im_iload_n (pc := 1) dX0_visit_1 rfl rfl ?_
  refine cl_X0_187 tp_isTold_im (pc := 2) (by decide) dX0_visit_2 (Nat.le_of_ble_eq_true rfl) fun x51 => ?_
  refine im_if_ne (pc := 5) (tgt := 10) dX0_visit_5 (by decide) ?_ ?_
  · refine im_aload_n (pc := 10) dX0_visit_10 rfl rfl ?_
    refine im_gr (pc := 11) fl_X0_63 dX0_visit_11 fun r52 => ?_
    refine im_gr (pc := 14) fl_X0_109 dX0_visit_14 fun r53 => ?_
    refine im_iload_n (pc := 17) dX0_visit_17 rfl rfl ?_
    refine im_aald (pc := 18) (t := 2) (by decide) (by decide) dX0_visit_18 fun r54 => ?_
    refine cl_X0_183 pe_isLaid_im (pc := 19) (by decide) dX0_visit_19 (Nat.le_of_ble_eq_true rfl) fun x55 => ?_
    refine im_if_ne (pc := 22) (tgt := 28) dX0_visit_22 (by decide) ?_ ?_
    · refine im_aload_n (pc := 28) dX0_visit_28 rfl rfl ?_
      refine im_iconst (pc := 29) (v := 0) dX0_visit_29 (by decide) ?_
      refine cl_X0_292 tp_laysSteps_im (pc := 30) (by decide) dX0_visit_30 (Nat.le_of_ble_eq_true rfl) fun h56 => ?_
      refine im_aload_n (pc := 33) dX0_visit_33 rfl rfl ?_
      refine im_iload_n (pc := 34) dX0_visit_34 rfl rfl ?_
      refine cl_X0_298 tp_stepsTo_im (pc := 35) (by decide) dX0_visit_35 (Nat.le_of_ble_eq_true rfl) fun x57 => ?_
      refine im_ldcw (pc := 38) q1125 dX0_visit_38 ?_
      refine im_icmp_ne (pc := 41) (tgt := 49) dX0_visit_41 (by decide) ?_ ?_
      · refine im_aload_n (pc := 49) dX0_visit_49 rfl rfl ?_
        refine im_iload_n (pc := 50) dX0_visit_50 rfl rfl ?_
        refine cl_X0_298 tp_stepsTo_im (pc := 51) (by decide) dX0_visit_51 (Nat.le_of_ble_eq_true rfl) fun x58 => ?_
        exact im_iret (pc := 54) dX0_visit_54
      · refine im_bipush (pc := 44) (v := (-2)) dX0_visit_44 (by decide) ?_
        refine im_goto (pc := 46) (tgt := 54) dX0_visit_46 (by decide) ?_
        exact im_iret (pc := 54) dX0_visit_54
    · refine im_bipush (pc := 25) (v := (-2)) dX0_visit_25 (by decide) ?_
      exact im_iret (pc := 27) dX0_visit_27
  · refine im_iconst (pc := 8) (v := (-1)) dX0_visit_8 (by decide) ?_
    exact im_iret (pc := 9) dX0_visit_9
noncomputable def tp_visit (a0 : Option Nat) (a1 : Int32) (h : PH) : Option (Int32 × PH) := grd (isC [0] a0 h) (tp_visit_0 a0 a1 h)
theorem tp_visit_im : IM_X0_visit tp_visit 4 := by
  intro a0 a1 h r h' e
  obtain ⟨e1, e2⟩ := grd_some e
  exact ⟨e1, SpI.of (k := 0) (plainFor_of_name (by decide)) rfl (fun X => Im.drop [true, true] rfl (tp_visit_0_ok X a0 a1 h)) e2⟩
def IM_X0_visited (f : Option Nat → PH → Option (Int32 × PH)) (d : Nat) : Prop := ∀ (a0 : Option Nat) (h : PH) (r : Int32) (h' : PH), f a0 h = some (r, h') → isC [0] a0 h = true ∧ SpI yX0_visited cX0_visited 3 (some .int) d [.inr a0] h r h'
noncomputable def tp_visited_b9 (v0 : Option Nat) (v1 : Int32) (v2 : Int32) (h : PH) : Option ((Int32 × Int32) ⊕ (Int32 × PH)) :=
  (if 16 ≤ v2 then
  some (.inr ((v1, h)))
  else
  (gfr [0] 1 v0 h).bind fun r51 =>
  (gfr [2] 0 r51 h).bind fun r52 =>
  (aldr 2 r52 v2 h).bind fun r53 =>
  (pe_isLaid r53 h).bind fun x54 =>
  (if x54 = 0 then
  some (.inl ((v1 ||| 0), (v2 + 1)))
  else
  (tp_stepsTo v0 v2 h).bind fun x55 =>
  (if 268435456 ≤ x55 then
  some (.inl ((v1 ||| 0), (v2 + 1)))
  else
  some (.inl ((v1 ||| ((1 : Int32) <<< (v2 &&& 31))), (v2 + 1))))))
noncomputable def tp_visited_L9 (v0 : Option Nat) (v1 : Int32) (v2 : Int32) (h : PH) : Option (Int32 × PH) :=
  iter (fun s : Int32 × Int32 => tp_visited_b9 v0 s.1 s.2 h) (v1, v2)
theorem tp_visited_b9_ok (X : CT) (v0 : Option Nat) (v1 : Int32) (v2 : Int32) (h : PH) : Im X (cX0_visited, 3, RX0, "visited", (some .int), 4) 9 [some (.inr v0), some (.inl v1), some (.inl v2)] [] h (tp_visited_b9 v0 v1 v2 h) (ez (fun s : Int32 × Int32 => h) szI) (ek X 9 (fun s : Int32 × Int32 => [some (.inr v0), some (.inl s.1), some (.inl s.2)]) (fun s : Int32 × Int32 => h) (kI X)) := by
  unfold tp_visited_b9
  refine im_iload_n (pc := 9) dX0_visited_9 rfl rfl ?_
  refine im_bipush (pc := 10) (v := 16) dX0_visited_10 (by decide) ?_
  refine im_icmp_ge (pc := 12) (tgt := 57) dX0_visited_12 (by decide) ?_ ?_
  · refine im_iload_n (pc := 57) dX0_visited_57 rfl rfl ?_
    exact Im.outS (im_iret (pc := 58) dX0_visited_58)
  · refine im_iload_n (pc := 15) dX0_visited_15 rfl rfl ?_
    refine im_aload_n (pc := 16) dX0_visited_16 rfl rfl ?_
    refine im_gr (pc := 17) fl_X0_63 dX0_visited_17 fun r51 => ?_
    refine im_gr (pc := 20) fl_X0_109 dX0_visited_20 fun r52 => ?_
    refine im_iload_n (pc := 23) dX0_visited_23 rfl rfl ?_
    refine im_aald (pc := 24) (t := 2) (by decide) (by decide) dX0_visited_24 fun r53 => ?_
    refine cl_X0_183 pe_isLaid_im (pc := 25) (by decide) dX0_visited_25 (Nat.le_of_ble_eq_true rfl) fun x54 => ?_
    refine im_if_eq (pc := 28) (tgt := 48) dX0_visited_28 (by decide) ?_ ?_
    · refine im_iconst (pc := 48) (v := 0) dX0_visited_48 (by decide) ?_
      refine im_ior (pc := 49) dX0_visited_49 ?_
      refine im_istore_n (pc := 50) (lv' := [some (.inr v0), some (.inl (v1 ||| 0)), some (.inl v2)]) dX0_visited_50 rfl (by decide) rfl ?_
      refine im_iinc (pc := 51) (v := (v2 + 1)) (lv' := [some (.inr v0), some (.inl (v1 ||| 0)), some (.inl (v2 + 1))]) dX0_visited_51 rfl rfl (by decide) rfl ?_
      refine im_goto (pc := 54) (tgt := 9) dX0_visited_54 (by decide) ?_
      exact Im.back [true, true, true] rfl rfl
    · refine im_aload_n (pc := 31) dX0_visited_31 rfl rfl ?_
      refine im_iload_n (pc := 32) dX0_visited_32 rfl rfl ?_
      refine cl_X0_298 tp_stepsTo_im (pc := 33) (by decide) dX0_visited_33 (Nat.le_of_ble_eq_true rfl) fun x55 => ?_
      refine im_ldcw (pc := 36) q1125 dX0_visited_36 ?_
      refine im_icmp_ge (pc := 39) (tgt := 48) dX0_visited_39 (by decide) ?_ ?_
      · refine im_iconst (pc := 48) (v := 0) dX0_visited_48 (by decide) ?_
        refine im_ior (pc := 49) dX0_visited_49 ?_
        refine im_istore_n (pc := 50) (lv' := [some (.inr v0), some (.inl (v1 ||| 0)), some (.inl v2)]) dX0_visited_50 rfl (by decide) rfl ?_
        refine im_iinc (pc := 51) (v := (v2 + 1)) (lv' := [some (.inr v0), some (.inl (v1 ||| 0)), some (.inl (v2 + 1))]) dX0_visited_51 rfl rfl (by decide) rfl ?_
        refine im_goto (pc := 54) (tgt := 9) dX0_visited_54 (by decide) ?_
        exact Im.back [true, true, true] rfl rfl
      · refine im_iconst (pc := 42) (v := 1) dX0_visited_42 (by decide) ?_
        refine im_iload_n (pc := 43) dX0_visited_43 rfl rfl ?_
        refine im_ishl (pc := 44) dX0_visited_44 ?_
        refine im_goto (pc := 45) (tgt := 49) dX0_visited_45 (by decide) ?_
        refine im_ior (pc := 49) dX0_visited_49 ?_
        refine im_istore_n (pc := 50) (lv' := [some (.inr v0), some (.inl (v1 ||| ((1 : Int32) <<< (v2 &&& 31)))), some (.inl v2)]) dX0_visited_50 rfl (by decide) rfl ?_
        refine im_iinc (pc := 51) (v := (v2 + 1)) (lv' := [some (.inr v0), some (.inl (v1 ||| ((1 : Int32) <<< (v2 &&& 31)))), some (.inl (v2 + 1))]) dX0_visited_51 rfl rfl (by decide) rfl ?_
        refine im_goto (pc := 54) (tgt := 9) dX0_visited_54 (by decide) ?_
        exact Im.back [true, true, true] rfl rfl
theorem tp_visited_L9_ok (X : CT) (v0 : Option Nat) (v1 : Int32) (v2 : Int32) (h : PH) : Im X (cX0_visited, 3, RX0, "visited", (some .int), 4) 9 [some (.inr v0), some (.inl v1), some (.inl v2)] [] h (tp_visited_L9 v0 v1 v2 h) szI (kI X) := by
  unfold tp_visited_L9
  exact Im.iter (lv := (fun s : Int32 × Int32 => [some (.inr v0), some (.inl s.1), some (.inl s.2)])) (hp := (fun s : Int32 × Int32 => h)) (fun s => tp_visited_b9_ok X v0 s.1 s.2 h) _ rfl rfl
noncomputable def tp_visited_0 (v0 : Option Nat) (h : PH) : Option (Int32 × PH) :=
  (tp_laysSteps v0 0 h).bind fun h51 =>
  tp_visited_L9 v0 0 0 h51
theorem tp_visited_0_ok (X : CT) (v0 : Option Nat) (h : PH) : Im X (cX0_visited, 3, RX0, "visited", (some .int), 4) 0 [some (.inr v0), none, none] [] h (tp_visited_0 v0 h) szI (kI X) := by
  unfold tp_visited_0
  refine im_aload_n (pc := 0) dX0_visited_0 rfl rfl ?_
  refine im_iconst (pc := 1) (v := 0) dX0_visited_1 (by decide) ?_
  refine cl_X0_292 tp_laysSteps_im (pc := 2) (by decide) dX0_visited_2 (Nat.le_of_ble_eq_true rfl) fun h51 => ?_
  refine im_iconst (pc := 5) (v := 0) dX0_visited_5 (by decide) ?_
  refine im_istore_n (pc := 6) (lv' := [some (.inr v0), some (.inl 0), none]) dX0_visited_6 rfl (by decide) rfl ?_
  refine im_iconst (pc := 7) (v := 0) dX0_visited_7 (by decide) ?_
  refine im_istore_n (pc := 8) (lv' := [some (.inr v0), some (.inl 0), some (.inl 0)]) dX0_visited_8 rfl (by decide) rfl ?_
  exact Im.drop [true, true, true] rfl (tp_visited_L9_ok X v0 0 0 h51)
noncomputable def tp_visited (a0 : Option Nat) (h : PH) : Option (Int32 × PH) := grd (isC [0] a0 h) (tp_visited_0 a0 h)
theorem tp_visited_im : IM_X0_visited tp_visited 4 := by
  intro a0 h r h' e
  obtain ⟨e1, e2⟩ := grd_some e
  exact ⟨e1, SpI.of (k := 2) (plainFor_of_name (by decide)) rfl (fun X => Im.drop [true, false, false] rfl (tp_visited_0_ok X a0 h)) e2⟩
theorem cl_X0_301 {X : CT} {cc : ByteArray} {nL : Nat} {mn : String} {ret : Option FieldType} {d d0 : Nat} {τ : Type} {pc : Nat} {lv : List (Option PV)} {st : List PV} {h : PH} {sz : τ → Nat × Nat} {K : τ → Prop} {f : Option Nat → Option Nat → PH → Option (Int32)} (HR : IM_X4_unlike f d0) {a0 : Option Nat} {a1 : Option Nat} {g : Int32 → Option τ} (hd : d0 + 1 ≤ d) (hdg : decode cc pc = .ok (.invokevirtual 301, 3)) (hst : st.length ≤ 8) (kk : ∀ r, Im X (cc, nL, RX0, mn, ret, d) (pc + 3) lv (.inl r :: st) h (g r) sz K) : Im X (cc, nL, RX0, mn, ret, d) pc lv (.inr a1 :: .inr a0 :: st) h ((f a0 a1 h).bind g) sz K := by
  refine im_cP (y := yX4_unlike) (cY := cX4_unlike) (nY := 2) (rY := (some .int)) (d' := d0) (av := [.inr a0, .inr a1]) (fun r e hX => ?_) (fun r e => (HR _ _ _ _ e).2) hd (by decide) hst rfl kk
  obtain ⟨a, c, fs, rfl, ec, hm⟩ := isC_some (HR _ _ _ _ e).1
  cases List.mem_singleton.mp hm
  exact cal_V (n := 1) hX (lw_V q1142 q973 q974 q110 q975) (by decide +kernel) rfl rfl ec hdg

def IM_X0_alike (f : Option Nat → Int32 → Int32 → PH → Option (Int32)) (d : Nat) : Prop := ∀ (a0 : Option Nat) (a1 : Int32) (a2 : Int32) (h : PH) (r : Int32), f a0 a1 a2 h = some r → isC [0] a0 h = true ∧ SpI yX0_alike cX0_alike 7 (some .int) d [.inr a0, .inl a1, .inl a2] h r h
noncomputable def tp_alike_94 (v0 : Option Nat) (v1 : Int32) (v2 : Int32) (v4 : Int32) (v5 : Int32) (v6 : Int32) (s0 : Int32) (h : PH) : Option ((Int32 × Int32 × Int32) ⊕ (Int32)) :=
  (jM_min v4 v6 h).bind fun x51 =>
  some (.inl (s0, x51, (v5 + 1)))
theorem tp_alike_94_ok (X : CT) (v0 : Option Nat) (v1 : Int32) (v2 : Int32) (v4 : Int32) (v5 : Int32) (v6 : Int32) (s0 : Int32) (h : PH) : Im X (cX0_alike, 7, RX0, "alike", (some .int), 3) 94 [some (.inr v0), some (.inl v1), some (.inl v2), none, some (.inl v4), some (.inl v5), some (.inl v6)] [.inl s0] h (tp_alike_94 v0 v1 v2 v4 v5 v6 s0 h) (ez (fun s : Int32 × Int32 × Int32 => h) (szP h)) (ek X 29 (fun s : Int32 × Int32 × Int32 => [some (.inr v0), some (.inl v1), some (.inl v2), some (.inl s.1), some (.inl s.2.1), some (.inl s.2.2), none]) (fun s : Int32 × Int32 × Int32 => h) (kP X h)) := by
  unfold tp_alike_94
  refine im_istore_n (pc := 94) (lv' := [some (.inr v0), some (.inl v1), some (.inl v2), some (.inl s0), some (.inl v4), some (.inl v5), some (.inl v6)]) dX0_alike_94 rfl (by decide) rfl ?_
  refine im_iload (pc := 95) dX0_alike_95 rfl ?_
  refine im_iload (pc := 97) dX0_alike_97 rfl ?_
  refine cl_X0_1 jM_min_im (pc := 99) (by decide) dX0_alike_99 (Nat.le_of_ble_eq_true rfl) fun x51 => ?_
  refine im_istore (pc := 102) (lv' := [some (.inr v0), some (.inl v1), some (.inl v2), some (.inl s0), some (.inl x51), some (.inl v5), some (.inl v6)]) dX0_alike_102 (by decide) rfl ?_
  refine im_iinc (pc := 104) (v := (v5 + 1)) (lv' := [some (.inr v0), some (.inl v1), some (.inl v2), some (.inl s0), some (.inl x51), some (.inl (v5 + 1)), some (.inl v6)]) dX0_alike_104 rfl rfl (by decide) rfl ?_
  refine im_goto (pc := 107) (tgt := 29) dX0_alike_107 (by decide) ?_
  exact Im.back [true, true, true, true, true, true, false] rfl rfl
noncomputable def tp_alike_79 (v0 : Option Nat) (v1 : Int32) (v2 : Int32) (v3 : Int32) (v4 : Int32) (v5 : Int32) (s0 : Int32) (h : PH) : Option ((Int32 × Int32 × Int32) ⊕ (Int32)) :=
  (if v4 ≤ s0 then
  tp_alike_94 v0 v1 v2 v4 v5 s0 v3 h
  else
  tp_alike_94 v0 v1 v2 v4 v5 s0 v5 h)
theorem tp_alike_79_ok (X : CT) (v0 : Option Nat) (v1 : Int32) (v2 : Int32) (v3 : Int32) (v4 : Int32) (v5 : Int32) (s0 : Int32) (h : PH) : Im X (cX0_alike, 7, RX0, "alike", (some .int), 3) 79 [some (.inr v0), some (.inl v1), some (.inl v2), some (.inl v3), some (.inl v4), some (.inl v5), none] [.inl s0] h (tp_alike_79 v0 v1 v2 v3 v4 v5 s0 h) (ez (fun s : Int32 × Int32 × Int32 => h) (szP h)) (ek X 29 (fun s : Int32 × Int32 × Int32 => [some (.inr v0), some (.inl v1), some (.inl v2), some (.inl s.1), some (.inl s.2.1), some (.inl s.2.2), none]) (fun s : Int32 × Int32 × Int32 => h) (kP X h)) := by
  unfold tp_alike_79
  refine im_istore (pc := 79) (lv' := [some (.inr v0), some (.inl v1), some (.inl v2), some (.inl v3), some (.inl v4), some (.inl v5), some (.inl s0)]) dX0_alike_79 (by decide) rfl ?_
  refine im_iload (pc := 81) dX0_alike_81 rfl ?_
  refine im_iload (pc := 83) dX0_alike_83 rfl ?_
  refine im_icmp_ge (pc := 85) (tgt := 93) dX0_alike_85 (by decide) ?_ ?_
  · refine im_iload_n (pc := 93) dX0_alike_93 rfl rfl ?_
    exact Im.drop [true, true, true, false, true, true, true] rfl (tp_alike_94_ok X v0 v1 v2 v4 v5 s0 v3 h)
  · refine im_iload (pc := 88) dX0_alike_88 rfl ?_
    refine im_goto (pc := 90) (tgt := 94) dX0_alike_90 (by decide) ?_
    exact Im.drop [true, true, true, false, true, true, true] rfl (tp_alike_94_ok X v0 v1 v2 v4 v5 s0 v5 h)
noncomputable def tp_alike_b29 (v0 : Option Nat) (v1 : Int32) (v2 : Int32) (v3 : Int32) (v4 : Int32) (v5 : Int32) (h : PH) : Option ((Int32 × Int32 × Int32) ⊕ (Int32)) :=
  (if 16 ≤ v5 then
  (if v3 = (-2) then
  some (.inr v3)
  else
  (if v2 = 0 then
  some (.inr v3)
  else
  some (.inr v4)))
  else
  (tp_isTold v0 v5 h).bind fun x51 =>
  (if x51 = 0 then
  tp_alike_79 v0 v1 v2 v3 v4 v5 268435456 h
  else
  (if v5 = v1 then
  tp_alike_79 v0 v1 v2 v3 v4 v5 268435456 h
  else
  (gfr [0] 1 v0 h).bind fun r52 =>
  (gfr [2] 0 r52 h).bind fun r53 =>
  (aldr 2 r53 v1 h).bind fun r54 =>
  (gfr [0] 1 v0 h).bind fun r55 =>
  (gfr [2] 0 r55 h).bind fun r56 =>
  (aldr 2 r56 v5 h).bind fun r57 =>
  (pe_unlike r54 r57 h).bind fun x58 =>
  tp_alike_79 v0 v1 v2 v3 v4 v5 x58 h)))
noncomputable def tp_alike_L29 (v0 : Option Nat) (v1 : Int32) (v2 : Int32) (v3 : Int32) (v4 : Int32) (v5 : Int32) (h : PH) : Option (Int32) :=
  iter (fun s : Int32 × Int32 × Int32 => tp_alike_b29 v0 v1 v2 s.1 s.2.1 s.2.2 h) (v3, v4, v5)
theorem tp_alike_b29_ok (X : CT) (v0 : Option Nat) (v1 : Int32) (v2 : Int32) (v3 : Int32) (v4 : Int32) (v5 : Int32) (h : PH) : Im X (cX0_alike, 7, RX0, "alike", (some .int), 3) 29 [some (.inr v0), some (.inl v1), some (.inl v2), some (.inl v3), some (.inl v4), some (.inl v5), none] [] h (tp_alike_b29 v0 v1 v2 v3 v4 v5 h) (ez (fun s : Int32 × Int32 × Int32 => h) (szP h)) (ek X 29 (fun s : Int32 × Int32 × Int32 => [some (.inr v0), some (.inl v1), some (.inl v2), some (.inl s.1), some (.inl s.2.1), some (.inl s.2.2), none]) (fun s : Int32 × Int32 × Int32 => h) (kP X h)) := by
  unfold tp_alike_b29
  refine im_iload (pc := 29) dX0_alike_29 rfl ?_
  refine im_bipush (pc := 31) (v := 16) dX0_alike_31 (by decide) ?_
  refine im_icmp_ge (pc := 33) (tgt := 110) dX0_alike_33 (by decide) ?_ ?_
  · refine im_iload_n (pc := 110) dX0_alike_110 rfl rfl ?_
    refine im_bipush (pc := 111) (v := (-2)) dX0_alike_111 (by decide) ?_
    refine im_icmp_eq (pc := 113) (tgt := 120) dX0_alike_113 (by decide) ?_ ?_
    · refine im_iload_n (pc := 120) dX0_alike_120 rfl rfl ?_
      refine im_goto (pc := 121) (tgt := 126) dX0_alike_121 (by decide) ?_
      exact Im.outS (im_iretP (pc := 126) dX0_alike_126)
    · refine im_iload_n (pc := 116) dX0_alike_116 rfl rfl ?_
      refine im_if_ne (pc := 117) (tgt := 124) dX0_alike_117 (by decide) ?_ ?_
      · refine im_iload (pc := 124) dX0_alike_124 rfl ?_
        exact Im.outS (im_iretP (pc := 126) dX0_alike_126)
      · refine im_iload_n (pc := 120) dX0_alike_120 rfl rfl ?_
        refine im_goto (pc := 121) (tgt := 126) dX0_alike_121 (by decide) ?_
        exact Im.outS (im_iretP (pc := 126) dX0_alike_126)
  · refine im_aload_n (pc := 36) dX0_alike_36 rfl rfl ?_
    refine im_iload (pc := 37) dX0_alike_37 rfl ?_
    refine cl_X0_187 tp_isTold_im (pc := 39) (by decide) dX0_alike_39 (Nat.le_of_ble_eq_true rfl) fun x51 => ?_
    refine im_if_eq (pc := 42) (tgt := 76) dX0_alike_42 (by decide) ?_ ?_
    · refine im_ldcw (pc := 76) q1125 dX0_alike_76 ?_
      exact Im.drop [true, true, true, true, true, true, false] rfl (tp_alike_79_ok X v0 v1 v2 v3 v4 v5 268435456 h)
    · refine im_iload (pc := 45) dX0_alike_45 rfl ?_
      refine im_iload_n (pc := 47) dX0_alike_47 rfl rfl ?_
      refine im_icmp_eq (pc := 48) (tgt := 76) dX0_alike_48 (by decide) ?_ ?_
      · refine im_ldcw (pc := 76) q1125 dX0_alike_76 ?_
        exact Im.drop [true, true, true, true, true, true, false] rfl (tp_alike_79_ok X v0 v1 v2 v3 v4 v5 268435456 h)
      · refine im_aload_n (pc := 51) dX0_alike_51 rfl rfl ?_
        refine im_gr (pc := 52) fl_X0_63 dX0_alike_52 fun r52 => ?_
        refine im_gr (pc := 55) fl_X0_109 dX0_alike_55 fun r53 => ?_
        refine im_iload_n (pc := 58) dX0_alike_58 rfl rfl ?_
        refine im_aald (pc := 59) (t := 2) (by decide) (by decide) dX0_alike_59 fun r54 => ?_
        refine im_aload_n (pc := 60) dX0_alike_60 rfl rfl ?_
        refine im_gr (pc := 61) fl_X0_63 dX0_alike_61 fun r55 => ?_
        refine im_gr (pc := 64) fl_X0_109 dX0_alike_64 fun r56 => ?_
        refine im_iload (pc := 67) dX0_alike_67 rfl ?_
        refine im_aald (pc := 69) (t := 2) (by decide) (by decide) dX0_alike_69 fun r57 => ?_
        refine cl_X0_301 pe_unlike_im (pc := 70) (by decide) dX0_alike_70 (Nat.le_of_ble_eq_true rfl) fun x58 => ?_
        refine im_goto (pc := 73) (tgt := 79) dX0_alike_73 (by decide) ?_
        exact Im.drop [true, true, true, true, true, true, false] rfl (tp_alike_79_ok X v0 v1 v2 v3 v4 v5 x58 h)
theorem tp_alike_L29_ok (X : CT) (v0 : Option Nat) (v1 : Int32) (v2 : Int32) (v3 : Int32) (v4 : Int32) (v5 : Int32) (h : PH) : Im X (cX0_alike, 7, RX0, "alike", (some .int), 3) 29 [some (.inr v0), some (.inl v1), some (.inl v2), some (.inl v3), some (.inl v4), some (.inl v5), none] [] h (tp_alike_L29 v0 v1 v2 v3 v4 v5 h) (szP h) (kP X h) := by
  unfold tp_alike_L29
  exact Im.iter (lv := (fun s : Int32 × Int32 × Int32 => [some (.inr v0), some (.inl v1), some (.inl v2), some (.inl s.1), some (.inl s.2.1), some (.inl s.2.2), none])) (hp := (fun s : Int32 × Int32 × Int32 => h)) (fun s => tp_alike_b29_ok X v0 v1 v2 s.1 s.2.1 s.2.2 h) _ rfl rfl
noncomputable def tp_alike_0 (v0 : Option Nat) (v1 : Int32) (v2 : Int32) (h : PH) : Option (Int32) :=
  (tp_isTold v0 v1 h).bind fun x51 =>
  (if x51 = 0 then
  some ((-1))
  else
  (tp_in v2 2 h).bind fun x52 =>
  (if x52 = 0 then
  some ((-1))
  else
  tp_alike_L29 v0 v1 v2 (-2) 268435456 0 h))
theorem tp_alike_0_ok (X : CT) (v0 : Option Nat) (v1 : Int32) (v2 : Int32) (h : PH) : Im X (cX0_alike, 7, RX0, "alike", (some .int), 3) 0 [some (.inr v0), some (.inl v1), some (.inl v2), none, none, none, none] [] h (tp_alike_0 v0 v1 v2 h) (szP h) (kP X h) := by
  unfold tp_alike_0
  refine im_aload_n (pc := 0) dX0_alike_0 rfl rfl ?_
  refine im_iload_n (pc := 1) dX0_alike_1 rfl rfl ?_
  refine cl_X0_187 tp_isTold_im (pc := 2) (by decide) dX0_alike_2 (Nat.le_of_ble_eq_true rfl) fun x51 => ?_
  refine im_if_eq (pc := 5) (tgt := 16) dX0_alike_5 (by decide) ?_ ?_
  · refine im_iconst (pc := 16) (v := (-1)) dX0_alike_16 (by decide) ?_
    exact im_iretP (pc := 17) dX0_alike_17
  · refine im_iload_n (pc := 8) dX0_alike_8 rfl rfl ?_
    refine im_iconst (pc := 9) (v := 2) dX0_alike_9 (by decide) ?_
    refine cl_X0_25 tp_in_im (pc := 10) (by decide) dX0_alike_10 (Nat.le_of_ble_eq_true rfl) fun x52 => ?_
    refine im_if_ne (pc := 13) (tgt := 18) dX0_alike_13 (by decide) ?_ ?_
    · refine im_bipush (pc := 18) (v := (-2)) dX0_alike_18 (by decide) ?_
      refine im_istore_n (pc := 20) (lv' := [some (.inr v0), some (.inl v1), some (.inl v2), some (.inl (-2)), none, none, none]) dX0_alike_20 rfl (by decide) rfl ?_
      refine im_ldcw (pc := 21) q1125 dX0_alike_21 ?_
      refine im_istore (pc := 24) (lv' := [some (.inr v0), some (.inl v1), some (.inl v2), some (.inl (-2)), some (.inl 268435456), none, none]) dX0_alike_24 (by decide) rfl ?_
      refine im_iconst (pc := 26) (v := 0) dX0_alike_26 (by decide) ?_
      refine im_istore (pc := 27) (lv' := [some (.inr v0), some (.inl v1), some (.inl v2), some (.inl (-2)), some (.inl 268435456), some (.inl 0), none]) dX0_alike_27 (by decide) rfl ?_
      exact Im.drop [true, true, true, true, true, true, false] rfl (tp_alike_L29_ok X v0 v1 v2 (-2) 268435456 0 h)
    · refine im_iconst (pc := 16) (v := (-1)) dX0_alike_16 (by decide) ?_
      exact im_iretP (pc := 17) dX0_alike_17
noncomputable def tp_alike (a0 : Option Nat) (a1 : Int32) (a2 : Int32) (h : PH) : Option (Int32) := grd (isC [0] a0 h) (tp_alike_0 a0 a1 a2 h)
theorem tp_alike_im : IM_X0_alike tp_alike 3 := by
  intro a0 a1 a2 h r e
  obtain ⟨e1, e2⟩ := grd_some e
  exact ⟨e1, SpI.ofP (k := 4) (plainFor_of_name (by decide)) rfl (fun X => Im.drop [true, true, true, false, false, false, false] rfl (tp_alike_0_ok X a0 a1 a2 h)) e2⟩
def IM_X0_seed (f : Option Nat → Int32 → PH → Option (Int32 × PH)) (d : Nat) : Prop := ∀ (a0 : Option Nat) (a1 : Int32) (h : PH) (r : Int32) (h' : PH), f a0 a1 h = some (r, h') → isC [0] a0 h = true ∧ SpI yX0_seed cX0_seed 2 (some .boolean) d [.inr a0, .inl a1] h r h'
noncomputable def tp_seed_0 (v0 : Option Nat) (v1 : Int32) (h : PH) : Option (Int32 × PH) :=
  (tp_in v1 65536 h).bind fun x51 =>
  (if x51 = 0 then
  some ((0, h))
  else
  (gfr [0] 1 v0 h).bind fun r52 =>
  (pf [2] 2 r52 (.inl v1) h).bind fun h53 =>
  some ((1, h53)))
theorem tp_seed_0_ok (X : CT) (v0 : Option Nat) (v1 : Int32) (h : PH) : Im X (cX0_seed, 2, RX0, "seed", (some .boolean), 2) 0 [some (.inr v0), some (.inl v1)] [] h (tp_seed_0 v0 v1 h) szI (kI X) := by
  unfold tp_seed_0
  refine im_iload_n (pc := 0) dX0_seed_0 rfl rfl ?_
  refine im_ldc (pc := 1) q345 dX0_seed_1 ?_
  refine cl_X0_25 tp_in_im (pc := 3) (by decide) dX0_seed_3 (Nat.le_of_ble_eq_true rfl) fun x51 => ?_
  refine im_if_ne (pc := 6) (tgt := 11) dX0_seed_6 (by decide) ?_ ?_
  · refine im_aload_n (pc := 11) dX0_seed_11 rfl rfl ?_
    refine im_gr (pc := 12) fl_X0_63 dX0_seed_12 fun r52 => ?_
    refine im_iload_n (pc := 15) dX0_seed_15 rfl rfl ?_
    refine im_pf (pc := 16) fp_X0_105 (okT_i _) dX0_seed_16 fun h53 => ?_
    refine im_iconst (pc := 19) (v := 1) dX0_seed_19 (by decide) ?_
    exact im_zretT (pc := 20) (nar_z (Or.inr rfl)) dX0_seed_20
  · refine im_iconst (pc := 9) (v := 0) dX0_seed_9 (by decide) ?_
    exact im_zretT (pc := 10) (nar_z (Or.inl rfl)) dX0_seed_10
noncomputable def tp_seed (a0 : Option Nat) (a1 : Int32) (h : PH) : Option (Int32 × PH) := grd (isC [0] a0 h) (tp_seed_0 a0 a1 h)
theorem tp_seed_im : IM_X0_seed tp_seed 2 := by
  intro a0 a1 h r h' e
  obtain ⟨e1, e2⟩ := grd_some e
  exact ⟨e1, SpI.of (k := 0) (plainFor_of_name (by decide)) rfl (fun X => Im.drop [true, true] rfl (tp_seed_0_ok X a0 a1 h)) e2⟩
theorem fp_X0_304 : ∀ c ∈ [0], FP RX0 304 c 7 .boolean := List.forall_mem_cons.mpr ⟨⟨RX0, TX0, 20, rfl, in_X0, by decide, apt_X0, rfl, by decide +kernel, Or.inl q284⟩, fun _ h => absurd h List.not_mem_nil⟩
theorem fl_X0_70 : ∀ c ∈ [0], FL RX0 70 c 3 := List.forall_mem_cons.mpr ⟨⟨RX0, TX0, 20, rfl, in_X0, by decide, Or.inl q277⟩, fun _ h => absurd h List.not_mem_nil⟩
theorem fl_X0_307 : ∀ c ∈ [2], FL RX0 307 c 1 := List.forall_mem_cons.mpr ⟨⟨RX3, TX3, 6, rfl, in_X3, by decide, Or.inr ⟨_, lw_n q221 rfl⟩⟩, fun _ h => absurd h List.not_mem_nil⟩
def IM_X0_keep (f : Option Nat → PH → Option (Int32 × PH)) (d : Nat) : Prop := ∀ (a0 : Option Nat) (h : PH) (r : Int32) (h' : PH), f a0 h = some (r, h') → isC [0] a0 h = true ∧ SpI yX0_keep cX0_keep 1 (some .int) d [.inr a0] h r h'
noncomputable def tp_keep_0 (v0 : Option Nat) (h : PH) : Option (Int32 × PH) :=
  (pf [0] 7 v0 (.inl 1) h).bind fun h51 =>
  (gfr [0] 3 v0 h51).bind fun r52 =>
  (gfr [0] 1 v0 h51).bind fun r53 =>
  bd2 (yd_takes r52 r53 h51) fun r55 h54 =>
  (gfr [0] 1 v0 h54).bind fun r56 =>
  (gfi [2] 1 r56 h54).bind fun x57 =>
  some ((x57, h54))
theorem tp_keep_0_ok (X : CT) (v0 : Option Nat) (h : PH) : Im X (cX0_keep, 1, RX0, "keep", (some .int), 3) 0 [some (.inr v0)] [] h (tp_keep_0 v0 h) szI (kI X) := by
  unfold tp_keep_0
  refine im_aload_n (pc := 0) dX0_keep_0 rfl rfl ?_
  refine im_iconst (pc := 1) (v := 1) dX0_keep_1 (by decide) ?_
  refine im_pf (pc := 2) fp_X0_304 (okT_z (Or.inr rfl)) dX0_keep_2 fun h51 => ?_
  refine im_aload_n (pc := 5) dX0_keep_5 rfl rfl ?_
  refine im_gr (pc := 6) fl_X0_70 dX0_keep_6 fun r52 => ?_
  refine im_aload_n (pc := 9) dX0_keep_9 rfl rfl ?_
  refine im_gr (pc := 10) fl_X0_63 dX0_keep_10 fun r53 => ?_
  refine cl_X0_152 yd_takes_im (pc := 13) (by decide) dX0_keep_13 (Nat.le_of_ble_eq_true rfl) fun r55 h54 => ?_
  refine im_pop (pc := 16) dX0_keep_16 ?_
  refine im_aload_n (pc := 17) dX0_keep_17 rfl rfl ?_
  refine im_gr (pc := 18) fl_X0_63 dX0_keep_18 fun r56 => ?_
  refine im_gi (pc := 21) fl_X0_307 dX0_keep_21 fun x57 => ?_
  exact im_iret (pc := 24) dX0_keep_24
noncomputable def tp_keep (a0 : Option Nat) (h : PH) : Option (Int32 × PH) := grd (isC [0] a0 h) (tp_keep_0 a0 h)
theorem tp_keep_im : IM_X0_keep tp_keep 3 := by
  intro a0 h r h' e
  obtain ⟨e1, e2⟩ := grd_some e
  exact ⟨e1, SpI.of (k := 0) (plainFor_of_name (by decide)) rfl (fun X => Im.drop [true] rfl (tp_keep_0_ok X a0 h)) e2⟩
theorem fl_X0_304 : ∀ c ∈ [0], FL RX0 304 c 7 := List.forall_mem_cons.mpr ⟨⟨RX0, TX0, 20, rfl, in_X0, by decide, Or.inl q284⟩, fun _ h => absurd h List.not_mem_nil⟩
def IM_X0_undo (f : Option Nat → PH → Option (Int32 × PH)) (d : Nat) : Prop := ∀ (a0 : Option Nat) (h : PH) (r : Int32) (h' : PH), f a0 h = some (r, h') → isC [0] a0 h = true ∧ SpI yX0_undo cX0_undo 1 (some .boolean) d [.inr a0] h r h'
noncomputable def tp_undo_0 (v0 : Option Nat) (h : PH) : Option (Int32 × PH) :=
  (gfi [0] 7 v0 h).bind fun x51 =>
  (if x51 = 0 then
  some ((0, h))
  else
  (gfr [0] 1 v0 h).bind fun r52 =>
  (gfr [0] 3 v0 h).bind fun r53 =>
  bd2 (yd_takes r52 r53 h) fun r55 h54 =>
  some ((1, h54)))
theorem tp_undo_0_ok (X : CT) (v0 : Option Nat) (h : PH) : Im X (cX0_undo, 1, RX0, "undo", (some .boolean), 3) 0 [some (.inr v0)] [] h (tp_undo_0 v0 h) szI (kI X) := by
  unfold tp_undo_0
  refine im_aload_n (pc := 0) dX0_undo_0 rfl rfl ?_
  refine im_gi (pc := 1) fl_X0_304 dX0_undo_1 fun x51 => ?_
  refine im_if_ne (pc := 4) (tgt := 9) dX0_undo_4 (by decide) ?_ ?_
  · refine im_aload_n (pc := 9) dX0_undo_9 rfl rfl ?_
    refine im_gr (pc := 10) fl_X0_63 dX0_undo_10 fun r52 => ?_
    refine im_aload_n (pc := 13) dX0_undo_13 rfl rfl ?_
    refine im_gr (pc := 14) fl_X0_70 dX0_undo_14 fun r53 => ?_
    refine cl_X0_152 yd_takes_im (pc := 17) (by decide) dX0_undo_17 (Nat.le_of_ble_eq_true rfl) fun r55 h54 => ?_
    refine im_pop (pc := 20) dX0_undo_20 ?_
    refine im_iconst (pc := 21) (v := 1) dX0_undo_21 (by decide) ?_
    exact im_zretT (pc := 22) (nar_z (Or.inr rfl)) dX0_undo_22
  · refine im_iconst (pc := 7) (v := 0) dX0_undo_7 (by decide) ?_
    exact im_zretT (pc := 8) (nar_z (Or.inl rfl)) dX0_undo_8
noncomputable def tp_undo (a0 : Option Nat) (h : PH) : Option (Int32 × PH) := grd (isC [0] a0 h) (tp_undo_0 a0 h)
theorem tp_undo_im : IM_X0_undo tp_undo 3 := by
  intro a0 h r h' e
  obtain ⟨e1, e2⟩ := grd_some e
  exact ⟨e1, SpI.of (k := 0) (plainFor_of_name (by decide)) rfl (fun X => Im.drop [true] rfl (tp_undo_0_ok X a0 h)) e2⟩
def IM_X0_check (f : Option Nat → Int32 → PH → Option (Int32 × PH)) (d : Nat) : Prop := ∀ (a0 : Option Nat) (a1 : Int32) (h : PH) (r : Int32) (h' : PH), f a0 a1 h = some (r, h') → isC [0] a0 h = true ∧ SpI yX0_check cX0_check 3 (some .int) d [.inr a0, .inl a1] h r h'
noncomputable def tp_check_67 (v0 : Option Nat) (v1 : Int32) (v2 : Int32) (s0 : Int32) (s1 : Int32) (h : PH) : Option ((Int32) ⊕ (Int32 × PH)) :=
  (if s1 = s0 then
  some (.inl (v2 + 1))
  else
  some (.inr ((v2, h))))
theorem tp_check_67_ok (X : CT) (v0 : Option Nat) (v1 : Int32) (v2 : Int32) (s0 : Int32) (s1 : Int32) (h : PH) : Im X (cX0_check, 3, RX0, "check", (some .int), 3) 67 [some (.inr v0), some (.inl v1), some (.inl v2)] [.inl s0, .inl s1] h (tp_check_67 v0 v1 v2 s0 s1 h) (ez (fun s : Int32 => h) szI) (ek X 28 (fun s : Int32 => [some (.inr v0), some (.inl v1), some (.inl s)]) (fun s : Int32 => h) (kI X)) := by
  unfold tp_check_67
  refine im_icmp_eq (pc := 67) (tgt := 72) dX0_check_67 (by decide) ?_ ?_
  · refine im_iinc (pc := 72) (v := (v2 + 1)) (lv' := [some (.inr v0), some (.inl v1), some (.inl (v2 + 1))]) dX0_check_72 rfl rfl (by decide) rfl ?_
    refine im_goto (pc := 75) (tgt := 28) dX0_check_75 (by decide) ?_
    exact Im.back [true, true, true] rfl rfl
  · refine im_iload_n (pc := 70) dX0_check_70 rfl rfl ?_
    exact Im.outS (im_iret (pc := 71) dX0_check_71)
noncomputable def tp_check_b28 (v0 : Option Nat) (v1 : Int32) (v2 : Int32) (h : PH) : Option ((Int32) ⊕ (Int32 × PH)) :=
  (if v1 ≤ v2 then
  some (.inr (((-1), h)))
  else
  (gfr [0] 4 v0 h).bind fun r51 =>
  (ald 1 r51 v2 h).bind fun x52 =>
  (tp_isTold v0 v2 h).bind fun x53 =>
  (if x53 = 0 then
  tp_check_67 v0 v1 v2 0 (x52 &&& 255) h
  else
  (gfr [0] 1 v0 h).bind fun r54 =>
  (gfr [2] 0 r54 h).bind fun r55 =>
  (aldr 2 r55 v2 h).bind fun r56 =>
  (gfi [3] 1 r56 h).bind fun x57 =>
  tp_check_67 v0 v1 v2 x57 (x52 &&& 255) h))
noncomputable def tp_check_L28 (v0 : Option Nat) (v1 : Int32) (v2 : Int32) (h : PH) : Option (Int32 × PH) :=
  iter (fun s : Int32 => tp_check_b28 v0 v1 s h) v2
theorem tp_check_b28_ok (X : CT) (v0 : Option Nat) (v1 : Int32) (v2 : Int32) (h : PH) : Im X (cX0_check, 3, RX0, "check", (some .int), 3) 28 [some (.inr v0), some (.inl v1), some (.inl v2)] [] h (tp_check_b28 v0 v1 v2 h) (ez (fun s : Int32 => h) szI) (ek X 28 (fun s : Int32 => [some (.inr v0), some (.inl v1), some (.inl s)]) (fun s : Int32 => h) (kI X)) := by
  unfold tp_check_b28
  refine im_iload_n (pc := 28) dX0_check_28 rfl rfl ?_
  refine im_iload_n (pc := 29) dX0_check_29 rfl rfl ?_
  refine im_icmp_ge (pc := 30) (tgt := 78) dX0_check_30 (by decide) ?_ ?_
  · refine im_iconst (pc := 78) (v := (-1)) dX0_check_78 (by decide) ?_
    exact Im.outS (im_iret (pc := 79) dX0_check_79)
  · refine im_aload_n (pc := 33) dX0_check_33 rfl rfl ?_
    refine im_gr (pc := 34) fl_X0_73 dX0_check_34 fun r51 => ?_
    refine im_iload_n (pc := 37) dX0_check_37 rfl rfl ?_
    refine im_bald (pc := 38) dX0_check_38 fun x52 => ?_
    refine im_sipush (pc := 39) (v := 255) dX0_check_39 (by decide) ?_
    refine im_iand (pc := 42) dX0_check_42 ?_
    refine im_aload_n (pc := 43) dX0_check_43 rfl rfl ?_
    refine im_iload_n (pc := 44) dX0_check_44 rfl rfl ?_
    refine cl_X0_187 tp_isTold_im (pc := 45) (by decide) dX0_check_45 (Nat.le_of_ble_eq_true rfl) fun x53 => ?_
    refine im_if_eq (pc := 48) (tgt := 66) dX0_check_48 (by decide) ?_ ?_
    · refine im_iconst (pc := 66) (v := 0) dX0_check_66 (by decide) ?_
      exact Im.drop [true, true, true] rfl (tp_check_67_ok X v0 v1 v2 0 (x52 &&& 255) h)
    · refine im_aload_n (pc := 51) dX0_check_51 rfl rfl ?_
      refine im_gr (pc := 52) fl_X0_63 dX0_check_52 fun r54 => ?_
      refine im_gr (pc := 55) fl_X0_109 dX0_check_55 fun r55 => ?_
      refine im_iload_n (pc := 58) dX0_check_58 rfl rfl ?_
      refine im_aald (pc := 59) (t := 2) (by decide) (by decide) dX0_check_59 fun r56 => ?_
      refine im_gi (pc := 60) fl_X0_127 dX0_check_60 fun x57 => ?_
      refine im_goto (pc := 63) (tgt := 67) dX0_check_63 (by decide) ?_
      exact Im.drop [true, true, true] rfl (tp_check_67_ok X v0 v1 v2 x57 (x52 &&& 255) h)
theorem tp_check_L28_ok (X : CT) (v0 : Option Nat) (v1 : Int32) (v2 : Int32) (h : PH) : Im X (cX0_check, 3, RX0, "check", (some .int), 3) 28 [some (.inr v0), some (.inl v1), some (.inl v2)] [] h (tp_check_L28 v0 v1 v2 h) szI (kI X) := by
  unfold tp_check_L28
  exact Im.iter (lv := (fun s : Int32 => [some (.inr v0), some (.inl v1), some (.inl s)])) (hp := (fun s : Int32 => h)) (fun s => tp_check_b28_ok X v0 v1 s h) _ rfl rfl
noncomputable def tp_check_0 (v0 : Option Nat) (v1 : Int32) (h : PH) : Option (Int32 × PH) :=
  (tp_within v1 0 16 h).bind fun x51 =>
  (if x51 = 0 then
  some (((-2), h))
  else
  (gfi [0] 6 v0 h).bind fun x52 =>
  (if v1 ≤ x52 then
  (pf [0] 6 v0 (.inl 0) h).bind fun h53 =>
  tp_check_L28 v0 v1 0 h53
  else
  some (((-2), h))))
theorem tp_check_0_ok (X : CT) (v0 : Option Nat) (v1 : Int32) (h : PH) : Im X (cX0_check, 3, RX0, "check", (some .int), 3) 0 [some (.inr v0), some (.inl v1), none] [] h (tp_check_0 v0 v1 h) szI (kI X) := by
  unfold tp_check_0
  refine im_iload_n (pc := 0) dX0_check_0 rfl rfl ?_
  refine im_iconst (pc := 1) (v := 0) dX0_check_1 (by decide) ?_
  refine im_bipush (pc := 2) (v := 16) dX0_check_2 (by decide) ?_
  refine cl_X0_120 tp_within_im (pc := 4) (by decide) dX0_check_4 (Nat.le_of_ble_eq_true rfl) fun x51 => ?_
  refine im_if_eq (pc := 7) (tgt := 18) dX0_check_7 (by decide) ?_ ?_
  · refine im_bipush (pc := 18) (v := (-2)) dX0_check_18 (by decide) ?_
    exact im_iret (pc := 20) dX0_check_20
  · refine im_iload_n (pc := 10) dX0_check_10 rfl rfl ?_
    refine im_aload_n (pc := 11) dX0_check_11 rfl rfl ?_
    refine im_gi (pc := 12) fl_X0_133 dX0_check_12 fun x52 => ?_
    refine im_icmp_le (pc := 15) (tgt := 21) dX0_check_15 (by decide) ?_ ?_
    · refine im_aload_n (pc := 21) dX0_check_21 rfl rfl ?_
      refine im_iconst (pc := 22) (v := 0) dX0_check_22 (by decide) ?_
      refine im_pf (pc := 23) fp_X0_133 (okT_i _) dX0_check_23 fun h53 => ?_
      refine im_iconst (pc := 26) (v := 0) dX0_check_26 (by decide) ?_
      refine im_istore_n (pc := 27) (lv' := [some (.inr v0), some (.inl v1), some (.inl 0)]) dX0_check_27 rfl (by decide) rfl ?_
      exact Im.drop [true, true, true] rfl (tp_check_L28_ok X v0 v1 0 h53)
    · refine im_bipush (pc := 18) (v := (-2)) dX0_check_18 (by decide) ?_
      exact im_iret (pc := 20) dX0_check_20
noncomputable def tp_check (a0 : Option Nat) (a1 : Int32) (h : PH) : Option (Int32 × PH) := grd (isC [0] a0 h) (tp_check_0 a0 a1 h)
theorem tp_check_im : IM_X0_check tp_check 3 := by
  intro a0 a1 h r h' e
  obtain ⟨e1, e2⟩ := grd_some e
  exact ⟨e1, SpI.of (k := 1) (plainFor_of_name (by decide)) rfl (fun X => Im.drop [true, true, false] rfl (tp_check_0_ok X a0 a1 h)) e2⟩
def IM_X3_laid (f : Option Nat → PH → Option (Int32)) (d : Nat) : Prop := ∀ (a0 : Option Nat) (h : PH) (r : Int32), f a0 h = some r → isC [2] a0 h = true ∧ SpI yX3_laid cX3_laid 3 (some .int) d [.inr a0] h r h
noncomputable def yd_laid_b4 (v0 : Option Nat) (v1 : Int32) (v2 : Int32) (h : PH) : Option ((Int32 × Int32) ⊕ (Int32)) :=
  (if 16 ≤ v2 then
  some (.inr v1)
  else
  (gfr [2] 0 v0 h).bind fun r51 =>
  (aldr 2 r51 v2 h).bind fun r52 =>
  (pe_isLaid r52 h).bind fun x53 =>
  (if x53 = 0 then
  some (.inl ((v1 ||| 0), (v2 + 1)))
  else
  some (.inl ((v1 ||| ((1 : Int32) <<< (v2 &&& 31))), (v2 + 1)))))
noncomputable def yd_laid_L4 (v0 : Option Nat) (v1 : Int32) (v2 : Int32) (h : PH) : Option (Int32) :=
  iter (fun s : Int32 × Int32 => yd_laid_b4 v0 s.1 s.2 h) (v1, v2)
theorem yd_laid_b4_ok (X : CT) (v0 : Option Nat) (v1 : Int32) (v2 : Int32) (h : PH) : Im X (cX3_laid, 3, RX3, "laid", (some .int), 2) 4 [some (.inr v0), some (.inl v1), some (.inl v2)] [] h (yd_laid_b4 v0 v1 v2 h) (ez (fun s : Int32 × Int32 => h) (szP h)) (ek X 4 (fun s : Int32 × Int32 => [some (.inr v0), some (.inl s.1), some (.inl s.2)]) (fun s : Int32 × Int32 => h) (kP X h)) := by
  unfold yd_laid_b4
  refine im_iload_n (pc := 4) dX3_laid_4 rfl rfl ?_
  refine im_bipush (pc := 5) (v := 16) dX3_laid_5 (by decide) ?_
  refine im_icmp_ge (pc := 7) (tgt := 38) dX3_laid_7 (by decide) ?_ ?_
  · refine im_iload_n (pc := 38) dX3_laid_38 rfl rfl ?_
    exact Im.outS (im_iretP (pc := 39) dX3_laid_39)
  · refine im_iload_n (pc := 10) dX3_laid_10 rfl rfl ?_
    refine im_aload_n (pc := 11) dX3_laid_11 rfl rfl ?_
    refine im_gr (pc := 12) fl_X3_17 dX3_laid_12 fun r51 => ?_
    refine im_iload_n (pc := 15) dX3_laid_15 rfl rfl ?_
    refine im_aald (pc := 16) (t := 2) (by decide) (by decide) dX3_laid_16 fun r52 => ?_
    refine cl_X3_33 pe_isLaid_im (pc := 17) (by decide) dX3_laid_17 (Nat.le_of_ble_eq_true rfl) fun x53 => ?_
    refine im_if_eq (pc := 20) (tgt := 29) dX3_laid_20 (by decide) ?_ ?_
    · refine im_iconst (pc := 29) (v := 0) dX3_laid_29 (by decide) ?_
      refine im_ior (pc := 30) dX3_laid_30 ?_
      refine im_istore_n (pc := 31) (lv' := [some (.inr v0), some (.inl (v1 ||| 0)), some (.inl v2)]) dX3_laid_31 rfl (by decide) rfl ?_
      refine im_iinc (pc := 32) (v := (v2 + 1)) (lv' := [some (.inr v0), some (.inl (v1 ||| 0)), some (.inl (v2 + 1))]) dX3_laid_32 rfl rfl (by decide) rfl ?_
      refine im_goto (pc := 35) (tgt := 4) dX3_laid_35 (by decide) ?_
      exact Im.back [true, true, true] rfl rfl
    · refine im_iconst (pc := 23) (v := 1) dX3_laid_23 (by decide) ?_
      refine im_iload_n (pc := 24) dX3_laid_24 rfl rfl ?_
      refine im_ishl (pc := 25) dX3_laid_25 ?_
      refine im_goto (pc := 26) (tgt := 30) dX3_laid_26 (by decide) ?_
      refine im_ior (pc := 30) dX3_laid_30 ?_
      refine im_istore_n (pc := 31) (lv' := [some (.inr v0), some (.inl (v1 ||| ((1 : Int32) <<< (v2 &&& 31)))), some (.inl v2)]) dX3_laid_31 rfl (by decide) rfl ?_
      refine im_iinc (pc := 32) (v := (v2 + 1)) (lv' := [some (.inr v0), some (.inl (v1 ||| ((1 : Int32) <<< (v2 &&& 31)))), some (.inl (v2 + 1))]) dX3_laid_32 rfl rfl (by decide) rfl ?_
      refine im_goto (pc := 35) (tgt := 4) dX3_laid_35 (by decide) ?_
      exact Im.back [true, true, true] rfl rfl
theorem yd_laid_L4_ok (X : CT) (v0 : Option Nat) (v1 : Int32) (v2 : Int32) (h : PH) : Im X (cX3_laid, 3, RX3, "laid", (some .int), 2) 4 [some (.inr v0), some (.inl v1), some (.inl v2)] [] h (yd_laid_L4 v0 v1 v2 h) (szP h) (kP X h) := by
  unfold yd_laid_L4
  exact Im.iter (lv := (fun s : Int32 × Int32 => [some (.inr v0), some (.inl s.1), some (.inl s.2)])) (hp := (fun s : Int32 × Int32 => h)) (fun s => yd_laid_b4_ok X v0 s.1 s.2 h) _ rfl rfl
noncomputable def yd_laid_0 (v0 : Option Nat) (h : PH) : Option (Int32) :=
  yd_laid_L4 v0 0 0 h
theorem yd_laid_0_ok (X : CT) (v0 : Option Nat) (h : PH) : Im X (cX3_laid, 3, RX3, "laid", (some .int), 2) 0 [some (.inr v0), none, none] [] h (yd_laid_0 v0 h) (szP h) (kP X h) := by
  unfold yd_laid_0
  refine im_iconst (pc := 0) (v := 0) dX3_laid_0 (by decide) ?_
  refine im_istore_n (pc := 1) (lv' := [some (.inr v0), some (.inl 0), none]) dX3_laid_1 rfl (by decide) rfl ?_
  refine im_iconst (pc := 2) (v := 0) dX3_laid_2 (by decide) ?_
  refine im_istore_n (pc := 3) (lv' := [some (.inr v0), some (.inl 0), some (.inl 0)]) dX3_laid_3 rfl (by decide) rfl ?_
  exact Im.drop [true, true, true] rfl (yd_laid_L4_ok X v0 0 0 h)
noncomputable def yd_laid (a0 : Option Nat) (h : PH) : Option (Int32) := grd (isC [2] a0 h) (yd_laid_0 a0 h)
theorem yd_laid_im : IM_X3_laid yd_laid 2 := by
  intro a0 h r e
  obtain ⟨e1, e2⟩ := grd_some e
  exact ⟨e1, SpI.ofP (k := 2) (plainFor_of_name (by decide)) rfl (fun X => Im.drop [true, false, false] rfl (yd_laid_0_ok X a0 h)) e2⟩
def IM_X0_moodOfAll (f : Option Nat → PH → Option (Int32)) (d : Nat) : Prop := ∀ (a0 : Option Nat) (h : PH) (r : Int32), f a0 h = some r → isC [0] a0 h = true ∧ SpI yX0_moodOfAll cX0_moodOfAll 6 (some .int) d [.inr a0] h r h
noncomputable def tp_moodOfAll_b16 (v1 : Int32) (v2 : Option Nat) (v3 : Int32) (v4 : Int32) (h : PH) : Option ((Int32 × Int32) ⊕ (Int32)) :=
  (if v3 ≤ v4 then
  some (.inr v1)
  else
  (aldr 2 v2 v4 h).bind fun r51 =>
  (gfi [3] 3 r51 h).bind fun x52 =>
  (if x52 = 0 then
  some (.inl ((v1 + 0), (v4 + 1)))
  else
  (gfi [3] 1 r51 h).bind fun x53 =>
  some (.inl ((v1 + x53), (v4 + 1)))))
noncomputable def tp_moodOfAll_L16 (v1 : Int32) (v2 : Option Nat) (v3 : Int32) (v4 : Int32) (h : PH) : Option (Int32) :=
  iter (fun s : Int32 × Int32 => tp_moodOfAll_b16 s.1 v2 v3 s.2 h) (v1, v4)
theorem tp_moodOfAll_b16_ok (X : CT) (v1 : Int32) (v2 : Option Nat) (v3 : Int32) (v4 : Int32) (h : PH) : Im X (cX0_moodOfAll, 6, RX0, "moodOfAll", (some .int), 1) 16 [none, some (.inl v1), some (.inr v2), some (.inl v3), some (.inl v4), none] [] h (tp_moodOfAll_b16 v1 v2 v3 v4 h) (ez (fun s : Int32 × Int32 => h) (szP h)) (ek X 16 (fun s : Int32 × Int32 => [none, some (.inl s.1), some (.inr v2), some (.inl v3), some (.inl s.2), none]) (fun s : Int32 × Int32 => h) (kP X h)) := by
  unfold tp_moodOfAll_b16
  refine im_iload (pc := 16) dX0_moodOfAll_16 rfl ?_
  refine im_iload_n (pc := 18) dX0_moodOfAll_18 rfl rfl ?_
  refine im_icmp_ge (pc := 19) (tgt := 54) dX0_moodOfAll_19 (by decide) ?_ ?_
  · refine im_iload_n (pc := 54) dX0_moodOfAll_54 rfl rfl ?_
    exact Im.outS (im_iretP (pc := 55) dX0_moodOfAll_55)
  · refine im_aload_n (pc := 22) dX0_moodOfAll_22 rfl rfl ?_
    refine im_iload (pc := 23) dX0_moodOfAll_23 rfl ?_
    refine im_aald (pc := 25) (t := 2) (by decide) (by decide) dX0_moodOfAll_25 fun r51 => ?_
    refine im_astore (pc := 26) (lv' := [none, some (.inl v1), some (.inr v2), some (.inl v3), some (.inl v4), some (.inr r51)]) dX0_moodOfAll_26 (by decide) rfl ?_
    refine im_iload_n (pc := 28) dX0_moodOfAll_28 rfl rfl ?_
    refine im_aload (pc := 29) dX0_moodOfAll_29 rfl ?_
    refine im_gi (pc := 31) fl_X0_113 dX0_moodOfAll_31 fun x52 => ?_
    refine im_if_eq (pc := 34) (tgt := 45) dX0_moodOfAll_34 (by decide) ?_ ?_
    · refine im_iconst (pc := 45) (v := 0) dX0_moodOfAll_45 (by decide) ?_
      refine im_iadd (pc := 46) dX0_moodOfAll_46 ?_
      refine im_istore_n (pc := 47) (lv' := [none, some (.inl (v1 + 0)), some (.inr v2), some (.inl v3), some (.inl v4), some (.inr r51)]) dX0_moodOfAll_47 rfl (by decide) rfl ?_
      refine im_iinc (pc := 48) (v := (v4 + 1)) (lv' := [none, some (.inl (v1 + 0)), some (.inr v2), some (.inl v3), some (.inl (v4 + 1)), some (.inr r51)]) dX0_moodOfAll_48 rfl rfl (by decide) rfl ?_
      refine im_goto (pc := 51) (tgt := 16) dX0_moodOfAll_51 (by decide) ?_
      exact Im.back [false, true, true, true, true, false] rfl rfl
    · refine im_aload (pc := 37) dX0_moodOfAll_37 rfl ?_
      refine im_gi (pc := 39) fl_X0_127 dX0_moodOfAll_39 fun x53 => ?_
      refine im_goto (pc := 42) (tgt := 46) dX0_moodOfAll_42 (by decide) ?_
      refine im_iadd (pc := 46) dX0_moodOfAll_46 ?_
      refine im_istore_n (pc := 47) (lv' := [none, some (.inl (v1 + x53)), some (.inr v2), some (.inl v3), some (.inl v4), some (.inr r51)]) dX0_moodOfAll_47 rfl (by decide) rfl ?_
      refine im_iinc (pc := 48) (v := (v4 + 1)) (lv' := [none, some (.inl (v1 + x53)), some (.inr v2), some (.inl v3), some (.inl (v4 + 1)), some (.inr r51)]) dX0_moodOfAll_48 rfl rfl (by decide) rfl ?_
      refine im_goto (pc := 51) (tgt := 16) dX0_moodOfAll_51 (by decide) ?_
      exact Im.back [false, true, true, true, true, false] rfl rfl
theorem tp_moodOfAll_L16_ok (X : CT) (v1 : Int32) (v2 : Option Nat) (v3 : Int32) (v4 : Int32) (h : PH) : Im X (cX0_moodOfAll, 6, RX0, "moodOfAll", (some .int), 1) 16 [none, some (.inl v1), some (.inr v2), some (.inl v3), some (.inl v4), none] [] h (tp_moodOfAll_L16 v1 v2 v3 v4 h) (szP h) (kP X h) := by
  unfold tp_moodOfAll_L16
  exact Im.iter (lv := (fun s : Int32 × Int32 => [none, some (.inl s.1), some (.inr v2), some (.inl v3), some (.inl s.2), none])) (hp := (fun s : Int32 × Int32 => h)) (fun s => tp_moodOfAll_b16_ok X s.1 v2 v3 s.2 h) _ rfl rfl
noncomputable def tp_moodOfAll_0 (v0 : Option Nat) (h : PH) : Option (Int32) :=
  (gfr [0] 1 v0 h).bind fun r51 =>
  (gfr [2] 0 r51 h).bind fun r52 =>
  (alenr 2 r52 h).bind fun x53 =>
  tp_moodOfAll_L16 0 r52 x53 0 h
theorem tp_moodOfAll_0_ok (X : CT) (v0 : Option Nat) (h : PH) : Im X (cX0_moodOfAll, 6, RX0, "moodOfAll", (some .int), 1) 0 [some (.inr v0), none, none, none, none, none] [] h (tp_moodOfAll_0 v0 h) (szP h) (kP X h) := by
  unfold tp_moodOfAll_0
  refine im_iconst (pc := 0) (v := 0) dX0_moodOfAll_0 (by decide) ?_
  refine im_istore_n (pc := 1) (lv' := [some (.inr v0), some (.inl 0), none, none, none, none]) dX0_moodOfAll_1 rfl (by decide) rfl ?_
  refine im_aload_n (pc := 2) dX0_moodOfAll_2 rfl rfl ?_
  refine im_gr (pc := 3) fl_X0_63 dX0_moodOfAll_3 fun r51 => ?_
  refine im_gr (pc := 6) fl_X0_109 dX0_moodOfAll_6 fun r52 => ?_
  refine im_astore_n (pc := 9) (lv' := [some (.inr v0), some (.inl 0), some (.inr r52), none, none, none]) dX0_moodOfAll_9 rfl (by decide) rfl ?_
  refine im_aload_n (pc := 10) dX0_moodOfAll_10 rfl rfl ?_
  refine im_alenr (pc := 11) (t := 2) (by decide) (by decide) dX0_moodOfAll_11 fun x53 => ?_
  refine im_istore_n (pc := 12) (lv' := [some (.inr v0), some (.inl 0), some (.inr r52), some (.inl x53), none, none]) dX0_moodOfAll_12 rfl (by decide) rfl ?_
  refine im_iconst (pc := 13) (v := 0) dX0_moodOfAll_13 (by decide) ?_
  refine im_istore (pc := 14) (lv' := [some (.inr v0), some (.inl 0), some (.inr r52), some (.inl x53), some (.inl 0), none]) dX0_moodOfAll_14 (by decide) rfl ?_
  exact Im.drop [false, true, true, true, true, false] rfl (tp_moodOfAll_L16_ok X 0 r52 x53 0 h)
noncomputable def tp_moodOfAll (a0 : Option Nat) (h : PH) : Option (Int32) := grd (isC [0] a0 h) (tp_moodOfAll_0 a0 h)
theorem tp_moodOfAll_im : IM_X0_moodOfAll tp_moodOfAll 1 := by
  intro a0 h r e
  obtain ⟨e1, e2⟩ := grd_some e
  exact ⟨e1, SpI.ofP (k := 5) (plainFor_of_name (by decide)) rfl (fun X => Im.drop [true, false, false, false, false, false] rfl (tp_moodOfAll_0_ok X a0 h)) e2⟩
theorem cl_X0_310 {X : CT} {cc : ByteArray} {nL : Nat} {mn : String} {ret : Option FieldType} {d d0 : Nat} {τ : Type} {pc : Nat} {lv : List (Option PV)} {st : List PV} {h : PH} {sz : τ → Nat × Nat} {K : τ → Prop} {f : Option Nat → PH → Option (Int32)} (HR : IM_X3_laid f d0) {a0 : Option Nat} {g : Int32 → Option τ} (hd : d0 + 1 ≤ d) (hdg : decode cc pc = .ok (.invokevirtual 310, 3)) (hst : st.length ≤ 8) (kk : ∀ r, Im X (cc, nL, RX0, mn, ret, d) (pc + 3) lv (.inl r :: st) h (g r) sz K) : Im X (cc, nL, RX0, mn, ret, d) pc lv (.inr a0 :: st) h ((f a0 h).bind g) sz K := by
  refine im_cP (y := yX3_laid) (cY := cX3_laid) (nY := 3) (rY := (some .int)) (d' := d0) (av := [.inr a0]) (fun r e hX => ?_) (fun r e => (HR _ _ _ e).2) hd (by decide) hst rfl kk
  obtain ⟨a, c, fs, rfl, ec, hm⟩ := isC_some (HR _ _ _ e).1
  cases List.mem_singleton.mp hm
  exact cal_V (n := 0) hX (lw_V q1163 q1164 q1165 q109 q1166) (by decide +kernel) rfl rfl ec hdg

theorem fl_X0_313 : ∀ c ∈ [4], FL RX0 313 c 3 := List.forall_mem_cons.mpr ⟨⟨RX5, TX5, 4, rfl, in_X5, by decide, Or.inr ⟨_, lw_n q260 rfl⟩⟩, fun _ h => absurd h List.not_mem_nil⟩
theorem fl_X0_105 : ∀ c ∈ [2], FL RX0 105 c 2 := List.forall_mem_cons.mpr ⟨⟨RX3, TX3, 6, rfl, in_X3, by decide, Or.inr ⟨_, lw_n q223 rfl⟩⟩, fun _ h => absurd h List.not_mem_nil⟩
theorem cl_X0_316 {X : CT} {cc : ByteArray} {nL : Nat} {mn : String} {ret : Option FieldType} {d d0 : Nat} {τ : Type} {pc : Nat} {lv : List (Option PV)} {st : List PV} {h : PH} {sz : τ → Nat × Nat} {K : τ → Prop} {f : Option Nat → PH → Option (Int32)} (HR : IM_X0_moodOfAll f d0) {a0 : Option Nat} {g : Int32 → Option τ} (hd : d0 + 1 ≤ d) (hdg : decode cc pc = .ok (.invokevirtual 316, 3)) (hst : st.length ≤ 8) (kk : ∀ r, Im X (cc, nL, RX0, mn, ret, d) (pc + 3) lv (.inl r :: st) h (g r) sz K) : Im X (cc, nL, RX0, mn, ret, d) pc lv (.inr a0 :: st) h ((f a0 h).bind g) sz K := by
  refine im_cP (y := yX0_moodOfAll) (cY := cX0_moodOfAll) (nY := 6) (rY := (some .int)) (d' := d0) (av := [.inr a0]) (fun r e hX => ?_) (fun r e => (HR _ _ _ e).2) hd (by decide) hst rfl kk
  obtain ⟨a, c, fs, rfl, ec, hm⟩ := isC_some (HR _ _ _ e).1
  cases List.mem_singleton.mp hm
  exact cal_V (n := 0) hX (lw_V q1167 q1169 qs43 q106 q1170) (by decide +kernel) rfl rfl ec hdg

def IM_X0_count (f : Option Nat → Int32 → PH → Option (Int32)) (d : Nat) : Prop := ∀ (a0 : Option Nat) (a1 : Int32) (h : PH) (r : Int32), f a0 a1 h = some r → isC [0] a0 h = true ∧ SpI yX0_count cX0_count 2 (some .int) d [.inr a0, .inl a1] h r h
noncomputable def tp_count_0 (v0 : Option Nat) (v1 : Int32) (h : PH) : Option (Int32) :=
  (tp_in (v1 - 20) 60 h).bind fun x51 =>
  (if x51 = 0 then
  (if v1 = 0 then
  (gfr [0] 1 v0 h).bind fun r52 =>
  (gfi [2] 1 r52 h).bind fun x53 =>
  some (x53)
  else
  (if v1 = 1 then
  (gfr [0] 1 v0 h).bind fun r54 =>
  (yd_told r54 h).bind fun x55 =>
  some (x55)
  else
  (if v1 = 2 then
  (gfr [0] 1 v0 h).bind fun r56 =>
  (yd_laid r56 h).bind fun x57 =>
  some (x57)
  else
  (if v1 = 3 then
  (gfi [0] 11 v0 h).bind fun x58 =>
  some (x58)
  else
  (if v1 = 4 then
  (gfr [0] 5 v0 h).bind fun r59 =>
  (gfi [4] 3 r59 h).bind fun x60 =>
  some (x60)
  else
  (if v1 = 5 then
  (gfi [0] 6 v0 h).bind fun x61 =>
  some (x61)
  else
  (if v1 = 6 then
  (gfr [0] 1 v0 h).bind fun r62 =>
  (gfi [2] 2 r62 h).bind fun x63 =>
  some (x63)
  else
  (if v1 = 7 then
  (tp_moodOfAll v0 h).bind fun x64 =>
  some (x64)
  else
  some ((-1))))))))))
  else
  (gfr [0] 1 v0 h).bind fun r65 =>
  (yd_whoLiesAt r65 (v1 - 20) h).bind fun x66 =>
  (if x66 = (-1) then
  some ((-2))
  else
  (gfr [0] 1 v0 h).bind fun r67 =>
  (yd_whoLiesAt r67 (v1 - 20) h).bind fun x68 =>
  some (x68)))
theorem tp_count_0_ok (X : CT) (v0 : Option Nat) (v1 : Int32) (h : PH) : Im X (cX0_count, 2, RX0, "count", (some .int), 3) 0 [some (.inr v0), some (.inl v1)] [] h (tp_count_0 v0 v1 h) (szP h) (kP X h) := by
  unfold tp_count_0
  refine im_iload_n (pc := 0) dX0_count_0 rfl rfl ?_
  refine im_bipush (pc := 1) (v := 20) dX0_count_1 (by decide) ?_
  refine im_isub (pc := 3) dX0_count_3 ?_
  refine im_bipush (pc := 4) (v := 60) dX0_count_4 (by decide) ?_
  refine cl_X0_25 tp_in_im (pc := 6) (by decide) dX0_count_6 (Nat.le_of_ble_eq_true rfl) fun x51 => ?_
  refine im_if_eq (pc := 9) (tgt := 44) dX0_count_9 (by decide) ?_ ?_
  · refine im_iload_n (pc := 44) dX0_count_44 rfl rfl ?_
    refine im_tsw (pc := 45) (dt := 147) [(0, 92), (1, 100), (2, 108), (3, 116), (4, 121), (5, 129), (6, 134), (7, 142)] dX0_count_45 (by decide) ⟨_, _, rfl, ?_, ⟨_, _, rfl, ?_, ⟨_, _, rfl, ?_, ⟨_, _, rfl, ?_, ⟨_, _, rfl, ?_, ⟨_, _, rfl, ?_, ⟨_, _, rfl, ?_, ⟨_, _, rfl, ?_, ?_⟩⟩⟩⟩⟩⟩⟩⟩
    · refine im_aload_n (pc := 92) dX0_count_92 rfl rfl ?_
      refine im_gr (pc := 93) fl_X0_63 dX0_count_93 fun r52 => ?_
      refine im_gi (pc := 96) fl_X0_307 dX0_count_96 fun x53 => ?_
      exact im_iretP (pc := 99) dX0_count_99
    · refine im_aload_n (pc := 100) dX0_count_100 rfl rfl ?_
      refine im_gr (pc := 101) fl_X0_63 dX0_count_101 fun r54 => ?_
      refine cl_X0_264 yd_told_im (pc := 104) (by decide) dX0_count_104 (Nat.le_of_ble_eq_true rfl) fun x55 => ?_
      exact im_iretP (pc := 107) dX0_count_107
    · refine im_aload_n (pc := 108) dX0_count_108 rfl rfl ?_
      refine im_gr (pc := 109) fl_X0_63 dX0_count_109 fun r56 => ?_
      refine cl_X0_310 yd_laid_im (pc := 112) (by decide) dX0_count_112 (Nat.le_of_ble_eq_true rfl) fun x57 => ?_
      exact im_iretP (pc := 115) dX0_count_115
    · refine im_aload_n (pc := 116) dX0_count_116 rfl rfl ?_
      refine im_gi (pc := 117) fl_X0_164 dX0_count_117 fun x58 => ?_
      exact im_iretP (pc := 120) dX0_count_120
    · refine im_aload_n (pc := 121) dX0_count_121 rfl rfl ?_
      refine im_gr (pc := 122) fl_X0_32 dX0_count_122 fun r59 => ?_
      refine im_gi (pc := 125) fl_X0_313 dX0_count_125 fun x60 => ?_
      exact im_iretP (pc := 128) dX0_count_128
    · refine im_aload_n (pc := 129) dX0_count_129 rfl rfl ?_
      refine im_gi (pc := 130) fl_X0_133 dX0_count_130 fun x61 => ?_
      exact im_iretP (pc := 133) dX0_count_133
    · refine im_aload_n (pc := 134) dX0_count_134 rfl rfl ?_
      refine im_gr (pc := 135) fl_X0_63 dX0_count_135 fun r62 => ?_
      refine im_gi (pc := 138) fl_X0_105 dX0_count_138 fun x63 => ?_
      exact im_iretP (pc := 141) dX0_count_141
    · refine im_aload_n (pc := 142) dX0_count_142 rfl rfl ?_
      refine cl_X0_316 tp_moodOfAll_im (pc := 143) (by decide) dX0_count_143 (Nat.le_of_ble_eq_true rfl) fun x64 => ?_
      exact im_iretP (pc := 146) dX0_count_146
    · refine im_iconst (pc := 147) (v := (-1)) dX0_count_147 (by decide) ?_
      exact im_iretP (pc := 148) dX0_count_148
  · refine im_aload_n (pc := 12) dX0_count_12 rfl rfl ?_
    refine im_gr (pc := 13) fl_X0_63 dX0_count_13 fun r65 => ?_
    refine im_iload_n (pc := 16) dX0_count_16 rfl rfl ?_
    refine im_bipush (pc := 17) (v := 20) dX0_count_17 (by decide) ?_
    refine im_isub (pc := 19) dX0_count_19 ?_
    refine cl_X0_218 yd_whoLiesAt_im (pc := 20) (by decide) dX0_count_20 (Nat.le_of_ble_eq_true rfl) fun x66 => ?_
    refine im_iconst (pc := 23) (v := (-1)) dX0_count_23 (by decide) ?_
    refine im_icmp_ne (pc := 24) (tgt := 32) dX0_count_24 (by decide) ?_ ?_
    · refine im_aload_n (pc := 32) dX0_count_32 rfl rfl ?_
      refine im_gr (pc := 33) fl_X0_63 dX0_count_33 fun r67 => ?_
      refine im_iload_n (pc := 36) dX0_count_36 rfl rfl ?_
      refine im_bipush (pc := 37) (v := 20) dX0_count_37 (by decide) ?_
      refine im_isub (pc := 39) dX0_count_39 ?_
      refine cl_X0_218 yd_whoLiesAt_im (pc := 40) (by decide) dX0_count_40 (Nat.le_of_ble_eq_true rfl) fun x68 => ?_
      exact im_iretP (pc := 43) dX0_count_43
    · refine im_bipush (pc := 27) (v := (-2)) dX0_count_27 (by decide) ?_
      refine im_goto (pc := 29) (tgt := 43) dX0_count_29 (by decide) ?_
      exact im_iretP (pc := 43) dX0_count_43
noncomputable def tp_count (a0 : Option Nat) (a1 : Int32) (h : PH) : Option (Int32) := grd (isC [0] a0 h) (tp_count_0 a0 a1 h)
theorem tp_count_im : IM_X0_count tp_count 3 := by
  intro a0 a1 h r e
  obtain ⟨e1, e2⟩ := grd_some e
  exact ⟨e1, SpI.ofP (k := 0) (plainFor_of_name (by decide)) rfl (fun X => Im.drop [true, true] rfl (tp_count_0_ok X a0 a1 h)) e2⟩
