set_option maxRecDepth 100000
def IM_X1_init (f : Option Nat → PH → Option (PH)) (d : Nat) : Prop := ∀ (a0 : Option Nat) (h : PH) (h' : PH), f a0 h = some h' → isC [1] a0 h = true ∧ SpV yX1_init cX1_init 1 none d [.inr a0] h h'
noncomputable def as_init_0 (v0 : Option Nat) (h : PH) : Option (PH) :=
  nul v0 none (
  some (h))
theorem as_init_0_ok (X : CT) (v0 : Option Nat) (h : PH) : Im X (cX1_init, 1, RX1, "<init>", none, 1) 0 [some (.inr v0)] [] h (as_init_0 v0 h) szV (kV X) := by
  unfold as_init_0
  refine im_aload_n (pc := 0) dX1_init_0 rfl rfl ?_
  refine im_objInit (pc := 1) (by decide) q148 q138 q139 (Nat.le_of_ble_eq_true rfl) dX1_init_1 ?_
  exact im_vret (pc := 4) dX1_init_4
noncomputable def as_init (a0 : Option Nat) (h : PH) : Option (PH) := grd (isC [1] a0 h) (as_init_0 a0 h)
theorem as_init_im : IM_X1_init as_init 1 := by
  intro a0 h h' e
  obtain ⟨e1, e2⟩ := grd_some e
  exact ⟨e1, SpV.of (k := 0) (plainFor_of_name (by decide)) rfl (fun X => Im.drop [true] rfl (as_init_0_ok X a0 h)) e2⟩
theorem cl_X2_3 {X : CT} {cc : ByteArray} {nL : Nat} {mn : String} {ret : Option FieldType} {d d0 : Nat} {τ : Type} {pc : Nat} {lv : List (Option PV)} {st : List PV} {h : PH} {sz : τ → Nat × Nat} {K : τ → Prop} {f : Option Nat → PH → Option (PH)} (HR : IM_X1_init f d0) {a0 : Option Nat} {g : PH → Option τ} (hd : d0 + 1 ≤ d) (hdg : decode cc pc = .ok (.invokespecial 3, 3)) (hst : st.length ≤ 8) (kk : ∀ h', Im X (cc, nL, RX2, mn, ret, d) (pc + 3) lv st h' (g h') sz K) : Im X (cc, nL, RX2, mn, ret, d) pc lv (.inr a0 :: st) h ((f a0 h).bind g) sz K := by
  refine im_cV (y := yX1_init) (cY := cX1_init) (nY := 1) (rY := none) (d' := d0) (av := [.inr a0]) (fun h' e hX => ?_) (fun h' e => (HR _ _ _ e).2) hd (by decide) hst rfl kk
  obtain ⟨a, c, fs, rfl, ec, hm⟩ := isC_some (HR _ _ _ e).1
  exact cal_IN (n := 0) hX (lw_n q145 rfl) q146 q107 q147 rfl (by decide +kernel) rfl hdg

def IM_X2_init (f : Option Nat → PH → Option (PH)) (d : Nat) : Prop := ∀ (a0 : Option Nat) (h : PH) (h' : PH), f a0 h = some h' → isC [1] a0 h = true ∧ SpV yX2_init cX2_init 1 none d [.inr a0] h h'
noncomputable def mt_init_0 (v0 : Option Nat) (h : PH) : Option (PH) :=
  (as_init v0 h).bind fun h51 =>
  some (h51)
theorem mt_init_0_ok (X : CT) (v0 : Option Nat) (h : PH) : Im X (cX2_init, 1, RX2, "<init>", none, 2) 0 [some (.inr v0)] [] h (mt_init_0 v0 h) szV (kV X) := by
  unfold mt_init_0
  refine im_aload_n (pc := 0) dX2_init_0 rfl rfl ?_
  refine cl_X2_3 as_init_im (pc := 1) (by decide) dX2_init_1 (Nat.le_of_ble_eq_true rfl) fun h51 => ?_
  exact im_vret (pc := 4) dX2_init_4
noncomputable def mt_init (a0 : Option Nat) (h : PH) : Option (PH) := grd (isC [1] a0 h) (mt_init_0 a0 h)
theorem mt_init_im : IM_X2_init mt_init 2 := by
  intro a0 h h' e
  obtain ⟨e1, e2⟩ := grd_some e
  exact ⟨e1, SpV.of (k := 0) (plainFor_of_name (by decide)) rfl (fun X => Im.drop [true] rfl (mt_init_0_ok X a0 h)) e2⟩
theorem apt_X4 : Apt 3 4 := apt_of rfl in_X4 tyX4 tyX4_ok nmX4
theorem fp_X4_9 : ∀ c ∈ [3], FP RX4 9 c 2 .int := List.forall_mem_cons.mpr ⟨⟨RX4, TX4, 4, rfl, in_X4, by decide, apt_X4, rfl, by decide +kernel, Or.inl q201⟩, fun _ h => absurd h List.not_mem_nil⟩
def IM_X4_init (f : Option Nat → PH → Option (PH)) (d : Nat) : Prop := ∀ (a0 : Option Nat) (h : PH) (h' : PH), f a0 h = some h' → isC [3] a0 h = true ∧ SpV yX4_init cX4_init 1 none d [.inr a0] h h'
noncomputable def pe_init_0 (v0 : Option Nat) (h : PH) : Option (PH) :=
  nul v0 none (
  (pf [3] 2 v0 (.inl (-1)) h).bind fun h51 =>
  some (h51))
theorem pe_init_0_ok (X : CT) (v0 : Option Nat) (h : PH) : Im X (cX4_init, 1, RX4, "<init>", none, 1) 0 [some (.inr v0)] [] h (pe_init_0 v0 h) szV (kV X) := by
  unfold pe_init_0
  refine im_aload_n (pc := 0) dX4_init_0 rfl rfl ?_
  refine im_objInit (pc := 1) (by decide) q191 q138 q139 (Nat.le_of_ble_eq_true rfl) dX4_init_1 ?_
  refine im_aload_n (pc := 4) dX4_init_4 rfl rfl ?_
  refine im_iconst (pc := 5) (v := (-1)) dX4_init_5 (by decide) ?_
  refine im_pf (pc := 6) fp_X4_9 (okT_i _) dX4_init_6 fun h51 => ?_
  exact im_vret (pc := 9) dX4_init_9
noncomputable def pe_init (a0 : Option Nat) (h : PH) : Option (PH) := grd (isC [3] a0 h) (pe_init_0 a0 h)
theorem pe_init_im : IM_X4_init pe_init 1 := by
  intro a0 h h' e
  obtain ⟨e1, e2⟩ := grd_some e
  exact ⟨e1, SpV.of (k := 0) (plainFor_of_name (by decide)) rfl (fun X => Im.drop [true] rfl (pe_init_0_ok X a0 h)) e2⟩
theorem apt_X3 : Apt 2 6 := apt_of rfl in_X3 tyX3 tyX3_ok nmX3
theorem fp_X3_3 : ∀ c ∈ [2], FPF RX3 3 c 5 (.object "TalkingPlots") := List.forall_mem_cons.mpr ⟨⟨RX3, TX3, 6, rfl, in_X3, by decide, apt_X3, rfl, rfl, by decide +kernel, q228⟩, fun _ h => absurd h List.not_mem_nil⟩
theorem fp_X3_17 : ∀ c ∈ [2], FPF RX3 17 c 0 (.array (.object "TalkingPlots$Person")) := List.forall_mem_cons.mpr ⟨⟨RX3, TX3, 6, rfl, in_X3, by decide, apt_X3, rfl, rfl, by decide +kernel, q217⟩, fun _ h => absurd h List.not_mem_nil⟩
theorem fl_X3_17 : ∀ c ∈ [2], FL RX3 17 c 0 := List.forall_mem_cons.mpr ⟨⟨RX3, TX3, 6, rfl, in_X3, by decide, Or.inl q217⟩, fun _ h => absurd h List.not_mem_nil⟩
theorem nw_X3_15 : NW RX3 15 3 [.inl 0, .inl 0, .inl 0, .inl 0] := ⟨RX4, TX4, tyX4, rfl, in_X4, tyX4_ok, q185, q187, q110, fun G j hj => by
  have hj : j < 4 := hj
  match j, hj with
  | 0, _ => rfl
  | 1, _ => rfl
  | 2, _ => rfl
  | 3, _ => rfl⟩
theorem cl_X3_21 {X : CT} {cc : ByteArray} {nL : Nat} {mn : String} {ret : Option FieldType} {d d0 : Nat} {τ : Type} {pc : Nat} {lv : List (Option PV)} {st : List PV} {h : PH} {sz : τ → Nat × Nat} {K : τ → Prop} {f : Option Nat → PH → Option (PH)} (HR : IM_X4_init f d0) {a0 : Option Nat} {g : PH → Option τ} (hd : d0 + 1 ≤ d) (hdg : decode cc pc = .ok (.invokespecial 21, 3)) (hst : st.length ≤ 8) (kk : ∀ h', Im X (cc, nL, RX3, mn, ret, d) (pc + 3) lv st h' (g h') sz K) : Im X (cc, nL, RX3, mn, ret, d) pc lv (.inr a0 :: st) h ((f a0 h).bind g) sz K := by
  refine im_cV (y := yX4_init) (cY := cX4_init) (nY := 1) (rY := none) (d' := d0) (av := [.inr a0]) (fun h' e hX => ?_) (fun h' e => (HR _ _ _ e).2) hd (by decide) hst rfl kk
  obtain ⟨a, c, fs, rfl, ec, hm⟩ := isC_some (HR _ _ _ e).1
  exact cal_IN (n := 0) hX (lw_n q188 rfl) q189 q110 q190 rfl (by decide +kernel) rfl hdg

def IM_X3_init (f : Option Nat → Option Nat → PH → Option (PH)) (d : Nat) : Prop := ∀ (a0 : Option Nat) (a1 : Option Nat) (h : PH) (h' : PH), f a0 a1 h = some h' → isC [2] a0 h = true ∧ SpV yX3_init cX3_init 3 none d [.inr a0, .inr a1] h h'
noncomputable def yd_init_b20 (v0 : Option Nat) (v2 : Int32) (h : PH) : Option ((Int32 × PH) ⊕ (PH)) :=
  (if 16 ≤ v2 then
  some (.inr h)
  else
  (gfr [2] 0 v0 h).bind fun r51 =>
  (nw 3 [.inl 0, .inl 0, .inl 0, .inl 0] h).bind fun h52 =>
  (pe_init (some h.1) h52).bind fun h53 =>
  (astr 2 r51 v2 (some h.1) h53).bind fun h54 =>
  some (.inl ((v2 + 1), h54)))
noncomputable def yd_init_L20 (v0 : Option Nat) (v2 : Int32) (h : PH) : Option (PH) :=
  iter (fun s : Int32 × PH => yd_init_b20 v0 s.1 s.2) (v2, h)
theorem yd_init_b20_ok (X : CT) (v0 : Option Nat) (v2 : Int32) (h : PH) : Im X (cX3_init, 3, RX3, "<init>", none, 2) 20 [some (.inr v0), none, some (.inl v2)] [] h (yd_init_b20 v0 v2 h) (ez (fun s : Int32 × PH => s.2) szV) (ek X 20 (fun s : Int32 × PH => [some (.inr v0), none, some (.inl s.1)]) (fun s : Int32 × PH => s.2) (kV X)) := by
  unfold yd_init_b20
  refine im_iload_n (pc := 20) dX3_init_20 rfl rfl ?_
  refine im_bipush (pc := 21) (v := 16) dX3_init_21 (by decide) ?_
  refine im_icmp_ge (pc := 23) (tgt := 45) dX3_init_23 (by decide) ?_ ?_
  · exact Im.outS (im_vret (pc := 45) dX3_init_45)
  · refine im_aload_n (pc := 26) dX3_init_26 rfl rfl ?_
    refine im_gr (pc := 27) fl_X3_17 dX3_init_27 fun r51 => ?_
    refine im_iload_n (pc := 30) dX3_init_30 rfl rfl ?_
    refine im_new (pc := 31) nw_X3_15 dX3_init_31 fun h52 => ?_
    refine im_dup (pc := 34) dX3_init_34 ?_
    refine cl_X3_21 pe_init_im (pc := 35) (by decide) dX3_init_35 (Nat.le_of_ble_eq_true rfl) fun h53 => ?_
    refine im_aast (pc := 38) (t := 2) (by decide) (by decide) dX3_init_38 fun h54 => ?_
    refine im_iinc (pc := 39) (v := (v2 + 1)) (lv' := [some (.inr v0), none, some (.inl (v2 + 1))]) dX3_init_39 rfl rfl (by decide) rfl ?_
    refine im_goto (pc := 42) (tgt := 20) dX3_init_42 (by decide) ?_
    exact Im.back [true, false, true] rfl rfl
theorem yd_init_L20_ok (X : CT) (v0 : Option Nat) (v2 : Int32) (h : PH) : Im X (cX3_init, 3, RX3, "<init>", none, 2) 20 [some (.inr v0), none, some (.inl v2)] [] h (yd_init_L20 v0 v2 h) szV (kV X) := by
  unfold yd_init_L20
  exact Im.iter (lv := (fun s : Int32 × PH => [some (.inr v0), none, some (.inl s.1)])) (hp := (fun s : Int32 × PH => s.2)) (fun s => yd_init_b20_ok X v0 s.1 s.2) _ rfl rfl
noncomputable def yd_init_0 (v0 : Option Nat) (v1 : Option Nat) (h : PH) : Option (PH) :=
  (pf [2] 5 v0 (.inr v1) h).bind fun h51 =>
  nul v0 none (
  (nwr 2 16 h51).bind fun h52 =>
  (pf [2] 0 v0 (.inr (some h51.1)) h52).bind fun h53 =>
  yd_init_L20 v0 0 h53)
theorem yd_init_0_ok (X : CT) (v0 : Option Nat) (v1 : Option Nat) (h : PH) : Im X (cX3_init, 3, RX3, "<init>", none, 2) 0 [some (.inr v0), some (.inr v1), none] [] h (yd_init_0 v0 v1 h) szV (kV X) := by
  unfold yd_init_0
  refine im_aload_n (pc := 0) dX3_init_0 rfl rfl ?_
  refine im_aload_n (pc := 1) dX3_init_1 rfl rfl ?_
  refine im_pfF (pc := 2) fp_X3_3 (okT_o _ _) dX3_init_2 fun h51 => ?_
  refine im_aload_n (pc := 5) dX3_init_5 rfl rfl ?_
  refine im_objInit (pc := 6) (by decide) q184 q138 q139 (Nat.le_of_ble_eq_true rfl) dX3_init_6 ?_
  refine im_aload_n (pc := 9) dX3_init_9 rfl rfl ?_
  refine im_bipush (pc := 10) (v := 16) dX3_init_10 (by decide) ?_
  refine im_newr (pc := 12) (t := 2) (n := 16) (by decide) (by decide) q185 (by decide) (by decide) (by decide) dX3_init_12 fun h52 => ?_
  refine im_pfF (pc := 15) fp_X3_17 (okT_a _ _) dX3_init_15 fun h53 => ?_
  refine im_iconst (pc := 18) (v := 0) dX3_init_18 (by decide) ?_
  refine im_istore_n (pc := 19) (lv' := [some (.inr v0), some (.inr v1), some (.inl 0)]) dX3_init_19 rfl (by decide) rfl ?_
  exact Im.drop [true, false, true] rfl (yd_init_L20_ok X v0 0 h53)
noncomputable def yd_init (a0 : Option Nat) (a1 : Option Nat) (h : PH) : Option (PH) := grd (isC [2] a0 h) (yd_init_0 a0 a1 h)
theorem yd_init_im : IM_X3_init yd_init 2 := by
  intro a0 a1 h h' e
  obtain ⟨e1, e2⟩ := grd_some e
  exact ⟨e1, SpV.of (k := 1) (plainFor_of_name (by decide)) rfl (fun X => Im.drop [true, true, false] rfl (yd_init_0_ok X a0 a1 h)) e2⟩
theorem apt_X5 : Apt 4 4 := apt_of rfl in_X5 tyX5 tyX5_ok nmX5
theorem fp_X5_9 : ∀ c ∈ [4], FPF RX5 9 c 0 (.array .int) := List.forall_mem_cons.mpr ⟨⟨RX5, TX5, 4, rfl, in_X5, by decide, apt_X5, rfl, rfl, by decide +kernel, q252⟩, fun _ h => absurd h List.not_mem_nil⟩
theorem fp_X5_17 : ∀ c ∈ [4], FPF RX5 17 c 1 (.array (.object "TalkingPlots$Sum")) := List.forall_mem_cons.mpr ⟨⟨RX5, TX5, 4, rfl, in_X5, by decide, apt_X5, rfl, rfl, by decide +kernel, q254⟩, fun _ h => absurd h List.not_mem_nil⟩
theorem fp_X5_23 : ∀ c ∈ [4], FPF RX5 23 c 2 (.array (.object "TalkingPlots$Condition")) := List.forall_mem_cons.mpr ⟨⟨RX5, TX5, 4, rfl, in_X5, by decide, apt_X5, rfl, rfl, by decide +kernel, q256⟩, fun _ h => absurd h List.not_mem_nil⟩
def IM_X5_init (f : Option Nat → PH → Option (PH)) (d : Nat) : Prop := ∀ (a0 : Option Nat) (h : PH) (h' : PH), f a0 h = some h' → isC [4] a0 h = true ∧ SpV yX5_init cX5_init 1 none d [.inr a0] h h'
noncomputable def tx_init_0 (v0 : Option Nat) (h : PH) : Option (PH) :=
  nul v0 none (
  (nwa 0 16 h).bind fun h51 =>
  (pf [4] 0 v0 (.inr (some h.1)) h51).bind fun h52 =>
  (nwr 3 16 h52).bind fun h53 =>
  (pf [4] 1 v0 (.inr (some h52.1)) h53).bind fun h54 =>
  (nwr 4 16 h54).bind fun h55 =>
  (pf [4] 2 v0 (.inr (some h54.1)) h55).bind fun h56 =>
  some (h56))
theorem tx_init_0_ok (X : CT) (v0 : Option Nat) (h : PH) : Im X (cX5_init, 1, RX5, "<init>", none, 1) 0 [some (.inr v0)] [] h (tx_init_0 v0 h) szV (kV X) := by
  unfold tx_init_0
  refine im_aload_n (pc := 0) dX5_init_0 rfl rfl ?_
  refine im_objInit (pc := 1) (by decide) q247 q138 q139 (Nat.le_of_ble_eq_true rfl) dX5_init_1 ?_
  refine im_aload_n (pc := 4) dX5_init_4 rfl rfl ?_
  refine im_bipush (pc := 5) (v := 16) dX5_init_5 (by decide) ?_
  refine im_newa (pc := 7) (t := 0) (n := 16) (Or.inl ⟨rfl, rfl⟩) (by decide) (by decide) (by decide) dX5_init_7 fun h51 => ?_
  refine im_pfF (pc := 9) fp_X5_9 (okT_a _ _) dX5_init_9 fun h52 => ?_
  refine im_aload_n (pc := 12) dX5_init_12 rfl rfl ?_
  refine im_bipush (pc := 13) (v := 16) dX5_init_13 (by decide) ?_
  refine im_newr (pc := 15) (t := 3) (n := 16) (by decide) (by decide) q248 (by decide) (by decide) (by decide) dX5_init_15 fun h53 => ?_
  refine im_pfF (pc := 18) fp_X5_17 (okT_a _ _) dX5_init_18 fun h54 => ?_
  refine im_aload_n (pc := 21) dX5_init_21 rfl rfl ?_
  refine im_bipush (pc := 22) (v := 16) dX5_init_22 (by decide) ?_
  refine im_newr (pc := 24) (t := 4) (n := 16) (by decide) (by decide) q250 (by decide) (by decide) (by decide) dX5_init_24 fun h55 => ?_
  refine im_pfF (pc := 27) fp_X5_23 (okT_a _ _) dX5_init_27 fun h56 => ?_
  exact im_vret (pc := 30) dX5_init_30
noncomputable def tx_init (a0 : Option Nat) (h : PH) : Option (PH) := grd (isC [4] a0 h) (tx_init_0 a0 h)
theorem tx_init_im : IM_X5_init tx_init 1 := by
  intro a0 h h' e
  obtain ⟨e1, e2⟩ := grd_some e
  exact ⟨e1, SpV.of (k := 0) (plainFor_of_name (by decide)) rfl (fun X => Im.drop [true] rfl (tx_init_0_ok X a0 h)) e2⟩
theorem nw_X0_55 : NW RX0 55 1 [.inl 0, .inl 0, .inl 0, .inl 0, .inl 0, .inl 0, .inl 0, .inl 0, .inl 0] := ⟨RX2, TX2, tyX2, rfl, in_X2, tyX2_ok, q140, q141, q108, fun G j hj => by
  have hj : j < 9 := hj
  match j, hj with
  | 0, _ => rfl
  | 1, _ => rfl
  | 2, _ => rfl
  | 3, _ => rfl
  | 4, _ => rfl
  | 5, _ => rfl
  | 6, _ => rfl
  | 7, _ => rfl
  | 8, _ => rfl⟩
theorem cl_X0_57 {X : CT} {cc : ByteArray} {nL : Nat} {mn : String} {ret : Option FieldType} {d d0 : Nat} {τ : Type} {pc : Nat} {lv : List (Option PV)} {st : List PV} {h : PH} {sz : τ → Nat × Nat} {K : τ → Prop} {f : Option Nat → PH → Option (PH)} (HR : IM_X2_init f d0) {a0 : Option Nat} {g : PH → Option τ} (hd : d0 + 1 ≤ d) (hdg : decode cc pc = .ok (.invokespecial 57, 3)) (hst : st.length ≤ 8) (kk : ∀ h', Im X (cc, nL, RX0, mn, ret, d) (pc + 3) lv st h' (g h') sz K) : Im X (cc, nL, RX0, mn, ret, d) pc lv (.inr a0 :: st) h ((f a0 h).bind g) sz K := by
  refine im_cV (y := yX2_init) (cY := cX2_init) (nY := 1) (rY := none) (d' := d0) (av := [.inr a0]) (fun h' e hX => ?_) (fun h' e => (HR _ _ _ e).2) hd (by decide) hst rfl kk
  obtain ⟨a, c, fs, rfl, ec, hm⟩ := isC_some (HR _ _ _ e).1
  exact cal_IN (n := 0) hX (lw_n q142 rfl) q143 q108 q144 rfl (by decide +kernel) rfl hdg

theorem apt_X0 : Apt 0 20 := apt_of rfl in_X0 tyX0 tyX0_ok nmX0
theorem fp_X0_36 : ∀ c ∈ [0], FPF RX0 36 c 0 (.object "TalkingPlots$Moment") := List.forall_mem_cons.mpr ⟨⟨RX0, TX0, 20, rfl, in_X0, by decide, apt_X0, rfl, rfl, by decide +kernel, q272⟩, fun _ h => absurd h List.not_mem_nil⟩
theorem nw_X0_58 : NW RX0 58 2 [.inr none, .inl 0, .inl 0, .inl 0, .inl 0, .inr none] := ⟨RX3, TX3, tyX3, rfl, in_X3, tyX3_ok, q179, q180, q109, fun G j hj => by
  have hj : j < 6 := hj
  match j, hj with
  | 0, _ => rfl
  | 1, _ => rfl
  | 2, _ => rfl
  | 3, _ => rfl
  | 4, _ => rfl
  | 5, _ => rfl⟩
theorem cl_X0_60 {X : CT} {cc : ByteArray} {nL : Nat} {mn : String} {ret : Option FieldType} {d d0 : Nat} {τ : Type} {pc : Nat} {lv : List (Option PV)} {st : List PV} {h : PH} {sz : τ → Nat × Nat} {K : τ → Prop} {f : Option Nat → Option Nat → PH → Option (PH)} (HR : IM_X3_init f d0) {a0 : Option Nat} {a1 : Option Nat} {g : PH → Option τ} (hd : d0 + 1 ≤ d) (hdg : decode cc pc = .ok (.invokespecial 60, 3)) (hst : st.length ≤ 8) (kk : ∀ h', Im X (cc, nL, RX0, mn, ret, d) (pc + 3) lv st h' (g h') sz K) : Im X (cc, nL, RX0, mn, ret, d) pc lv (.inr a1 :: .inr a0 :: st) h ((f a0 a1 h).bind g) sz K := by
  refine im_cV (y := yX3_init) (cY := cX3_init) (nY := 3) (rY := none) (d' := d0) (av := [.inr a0, .inr a1]) (fun h' e hX => ?_) (fun h' e => (HR _ _ _ _ e).2) hd (by decide) hst rfl kk
  obtain ⟨a, c, fs, rfl, ec, hm⟩ := isC_some (HR _ _ _ _ e).1
  exact cal_I (n := 1) hX q181 q182 q109 q183 rfl (by decide +kernel) rfl hdg

theorem fp_X0_63 : ∀ c ∈ [0], FPF RX0 63 c 1 (.object "TalkingPlots$Yard") := List.forall_mem_cons.mpr ⟨⟨RX0, TX0, 20, rfl, in_X0, by decide, apt_X0, rfl, rfl, by decide +kernel, q274⟩, fun _ h => absurd h List.not_mem_nil⟩
theorem fp_X0_67 : ∀ c ∈ [0], FPF RX0 67 c 2 (.object "TalkingPlots$Yard") := List.forall_mem_cons.mpr ⟨⟨RX0, TX0, 20, rfl, in_X0, by decide, apt_X0, rfl, rfl, by decide +kernel, q276⟩, fun _ h => absurd h List.not_mem_nil⟩
theorem fp_X0_70 : ∀ c ∈ [0], FPF RX0 70 c 3 (.object "TalkingPlots$Yard") := List.forall_mem_cons.mpr ⟨⟨RX0, TX0, 20, rfl, in_X0, by decide, apt_X0, rfl, rfl, by decide +kernel, q277⟩, fun _ h => absurd h List.not_mem_nil⟩
theorem fp_X0_73 : ∀ c ∈ [0], FPF RX0 73 c 4 (.array .byte) := List.forall_mem_cons.mpr ⟨⟨RX0, TX0, 20, rfl, in_X0, by decide, apt_X0, rfl, rfl, by decide +kernel, q280⟩, fun _ h => absurd h List.not_mem_nil⟩
theorem nw_X0_41 : NW RX0 41 4 [.inr none, .inr none, .inr none, .inl 0] := ⟨RX5, TX5, tyX5, rfl, in_X5, tyX5_ok, q242, q243, q111, fun G j hj => by
  have hj : j < 4 := hj
  match j, hj with
  | 0, _ => rfl
  | 1, _ => rfl
  | 2, _ => rfl
  | 3, _ => rfl⟩
theorem cl_X0_77 {X : CT} {cc : ByteArray} {nL : Nat} {mn : String} {ret : Option FieldType} {d d0 : Nat} {τ : Type} {pc : Nat} {lv : List (Option PV)} {st : List PV} {h : PH} {sz : τ → Nat × Nat} {K : τ → Prop} {f : Option Nat → PH → Option (PH)} (HR : IM_X5_init f d0) {a0 : Option Nat} {g : PH → Option τ} (hd : d0 + 1 ≤ d) (hdg : decode cc pc = .ok (.invokespecial 77, 3)) (hst : st.length ≤ 8) (kk : ∀ h', Im X (cc, nL, RX0, mn, ret, d) (pc + 3) lv st h' (g h') sz K) : Im X (cc, nL, RX0, mn, ret, d) pc lv (.inr a0 :: st) h ((f a0 h).bind g) sz K := by
  refine im_cV (y := yX5_init) (cY := cX5_init) (nY := 1) (rY := none) (d' := d0) (av := [.inr a0]) (fun h' e hX => ?_) (fun h' e => (HR _ _ _ e).2) hd (by decide) hst rfl kk
  obtain ⟨a, c, fs, rfl, ec, hm⟩ := isC_some (HR _ _ _ e).1
  exact cal_IN (n := 0) hX (lw_n q244 rfl) q245 q111 q246 rfl (by decide +kernel) rfl hdg

theorem fp_X0_32 : ∀ c ∈ [0], FP RX0 32 c 5 (.object "TalkingPlots$Text") := List.forall_mem_cons.mpr ⟨⟨RX0, TX0, 20, rfl, in_X0, by decide, apt_X0, rfl, by decide +kernel, Or.inl q281⟩, fun _ h => absurd h List.not_mem_nil⟩
theorem fp_X0_78 : ∀ c ∈ [0], FPF RX0 78 c 8 (.array .int) := List.forall_mem_cons.mpr ⟨⟨RX0, TX0, 20, rfl, in_X0, by decide, apt_X0, rfl, rfl, by decide +kernel, q285⟩, fun _ h => absurd h List.not_mem_nil⟩
theorem fp_X0_81 : ∀ c ∈ [0], FPF RX0 81 c 9 (.array .int) := List.forall_mem_cons.mpr ⟨⟨RX0, TX0, 20, rfl, in_X0, by decide, apt_X0, rfl, rfl, by decide +kernel, q286⟩, fun _ h => absurd h List.not_mem_nil⟩
theorem fp_X0_84 : ∀ c ∈ [0], FPF RX0 84 c 10 (.array .int) := List.forall_mem_cons.mpr ⟨⟨RX0, TX0, 20, rfl, in_X0, by decide, apt_X0, rfl, rfl, by decide +kernel, q287⟩, fun _ h => absurd h List.not_mem_nil⟩
theorem fp_X0_87 : ∀ c ∈ [0], FPF RX0 87 c 12 (.array .int) := List.forall_mem_cons.mpr ⟨⟨RX0, TX0, 20, rfl, in_X0, by decide, apt_X0, rfl, rfl, by decide +kernel, q289⟩, fun _ h => absurd h List.not_mem_nil⟩
theorem fp_X0_90 : ∀ c ∈ [0], FPF RX0 90 c 13 (.array .int) := List.forall_mem_cons.mpr ⟨⟨RX0, TX0, 20, rfl, in_X0, by decide, apt_X0, rfl, rfl, by decide +kernel, q290⟩, fun _ h => absurd h List.not_mem_nil⟩
theorem fp_X0_93 : ∀ c ∈ [0], FPF RX0 93 c 16 (.array .int) := List.forall_mem_cons.mpr ⟨⟨RX0, TX0, 20, rfl, in_X0, by decide, apt_X0, rfl, rfl, by decide +kernel, q293⟩, fun _ h => absurd h List.not_mem_nil⟩
theorem fp_X0_96 : ∀ c ∈ [0], FPF RX0 96 c 17 (.array .int) := List.forall_mem_cons.mpr ⟨⟨RX0, TX0, 20, rfl, in_X0, by decide, apt_X0, rfl, rfl, by decide +kernel, q294⟩, fun _ h => absurd h List.not_mem_nil⟩
theorem fp_X0_99 : ∀ c ∈ [0], FPF RX0 99 c 18 (.array .int) := List.forall_mem_cons.mpr ⟨⟨RX0, TX0, 20, rfl, in_X0, by decide, apt_X0, rfl, rfl, by decide +kernel, q295⟩, fun _ h => absurd h List.not_mem_nil⟩
theorem fp_X0_102 : ∀ c ∈ [0], FPF RX0 102 c 19 (.array .int) := List.forall_mem_cons.mpr ⟨⟨RX0, TX0, 20, rfl, in_X0, by decide, apt_X0, rfl, rfl, by decide +kernel, q296⟩, fun _ h => absurd h List.not_mem_nil⟩
theorem fl_X0_63 : ∀ c ∈ [0], FL RX0 63 c 1 := List.forall_mem_cons.mpr ⟨⟨RX0, TX0, 20, rfl, in_X0, by decide, Or.inl q274⟩, fun _ h => absurd h List.not_mem_nil⟩
theorem fp_X0_105 : ∀ c ∈ [2], FP RX0 105 c 2 .int := List.forall_mem_cons.mpr ⟨⟨RX3, TX3, 6, rfl, in_X3, by decide, apt_X3, rfl, by decide +kernel, Or.inr ⟨_, lw_n q223 rfl⟩⟩, fun _ h => absurd h List.not_mem_nil⟩
def IM_X0_init (f : Option Nat → PH → Option (PH)) (d : Nat) : Prop := ∀ (a0 : Option Nat) (h : PH) (h' : PH), f a0 h = some h' → isC [0] a0 h = true ∧ SpV yX0_init cX0_init 1 none d [.inr a0] h h'
noncomputable def tp_init_0 (v0 : Option Nat) (h : PH) : Option (PH) :=
  nul v0 none (
  (nw 1 [.inl 0, .inl 0, .inl 0, .inl 0, .inl 0, .inl 0, .inl 0, .inl 0, .inl 0] h).bind fun h51 =>
  (mt_init (some h.1) h51).bind fun h52 =>
  (pf [0] 0 v0 (.inr (some h.1)) h52).bind fun h53 =>
  (nw 2 [.inr none, .inl 0, .inl 0, .inl 0, .inl 0, .inr none] h53).bind fun h54 =>
  (yd_init (some h53.1) v0 h54).bind fun h55 =>
  (pf [0] 1 v0 (.inr (some h53.1)) h55).bind fun h56 =>
  (nw 2 [.inr none, .inl 0, .inl 0, .inl 0, .inl 0, .inr none] h56).bind fun h57 =>
  (yd_init (some h56.1) v0 h57).bind fun h58 =>
  (pf [0] 2 v0 (.inr (some h56.1)) h58).bind fun h59 =>
  (nw 2 [.inr none, .inl 0, .inl 0, .inl 0, .inl 0, .inr none] h59).bind fun h60 =>
  (yd_init (some h59.1) v0 h60).bind fun h61 =>
  (pf [0] 3 v0 (.inr (some h59.1)) h61).bind fun h62 =>
  (nwa 1 260 h62).bind fun h63 =>
  (pf [0] 4 v0 (.inr (some h62.1)) h63).bind fun h64 =>
  (nw 4 [.inr none, .inr none, .inr none, .inl 0] h64).bind fun h65 =>
  (tx_init (some h64.1) h65).bind fun h66 =>
  (pf [0] 5 v0 (.inr (some h64.1)) h66).bind fun h67 =>
  (nwa 0 24 h67).bind fun h68 =>
  (pf [0] 8 v0 (.inr (some h67.1)) h68).bind fun h69 =>
  (nwa 0 24 h69).bind fun h70 =>
  (pf [0] 9 v0 (.inr (some h69.1)) h70).bind fun h71 =>
  (nwa 0 24 h71).bind fun h72 =>
  (pf [0] 10 v0 (.inr (some h71.1)) h72).bind fun h73 =>
  (nwa 0 7 h73).bind fun h74 =>
  (pf [0] 12 v0 (.inr (some h73.1)) h74).bind fun h75 =>
  (nwa 0 7 h75).bind fun h76 =>
  (pf [0] 13 v0 (.inr (some h75.1)) h76).bind fun h77 =>
  (nwa 0 1024 h77).bind fun h78 =>
  (pf [0] 16 v0 (.inr (some h77.1)) h78).bind fun h79 =>
  (nwa 0 10 h79).bind fun h80 =>
  (pf [0] 17 v0 (.inr (some h79.1)) h80).bind fun h81 =>
  (nwa 0 20 h81).bind fun h82 =>
  (pf [0] 18 v0 (.inr (some h81.1)) h82).bind fun h83 =>
  (nwa 0 60 h83).bind fun h84 =>
  (pf [0] 19 v0 (.inr (some h83.1)) h84).bind fun h85 =>
  (gfr [0] 1 v0 h85).bind fun r86 =>
  (pf [2] 2 r86 (.inl 1) h85).bind fun h87 =>
  some (h87))
theorem tp_init_0_ok (X : CT) (v0 : Option Nat) (h : PH) : Im X (cX0_init, 1, RX0, "<init>", none, 3) 0 [some (.inr v0)] [] h (tp_init_0 v0 h) szV (kV X) := by
  unfold tp_init_0
  refine im_aload_n (pc := 0) dX0_init_0 rfl rfl ?_
  refine im_objInit (pc := 1) (by decide) q137 q138 q139 (Nat.le_of_ble_eq_true rfl) dX0_init_1 ?_
  refine im_aload_n (pc := 4) dX0_init_4 rfl rfl ?_
  refine im_new (pc := 5) nw_X0_55 dX0_init_5 fun h51 => ?_
  refine im_dup (pc := 8) dX0_init_8 ?_
  refine cl_X0_57 mt_init_im (pc := 9) (by decide) dX0_init_9 (Nat.le_of_ble_eq_true rfl) fun h52 => ?_
  refine im_pfF (pc := 12) fp_X0_36 (okT_o _ _) dX0_init_12 fun h53 => ?_
  refine im_aload_n (pc := 15) dX0_init_15 rfl rfl ?_
  refine im_new (pc := 16) nw_X0_58 dX0_init_16 fun h54 => ?_
  refine im_dup (pc := 19) dX0_init_19 ?_
  refine im_aload_n (pc := 20) dX0_init_20 rfl rfl ?_
  refine cl_X0_60 yd_init_im (pc := 21) (by decide) dX0_init_21 (Nat.le_of_ble_eq_true rfl) fun h55 => ?_
  refine im_pfF (pc := 24) fp_X0_63 (okT_o _ _) dX0_init_24 fun h56 => ?_
  refine im_aload_n (pc := 27) dX0_init_27 rfl rfl ?_
  refine im_new (pc := 28) nw_X0_58 dX0_init_28 fun h57 => ?_
  refine im_dup (pc := 31) dX0_init_31 ?_
  refine im_aload_n (pc := 32) dX0_init_32 rfl rfl ?_
  refine cl_X0_60 yd_init_im (pc := 33) (by decide) dX0_init_33 (Nat.le_of_ble_eq_true rfl) fun h58 => ?_
  refine im_pfF (pc := 36) fp_X0_67 (okT_o _ _) dX0_init_36 fun h59 => ?_
  refine im_aload_n (pc := 39) dX0_init_39 rfl rfl ?_
  refine im_new (pc := 40) nw_X0_58 dX0_init_40 fun h60 => ?_
  refine im_dup (pc := 43) dX0_init_43 ?_
  refine im_aload_n (pc := 44) dX0_init_44 rfl rfl ?_
  refine cl_X0_60 yd_init_im (pc := 45) (by decide) dX0_init_45 (Nat.le_of_ble_eq_true rfl) fun h61 => ?_
  refine im_pfF (pc := 48) fp_X0_70 (okT_o _ _) dX0_init_48 fun h62 => ?_
  refine im_aload_n (pc := 51) dX0_init_51 rfl rfl ?_
  refine im_sipush (pc := 52) (v := 260) dX0_init_52 (by decide) ?_
  refine im_newa (pc := 55) (t := 1) (n := 260) (Or.inr ⟨rfl, rfl⟩) (by decide) (by decide) (by decide) dX0_init_55 fun h63 => ?_
  refine im_pfF (pc := 57) fp_X0_73 (okT_a _ _) dX0_init_57 fun h64 => ?_
  refine im_aload_n (pc := 60) dX0_init_60 rfl rfl ?_
  refine im_new (pc := 61) nw_X0_41 dX0_init_61 fun h65 => ?_
  refine im_dup (pc := 64) dX0_init_64 ?_
  refine cl_X0_77 tx_init_im (pc := 65) (by decide) dX0_init_65 (Nat.le_of_ble_eq_true rfl) fun h66 => ?_
  refine im_pf (pc := 68) fp_X0_32 (okT_o _ _) dX0_init_68 fun h67 => ?_
  refine im_aload_n (pc := 71) dX0_init_71 rfl rfl ?_
  refine im_bipush (pc := 72) (v := 24) dX0_init_72 (by decide) ?_
  refine im_newa (pc := 74) (t := 0) (n := 24) (Or.inl ⟨rfl, rfl⟩) (by decide) (by decide) (by decide) dX0_init_74 fun h68 => ?_
  refine im_pfF (pc := 76) fp_X0_78 (okT_a _ _) dX0_init_76 fun h69 => ?_
  refine im_aload_n (pc := 79) dX0_init_79 rfl rfl ?_
  refine im_bipush (pc := 80) (v := 24) dX0_init_80 (by decide) ?_
  refine im_newa (pc := 82) (t := 0) (n := 24) (Or.inl ⟨rfl, rfl⟩) (by decide) (by decide) (by decide) dX0_init_82 fun h70 => ?_
  refine im_pfF (pc := 84) fp_X0_81 (okT_a _ _) dX0_init_84 fun h71 => ?_
  refine im_aload_n (pc := 87) dX0_init_87 rfl rfl ?_
  refine im_bipush (pc := 88) (v := 24) dX0_init_88 (by decide) ?_
  refine im_newa (pc := 90) (t := 0) (n := 24) (Or.inl ⟨rfl, rfl⟩) (by decide) (by decide) (by decide) dX0_init_90 fun h72 => ?_
  refine im_pfF (pc := 92) fp_X0_84 (okT_a _ _) dX0_init_92 fun h73 => ?_
  refine im_aload_n (pc := 95) dX0_init_95 rfl rfl ?_
  refine im_bipush (pc := 96) (v := 7) dX0_init_96 (by decide) ?_
  refine im_newa (pc := 98) (t := 0) (n := 7) (Or.inl ⟨rfl, rfl⟩) (by decide) (by decide) (by decide) dX0_init_98 fun h74 => ?_
  refine im_pfF (pc := 100) fp_X0_87 (okT_a _ _) dX0_init_100 fun h75 => ?_
  refine im_aload_n (pc := 103) dX0_init_103 rfl rfl ?_
  refine im_bipush (pc := 104) (v := 7) dX0_init_104 (by decide) ?_
  refine im_newa (pc := 106) (t := 0) (n := 7) (Or.inl ⟨rfl, rfl⟩) (by decide) (by decide) (by decide) dX0_init_106 fun h76 => ?_
  refine im_pfF (pc := 108) fp_X0_90 (okT_a _ _) dX0_init_108 fun h77 => ?_
  refine im_aload_n (pc := 111) dX0_init_111 rfl rfl ?_
  refine im_sipush (pc := 112) (v := 1024) dX0_init_112 (by decide) ?_
  refine im_newa (pc := 115) (t := 0) (n := 1024) (Or.inl ⟨rfl, rfl⟩) (by decide) (by decide) (by decide) dX0_init_115 fun h78 => ?_
  refine im_pfF (pc := 117) fp_X0_93 (okT_a _ _) dX0_init_117 fun h79 => ?_
  refine im_aload_n (pc := 120) dX0_init_120 rfl rfl ?_
  refine im_bipush (pc := 121) (v := 10) dX0_init_121 (by decide) ?_
  refine im_newa (pc := 123) (t := 0) (n := 10) (Or.inl ⟨rfl, rfl⟩) (by decide) (by decide) (by decide) dX0_init_123 fun h80 => ?_
  refine im_pfF (pc := 125) fp_X0_96 (okT_a _ _) dX0_init_125 fun h81 => ?_
  refine im_aload_n (pc := 128) dX0_init_128 rfl rfl ?_
  refine im_bipush (pc := 129) (v := 20) dX0_init_129 (by decide) ?_
  refine im_newa (pc := 131) (t := 0) (n := 20) (Or.inl ⟨rfl, rfl⟩) (by decide) (by decide) (by decide) dX0_init_131 fun h82 => ?_
  refine im_pfF (pc := 133) fp_X0_99 (okT_a _ _) dX0_init_133 fun h83 => ?_
  refine im_aload_n (pc := 136) dX0_init_136 rfl rfl ?_
  refine im_bipush (pc := 137) (v := 60) dX0_init_137 (by decide) ?_
  refine im_newa (pc := 139) (t := 0) (n := 60) (Or.inl ⟨rfl, rfl⟩) (by decide) (by decide) (by decide) dX0_init_139 fun h84 => ?_
  refine im_pfF (pc := 141) fp_X0_102 (okT_a _ _) dX0_init_141 fun h85 => ?_
  refine im_aload_n (pc := 144) dX0_init_144 rfl rfl ?_
  refine im_gr (pc := 145) fl_X0_63 dX0_init_145 fun r86 => ?_
  refine im_iconst (pc := 148) (v := 1) dX0_init_148 (by decide) ?_
  refine im_pf (pc := 149) fp_X0_105 (okT_i _) dX0_init_149 fun h87 => ?_
  exact im_vret (pc := 152) dX0_init_152
noncomputable def tp_init (a0 : Option Nat) (h : PH) : Option (PH) := grd (isC [0] a0 h) (tp_init_0 a0 h)
theorem tp_init_im : IM_X0_init tp_init 3 := by
  intro a0 h h' e
  obtain ⟨e1, e2⟩ := grd_some e
  exact ⟨e1, SpV.of (k := 0) (plainFor_of_name (by decide)) rfl (fun X => Im.drop [true] rfl (tp_init_0_ok X a0 h)) e2⟩
def IM_X0_in (f : Int32 → Int32 → PH → Option (Int32)) (d : Nat) : Prop := ∀ (a0 : Int32) (a1 : Int32) (h : PH) (r : Int32), f a0 a1 h = some r → SpI yX0_in cX0_in 2 (some .boolean) d [.inl a0, .inl a1] h r h
noncomputable def tp_in_0 (v0 : Int32) (v1 : Int32) (h : PH) : Option (Int32) :=
  (if v0 < 0 then
  some (0)
  else
  (if v1 ≤ v0 then
  some (0)
  else
  some (1)))
theorem tp_in_0_ok (X : CT) (v0 : Int32) (v1 : Int32) (h : PH) : Im X (cX0_in, 2, RX0, "in", (some .boolean), 1) 0 [some (.inl v0), some (.inl v1)] [] h (tp_in_0 v0 v1 h) (szP h) (kP X h) := by
  unfold tp_in_0
  refine im_iload_n (pc := 0) dX0_in_0 rfl rfl ?_
  refine im_if_lt (pc := 1) (tgt := 13) dX0_in_1 (by decide) ?_ ?_
  · refine im_iconst (pc := 13) (v := 0) dX0_in_13 (by decide) ?_
    exact im_zretTP (pc := 14) (nar_z (Or.inl rfl)) dX0_in_14
  · refine im_iload_n (pc := 4) dX0_in_4 rfl rfl ?_
    refine im_iload_n (pc := 5) dX0_in_5 rfl rfl ?_
    refine im_icmp_ge (pc := 6) (tgt := 13) dX0_in_6 (by decide) ?_ ?_
    · refine im_iconst (pc := 13) (v := 0) dX0_in_13 (by decide) ?_
      exact im_zretTP (pc := 14) (nar_z (Or.inl rfl)) dX0_in_14
    · refine im_iconst (pc := 9) (v := 1) dX0_in_9 (by decide) ?_
      refine im_goto (pc := 10) (tgt := 14) dX0_in_10 (by decide) ?_
      exact im_zretTP (pc := 14) (nar_z (Or.inr rfl)) dX0_in_14
noncomputable def tp_in (a0 : Int32) (a1 : Int32) (h : PH) : Option (Int32) := tp_in_0 a0 a1 h
theorem tp_in_im : IM_X0_in tp_in 1 := by
  intro a0 a1 h r e
  exact SpI.ofP (k := 0) (plainFor_of_name (by decide)) rfl (fun X => Im.drop [true, true] rfl (tp_in_0_ok X a0 a1 h)) e
def IM_X0_within (f : Int32 → Int32 → Int32 → PH → Option (Int32)) (d : Nat) : Prop := ∀ (a0 : Int32) (a1 : Int32) (a2 : Int32) (h : PH) (r : Int32), f a0 a1 a2 h = some r → SpI yX0_within cX0_within 3 (some .boolean) d [.inl a0, .inl a1, .inl a2] h r h
noncomputable def tp_within_0 (v0 : Int32) (v1 : Int32) (v2 : Int32) (h : PH) : Option (Int32) :=
  (if v0 < v1 then
  some (0)
  else
  (if v2 < v0 then
  some (0)
  else
  some (1)))
theorem tp_within_0_ok (X : CT) (v0 : Int32) (v1 : Int32) (v2 : Int32) (h : PH) : Im X (cX0_within, 3, RX0, "within", (some .boolean), 1) 0 [some (.inl v0), some (.inl v1), some (.inl v2)] [] h (tp_within_0 v0 v1 v2 h) (szP h) (kP X h) := by
  unfold tp_within_0
  refine im_iload_n (pc := 0) dX0_within_0 rfl rfl ?_
  refine im_iload_n (pc := 1) dX0_within_1 rfl rfl ?_
  refine im_icmp_lt (pc := 2) (tgt := 14) dX0_within_2 (by decide) ?_ ?_
  · refine im_iconst (pc := 14) (v := 0) dX0_within_14 (by decide) ?_
    exact im_zretTP (pc := 15) (nar_z (Or.inl rfl)) dX0_within_15
  · refine im_iload_n (pc := 5) dX0_within_5 rfl rfl ?_
    refine im_iload_n (pc := 6) dX0_within_6 rfl rfl ?_
    refine im_icmp_gt (pc := 7) (tgt := 14) dX0_within_7 (by decide) ?_ ?_
    · refine im_iconst (pc := 14) (v := 0) dX0_within_14 (by decide) ?_
      exact im_zretTP (pc := 15) (nar_z (Or.inl rfl)) dX0_within_15
    · refine im_iconst (pc := 10) (v := 1) dX0_within_10 (by decide) ?_
      refine im_goto (pc := 11) (tgt := 15) dX0_within_11 (by decide) ?_
      exact im_zretTP (pc := 15) (nar_z (Or.inr rfl)) dX0_within_15
noncomputable def tp_within (a0 : Int32) (a1 : Int32) (a2 : Int32) (h : PH) : Option (Int32) := tp_within_0 a0 a1 a2 h
theorem tp_within_im : IM_X0_within tp_within 1 := by
  intro a0 a1 a2 h r e
  exact SpI.ofP (k := 0) (plainFor_of_name (by decide)) rfl (fun X => Im.drop [true, true, true] rfl (tp_within_0_ok X a0 a1 a2 h)) e
theorem cl_X0_25 {X : CT} {cc : ByteArray} {nL : Nat} {mn : String} {ret : Option FieldType} {d d0 : Nat} {τ : Type} {pc : Nat} {lv : List (Option PV)} {st : List PV} {h : PH} {sz : τ → Nat × Nat} {K : τ → Prop} {f : Int32 → Int32 → PH → Option (Int32)} (HR : IM_X0_in f d0) {a0 : Int32} {a1 : Int32} {g : Int32 → Option τ} (hd : d0 + 1 ≤ d) (hdg : decode cc pc = .ok (.invokestatic 25, 3)) (hst : st.length ≤ 8) (kk : ∀ r, Im X (cc, nL, RX0, mn, ret, d) (pc + 3) lv (.inl r :: st) h (g r) sz K) : Im X (cc, nL, RX0, mn, ret, d) pc lv (.inl a1 :: .inl a0 :: st) h ((f a0 a1 h).bind g) sz K := by
  refine im_cP (y := yX0_in) (cY := cX0_in) (nY := 2) (rY := (some .boolean)) (d' := d0) (av := [.inl a0, .inl a1]) (fun r e hX => ?_) (fun r e => HR _ _ _ _ e) hd (by decide) hst rfl kk
  exact cal_S (n := 2) hX (lw_S q342 q343 q106 q344) (by decide +kernel) rfl hdg

theorem cl_X0_120 {X : CT} {cc : ByteArray} {nL : Nat} {mn : String} {ret : Option FieldType} {d d0 : Nat} {τ : Type} {pc : Nat} {lv : List (Option PV)} {st : List PV} {h : PH} {sz : τ → Nat × Nat} {K : τ → Prop} {f : Int32 → Int32 → Int32 → PH → Option (Int32)} (HR : IM_X0_within f d0) {a0 : Int32} {a1 : Int32} {a2 : Int32} {g : Int32 → Option τ} (hd : d0 + 1 ≤ d) (hdg : decode cc pc = .ok (.invokestatic 120, 3)) (hst : st.length ≤ 8) (kk : ∀ r, Im X (cc, nL, RX0, mn, ret, d) (pc + 3) lv (.inl r :: st) h (g r) sz K) : Im X (cc, nL, RX0, mn, ret, d) pc lv (.inl a2 :: .inl a1 :: .inl a0 :: st) h ((f a0 a1 a2 h).bind g) sz K := by
  refine im_cP (y := yX0_within) (cY := cX0_within) (nY := 3) (rY := (some .boolean)) (d' := d0) (av := [.inl a0, .inl a1, .inl a2]) (fun r e hX => ?_) (fun r e => HR _ _ _ _ _ e) hd (by decide) hst rfl kk
  exact cal_S (n := 3) hX (lw_S q346 q347 q106 q348) (by decide +kernel) rfl hdg

theorem fl_X0_109 : ∀ c ∈ [2], FL RX0 109 c 0 := List.forall_mem_cons.mpr ⟨⟨RX3, TX3, 6, rfl, in_X3, by decide, Or.inr ⟨_, lw_n q219 rfl⟩⟩, fun _ h => absurd h List.not_mem_nil⟩
theorem fp_X0_113 : ∀ c ∈ [3], FP RX0 113 c 3 .boolean := List.forall_mem_cons.mpr ⟨⟨RX4, TX4, 4, rfl, in_X4, by decide, apt_X4, rfl, by decide +kernel, Or.inr ⟨_, lw_n q207 rfl⟩⟩, fun _ h => absurd h List.not_mem_nil⟩
theorem fp_X0_124 : ∀ c ∈ [3], FP RX0 124 c 0 .int := List.forall_mem_cons.mpr ⟨⟨RX4, TX4, 4, rfl, in_X4, by decide, apt_X4, rfl, by decide +kernel, Or.inr ⟨_, lw_n q195 rfl⟩⟩, fun _ h => absurd h List.not_mem_nil⟩
theorem fp_X0_127 : ∀ c ∈ [3], FP RX0 127 c 1 .int := List.forall_mem_cons.mpr ⟨⟨RX4, TX4, 4, rfl, in_X4, by decide, apt_X4, rfl, by decide +kernel, Or.inr ⟨_, lw_n q200 rfl⟩⟩, fun _ h => absurd h List.not_mem_nil⟩
theorem fp_X0_130 : ∀ c ∈ [3], FP RX0 130 c 2 .int := List.forall_mem_cons.mpr ⟨⟨RX4, TX4, 4, rfl, in_X4, by decide, apt_X4, rfl, by decide +kernel, Or.inr ⟨_, lw_n q204 rfl⟩⟩, fun _ h => absurd h List.not_mem_nil⟩
def IM_X0_person (f : Option Nat → Int32 → Int32 → Int32 → PH → Option (Int32 × PH)) (d : Nat) : Prop := ∀ (a0 : Option Nat) (a1 : Int32) (a2 : Int32) (a3 : Int32) (h : PH) (r : Int32) (h' : PH), f a0 a1 a2 a3 h = some (r, h') → isC [0] a0 h = true ∧ SpI yX0_person cX0_person 5 (some .boolean) d [.inr a0, .inl a1, .inl a2, .inl a3] h r h'
noncomputable def tp_person_0 (v0 : Option Nat) (v1 : Int32) (v2 : Int32) (v3 : Int32) (h : PH) : Option (Int32 × PH) :=
  (tp_in v1 16 h).bind fun x51 =>
  (if x51 = 0 then
  some ((0, h))
  else
  (tp_in v2 65536 h).bind fun x52 =>
  (if x52 = 0 then
  some ((0, h))
  else
  (tp_within v3 0 99 h).bind fun x53 =>
  (if x53 = 0 then
  some ((0, h))
  else
  (gfr [0] 1 v0 h).bind fun r54 =>
  (gfr [2] 0 r54 h).bind fun r55 =>
  (aldr 2 r55 v1 h).bind fun r56 =>
  (pf [3] 3 r56 (.inl 1) h).bind fun h57 =>
  (pf [3] 0 r56 (.inl v2) h57).bind fun h58 =>
  (pf [3] 1 r56 (.inl v3) h58).bind fun h59 =>
  (pf [3] 2 r56 (.inl (-1)) h59).bind fun h60 =>
  some ((1, h60)))))
theorem tp_person_0_ok (X : CT) (v0 : Option Nat) (v1 : Int32) (v2 : Int32) (v3 : Int32) (h : PH) : Im X (cX0_person, 5, RX0, "person", (some .boolean), 2) 0 [some (.inr v0), some (.inl v1), some (.inl v2), some (.inl v3), none] [] h (tp_person_0 v0 v1 v2 v3 h) szI (kI X) := by
  unfold tp_person_0
  refine im_iload_n (pc := 0) dX0_person_0 rfl rfl ?_
  refine im_bipush (pc := 1) (v := 16) dX0_person_1 (by decide) ?_
  refine cl_X0_25 tp_in_im (pc := 3) (by decide) dX0_person_3 (Nat.le_of_ble_eq_true rfl) fun x51 => ?_
  refine im_if_eq (pc := 6) (tgt := 28) dX0_person_6 (by decide) ?_ ?_
  · refine im_iconst (pc := 28) (v := 0) dX0_person_28 (by decide) ?_
    exact im_zretT (pc := 29) (nar_z (Or.inl rfl)) dX0_person_29
  · refine im_iload_n (pc := 9) dX0_person_9 rfl rfl ?_
    refine im_ldc (pc := 10) q345 dX0_person_10 ?_
    refine cl_X0_25 tp_in_im (pc := 12) (by decide) dX0_person_12 (Nat.le_of_ble_eq_true rfl) fun x52 => ?_
    refine im_if_eq (pc := 15) (tgt := 28) dX0_person_15 (by decide) ?_ ?_
    · refine im_iconst (pc := 28) (v := 0) dX0_person_28 (by decide) ?_
      exact im_zretT (pc := 29) (nar_z (Or.inl rfl)) dX0_person_29
    · refine im_iload_n (pc := 18) dX0_person_18 rfl rfl ?_
      refine im_iconst (pc := 19) (v := 0) dX0_person_19 (by decide) ?_
      refine im_bipush (pc := 20) (v := 99) dX0_person_20 (by decide) ?_
      refine cl_X0_120 tp_within_im (pc := 22) (by decide) dX0_person_22 (Nat.le_of_ble_eq_true rfl) fun x53 => ?_
      refine im_if_ne (pc := 25) (tgt := 30) dX0_person_25 (by decide) ?_ ?_
      · refine im_aload_n (pc := 30) dX0_person_30 rfl rfl ?_
        refine im_gr (pc := 31) fl_X0_63 dX0_person_31 fun r54 => ?_
        refine im_gr (pc := 34) fl_X0_109 dX0_person_34 fun r55 => ?_
        refine im_iload_n (pc := 37) dX0_person_37 rfl rfl ?_
        refine im_aald (pc := 38) (t := 2) (by decide) (by decide) dX0_person_38 fun r56 => ?_
        refine im_astore (pc := 39) (lv' := [some (.inr v0), some (.inl v1), some (.inl v2), some (.inl v3), some (.inr r56)]) dX0_person_39 (by decide) rfl ?_
        refine im_aload (pc := 41) dX0_person_41 rfl ?_
        refine im_iconst (pc := 43) (v := 1) dX0_person_43 (by decide) ?_
        refine im_pf (pc := 44) fp_X0_113 (okT_z (Or.inr rfl)) dX0_person_44 fun h57 => ?_
        refine im_aload (pc := 47) dX0_person_47 rfl ?_
        refine im_iload_n (pc := 49) dX0_person_49 rfl rfl ?_
        refine im_pf (pc := 50) fp_X0_124 (okT_i _) dX0_person_50 fun h58 => ?_
        refine im_aload (pc := 53) dX0_person_53 rfl ?_
        refine im_iload_n (pc := 55) dX0_person_55 rfl rfl ?_
        refine im_pf (pc := 56) fp_X0_127 (okT_i _) dX0_person_56 fun h59 => ?_
        refine im_aload (pc := 59) dX0_person_59 rfl ?_
        refine im_iconst (pc := 61) (v := (-1)) dX0_person_61 (by decide) ?_
        refine im_pf (pc := 62) fp_X0_130 (okT_i _) dX0_person_62 fun h60 => ?_
        refine im_iconst (pc := 65) (v := 1) dX0_person_65 (by decide) ?_
        exact im_zretT (pc := 66) (nar_z (Or.inr rfl)) dX0_person_66
      · refine im_iconst (pc := 28) (v := 0) dX0_person_28 (by decide) ?_
        exact im_zretT (pc := 29) (nar_z (Or.inl rfl)) dX0_person_29
noncomputable def tp_person (a0 : Option Nat) (a1 : Int32) (a2 : Int32) (a3 : Int32) (h : PH) : Option (Int32 × PH) := grd (isC [0] a0 h) (tp_person_0 a0 a1 a2 a3 h)
theorem tp_person_im : IM_X0_person tp_person 2 := by
  intro a0 a1 a2 a3 h r h' e
  obtain ⟨e1, e2⟩ := grd_some e
  exact ⟨e1, SpI.of (k := 1) (plainFor_of_name (by decide)) rfl (fun X => Im.drop [true, true, true, true, false] rfl (tp_person_0_ok X a0 a1 a2 a3 h)) e2⟩
theorem fl_X0_73 : ∀ c ∈ [0], FL RX0 73 c 4 := List.forall_mem_cons.mpr ⟨⟨RX0, TX0, 20, rfl, in_X0, by decide, Or.inl q280⟩, fun _ h => absurd h List.not_mem_nil⟩
theorem fl_X0_133 : ∀ c ∈ [0], FL RX0 133 c 6 := List.forall_mem_cons.mpr ⟨⟨RX0, TX0, 20, rfl, in_X0, by decide, Or.inl q283⟩, fun _ h => absurd h List.not_mem_nil⟩
theorem fp_X0_133 : ∀ c ∈ [0], FP RX0 133 c 6 .int := List.forall_mem_cons.mpr ⟨⟨RX0, TX0, 20, rfl, in_X0, by decide, apt_X0, rfl, by decide +kernel, Or.inl q283⟩, fun _ h => absurd h List.not_mem_nil⟩
def IM_X0_push (f : Option Nat → Int32 → PH → Option (PH)) (d : Nat) : Prop := ∀ (a0 : Option Nat) (a1 : Int32) (h : PH) (h' : PH), f a0 a1 h = some h' → isC [0] a0 h = true ∧ SpV yX0_push cX0_push 3 none d [.inr a0, .inl a1] h h'
noncomputable def tp_push_b3 (v0 : Option Nat) (v1 : Int32) (v2 : Int32) (h : PH) : Option ((Int32 × PH) ⊕ (PH)) :=
  (if v2 < 0 then
  some (.inr h)
  else
  (gfr [0] 4 v0 h).bind fun r51 =>
  (gfi [0] 6 v0 h).bind fun x52 =>
  (ast 1 r51 x52 ((v1 >>> (v2 &&& 31)).toInt8.toInt32).toInt8.toInt32 h).bind fun h53 =>
  (gfi [0] 6 v0 h53).bind fun x54 =>
  (pf [0] 6 v0 (.inl (x54 + 1)) h53).bind fun h55 =>
  some (.inl ((v2 + (-8)), h55)))
noncomputable def tp_push_L3 (v0 : Option Nat) (v1 : Int32) (v2 : Int32) (h : PH) : Option (PH) :=
  iter (fun s : Int32 × PH => tp_push_b3 v0 v1 s.1 s.2) (v2, h)
theorem tp_push_b3_ok (X : CT) (v0 : Option Nat) (v1 : Int32) (v2 : Int32) (h : PH) : Im X (cX0_push, 3, RX0, "push", none, 1) 3 [some (.inr v0), some (.inl v1), some (.inl v2)] [] h (tp_push_b3 v0 v1 v2 h) (ez (fun s : Int32 × PH => s.2) szV) (ek X 3 (fun s : Int32 × PH => [some (.inr v0), some (.inl v1), some (.inl s.1)]) (fun s : Int32 × PH => s.2) (kV X)) := by
  unfold tp_push_b3
  refine im_iload_n (pc := 3) dX0_push_3 rfl rfl ?_
  refine im_if_lt (pc := 4) (tgt := 36) dX0_push_4 (by decide) ?_ ?_
  · exact Im.outS (im_vret (pc := 36) dX0_push_36)
  · refine im_aload_n (pc := 7) dX0_push_7 rfl rfl ?_
    refine im_gr (pc := 8) fl_X0_73 dX0_push_8 fun r51 => ?_
    refine im_aload_n (pc := 11) dX0_push_11 rfl rfl ?_
    refine im_gi (pc := 12) fl_X0_133 dX0_push_12 fun x52 => ?_
    refine im_iload_n (pc := 15) dX0_push_15 rfl rfl ?_
    refine im_iload_n (pc := 16) dX0_push_16 rfl rfl ?_
    refine im_ishr (pc := 17) dX0_push_17 ?_
    refine im_i2b (pc := 18) dX0_push_18 ?_
    refine im_bast (pc := 19) dX0_push_19 fun h53 => ?_
    refine im_aload_n (pc := 20) dX0_push_20 rfl rfl ?_
    refine im_dup (pc := 21) dX0_push_21 ?_
    refine im_gi (pc := 22) fl_X0_133 dX0_push_22 fun x54 => ?_
    refine im_iconst (pc := 25) (v := 1) dX0_push_25 (by decide) ?_
    refine im_iadd (pc := 26) dX0_push_26 ?_
    refine im_pf (pc := 27) fp_X0_133 (okT_i _) dX0_push_27 fun h55 => ?_
    refine im_iinc (pc := 30) (v := (v2 + (-8))) (lv' := [some (.inr v0), some (.inl v1), some (.inl (v2 + (-8)))]) dX0_push_30 rfl rfl (by decide) rfl ?_
    refine im_goto (pc := 33) (tgt := 3) dX0_push_33 (by decide) ?_
    exact Im.back [true, true, true] rfl rfl
theorem tp_push_L3_ok (X : CT) (v0 : Option Nat) (v1 : Int32) (v2 : Int32) (h : PH) : Im X (cX0_push, 3, RX0, "push", none, 1) 3 [some (.inr v0), some (.inl v1), some (.inl v2)] [] h (tp_push_L3 v0 v1 v2 h) szV (kV X) := by
  unfold tp_push_L3
  exact Im.iter (lv := (fun s : Int32 × PH => [some (.inr v0), some (.inl v1), some (.inl s.1)])) (hp := (fun s : Int32 × PH => s.2)) (fun s => tp_push_b3_ok X v0 v1 s.1 s.2) _ rfl rfl
noncomputable def tp_push_0 (v0 : Option Nat) (v1 : Int32) (h : PH) : Option (PH) :=
  tp_push_L3 v0 v1 24 h
theorem tp_push_0_ok (X : CT) (v0 : Option Nat) (v1 : Int32) (h : PH) : Im X (cX0_push, 3, RX0, "push", none, 1) 0 [some (.inr v0), some (.inl v1), none] [] h (tp_push_0 v0 v1 h) szV (kV X) := by
  unfold tp_push_0
  refine im_bipush (pc := 0) (v := 24) dX0_push_0 (by decide) ?_
  refine im_istore_n (pc := 2) (lv' := [some (.inr v0), some (.inl v1), some (.inl 24)]) dX0_push_2 rfl (by decide) rfl ?_
  exact Im.drop [true, true, true] rfl (tp_push_L3_ok X v0 v1 24 h)
noncomputable def tp_push (a0 : Option Nat) (a1 : Int32) (h : PH) : Option (PH) := grd (isC [0] a0 h) (tp_push_0 a0 a1 h)
theorem tp_push_im : IM_X0_push tp_push 1 := by
  intro a0 a1 h h' e
  obtain ⟨e1, e2⟩ := grd_some e
  exact ⟨e1, SpV.of (k := 1) (plainFor_of_name (by decide)) rfl (fun X => Im.drop [true, true, false] rfl (tp_push_0_ok X a0 a1 h)) e2⟩
theorem cl_X0_136 {X : CT} {cc : ByteArray} {nL : Nat} {mn : String} {ret : Option FieldType} {d d0 : Nat} {τ : Type} {pc : Nat} {lv : List (Option PV)} {st : List PV} {h : PH} {sz : τ → Nat × Nat} {K : τ → Prop} {f : Option Nat → Int32 → PH → Option (PH)} (HR : IM_X0_push f d0) {a0 : Option Nat} {a1 : Int32} {g : PH → Option τ} (hd : d0 + 1 ≤ d) (hdg : decode cc pc = .ok (.invokevirtual 136, 3)) (hst : st.length ≤ 8) (kk : ∀ h', Im X (cc, nL, RX0, mn, ret, d) (pc + 3) lv st h' (g h') sz K) : Im X (cc, nL, RX0, mn, ret, d) pc lv (.inl a1 :: .inr a0 :: st) h ((f a0 a1 h).bind g) sz K := by
  refine im_cV (y := yX0_push) (cY := cX0_push) (nY := 3) (rY := none) (d' := d0) (av := [.inr a0, .inl a1]) (fun h' e hX => ?_) (fun h' e => (HR _ _ _ _ e).2) hd (by decide) hst rfl kk
  obtain ⟨a, c, fs, rfl, ec, hm⟩ := isC_some (HR _ _ _ _ e).1
  cases List.mem_singleton.mp hm
  exact cal_V (n := 1) hX (lw_V q353 q355 qs0 q106 q356) (by decide +kernel) rfl rfl ec hdg

def IM_X0_feed (f : Option Nat → Int32 → Int32 → Int32 → Int32 → Int32 → PH → Option (Int32 × PH)) (d : Nat) : Prop := ∀ (a0 : Option Nat) (a1 : Int32) (a2 : Int32) (a3 : Int32) (a4 : Int32) (a5 : Int32) (h : PH) (r : Int32) (h' : PH), f a0 a1 a2 a3 a4 a5 h = some (r, h') → isC [0] a0 h = true ∧ SpI yX0_feed cX0_feed 6 (some .int) d [.inr a0, .inl a1, .inl a2, .inl a3, .inl a4, .inl a5] h r h'
noncomputable def tp_feed_0 (v0 : Option Nat) (v1 : Int32) (v2 : Int32) (v3 : Int32) (v4 : Int32) (v5 : Int32) (h : PH) : Option (Int32 × PH) :=
  (gfi [0] 6 v0 h).bind fun x51 =>
  (if (x51 + 20) ≤ 260 then
  (tp_push v0 v1 h).bind fun h52 =>
  (tp_push v0 v2 h52).bind fun h53 =>
  (tp_push v0 v3 h53).bind fun h54 =>
  (tp_push v0 v4 h54).bind fun h55 =>
  (tp_push v0 v5 h55).bind fun h56 =>
  (gfi [0] 6 v0 h56).bind fun x57 =>
  some ((x57, h56))
  else
  some (((-1), h)))
theorem tp_feed_0_ok (X : CT) (v0 : Option Nat) (v1 : Int32) (v2 : Int32) (v3 : Int32) (v4 : Int32) (v5 : Int32) (h : PH) : Im X (cX0_feed, 6, RX0, "feed", (some .int), 2) 0 [some (.inr v0), some (.inl v1), some (.inl v2), some (.inl v3), some (.inl v4), some (.inl v5)] [] h (tp_feed_0 v0 v1 v2 v3 v4 v5 h) szI (kI X) := by
  unfold tp_feed_0
  refine im_aload_n (pc := 0) dX0_feed_0 rfl rfl ?_
  refine im_gi (pc := 1) fl_X0_133 dX0_feed_1 fun x51 => ?_
  refine im_bipush (pc := 4) (v := 20) dX0_feed_4 (by decide) ?_
  refine im_iadd (pc := 6) dX0_feed_6 ?_
  refine im_sipush (pc := 7) (v := 260) dX0_feed_7 (by decide) ?_
  refine im_icmp_le (pc := 10) (tgt := 15) dX0_feed_10 (by decide) ?_ ?_
  · refine im_aload_n (pc := 15) dX0_feed_15 rfl rfl ?_
    refine im_iload_n (pc := 16) dX0_feed_16 rfl rfl ?_
    refine cl_X0_136 tp_push_im (pc := 17) (by decide) dX0_feed_17 (Nat.le_of_ble_eq_true rfl) fun h52 => ?_
    refine im_aload_n (pc := 20) dX0_feed_20 rfl rfl ?_
    refine im_iload_n (pc := 21) dX0_feed_21 rfl rfl ?_
    refine cl_X0_136 tp_push_im (pc := 22) (by decide) dX0_feed_22 (Nat.le_of_ble_eq_true rfl) fun h53 => ?_
    refine im_aload_n (pc := 25) dX0_feed_25 rfl rfl ?_
    refine im_iload_n (pc := 26) dX0_feed_26 rfl rfl ?_
    refine cl_X0_136 tp_push_im (pc := 27) (by decide) dX0_feed_27 (Nat.le_of_ble_eq_true rfl) fun h54 => ?_
    refine im_aload_n (pc := 30) dX0_feed_30 rfl rfl ?_
    refine im_iload (pc := 31) dX0_feed_31 rfl ?_
    refine cl_X0_136 tp_push_im (pc := 33) (by decide) dX0_feed_33 (Nat.le_of_ble_eq_true rfl) fun h55 => ?_
    refine im_aload_n (pc := 36) dX0_feed_36 rfl rfl ?_
    refine im_iload (pc := 37) dX0_feed_37 rfl ?_
    refine cl_X0_136 tp_push_im (pc := 39) (by decide) dX0_feed_39 (Nat.le_of_ble_eq_true rfl) fun h56 => ?_
    refine im_aload_n (pc := 42) dX0_feed_42 rfl rfl ?_
    refine im_gi (pc := 43) fl_X0_133 dX0_feed_43 fun x57 => ?_
    exact im_iret (pc := 46) dX0_feed_46
  · refine im_iconst (pc := 13) (v := (-1)) dX0_feed_13 (by decide) ?_
    exact im_iret (pc := 14) dX0_feed_14
noncomputable def tp_feed (a0 : Option Nat) (a1 : Int32) (a2 : Int32) (a3 : Int32) (a4 : Int32) (a5 : Int32) (h : PH) : Option (Int32 × PH) := grd (isC [0] a0 h) (tp_feed_0 a0 a1 a2 a3 a4 a5 h)
theorem tp_feed_im : IM_X0_feed tp_feed 2 := by
  intro a0 a1 a2 a3 a4 a5 h r h' e
  obtain ⟨e1, e2⟩ := grd_some e
  exact ⟨e1, SpI.of (k := 0) (plainFor_of_name (by decide)) rfl (fun X => Im.drop [true, true, true, true, true, true] rfl (tp_feed_0_ok X a0 a1 a2 a3 a4 a5 h)) e2⟩
theorem apt_X7 : Apt 6 7 := apt_of rfl in_X7 tyX7 tyX7_ok nmX7
theorem fp_X7_3 : ∀ c ∈ [6], FPF RX7 3 c 6 (.object "TalkingPlots") := List.forall_mem_cons.mpr ⟨⟨RX7, TX7, 7, rfl, in_X7, by decide, apt_X7, rfl, rfl, by decide +kernel, q376⟩, fun _ h => absurd h List.not_mem_nil⟩
theorem nw_X7_15 : NW RX7 15 4 [.inr none, .inr none, .inr none, .inl 0] := ⟨RX5, TX5, tyX5, rfl, in_X5, tyX5_ok, q367, q243, q111, fun G j hj => by
  have hj : j < 4 := hj
  match j, hj with
  | 0, _ => rfl
  | 1, _ => rfl
  | 2, _ => rfl
  | 3, _ => rfl⟩
theorem cl_X7_17 {X : CT} {cc : ByteArray} {nL : Nat} {mn : String} {ret : Option FieldType} {d d0 : Nat} {τ : Type} {pc : Nat} {lv : List (Option PV)} {st : List PV} {h : PH} {sz : τ → Nat × Nat} {K : τ → Prop} {f : Option Nat → PH → Option (PH)} (HR : IM_X5_init f d0) {a0 : Option Nat} {g : PH → Option τ} (hd : d0 + 1 ≤ d) (hdg : decode cc pc = .ok (.invokespecial 17, 3)) (hst : st.length ≤ 8) (kk : ∀ h', Im X (cc, nL, RX7, mn, ret, d) (pc + 3) lv st h' (g h') sz K) : Im X (cc, nL, RX7, mn, ret, d) pc lv (.inr a0 :: st) h ((f a0 h).bind g) sz K := by
  refine im_cV (y := yX5_init) (cY := cX5_init) (nY := 1) (rY := none) (d' := d0) (av := [.inr a0]) (fun h' e hX => ?_) (fun h' e => (HR _ _ _ e).2) hd (by decide) hst rfl kk
  obtain ⟨a, c, fs, rfl, ec, hm⟩ := isC_some (HR _ _ _ e).1
  exact cal_IN (n := 0) hX (lw_n q368 rfl) q245 q111 q246 rfl (by decide +kernel) rfl hdg

theorem fp_X7_18 : ∀ c ∈ [6], FPF RX7 18 c 1 (.object "TalkingPlots$Text") := List.forall_mem_cons.mpr ⟨⟨RX7, TX7, 7, rfl, in_X7, by decide, apt_X7, rfl, rfl, by decide +kernel, q370⟩, fun _ h => absurd h List.not_mem_nil⟩
theorem fp_X7_22 : ∀ c ∈ [6], FPF RX7 22 c 0 .int := List.forall_mem_cons.mpr ⟨⟨RX7, TX7, 7, rfl, in_X7, by decide, apt_X7, rfl, rfl, by decide +kernel, q369⟩, fun _ h => absurd h List.not_mem_nil⟩
def IM_X7_init (f : Option Nat → Option Nat → Int32 → PH → Option (PH)) (d : Nat) : Prop := ∀ (a0 : Option Nat) (a1 : Option Nat) (a2 : Int32) (h : PH) (h' : PH), f a0 a1 a2 h = some h' → isC [6] a0 h = true ∧ SpV yX7_init cX7_init 3 none d [.inr a0, .inr a1, .inl a2] h h'
noncomputable def rd_init_0 (v0 : Option Nat) (v1 : Option Nat) (v2 : Int32) (h : PH) : Option (PH) :=
  (pf [6] 6 v0 (.inr v1) h).bind fun h51 =>
  nul v0 none (
  (nw 4 [.inr none, .inr none, .inr none, .inl 0] h51).bind fun h52 =>
  (tx_init (some h51.1) h52).bind fun h53 =>
  (pf [6] 1 v0 (.inr (some h51.1)) h53).bind fun h54 =>
  (pf [6] 0 v0 (.inl v2) h54).bind fun h55 =>
  some (h55))
theorem rd_init_0_ok (X : CT) (v0 : Option Nat) (v1 : Option Nat) (v2 : Int32) (h : PH) : Im X (cX7_init, 3, RX7, "<init>", none, 2) 0 [some (.inr v0), some (.inr v1), some (.inl v2)] [] h (rd_init_0 v0 v1 v2 h) szV (kV X) := by
  unfold rd_init_0
  refine im_aload_n (pc := 0) dX7_init_0 rfl rfl ?_
  refine im_aload_n (pc := 1) dX7_init_1 rfl rfl ?_
  refine im_pfF (pc := 2) fp_X7_3 (okT_o _ _) dX7_init_2 fun h51 => ?_
  refine im_aload_n (pc := 5) dX7_init_5 rfl rfl ?_
  refine im_objInit (pc := 6) (by decide) q366 q138 q139 (Nat.le_of_ble_eq_true rfl) dX7_init_6 ?_
  refine im_aload_n (pc := 9) dX7_init_9 rfl rfl ?_
  refine im_new (pc := 10) nw_X7_15 dX7_init_10 fun h52 => ?_
  refine im_dup (pc := 13) dX7_init_13 ?_
  refine cl_X7_17 tx_init_im (pc := 14) (by decide) dX7_init_14 (Nat.le_of_ble_eq_true rfl) fun h53 => ?_
  refine im_pfF (pc := 17) fp_X7_18 (okT_o _ _) dX7_init_17 fun h54 => ?_
  refine im_aload_n (pc := 20) dX7_init_20 rfl rfl ?_
  refine im_iload_n (pc := 21) dX7_init_21 rfl rfl ?_
  refine im_pfF (pc := 22) fp_X7_22 (okT_i _) dX7_init_22 fun h55 => ?_
  exact im_vret (pc := 25) dX7_init_25
noncomputable def rd_init (a0 : Option Nat) (a1 : Option Nat) (a2 : Int32) (h : PH) : Option (PH) := grd (isC [6] a0 h) (rd_init_0 a0 a1 a2 h)
theorem rd_init_im : IM_X7_init rd_init 2 := by
  intro a0 a1 a2 h h' e
  obtain ⟨e1, e2⟩ := grd_some e
  exact ⟨e1, SpV.of (k := 0) (plainFor_of_name (by decide)) rfl (fun X => Im.drop [true, true, true] rfl (rd_init_0_ok X a0 a1 a2 h)) e2⟩
theorem fl_X7_33 : ∀ c ∈ [6], FL RX7 33 c 4 := List.forall_mem_cons.mpr ⟨⟨RX7, TX7, 7, rfl, in_X7, by decide, Or.inl q374⟩, fun _ h => absurd h List.not_mem_nil⟩
def IM_X7_isGood (f : Option Nat → PH → Option (Int32)) (d : Nat) : Prop := ∀ (a0 : Option Nat) (h : PH) (r : Int32), f a0 h = some r → isC [6] a0 h = true ∧ SpI yX7_isGood cX7_isGood 1 (some .boolean) d [.inr a0] h r h
noncomputable def rd_isGood_0 (v0 : Option Nat) (h : PH) : Option (Int32) :=
  (gfi [6] 4 v0 h).bind fun x51 =>
  (if x51 = 0 then
  some (1)
  else
  some (0))
theorem rd_isGood_0_ok (X : CT) (v0 : Option Nat) (h : PH) : Im X (cX7_isGood, 1, RX7, "isGood", (some .boolean), 1) 0 [some (.inr v0)] [] h (rd_isGood_0 v0 h) (szP h) (kP X h) := by
  unfold rd_isGood_0
  refine im_aload_n (pc := 0) dX7_isGood_0 rfl rfl ?_
  refine im_gi (pc := 1) fl_X7_33 dX7_isGood_1 fun x51 => ?_
  refine im_if_ne (pc := 4) (tgt := 11) dX7_isGood_4 (by decide) ?_ ?_
  · refine im_iconst (pc := 11) (v := 0) dX7_isGood_11 (by decide) ?_
    exact im_zretTP (pc := 12) (nar_z (Or.inl rfl)) dX7_isGood_12
  · refine im_iconst (pc := 7) (v := 1) dX7_isGood_7 (by decide) ?_
    refine im_goto (pc := 8) (tgt := 12) dX7_isGood_8 (by decide) ?_
    exact im_zretTP (pc := 12) (nar_z (Or.inr rfl)) dX7_isGood_12
noncomputable def rd_isGood (a0 : Option Nat) (h : PH) : Option (Int32) := grd (isC [6] a0 h) (rd_isGood_0 a0 h)
theorem rd_isGood_im : IM_X7_isGood rd_isGood 1 := by
  intro a0 h r e
  obtain ⟨e1, e2⟩ := grd_some e
  exact ⟨e1, SpI.ofP (k := 0) (plainFor_of_name (by decide)) rfl (fun X => Im.drop [true] rfl (rd_isGood_0_ok X a0 h)) e2⟩
theorem fl_X7_26 : ∀ c ∈ [6], FL RX7 26 c 2 := List.forall_mem_cons.mpr ⟨⟨RX7, TX7, 7, rfl, in_X7, by decide, Or.inl q372⟩, fun _ h => absurd h List.not_mem_nil⟩
theorem fl_X7_22 : ∀ c ∈ [6], FL RX7 22 c 0 := List.forall_mem_cons.mpr ⟨⟨RX7, TX7, 7, rfl, in_X7, by decide, Or.inl q369⟩, fun _ h => absurd h List.not_mem_nil⟩
theorem fl_X7_3 : ∀ c ∈ [6], FL RX7 3 c 6 := List.forall_mem_cons.mpr ⟨⟨RX7, TX7, 7, rfl, in_X7, by decide, Or.inl q376⟩, fun _ h => absurd h List.not_mem_nil⟩
theorem fl_X7_29 : ∀ c ∈ [0], FL RX7 29 c 4 := List.forall_mem_cons.mpr ⟨⟨RX0, TX0, 20, rfl, in_X0, by decide, Or.inr ⟨_, lw_n q278 rfl⟩⟩, fun _ h => absurd h List.not_mem_nil⟩
def IM_X7_here (f : Option Nat → PH → Option (Int32)) (d : Nat) : Prop := ∀ (a0 : Option Nat) (h : PH) (r : Int32), f a0 h = some r → isC [6] a0 h = true ∧ SpI yX7_here cX7_here 1 (some .int) d [.inr a0] h r h
noncomputable def rd_here_0 (v0 : Option Nat) (h : PH) : Option (Int32) :=
  (gfi [6] 2 v0 h).bind fun x51 =>
  (gfi [6] 0 v0 h).bind fun x52 =>
  (if x52 ≤ x51 then
  some (0)
  else
  (gfr [6] 6 v0 h).bind fun r53 =>
  (gfr [0] 4 r53 h).bind fun r54 =>
  (gfi [6] 2 v0 h).bind fun x55 =>
  (ald 1 r54 x55 h).bind fun x56 =>
  some ((x56 &&& 255)))
theorem rd_here_0_ok (X : CT) (v0 : Option Nat) (h : PH) : Im X (cX7_here, 1, RX7, "here", (some .int), 1) 0 [some (.inr v0)] [] h (rd_here_0 v0 h) (szP h) (kP X h) := by
  unfold rd_here_0
  refine im_aload_n (pc := 0) dX7_here_0 rfl rfl ?_
  refine im_gi (pc := 1) fl_X7_26 dX7_here_1 fun x51 => ?_
  refine im_aload_n (pc := 4) dX7_here_4 rfl rfl ?_
  refine im_gi (pc := 5) fl_X7_22 dX7_here_5 fun x52 => ?_
  refine im_icmp_ge (pc := 8) (tgt := 30) dX7_here_8 (by decide) ?_ ?_
  · refine im_iconst (pc := 30) (v := 0) dX7_here_30 (by decide) ?_
    exact im_iretP (pc := 31) dX7_here_31
  · refine im_aload_n (pc := 11) dX7_here_11 rfl rfl ?_
    refine im_gr (pc := 12) fl_X7_3 dX7_here_12 fun r53 => ?_
    refine im_gr (pc := 15) fl_X7_29 dX7_here_15 fun r54 => ?_
    refine im_aload_n (pc := 18) dX7_here_18 rfl rfl ?_
    refine im_gi (pc := 19) fl_X7_26 dX7_here_19 fun x55 => ?_
    refine im_bald (pc := 22) dX7_here_22 fun x56 => ?_
    refine im_sipush (pc := 23) (v := 255) dX7_here_23 (by decide) ?_
    refine im_iand (pc := 26) dX7_here_26 ?_
    refine im_goto (pc := 27) (tgt := 31) dX7_here_27 (by decide) ?_
    exact im_iretP (pc := 31) dX7_here_31
noncomputable def rd_here (a0 : Option Nat) (h : PH) : Option (Int32) := grd (isC [6] a0 h) (rd_here_0 a0 h)
theorem rd_here_im : IM_X7_here rd_here 1 := by
  intro a0 h r e
  obtain ⟨e1, e2⟩ := grd_some e
  exact ⟨e1, SpI.ofP (k := 0) (plainFor_of_name (by decide)) rfl (fun X => Im.drop [true] rfl (rd_here_0_ok X a0 h)) e2⟩
def IM_J0_isLatin1 (f : Option Nat → PH → Option (Int32)) (d : Nat) : Prop := ∀ (a0 : Option Nat) (h : PH) (r : Int32), f a0 h = some r → isC [15] a0 h = true ∧ SpI yJ0_isLatin1 cJ0_isLatin1 1 (some .boolean) d [.inr a0] h r h
noncomputable def jS_isLatin1_0 (v0 : Option Nat) (h : PH) : Option (Int32) :=
  (if (1 : Int32) = 0 then
  some (0)
  else
  (gfi [15] 1 v0 h).bind fun x51 =>
  (if x51 = 0 then
  some (1)
  else
  some (0)))
theorem jS_isLatin1_0_ok (X : CT) (v0 : Option Nat) (h : PH) : Im X (cJ0_isLatin1, 1, RJ0, "isLatin1", (some .boolean), 1) 0 [some (.inr v0)] [] h (jS_isLatin1_0 v0 h) (szP h) (kP X h) := by
  unfold jS_isLatin1_0
  refine im_getsComp (pc := 0) q421 dJ0_isLatin1_0 ?_
  refine im_if_eq (pc := 3) (tgt := 17) dJ0_isLatin1_3 (by decide) ?_ ?_
  · refine im_iconst (pc := 17) (v := 0) dJ0_isLatin1_17 (by decide) ?_
    exact im_zretTP (pc := 18) (nar_z (Or.inl rfl)) dJ0_isLatin1_18
  · refine im_aload_n (pc := 6) dJ0_isLatin1_6 rfl rfl ?_
    refine im_giS (pc := 7) q1739 dJ0_isLatin1_7 fun x51 => ?_
    refine im_if_ne (pc := 10) (tgt := 17) dJ0_isLatin1_10 (by decide) ?_ ?_
    · refine im_iconst (pc := 17) (v := 0) dJ0_isLatin1_17 (by decide) ?_
      exact im_zretTP (pc := 18) (nar_z (Or.inl rfl)) dJ0_isLatin1_18
    · refine im_iconst (pc := 13) (v := 1) dJ0_isLatin1_13 (by decide) ?_
      refine im_goto (pc := 14) (tgt := 18) dJ0_isLatin1_14 (by decide) ?_
      exact im_zretTP (pc := 18) (nar_z (Or.inr rfl)) dJ0_isLatin1_18
noncomputable def jS_isLatin1 (a0 : Option Nat) (h : PH) : Option (Int32) := grd (isC [15] a0 h) (jS_isLatin1_0 a0 h)
theorem jS_isLatin1_im : IM_J0_isLatin1 jS_isLatin1 1 := by
  intro a0 h r e
  obtain ⟨e1, e2⟩ := grd_some e
  exact ⟨e1, SpI.ofP (k := 0) (plainFor_of_name (by decide)) rfl (fun X => Im.drop [true] rfl (jS_isLatin1_0_ok X a0 h)) e2⟩
def IM_J0_coder (f : Option Nat → PH → Option (Int32)) (d : Nat) : Prop := ∀ (a0 : Option Nat) (h : PH) (r : Int32), f a0 h = some r → isC [15] a0 h = true ∧ SpI yJ0_coder cJ0_coder 1 (some .byte) d [.inr a0] h r h
noncomputable def jS_coder_0 (v0 : Option Nat) (h : PH) : Option (Int32) :=
  (if (1 : Int32) = 0 then
  (bok 1).bind fun x51 => some (x51)
  else
  (gfi [15] 1 v0 h).bind fun x52 =>
  (bok x52).bind fun x53 => some (x53))
theorem jS_coder_0_ok (X : CT) (v0 : Option Nat) (h : PH) : Im X (cJ0_coder, 1, RJ0, "coder", (some .byte), 1) 0 [some (.inr v0)] [] h (jS_coder_0 v0 h) (szP h) (kP X h) := by
  unfold jS_coder_0
  refine im_getsComp (pc := 0) q421 dJ0_coder_0 ?_
  refine im_if_eq (pc := 3) (tgt := 13) dJ0_coder_3 (by decide) ?_ ?_
  · refine im_iconst (pc := 13) (v := 1) dJ0_coder_13 (by decide) ?_
    refine im_bok fun x51 hz => ?_
    exact im_zretTP (pc := 14) hz dJ0_coder_14
  · refine im_aload_n (pc := 6) dJ0_coder_6 rfl rfl ?_
    refine im_giS (pc := 7) q1739 dJ0_coder_7 fun x52 => ?_
    refine im_goto (pc := 10) (tgt := 14) dJ0_coder_10 (by decide) ?_
    refine im_bok fun x53 hz => ?_
    exact im_zretTP (pc := 14) hz dJ0_coder_14
noncomputable def jS_coder (a0 : Option Nat) (h : PH) : Option (Int32) := grd (isC [15] a0 h) (jS_coder_0 a0 h)
theorem jS_coder_im : IM_J0_coder jS_coder 1 := by
  intro a0 h r e
  obtain ⟨e1, e2⟩ := grd_some e
  exact ⟨e1, SpI.ofP (k := 0) (plainFor_of_name (by decide)) rfl (fun X => Im.drop [true] rfl (jS_coder_0_ok X a0 h)) e2⟩
theorem cl_J0_335 {X : CT} {cc : ByteArray} {nL : Nat} {mn : String} {ret : Option FieldType} {d d0 : Nat} {τ : Type} {pc : Nat} {lv : List (Option PV)} {st : List PV} {h : PH} {sz : τ → Nat × Nat} {K : τ → Prop} {f : Option Nat → PH → Option (Int32)} (HR : IM_J0_coder f d0) {a0 : Option Nat} {g : Int32 → Option τ} (hd : d0 + 1 ≤ d) (hdg : decode cc pc = .ok (.invokevirtual 335, 3)) (hst : st.length ≤ 8) (kk : ∀ r, Im X (cc, nL, RJ0, mn, ret, d) (pc + 3) lv (.inl r :: st) h (g r) sz K) : Im X (cc, nL, RJ0, mn, ret, d) pc lv (.inr a0 :: st) h ((f a0 h).bind g) sz K := by
  refine im_cP (y := yJ0_coder) (cY := cJ0_coder) (nY := 1) (rY := (some .byte)) (d' := d0) (av := [.inr a0]) (fun r e hX => ?_) (fun r e => (HR _ _ _ e).2) hd (by decide) hst rfl kk
  obtain ⟨a, c, fs, rfl, ec, hm⟩ := isC_some (HR _ _ _ e).1
  cases List.mem_singleton.mp hm
  exact cal_VS (n := 0) hX (lw_V q427 q428 q429 q114 q430) (by decide +kernel) rfl ec hdg

def IM_J0_length (f : Option Nat → PH → Option (Int32)) (d : Nat) : Prop := ∀ (a0 : Option Nat) (h : PH) (r : Int32), f a0 h = some r → isC [15] a0 h = true ∧ SpI yJ0_length cJ0_length 1 (some .int) d [.inr a0] h r h
noncomputable def jS_length_0 (v0 : Option Nat) (h : PH) : Option (Int32) :=
  (gfr [15] 0 v0 h).bind fun r51 =>
  (alen 1 r51 h).bind fun x52 =>
  (jS_coder v0 h).bind fun x53 =>
  some ((x52 >>> (x53 &&& 31)))
theorem jS_length_0_ok (X : CT) (v0 : Option Nat) (h : PH) : Im X (cJ0_length, 1, RJ0, "length", (some .int), 2) 0 [some (.inr v0)] [] h (jS_length_0 v0 h) (szP h) (kP X h) := by
  unfold jS_length_0
  refine im_aload_n (pc := 0) dJ0_length_0 rfl rfl ?_
  refine im_grS (pc := 1) q1740 dJ0_length_1 fun r51 => ?_
  refine im_alen (pc := 4) (t := 1) (by decide) dJ0_length_4 fun x52 => ?_
  refine im_aload_n (pc := 5) dJ0_length_5 rfl rfl ?_
  refine cl_J0_335 jS_coder_im (pc := 6) (by decide) dJ0_length_6 (Nat.le_of_ble_eq_true rfl) fun x53 => ?_
  refine im_ishr (pc := 9) dJ0_length_9 ?_
  exact im_iretP (pc := 10) dJ0_length_10
noncomputable def jS_length (a0 : Option Nat) (h : PH) : Option (Int32) := grd (isC [15] a0 h) (jS_length_0 a0 h)
theorem jS_length_im : IM_J0_length jS_length 2 := by
  intro a0 h r e
  obtain ⟨e1, e2⟩ := grd_some e
  exact ⟨e1, SpI.ofP (k := 0) (plainFor_of_name (by decide)) rfl (fun X => Im.drop [true] rfl (jS_length_0_ok X a0 h)) e2⟩
def IM_J1_canEncode (f : Int32 → PH → Option (Int32)) (d : Nat) : Prop := ∀ (a0 : Int32) (h : PH) (r : Int32), f a0 h = some r → SpI yJ1_canEncode cJ1_canEncode 1 (some .boolean) d [.inl a0] h r h
noncomputable def jL_canEncode_0 (v0 : Int32) (h : PH) : Option (Int32) :=
  (if v0 < 0 then
  some (0)
  else
  (if 255 < v0 then
  some (0)
  else
  some (1)))
theorem jL_canEncode_0_ok (X : CT) (v0 : Int32) (h : PH) : Im X (cJ1_canEncode, 1, RJ1, "canEncode", (some .boolean), 1) 0 [some (.inl v0)] [] h (jL_canEncode_0 v0 h) (szP h) (kP X h) := by
  unfold jL_canEncode_0
  refine im_iload_n (pc := 0) dJ1_canEncode_0 rfl rfl ?_
  refine im_if_lt (pc := 1) (tgt := 15) dJ1_canEncode_1 (by decide) ?_ ?_
  · refine im_iconst (pc := 15) (v := 0) dJ1_canEncode_15 (by decide) ?_
    exact im_zretTP (pc := 16) (nar_z (Or.inl rfl)) dJ1_canEncode_16
  · refine im_iload_n (pc := 4) dJ1_canEncode_4 rfl rfl ?_
    refine im_sipush (pc := 5) (v := 255) dJ1_canEncode_5 (by decide) ?_
    refine im_icmp_gt (pc := 8) (tgt := 15) dJ1_canEncode_8 (by decide) ?_ ?_
    · refine im_iconst (pc := 15) (v := 0) dJ1_canEncode_15 (by decide) ?_
      exact im_zretTP (pc := 16) (nar_z (Or.inl rfl)) dJ1_canEncode_16
    · refine im_iconst (pc := 11) (v := 1) dJ1_canEncode_11 (by decide) ?_
      refine im_goto (pc := 12) (tgt := 16) dJ1_canEncode_12 (by decide) ?_
      exact im_zretTP (pc := 16) (nar_z (Or.inr rfl)) dJ1_canEncode_16
noncomputable def jL_canEncode (a0 : Int32) (h : PH) : Option (Int32) := jL_canEncode_0 a0 h
theorem jL_canEncode_im : IM_J1_canEncode jL_canEncode 1 := by
  intro a0 h r e
  exact SpI.ofP (k := 0) (plainFor_of_name (by decide)) rfl (fun X => Im.drop [true] rfl (jL_canEncode_0_ok X a0 h)) e
def IM_J2_max (f : Int32 → Int32 → PH → Option (Int32)) (d : Nat) : Prop := ∀ (a0 : Int32) (a1 : Int32) (h : PH) (r : Int32), f a0 a1 h = some r → SpI yJ2_max cJ2_max 2 (some .int) d [.inl a0, .inl a1] h r h
noncomputable def jM_max_0 (v0 : Int32) (v1 : Int32) (h : PH) : Option (Int32) :=
  (if v0 < v1 then
  some (v1)
  else
  some (v0))
theorem jM_max_0_ok (X : CT) (v0 : Int32) (v1 : Int32) (h : PH) : Im X (cJ2_max, 2, RJ2, "max", (some .int), 1) 0 [some (.inl v0), some (.inl v1)] [] h (jM_max_0 v0 v1 h) (szP h) (kP X h) := by
  unfold jM_max_0
  refine im_iload_n (pc := 0) dJ2_max_0 rfl rfl ?_
  refine im_iload_n (pc := 1) dJ2_max_1 rfl rfl ?_
  refine im_icmp_lt (pc := 2) (tgt := 9) dJ2_max_2 (by decide) ?_ ?_
  · refine im_iload_n (pc := 9) dJ2_max_9 rfl rfl ?_
    exact im_iretP (pc := 10) dJ2_max_10
  · refine im_iload_n (pc := 5) dJ2_max_5 rfl rfl ?_
    refine im_goto (pc := 6) (tgt := 10) dJ2_max_6 (by decide) ?_
    exact im_iretP (pc := 10) dJ2_max_10
noncomputable def jM_max (a0 : Int32) (a1 : Int32) (h : PH) : Option (Int32) := jM_max_0 a0 a1 h
theorem jM_max_im : IM_J2_max jM_max 1 := by
  intro a0 a1 h r e
  exact SpI.ofP (k := 0) (by decide +kernel) rfl (fun X => Im.drop [true, true] rfl (jM_max_0_ok X a0 a1 h)) e
def IM_J2_min (f : Int32 → Int32 → PH → Option (Int32)) (d : Nat) : Prop := ∀ (a0 : Int32) (a1 : Int32) (h : PH) (r : Int32), f a0 a1 h = some r → SpI yJ2_min cJ2_min 2 (some .int) d [.inl a0, .inl a1] h r h
noncomputable def jM_min_0 (v0 : Int32) (v1 : Int32) (h : PH) : Option (Int32) :=
  (if v1 < v0 then
  some (v1)
  else
  some (v0))
theorem jM_min_0_ok (X : CT) (v0 : Int32) (v1 : Int32) (h : PH) : Im X (cJ2_min, 2, RJ2, "min", (some .int), 1) 0 [some (.inl v0), some (.inl v1)] [] h (jM_min_0 v0 v1 h) (szP h) (kP X h) := by
  unfold jM_min_0
  refine im_iload_n (pc := 0) dJ2_min_0 rfl rfl ?_
  refine im_iload_n (pc := 1) dJ2_min_1 rfl rfl ?_
  refine im_icmp_gt (pc := 2) (tgt := 9) dJ2_min_2 (by decide) ?_ ?_
  · refine im_iload_n (pc := 9) dJ2_min_9 rfl rfl ?_
    exact im_iretP (pc := 10) dJ2_min_10
  · refine im_iload_n (pc := 5) dJ2_min_5 rfl rfl ?_
    refine im_goto (pc := 6) (tgt := 10) dJ2_min_6 (by decide) ?_
    exact im_iretP (pc := 10) dJ2_min_10
noncomputable def jM_min (a0 : Int32) (a1 : Int32) (h : PH) : Option (Int32) := jM_min_0 a0 a1 h
theorem jM_min_im : IM_J2_min jM_min 1 := by
  intro a0 a1 h r e
  exact SpI.ofP (k := 0) (by decide +kernel) rfl (fun X => Im.drop [true, true] rfl (jM_min_0_ok X a0 a1 h)) e
def IM_J1_indexOfChar (f : Option Nat → Int32 → Int32 → Int32 → PH → Option (Int32)) (d : Nat) : Prop := ∀ (a0 : Option Nat) (a1 : Int32) (a2 : Int32) (a3 : Int32) (h : PH) (r : Int32), f a0 a1 a2 a3 h = some r → SpI yJ1_indexOfChar cJ1_indexOfChar 6 (some .int) d [.inr a0, .inl a1, .inl a2, .inl a3] h r h
noncomputable def jL_indexOfChar_b7 (v0 : Option Nat) (v3 : Int32) (v4 : Int32) (v5 : Int32) (h : PH) : Option ((Int32) ⊕ (Int32)) :=
  (if v3 ≤ v5 then
  some (.inr ((-1)))
  else
  (ald 1 v0 v5 h).bind fun x51 =>
  (if x51 = v4 then
  some (.inr v5)
  else
  some (.inl (v5 + 1))))
noncomputable def jL_indexOfChar_L7 (v0 : Option Nat) (v3 : Int32) (v4 : Int32) (v5 : Int32) (h : PH) : Option (Int32) :=
  iter (fun s : Int32 => jL_indexOfChar_b7 v0 v3 v4 s h) v5
theorem jL_indexOfChar_b7_ok (X : CT) (v0 : Option Nat) (v3 : Int32) (v4 : Int32) (v5 : Int32) (h : PH) : Im X (cJ1_indexOfChar, 6, RJ1, "indexOfChar", (some .int), 1) 7 [some (.inr v0), none, none, some (.inl v3), some (.inl v4), some (.inl v5)] [] h (jL_indexOfChar_b7 v0 v3 v4 v5 h) (ez (fun s : Int32 => h) (szP h)) (ek X 7 (fun s : Int32 => [some (.inr v0), none, none, some (.inl v3), some (.inl v4), some (.inl s)]) (fun s : Int32 => h) (kP X h)) := by
  unfold jL_indexOfChar_b7
  refine im_iload (pc := 7) dJ1_indexOfChar_7 rfl ?_
  refine im_iload_n (pc := 9) dJ1_indexOfChar_9 rfl rfl ?_
  refine im_icmp_ge (pc := 10) (tgt := 31) dJ1_indexOfChar_10 (by decide) ?_ ?_
  · refine im_iconst (pc := 31) (v := (-1)) dJ1_indexOfChar_31 (by decide) ?_
    exact Im.outS (im_iretP (pc := 32) dJ1_indexOfChar_32)
  · refine im_aload_n (pc := 13) dJ1_indexOfChar_13 rfl rfl ?_
    refine im_iload (pc := 14) dJ1_indexOfChar_14 rfl ?_
    refine im_bald (pc := 16) dJ1_indexOfChar_16 fun x51 => ?_
    refine im_iload (pc := 17) dJ1_indexOfChar_17 rfl ?_
    refine im_icmp_ne (pc := 19) (tgt := 25) dJ1_indexOfChar_19 (by decide) ?_ ?_
    · refine im_iinc (pc := 25) (v := (v5 + 1)) (lv' := [some (.inr v0), none, none, some (.inl v3), some (.inl v4), some (.inl (v5 + 1))]) dJ1_indexOfChar_25 rfl rfl (by decide) rfl ?_
      refine im_goto (pc := 28) (tgt := 7) dJ1_indexOfChar_28 (by decide) ?_
      exact Im.back [true, false, false, true, true, true] rfl rfl
    · refine im_iload (pc := 22) dJ1_indexOfChar_22 rfl ?_
      exact Im.outS (im_iretP (pc := 24) dJ1_indexOfChar_24)
theorem jL_indexOfChar_L7_ok (X : CT) (v0 : Option Nat) (v3 : Int32) (v4 : Int32) (v5 : Int32) (h : PH) : Im X (cJ1_indexOfChar, 6, RJ1, "indexOfChar", (some .int), 1) 7 [some (.inr v0), none, none, some (.inl v3), some (.inl v4), some (.inl v5)] [] h (jL_indexOfChar_L7 v0 v3 v4 v5 h) (szP h) (kP X h) := by
  unfold jL_indexOfChar_L7
  exact Im.iter (lv := (fun s : Int32 => [some (.inr v0), none, none, some (.inl v3), some (.inl v4), some (.inl s)])) (hp := (fun s : Int32 => h)) (fun s => jL_indexOfChar_b7_ok X v0 v3 v4 s h) _ rfl rfl
noncomputable def jL_indexOfChar_0 (v0 : Option Nat) (v1 : Int32) (v2 : Int32) (v3 : Int32) (h : PH) : Option (Int32) :=
  jL_indexOfChar_L7 v0 v3 v1.toInt8.toInt32 v2 h
theorem jL_indexOfChar_0_ok (X : CT) (v0 : Option Nat) (v1 : Int32) (v2 : Int32) (v3 : Int32) (h : PH) : Im X (cJ1_indexOfChar, 6, RJ1, "indexOfChar", (some .int), 1) 0 [some (.inr v0), some (.inl v1), some (.inl v2), some (.inl v3), none, none] [] h (jL_indexOfChar_0 v0 v1 v2 v3 h) (szP h) (kP X h) := by
  unfold jL_indexOfChar_0
  refine im_iload_n (pc := 0) dJ1_indexOfChar_0 rfl rfl ?_
  refine im_i2b (pc := 1) dJ1_indexOfChar_1 ?_
  refine im_istore (pc := 2) (lv' := [some (.inr v0), some (.inl v1), some (.inl v2), some (.inl v3), some (.inl v1.toInt8.toInt32), none]) dJ1_indexOfChar_2 (by decide) rfl ?_
  refine im_iload_n (pc := 4) dJ1_indexOfChar_4 rfl rfl ?_
  refine im_istore (pc := 5) (lv' := [some (.inr v0), some (.inl v1), some (.inl v2), some (.inl v3), some (.inl v1.toInt8.toInt32), some (.inl v2)]) dJ1_indexOfChar_5 (by decide) rfl ?_
  exact Im.drop [true, false, false, true, true, true] rfl (jL_indexOfChar_L7_ok X v0 v3 v1.toInt8.toInt32 v2 h)
noncomputable def jL_indexOfChar (a0 : Option Nat) (a1 : Int32) (a2 : Int32) (a3 : Int32) (h : PH) : Option (Int32) := jL_indexOfChar_0 a0 a1 a2 a3 h
theorem jL_indexOfChar_im : IM_J1_indexOfChar jL_indexOfChar 1 := by
  intro a0 a1 a2 a3 h r e
  exact SpI.ofP (k := 2) (plainFor_of_name (by decide)) rfl (fun X => Im.drop [true, true, true, true, false, false] rfl (jL_indexOfChar_0_ok X a0 a1 a2 a3 h)) e
theorem cl_J1_88 {X : CT} {cc : ByteArray} {nL : Nat} {mn : String} {ret : Option FieldType} {d d0 : Nat} {τ : Type} {pc : Nat} {lv : List (Option PV)} {st : List PV} {h : PH} {sz : τ → Nat × Nat} {K : τ → Prop} {f : Int32 → PH → Option (Int32)} (HR : IM_J1_canEncode f d0) {a0 : Int32} {g : Int32 → Option τ} (hd : d0 + 1 ≤ d) (hdg : decode cc pc = .ok (.invokestatic 88, 3)) (hst : st.length ≤ 8) (kk : ∀ r, Im X (cc, nL, RJ1, mn, ret, d) (pc + 3) lv (.inl r :: st) h (g r) sz K) : Im X (cc, nL, RJ1, mn, ret, d) pc lv (.inl a0 :: st) h ((f a0 h).bind g) sz K := by
  refine im_cP (y := yJ1_canEncode) (cY := cJ1_canEncode) (nY := 1) (rY := (some .boolean)) (d' := d0) (av := [.inl a0]) (fun r e hX => ?_) (fun r e => HR _ _ _ e) hd (by decide) hst rfl kk
  exact cal_S (n := 1) hX (lw_S q434 q435 q115 q436) (by decide +kernel) rfl hdg

theorem cl_J1_92 {X : CT} {cc : ByteArray} {nL : Nat} {mn : String} {ret : Option FieldType} {d d0 : Nat} {τ : Type} {pc : Nat} {lv : List (Option PV)} {st : List PV} {h : PH} {sz : τ → Nat × Nat} {K : τ → Prop} {f : Int32 → Int32 → PH → Option (Int32)} (HR : IM_J2_max f d0) {a0 : Int32} {a1 : Int32} {g : Int32 → Option τ} (hd : d0 + 1 ≤ d) (hdg : decode cc pc = .ok (.invokestatic 92, 3)) (hst : st.length ≤ 8) (kk : ∀ r, Im X (cc, nL, RJ1, mn, ret, d) (pc + 3) lv (.inl r :: st) h (g r) sz K) : Im X (cc, nL, RJ1, mn, ret, d) pc lv (.inl a1 :: .inl a0 :: st) h ((f a0 a1 h).bind g) sz K := by
  refine im_cP (y := yJ2_max) (cY := cJ2_max) (nY := 2) (rY := (some .int)) (d' := d0) (av := [.inl a0, .inl a1]) (fun r e hX => ?_) (fun r e => HR _ _ _ _ e) hd (by decide) hst rfl kk
  exact cal_S (n := 2) hX (lw_S q437 q438 q116 q439) (by decide +kernel) rfl hdg

theorem cl_J1_38 {X : CT} {cc : ByteArray} {nL : Nat} {mn : String} {ret : Option FieldType} {d d0 : Nat} {τ : Type} {pc : Nat} {lv : List (Option PV)} {st : List PV} {h : PH} {sz : τ → Nat × Nat} {K : τ → Prop} {f : Int32 → Int32 → PH → Option (Int32)} (HR : IM_J2_min f d0) {a0 : Int32} {a1 : Int32} {g : Int32 → Option τ} (hd : d0 + 1 ≤ d) (hdg : decode cc pc = .ok (.invokestatic 38, 3)) (hst : st.length ≤ 8) (kk : ∀ r, Im X (cc, nL, RJ1, mn, ret, d) (pc + 3) lv (.inl r :: st) h (g r) sz K) : Im X (cc, nL, RJ1, mn, ret, d) pc lv (.inl a1 :: .inl a0 :: st) h ((f a0 a1 h).bind g) sz K := by
  refine im_cP (y := yJ2_min) (cY := cJ2_min) (nY := 2) (rY := (some .int)) (d' := d0) (av := [.inl a0, .inl a1]) (fun r e hX => ?_) (fun r e => HR _ _ _ _ e) hd (by decide) hst rfl kk
  exact cal_S (n := 2) hX (lw_S q440 q441 q116 q442) (by decide +kernel) rfl hdg

theorem cl_J1_95 {X : CT} {cc : ByteArray} {nL : Nat} {mn : String} {ret : Option FieldType} {d d0 : Nat} {τ : Type} {pc : Nat} {lv : List (Option PV)} {st : List PV} {h : PH} {sz : τ → Nat × Nat} {K : τ → Prop} {f : Option Nat → Int32 → Int32 → Int32 → PH → Option (Int32)} (HR : IM_J1_indexOfChar f d0) {a0 : Option Nat} {a1 : Int32} {a2 : Int32} {a3 : Int32} {g : Int32 → Option τ} (hd : d0 + 1 ≤ d) (hdg : decode cc pc = .ok (.invokestatic 95, 3)) (hst : st.length ≤ 8) (kk : ∀ r, Im X (cc, nL, RJ1, mn, ret, d) (pc + 3) lv (.inl r :: st) h (g r) sz K) : Im X (cc, nL, RJ1, mn, ret, d) pc lv (.inl a3 :: .inl a2 :: .inl a1 :: .inr a0 :: st) h ((f a0 a1 a2 a3 h).bind g) sz K := by
  refine im_cP (y := yJ1_indexOfChar) (cY := cJ1_indexOfChar) (nY := 6) (rY := (some .int)) (d' := d0) (av := [.inr a0, .inl a1, .inl a2, .inl a3]) (fun r e hX => ?_) (fun r e => HR _ _ _ _ _ _ e) hd (by decide) hst rfl kk
  exact cal_S (n := 4) hX (lw_S q443 q444 q115 q445) (by decide +kernel) rfl hdg

def IM_J1_indexOf (f : Option Nat → Int32 → Int32 → Int32 → PH → Option (Int32)) (d : Nat) : Prop := ∀ (a0 : Option Nat) (a1 : Int32) (a2 : Int32) (a3 : Int32) (h : PH) (r : Int32), f a0 a1 a2 a3 h = some r → SpI yJ1_indexOf cJ1_indexOf 4 (some .int) d [.inr a0, .inl a1, .inl a2, .inl a3] h r h
noncomputable def jL_indexOf_0 (v0 : Option Nat) (v1 : Int32) (v2 : Int32) (v3 : Int32) (h : PH) : Option (Int32) :=
  (jL_canEncode v1 h).bind fun x51 =>
  (if x51 = 0 then
  some ((-1))
  else
  (jM_max v2 0 h).bind fun x52 =>
  (alen 1 v0 h).bind fun x53 =>
  (jM_min v3 x53 h).bind fun x54 =>
  (if x52 < x54 then
  (jL_indexOfChar v0 v1 x52 x54 h).bind fun x55 =>
  some (x55)
  else
  some ((-1))))
theorem jL_indexOf_0_ok (X : CT) (v0 : Option Nat) (v1 : Int32) (v2 : Int32) (v3 : Int32) (h : PH) : Im X (cJ1_indexOf, 4, RJ1, "indexOf", (some .int), 2) 0 [some (.inr v0), some (.inl v1), some (.inl v2), some (.inl v3)] [] h (jL_indexOf_0 v0 v1 v2 v3 h) (szP h) (kP X h) := by
  unfold jL_indexOf_0
  refine im_iload_n (pc := 0) dJ1_indexOf_0 rfl rfl ?_
  refine cl_J1_88 jL_canEncode_im (pc := 1) (by decide) dJ1_indexOf_1 (Nat.le_of_ble_eq_true rfl) fun x51 => ?_
  refine im_if_ne (pc := 4) (tgt := 9) dJ1_indexOf_4 (by decide) ?_ ?_
  · refine im_iload_n (pc := 9) dJ1_indexOf_9 rfl rfl ?_
    refine im_iconst (pc := 10) (v := 0) dJ1_indexOf_10 (by decide) ?_
    refine cl_J1_92 jM_max_im (pc := 11) (by decide) dJ1_indexOf_11 (Nat.le_of_ble_eq_true rfl) fun x52 => ?_
    refine im_istore_n (pc := 14) (lv' := [some (.inr v0), some (.inl v1), some (.inl x52), some (.inl v3)]) dJ1_indexOf_14 rfl (by decide) rfl ?_
    refine im_iload_n (pc := 15) dJ1_indexOf_15 rfl rfl ?_
    refine im_aload_n (pc := 16) dJ1_indexOf_16 rfl rfl ?_
    refine im_alen (pc := 17) (t := 1) (by decide) dJ1_indexOf_17 fun x53 => ?_
    refine cl_J1_38 jM_min_im (pc := 18) (by decide) dJ1_indexOf_18 (Nat.le_of_ble_eq_true rfl) fun x54 => ?_
    refine im_istore_n (pc := 21) (lv' := [some (.inr v0), some (.inl v1), some (.inl x52), some (.inl x54)]) dJ1_indexOf_21 rfl (by decide) rfl ?_
    refine im_iload_n (pc := 22) dJ1_indexOf_22 rfl rfl ?_
    refine im_iload_n (pc := 23) dJ1_indexOf_23 rfl rfl ?_
    refine im_icmp_lt (pc := 24) (tgt := 29) dJ1_indexOf_24 (by decide) ?_ ?_
    · refine im_aload_n (pc := 29) dJ1_indexOf_29 rfl rfl ?_
      refine im_iload_n (pc := 30) dJ1_indexOf_30 rfl rfl ?_
      refine im_iload_n (pc := 31) dJ1_indexOf_31 rfl rfl ?_
      refine im_iload_n (pc := 32) dJ1_indexOf_32 rfl rfl ?_
      refine cl_J1_95 jL_indexOfChar_im (pc := 33) (by decide) dJ1_indexOf_33 (Nat.le_of_ble_eq_true rfl) fun x55 => ?_
      exact im_iretP (pc := 36) dJ1_indexOf_36
    · refine im_iconst (pc := 27) (v := (-1)) dJ1_indexOf_27 (by decide) ?_
      exact im_iretP (pc := 28) dJ1_indexOf_28
  · refine im_iconst (pc := 7) (v := (-1)) dJ1_indexOf_7 (by decide) ?_
    exact im_iretP (pc := 8) dJ1_indexOf_8
noncomputable def jL_indexOf (a0 : Option Nat) (a1 : Int32) (a2 : Int32) (a3 : Int32) (h : PH) : Option (Int32) := jL_indexOf_0 a0 a1 a2 a3 h
theorem jL_indexOf_im : IM_J1_indexOf jL_indexOf 2 := by
  intro a0 a1 a2 a3 h r e
  exact SpI.ofP (k := 0) (plainFor_of_name (by decide)) rfl (fun X => Im.drop [true, true, true, true] rfl (jL_indexOf_0_ok X a0 a1 a2 a3 h)) e
theorem cl_J0_492 {X : CT} {cc : ByteArray} {nL : Nat} {mn : String} {ret : Option FieldType} {d d0 : Nat} {τ : Type} {pc : Nat} {lv : List (Option PV)} {st : List PV} {h : PH} {sz : τ → Nat × Nat} {K : τ → Prop} {f : Option Nat → PH → Option (Int32)} (HR : IM_J0_isLatin1 f d0) {a0 : Option Nat} {g : Int32 → Option τ} (hd : d0 + 1 ≤ d) (hdg : decode cc pc = .ok (.invokevirtual 492, 3)) (hst : st.length ≤ 8) (kk : ∀ r, Im X (cc, nL, RJ0, mn, ret, d) (pc + 3) lv (.inl r :: st) h (g r) sz K) : Im X (cc, nL, RJ0, mn, ret, d) pc lv (.inr a0 :: st) h ((f a0 h).bind g) sz K := by
  refine im_cP (y := yJ0_isLatin1) (cY := cJ0_isLatin1) (nY := 1) (rY := (some .boolean)) (d' := d0) (av := [.inr a0]) (fun r e hX => ?_) (fun r e => (HR _ _ _ e).2) hd (by decide) hst rfl kk
  obtain ⟨a, c, fs, rfl, ec, hm⟩ := isC_some (HR _ _ _ e).1
  cases List.mem_singleton.mp hm
  exact cal_VS (n := 0) hX (lw_V q417 q418 q419 q114 q420) (by decide +kernel) rfl ec hdg

theorem cl_J0_505 {X : CT} {cc : ByteArray} {nL : Nat} {mn : String} {ret : Option FieldType} {d d0 : Nat} {τ : Type} {pc : Nat} {lv : List (Option PV)} {st : List PV} {h : PH} {sz : τ → Nat × Nat} {K : τ → Prop} {f : Option Nat → PH → Option (Int32)} (HR : IM_J0_length f d0) {a0 : Option Nat} {g : Int32 → Option τ} (hd : d0 + 1 ≤ d) (hdg : decode cc pc = .ok (.invokevirtual 505, 3)) (hst : st.length ≤ 8) (kk : ∀ r, Im X (cc, nL, RJ0, mn, ret, d) (pc + 3) lv (.inl r :: st) h (g r) sz K) : Im X (cc, nL, RJ0, mn, ret, d) pc lv (.inr a0 :: st) h ((f a0 h).bind g) sz K := by
  refine im_cP (y := yJ0_length) (cY := cJ0_length) (nY := 1) (rY := (some .int)) (d' := d0) (av := [.inr a0]) (fun r e hX => ?_) (fun r e => (HR _ _ _ e).2) hd (by decide) hst rfl kk
  obtain ⟨a, c, fs, rfl, ec, hm⟩ := isC_some (HR _ _ _ e).1
  cases List.mem_singleton.mp hm
  exact cal_VS (n := 0) hX (lw_V q423 q424 q425 q114 q426) (by decide +kernel) rfl ec hdg

theorem cl_J0_637 {X : CT} {cc : ByteArray} {nL : Nat} {mn : String} {ret : Option FieldType} {d d0 : Nat} {τ : Type} {pc : Nat} {lv : List (Option PV)} {st : List PV} {h : PH} {sz : τ → Nat × Nat} {K : τ → Prop} {f : Option Nat → Int32 → Int32 → Int32 → PH → Option (Int32)} (HR : IM_J1_indexOf f d0) {a0 : Option Nat} {a1 : Int32} {a2 : Int32} {a3 : Int32} {g : Int32 → Option τ} (hd : d0 + 1 ≤ d) (hdg : decode cc pc = .ok (.invokestatic 637, 3)) (hst : st.length ≤ 8) (kk : ∀ r, Im X (cc, nL, RJ0, mn, ret, d) (pc + 3) lv (.inl r :: st) h (g r) sz K) : Im X (cc, nL, RJ0, mn, ret, d) pc lv (.inl a3 :: .inl a2 :: .inl a1 :: .inr a0 :: st) h ((f a0 a1 a2 a3 h).bind g) sz K := by
  refine im_cP (y := yJ1_indexOf) (cY := cJ1_indexOf) (nY := 4) (rY := (some .int)) (d' := d0) (av := [.inr a0, .inl a1, .inl a2, .inl a3]) (fun r e hX => ?_) (fun r e => HR _ _ _ _ _ _ e) hd (by decide) hst rfl kk
  exact cal_S (n := 4) hX (lw_S q431 q432 q115 q433) (by decide +kernel) rfl hdg

def IM_J0_indexOf_2 (f : Option Nat → Int32 → Int32 → PH → Option (Int32)) (d : Nat) : Prop := ∀ (a0 : Option Nat) (a1 : Int32) (a2 : Int32) (h : PH) (r : Int32), f a0 a1 a2 h = some r → isC [15] a0 h = true ∧ SpI yJ0_indexOf_2 cJ0_indexOf_2 3 (some .int) d [.inr a0, .inl a1, .inl a2] h r h
noncomputable def jS_indexOf_2_0 (v0 : Option Nat) (v1 : Int32) (v2 : Int32) (h : PH) : Option (Int32) :=
  (jS_isLatin1 v0 h).bind fun x51 =>
  (if x51 = 0 then
  (gfr [15] 0 v0 h).bind fun r52 =>
  (jS_length v0 h).bind fun x53 =>
  none
  else
  (gfr [15] 0 v0 h).bind fun r54 =>
  (jS_length v0 h).bind fun x55 =>
  (jL_indexOf r54 v1 v2 x55 h).bind fun x56 =>
  some (x56))
theorem jS_indexOf_2_0_ok (X : CT) (v0 : Option Nat) (v1 : Int32) (v2 : Int32) (h : PH) : Im X (cJ0_indexOf_2, 3, RJ0, "indexOf", (some .int), 3) 0 [some (.inr v0), some (.inl v1), some (.inl v2)] [] h (jS_indexOf_2_0 v0 v1 v2 h) (szP h) (kP X h) := by
  unfold jS_indexOf_2_0
  refine im_aload_n (pc := 0) dJ0_indexOf_2_0 rfl rfl ?_
  refine cl_J0_492 jS_isLatin1_im (pc := 1) (by decide) dJ0_indexOf_2_1 (Nat.le_of_ble_eq_true rfl) fun x51 => ?_
  refine im_if_eq (pc := 4) (tgt := 23) dJ0_indexOf_2_4 (by decide) ?_ ?_
  · refine im_aload_n (pc := 23) dJ0_indexOf_2_23 rfl rfl ?_
    refine im_grS (pc := 24) q1740 dJ0_indexOf_2_24 fun r52 => ?_
    refine im_iload_n (pc := 27) dJ0_indexOf_2_27 rfl rfl ?_
    refine im_iload_n (pc := 28) dJ0_indexOf_2_28 rfl rfl ?_
    refine im_aload_n (pc := 29) dJ0_indexOf_2_29 rfl rfl ?_
    refine cl_J0_505 jS_length_im (pc := 30) (by decide) dJ0_indexOf_2_30 (Nat.le_of_ble_eq_true rfl) fun x53 => ?_
    exact Im.none
  · refine im_aload_n (pc := 7) dJ0_indexOf_2_7 rfl rfl ?_
    refine im_grS (pc := 8) q1740 dJ0_indexOf_2_8 fun r54 => ?_
    refine im_iload_n (pc := 11) dJ0_indexOf_2_11 rfl rfl ?_
    refine im_iload_n (pc := 12) dJ0_indexOf_2_12 rfl rfl ?_
    refine im_aload_n (pc := 13) dJ0_indexOf_2_13 rfl rfl ?_
    refine cl_J0_505 jS_length_im (pc := 14) (by decide) dJ0_indexOf_2_14 (Nat.le_of_ble_eq_true rfl) fun x55 => ?_
    refine cl_J0_637 jL_indexOf_im (pc := 17) (by decide) dJ0_indexOf_2_17 (Nat.le_of_ble_eq_true rfl) fun x56 => ?_
    refine im_goto (pc := 20) (tgt := 36) dJ0_indexOf_2_20 (by decide) ?_
    exact im_iretP (pc := 36) dJ0_indexOf_2_36
noncomputable def jS_indexOf_2 (a0 : Option Nat) (a1 : Int32) (a2 : Int32) (h : PH) : Option (Int32) := grd (isC [15] a0 h) (jS_indexOf_2_0 a0 a1 a2 h)
theorem jS_indexOf_2_im : IM_J0_indexOf_2 jS_indexOf_2 3 := by
  intro a0 a1 a2 h r e
  obtain ⟨e1, e2⟩ := grd_some e
  exact ⟨e1, SpI.ofP (k := 0) (plainFor_of_name (by decide)) rfl (fun X => Im.drop [true, true, true] rfl (jS_indexOf_2_0_ok X a0 a1 a2 h)) e2⟩
theorem cl_J0_633 {X : CT} {cc : ByteArray} {nL : Nat} {mn : String} {ret : Option FieldType} {d d0 : Nat} {τ : Type} {pc : Nat} {lv : List (Option PV)} {st : List PV} {h : PH} {sz : τ → Nat × Nat} {K : τ → Prop} {f : Option Nat → Int32 → Int32 → PH → Option (Int32)} (HR : IM_J0_indexOf_2 f d0) {a0 : Option Nat} {a1 : Int32} {a2 : Int32} {g : Int32 → Option τ} (hd : d0 + 1 ≤ d) (hdg : decode cc pc = .ok (.invokevirtual 633, 3)) (hst : st.length ≤ 8) (kk : ∀ r, Im X (cc, nL, RJ0, mn, ret, d) (pc + 3) lv (.inl r :: st) h (g r) sz K) : Im X (cc, nL, RJ0, mn, ret, d) pc lv (.inl a2 :: .inl a1 :: .inr a0 :: st) h ((f a0 a1 a2 h).bind g) sz K := by
  refine im_cP (y := yJ0_indexOf_2) (cY := cJ0_indexOf_2) (nY := 3) (rY := (some .int)) (d' := d0) (av := [.inr a0, .inl a1, .inl a2]) (fun r e hX => ?_) (fun r e => (HR _ _ _ _ _ e).2) hd (by decide) hst rfl kk
  obtain ⟨a, c, fs, rfl, ec, hm⟩ := isC_some (HR _ _ _ _ _ e).1
  cases List.mem_singleton.mp hm
  exact cal_VS (n := 2) hX (lw_V q413 q414 q415 q114 q416) (by decide +kernel) rfl ec hdg

def IM_J0_indexOf (f : Option Nat → Int32 → PH → Option (Int32)) (d : Nat) : Prop := ∀ (a0 : Option Nat) (a1 : Int32) (h : PH) (r : Int32), f a0 a1 h = some r → isC [15] a0 h = true ∧ SpI yJ0_indexOf cJ0_indexOf 2 (some .int) d [.inr a0, .inl a1] h r h
noncomputable def jS_indexOf_0 (v0 : Option Nat) (v1 : Int32) (h : PH) : Option (Int32) :=
  (jS_indexOf_2 v0 v1 0 h).bind fun x51 =>
  some (x51)
theorem jS_indexOf_0_ok (X : CT) (v0 : Option Nat) (v1 : Int32) (h : PH) : Im X (cJ0_indexOf, 2, RJ0, "indexOf", (some .int), 4) 0 [some (.inr v0), some (.inl v1)] [] h (jS_indexOf_0 v0 v1 h) (szP h) (kP X h) := by
  unfold jS_indexOf_0
  refine im_aload_n (pc := 0) dJ0_indexOf_0 rfl rfl ?_
  refine im_iload_n (pc := 1) dJ0_indexOf_1 rfl rfl ?_
  refine im_iconst (pc := 2) (v := 0) dJ0_indexOf_2 (by decide) ?_
  refine cl_J0_633 jS_indexOf_2_im (pc := 3) (by decide) dJ0_indexOf_3 (Nat.le_of_ble_eq_true rfl) fun x51 => ?_
  exact im_iretP (pc := 6) dJ0_indexOf_6
noncomputable def jS_indexOf (a0 : Option Nat) (a1 : Int32) (h : PH) : Option (Int32) := grd (isC [15] a0 h) (jS_indexOf_0 a0 a1 h)
theorem jS_indexOf_im : IM_J0_indexOf jS_indexOf 4 := by
  intro a0 a1 h r e
  obtain ⟨e1, e2⟩ := grd_some e
  exact ⟨e1, SpI.ofP (k := 0) (plainFor_of_name (by decide)) rfl (fun X => Im.drop [true, true] rfl (jS_indexOf_0_ok X a0 a1 h)) e2⟩
theorem fp_X7_33 : ∀ c ∈ [6], FP RX7 33 c 4 .int := List.forall_mem_cons.mpr ⟨⟨RX7, TX7, 7, rfl, in_X7, by decide, apt_X7, rfl, by decide +kernel, Or.inl q374⟩, fun _ h => absurd h List.not_mem_nil⟩
theorem fp_X7_36 : ∀ c ∈ [6], FP RX7 36 c 5 .int := List.forall_mem_cons.mpr ⟨⟨RX7, TX7, 7, rfl, in_X7, by decide, apt_X7, rfl, by decide +kernel, Or.inl q375⟩, fun _ h => absurd h List.not_mem_nil⟩
def IM_X7_bad (f : Option Nat → Int32 → Int32 → PH → Option (PH)) (d : Nat) : Prop := ∀ (a0 : Option Nat) (a1 : Int32) (a2 : Int32) (h : PH) (h' : PH), f a0 a1 a2 h = some h' → isC [6] a0 h = true ∧ SpV yX7_bad cX7_bad 3 none d [.inr a0, .inl a1, .inl a2] h h'
noncomputable def rd_bad_0 (v0 : Option Nat) (v1 : Int32) (v2 : Int32) (h : PH) : Option (PH) :=
  (gfi [6] 4 v0 h).bind fun x51 =>
  (if x51 ≤ 0 then
  (pf [6] 4 v0 (.inl v1) h).bind fun h52 =>
  (pf [6] 5 v0 (.inl v2) h52).bind fun h53 =>
  some (h53)
  else
  some (h))
theorem rd_bad_0_ok (X : CT) (v0 : Option Nat) (v1 : Int32) (v2 : Int32) (h : PH) : Im X (cX7_bad, 3, RX7, "bad", none, 1) 0 [some (.inr v0), some (.inl v1), some (.inl v2)] [] h (rd_bad_0 v0 v1 v2 h) szV (kV X) := by
  unfold rd_bad_0
  refine im_aload_n (pc := 0) dX7_bad_0 rfl rfl ?_
  refine im_gi (pc := 1) fl_X7_33 dX7_bad_1 fun x51 => ?_
  refine im_if_le (pc := 4) (tgt := 8) dX7_bad_4 (by decide) ?_ ?_
  · refine im_aload_n (pc := 8) dX7_bad_8 rfl rfl ?_
    refine im_iload_n (pc := 9) dX7_bad_9 rfl rfl ?_
    refine im_pf (pc := 10) fp_X7_33 (okT_i _) dX7_bad_10 fun h52 => ?_
    refine im_aload_n (pc := 13) dX7_bad_13 rfl rfl ?_
    refine im_iload_n (pc := 14) dX7_bad_14 rfl rfl ?_
    refine im_pf (pc := 15) fp_X7_36 (okT_i _) dX7_bad_15 fun h53 => ?_
    exact im_vret (pc := 18) dX7_bad_18
  · exact im_vret (pc := 7) dX7_bad_7
noncomputable def rd_bad (a0 : Option Nat) (a1 : Int32) (a2 : Int32) (h : PH) : Option (PH) := grd (isC [6] a0 h) (rd_bad_0 a0 a1 a2 h)
theorem rd_bad_im : IM_X7_bad rd_bad 1 := by
  intro a0 a1 a2 h h' e
  obtain ⟨e1, e2⟩ := grd_some e
  exact ⟨e1, SpV.of (k := 0) (plainFor_of_name (by decide)) rfl (fun X => Im.drop [true, true, true] rfl (rd_bad_0_ok X a0 a1 a2 h)) e2⟩
theorem fl_X7_54 : ∀ c ∈ [6], FL RX7 54 c 3 := List.forall_mem_cons.mpr ⟨⟨RX7, TX7, 7, rfl, in_X7, by decide, Or.inl q373⟩, fun _ h => absurd h List.not_mem_nil⟩
theorem cl_X7_50 {X : CT} {cc : ByteArray} {nL : Nat} {mn : String} {ret : Option FieldType} {d d0 : Nat} {τ : Type} {pc : Nat} {lv : List (Option PV)} {st : List PV} {h : PH} {sz : τ → Nat × Nat} {K : τ → Prop} {f : Option Nat → Int32 → Int32 → PH → Option (PH)} (HR : IM_X7_bad f d0) {a0 : Option Nat} {a1 : Int32} {a2 : Int32} {g : PH → Option τ} (hd : d0 + 1 ≤ d) (hdg : decode cc pc = .ok (.invokevirtual 50, 3)) (hst : st.length ≤ 8) (kk : ∀ h', Im X (cc, nL, RX7, mn, ret, d) (pc + 3) lv st h' (g h') sz K) : Im X (cc, nL, RX7, mn, ret, d) pc lv (.inl a2 :: .inl a1 :: .inr a0 :: st) h ((f a0 a1 a2 h).bind g) sz K := by
  refine im_cV (y := yX7_bad) (cY := cX7_bad) (nY := 3) (rY := none) (d' := d0) (av := [.inr a0, .inl a1, .inl a2]) (fun h' e hX => ?_) (fun h' e => (HR _ _ _ _ _ e).2) hd (by decide) hst rfl kk
  obtain ⟨a, c, fs, rfl, ec, hm⟩ := isC_some (HR _ _ _ _ _ e).1
  cases List.mem_singleton.mp hm
  exact cal_V (n := 2) hX (lw_V q495 q497 qs4 q113 q498) (by decide +kernel) rfl rfl ec hdg

theorem fp_X7_54 : ∀ c ∈ [6], FP RX7 54 c 3 .int := List.forall_mem_cons.mpr ⟨⟨RX7, TX7, 7, rfl, in_X7, by decide, apt_X7, rfl, by decide +kernel, Or.inl q373⟩, fun _ h => absurd h List.not_mem_nil⟩
theorem fp_X7_26 : ∀ c ∈ [6], FP RX7 26 c 2 .int := List.forall_mem_cons.mpr ⟨⟨RX7, TX7, 7, rfl, in_X7, by decide, apt_X7, rfl, by decide +kernel, Or.inl q372⟩, fun _ h => absurd h List.not_mem_nil⟩
def IM_X7_opens (f : Option Nat → PH → Option (PH)) (d : Nat) : Prop := ∀ (a0 : Option Nat) (h : PH) (h' : PH), f a0 h = some h' → isC [6] a0 h = true ∧ SpV yX7_opens cX7_opens 1 none d [.inr a0] h h'
noncomputable def rd_opens_18 (v0 : Option Nat) (h : PH) : Option (PH) :=
  (gfi [6] 3 v0 h).bind fun x51 =>
  (pf [6] 3 v0 (.inl (x51 + 1)) h).bind fun h52 =>
  (gfi [6] 2 v0 h52).bind fun x53 =>
  (pf [6] 2 v0 (.inl (x53 + 1)) h52).bind fun h54 =>
  some (h54)
theorem rd_opens_18_ok (X : CT) (v0 : Option Nat) (h : PH) : Im X (cX7_opens, 1, RX7, "opens", none, 2) 18 [some (.inr v0)] [] h (rd_opens_18 v0 h) szV (kV X) := by
  unfold rd_opens_18
  refine im_aload_n (pc := 18) dX7_opens_18 rfl rfl ?_
  refine im_dup (pc := 19) dX7_opens_19 ?_
  refine im_gi (pc := 20) fl_X7_54 dX7_opens_20 fun x51 => ?_
  refine im_iconst (pc := 23) (v := 1) dX7_opens_23 (by decide) ?_
  refine im_iadd (pc := 24) dX7_opens_24 ?_
  refine im_pf (pc := 25) fp_X7_54 (okT_i _) dX7_opens_25 fun h52 => ?_
  refine im_aload_n (pc := 28) dX7_opens_28 rfl rfl ?_
  refine im_dup (pc := 29) dX7_opens_29 ?_
  refine im_gi (pc := 30) fl_X7_26 dX7_opens_30 fun x53 => ?_
  refine im_iconst (pc := 33) (v := 1) dX7_opens_33 (by decide) ?_
  refine im_iadd (pc := 34) dX7_opens_34 ?_
  refine im_pf (pc := 35) fp_X7_26 (okT_i _) dX7_opens_35 fun h54 => ?_
  exact im_vret (pc := 38) dX7_opens_38
noncomputable def rd_opens_0 (v0 : Option Nat) (h : PH) : Option (PH) :=
  (gfi [6] 3 v0 h).bind fun x51 =>
  (if x51 = 6 then
  (gfi [6] 2 v0 h).bind fun x52 =>
  (rd_bad v0 5 x52 h).bind fun h53 =>
  rd_opens_18 v0 h53
  else
  rd_opens_18 v0 h)
theorem rd_opens_0_ok (X : CT) (v0 : Option Nat) (h : PH) : Im X (cX7_opens, 1, RX7, "opens", none, 2) 0 [some (.inr v0)] [] h (rd_opens_0 v0 h) szV (kV X) := by
  unfold rd_opens_0
  refine im_aload_n (pc := 0) dX7_opens_0 rfl rfl ?_
  refine im_gi (pc := 1) fl_X7_54 dX7_opens_1 fun x51 => ?_
  refine im_bipush (pc := 4) (v := 6) dX7_opens_4 (by decide) ?_
  refine im_icmp_ne (pc := 6) (tgt := 18) dX7_opens_6 (by decide) ?_ ?_
  · exact Im.drop [true] rfl (rd_opens_18_ok X v0 h)
  · refine im_aload_n (pc := 9) dX7_opens_9 rfl rfl ?_
    refine im_iconst (pc := 10) (v := 5) dX7_opens_10 (by decide) ?_
    refine im_aload_n (pc := 11) dX7_opens_11 rfl rfl ?_
    refine im_gi (pc := 12) fl_X7_26 dX7_opens_12 fun x52 => ?_
    refine cl_X7_50 rd_bad_im (pc := 15) (by decide) dX7_opens_15 (Nat.le_of_ble_eq_true rfl) fun h53 => ?_
    exact Im.drop [true] rfl (rd_opens_18_ok X v0 h53)
noncomputable def rd_opens (a0 : Option Nat) (h : PH) : Option (PH) := grd (isC [6] a0 h) (rd_opens_0 a0 h)
theorem rd_opens_im : IM_X7_opens rd_opens 2 := by
  intro a0 h h' e
  obtain ⟨e1, e2⟩ := grd_some e
  exact ⟨e1, SpV.of (k := 0) (plainFor_of_name (by decide)) rfl (fun X => Im.drop [true] rfl (rd_opens_0_ok X a0 h)) e2⟩
theorem cl_X7_39 {X : CT} {cc : ByteArray} {nL : Nat} {mn : String} {ret : Option FieldType} {d d0 : Nat} {τ : Type} {pc : Nat} {lv : List (Option PV)} {st : List PV} {h : PH} {sz : τ → Nat × Nat} {K : τ → Prop} {f : Option Nat → PH → Option (Int32)} (HR : IM_X7_here f d0) {a0 : Option Nat} {g : Int32 → Option τ} (hd : d0 + 1 ≤ d) (hdg : decode cc pc = .ok (.invokevirtual 39, 3)) (hst : st.length ≤ 8) (kk : ∀ r, Im X (cc, nL, RX7, mn, ret, d) (pc + 3) lv (.inl r :: st) h (g r) sz K) : Im X (cc, nL, RX7, mn, ret, d) pc lv (.inr a0 :: st) h ((f a0 h).bind g) sz K := by
  refine im_cP (y := yX7_here) (cY := cX7_here) (nY := 1) (rY := (some .int)) (d' := d0) (av := [.inr a0]) (fun r e hX => ?_) (fun r e => (HR _ _ _ e).2) hd (by decide) hst rfl kk
  obtain ⟨a, c, fs, rfl, ec, hm⟩ := isC_some (HR _ _ _ e).1
  cases List.mem_singleton.mp hm
  exact cal_V (n := 0) hX (lw_V q404 q406 qs3 q113 q407) (by decide +kernel) rfl rfl ec hdg

def IM_X7_must (f : Option Nat → Int32 → PH → Option (PH)) (d : Nat) : Prop := ∀ (a0 : Option Nat) (a1 : Int32) (h : PH) (h' : PH), f a0 a1 h = some h' → isC [6] a0 h = true ∧ SpV yX7_must cX7_must 2 none d [.inr a0, .inl a1] h h'
noncomputable def rd_must_17 (v0 : Option Nat) (h : PH) : Option (PH) :=
  (gfi [6] 2 v0 h).bind fun x51 =>
  (pf [6] 2 v0 (.inl (x51 + 1)) h).bind fun h52 =>
  some (h52)
theorem rd_must_17_ok (X : CT) (v0 : Option Nat) (h : PH) : Im X (cX7_must, 2, RX7, "must", none, 2) 17 [some (.inr v0), none] [] h (rd_must_17 v0 h) szV (kV X) := by
  unfold rd_must_17
  refine im_aload_n (pc := 17) dX7_must_17 rfl rfl ?_
  refine im_dup (pc := 18) dX7_must_18 ?_
  refine im_gi (pc := 19) fl_X7_26 dX7_must_19 fun x51 => ?_
  refine im_iconst (pc := 22) (v := 1) dX7_must_22 (by decide) ?_
  refine im_iadd (pc := 23) dX7_must_23 ?_
  refine im_pf (pc := 24) fp_X7_26 (okT_i _) dX7_must_24 fun h52 => ?_
  exact im_vret (pc := 27) dX7_must_27
noncomputable def rd_must_0 (v0 : Option Nat) (v1 : Int32) (h : PH) : Option (PH) :=
  (rd_here v0 h).bind fun x51 =>
  (if x51 = v1 then
  rd_must_17 v0 h
  else
  (gfi [6] 2 v0 h).bind fun x52 =>
  (rd_bad v0 1 x52 h).bind fun h53 =>
  rd_must_17 v0 h53)
theorem rd_must_0_ok (X : CT) (v0 : Option Nat) (v1 : Int32) (h : PH) : Im X (cX7_must, 2, RX7, "must", none, 2) 0 [some (.inr v0), some (.inl v1)] [] h (rd_must_0 v0 v1 h) szV (kV X) := by
  unfold rd_must_0
  refine im_aload_n (pc := 0) dX7_must_0 rfl rfl ?_
  refine cl_X7_39 rd_here_im (pc := 1) (by decide) dX7_must_1 (Nat.le_of_ble_eq_true rfl) fun x51 => ?_
  refine im_iload_n (pc := 4) dX7_must_4 rfl rfl ?_
  refine im_icmp_eq (pc := 5) (tgt := 17) dX7_must_5 (by decide) ?_ ?_
  · exact Im.drop [true, false] rfl (rd_must_17_ok X v0 h)
  · refine im_aload_n (pc := 8) dX7_must_8 rfl rfl ?_
    refine im_iconst (pc := 9) (v := 1) dX7_must_9 (by decide) ?_
    refine im_aload_n (pc := 10) dX7_must_10 rfl rfl ?_
    refine im_gi (pc := 11) fl_X7_26 dX7_must_11 fun x52 => ?_
    refine cl_X7_50 rd_bad_im (pc := 14) (by decide) dX7_must_14 (Nat.le_of_ble_eq_true rfl) fun h53 => ?_
    exact Im.drop [true, false] rfl (rd_must_17_ok X v0 h53)
noncomputable def rd_must (a0 : Option Nat) (a1 : Int32) (h : PH) : Option (PH) := grd (isC [6] a0 h) (rd_must_0 a0 a1 h)
theorem rd_must_im : IM_X7_must rd_must 2 := by
  intro a0 a1 h h' e
  obtain ⟨e1, e2⟩ := grd_some e
  exact ⟨e1, SpV.of (k := 0) (plainFor_of_name (by decide)) rfl (fun X => Im.drop [true, true] rfl (rd_must_0_ok X a0 a1 h)) e2⟩
def IM_X7_seesDigit (f : Option Nat → PH → Option (Int32)) (d : Nat) : Prop := ∀ (a0 : Option Nat) (h : PH) (r : Int32), f a0 h = some r → isC [6] a0 h = true ∧ SpI yX7_seesDigit cX7_seesDigit 1 (some .boolean) d [.inr a0] h r h
noncomputable def rd_seesDigit_0 (v0 : Option Nat) (h : PH) : Option (Int32) :=
  (rd_here v0 h).bind fun x51 =>
  (if x51 < 48 then
  some (0)
  else
  (rd_here v0 h).bind fun x52 =>
  (if 57 < x52 then
  some (0)
  else
  some (1)))
theorem rd_seesDigit_0_ok (X : CT) (v0 : Option Nat) (h : PH) : Im X (cX7_seesDigit, 1, RX7, "seesDigit", (some .boolean), 2) 0 [some (.inr v0)] [] h (rd_seesDigit_0 v0 h) (szP h) (kP X h) := by
  unfold rd_seesDigit_0
  refine im_aload_n (pc := 0) dX7_seesDigit_0 rfl rfl ?_
  refine cl_X7_39 rd_here_im (pc := 1) (by decide) dX7_seesDigit_1 (Nat.le_of_ble_eq_true rfl) fun x51 => ?_
  refine im_bipush (pc := 4) (v := 48) dX7_seesDigit_4 (by decide) ?_
  refine im_icmp_lt (pc := 6) (tgt := 22) dX7_seesDigit_6 (by decide) ?_ ?_
  · refine im_iconst (pc := 22) (v := 0) dX7_seesDigit_22 (by decide) ?_
    exact im_zretTP (pc := 23) (nar_z (Or.inl rfl)) dX7_seesDigit_23
  · refine im_aload_n (pc := 9) dX7_seesDigit_9 rfl rfl ?_
    refine cl_X7_39 rd_here_im (pc := 10) (by decide) dX7_seesDigit_10 (Nat.le_of_ble_eq_true rfl) fun x52 => ?_
    refine im_bipush (pc := 13) (v := 57) dX7_seesDigit_13 (by decide) ?_
    refine im_icmp_gt (pc := 15) (tgt := 22) dX7_seesDigit_15 (by decide) ?_ ?_
    · refine im_iconst (pc := 22) (v := 0) dX7_seesDigit_22 (by decide) ?_
      exact im_zretTP (pc := 23) (nar_z (Or.inl rfl)) dX7_seesDigit_23
    · refine im_iconst (pc := 18) (v := 1) dX7_seesDigit_18 (by decide) ?_
      refine im_goto (pc := 19) (tgt := 23) dX7_seesDigit_19 (by decide) ?_
      exact im_zretTP (pc := 23) (nar_z (Or.inr rfl)) dX7_seesDigit_23
noncomputable def rd_seesDigit (a0 : Option Nat) (h : PH) : Option (Int32) := grd (isC [6] a0 h) (rd_seesDigit_0 a0 h)
theorem rd_seesDigit_im : IM_X7_seesDigit rd_seesDigit 2 := by
  intro a0 h r e
  obtain ⟨e1, e2⟩ := grd_some e
  exact ⟨e1, SpI.ofP (k := 0) (plainFor_of_name (by decide)) rfl (fun X => Im.drop [true] rfl (rd_seesDigit_0_ok X a0 h)) e2⟩
theorem cl_X7_43 {X : CT} {cc : ByteArray} {nL : Nat} {mn : String} {ret : Option FieldType} {d d0 : Nat} {τ : Type} {pc : Nat} {lv : List (Option PV)} {st : List PV} {h : PH} {sz : τ → Nat × Nat} {K : τ → Prop} {f : Option Nat → PH → Option (Int32)} (HR : IM_X7_isGood f d0) {a0 : Option Nat} {g : Int32 → Option τ} (hd : d0 + 1 ≤ d) (hdg : decode cc pc = .ok (.invokevirtual 43, 3)) (hst : st.length ≤ 8) (kk : ∀ r, Im X (cc, nL, RX7, mn, ret, d) (pc + 3) lv (.inl r :: st) h (g r) sz K) : Im X (cc, nL, RX7, mn, ret, d) pc lv (.inr a0 :: st) h ((f a0 h).bind g) sz K := by
  refine im_cP (y := yX7_isGood) (cY := cX7_isGood) (nY := 1) (rY := (some .boolean)) (d' := d0) (av := [.inr a0]) (fun r e hX => ?_) (fun r e => (HR _ _ _ e).2) hd (by decide) hst rfl kk
  obtain ⟨a, c, fs, rfl, ec, hm⟩ := isC_some (HR _ _ _ e).1
  cases List.mem_singleton.mp hm
  exact cal_V (n := 0) hX (lw_V q396 q398 qs1 q113 q399) (by decide +kernel) rfl rfl ec hdg

theorem cl_X7_47 {X : CT} {cc : ByteArray} {nL : Nat} {mn : String} {ret : Option FieldType} {d d0 : Nat} {τ : Type} {pc : Nat} {lv : List (Option PV)} {st : List PV} {h : PH} {sz : τ → Nat × Nat} {K : τ → Prop} {f : Option Nat → PH → Option (Int32)} (HR : IM_X7_seesDigit f d0) {a0 : Option Nat} {g : Int32 → Option τ} (hd : d0 + 1 ≤ d) (hdg : decode cc pc = .ok (.invokevirtual 47, 3)) (hst : st.length ≤ 8) (kk : ∀ r, Im X (cc, nL, RX7, mn, ret, d) (pc + 3) lv (.inl r :: st) h (g r) sz K) : Im X (cc, nL, RX7, mn, ret, d) pc lv (.inr a0 :: st) h ((f a0 h).bind g) sz K := by
  refine im_cP (y := yX7_seesDigit) (cY := cX7_seesDigit) (nY := 1) (rY := (some .boolean)) (d' := d0) (av := [.inr a0]) (fun r e hX => ?_) (fun r e => (HR _ _ _ e).2) hd (by decide) hst rfl kk
  obtain ⟨a, c, fs, rfl, ec, hm⟩ := isC_some (HR _ _ _ e).1
  cases List.mem_singleton.mp hm
  exact cal_V (n := 0) hX (lw_V q521 q523 qs10 q113 q524) (by decide +kernel) rfl rfl ec hdg

def IM_X7_number (f : Option Nat → PH → Option (Int32 × PH)) (d : Nat) : Prop := ∀ (a0 : Option Nat) (h : PH) (r : Int32) (h' : PH), f a0 h = some (r, h') → isC [6] a0 h = true ∧ SpI yX7_number cX7_number 3 (some .int) d [.inr a0] h r h'
noncomputable def rd_number_40 (v0 : Option Nat) (v1 : Int32) (v2 : Int32) (h : PH) : Option ((Int32 × PH) ⊕ (Int32 × PH)) :=
  (rd_here v0 h).bind fun x51 =>
  (gfi [6] 2 v0 h).bind fun x52 =>
  (pf [6] 2 v0 (.inl (x52 + 1)) h).bind fun h53 =>
  some (.inl ((((10 * v2) + x51) - 48), h53))
theorem rd_number_40_ok (X : CT) (v0 : Option Nat) (v1 : Int32) (v2 : Int32) (h : PH) : Im X (cX7_number, 3, RX7, "number", (some .int), 3) 40 [some (.inr v0), some (.inl v1), some (.inl v2)] [] h (rd_number_40 v0 v1 v2 h) (ez (fun s : Int32 × PH => s.2) szI) (ek X 7 (fun s : Int32 × PH => [some (.inr v0), some (.inl v1), some (.inl s.1)]) (fun s : Int32 × PH => s.2) (kI X)) := by
  unfold rd_number_40
  refine im_bipush (pc := 40) (v := 10) dX7_number_40 (by decide) ?_
  refine im_iload_n (pc := 42) dX7_number_42 rfl rfl ?_
  refine im_imul (pc := 43) dX7_number_43 ?_
  refine im_aload_n (pc := 44) dX7_number_44 rfl rfl ?_
  refine cl_X7_39 rd_here_im (pc := 45) (by decide) dX7_number_45 (Nat.le_of_ble_eq_true rfl) fun x51 => ?_
  refine im_iadd (pc := 48) dX7_number_48 ?_
  refine im_bipush (pc := 49) (v := 48) dX7_number_49 (by decide) ?_
  refine im_isub (pc := 51) dX7_number_51 ?_
  refine im_istore_n (pc := 52) (lv' := [some (.inr v0), some (.inl v1), some (.inl (((10 * v2) + x51) - 48))]) dX7_number_52 rfl (by decide) rfl ?_
  refine im_aload_n (pc := 53) dX7_number_53 rfl rfl ?_
  refine im_dup (pc := 54) dX7_number_54 ?_
  refine im_gi (pc := 55) fl_X7_26 dX7_number_55 fun x52 => ?_
  refine im_iconst (pc := 58) (v := 1) dX7_number_58 (by decide) ?_
  refine im_iadd (pc := 59) dX7_number_59 ?_
  refine im_pf (pc := 60) fp_X7_26 (okT_i _) dX7_number_60 fun h53 => ?_
  refine im_goto (pc := 63) (tgt := 7) dX7_number_63 (by decide) ?_
  exact Im.back [true, true, true] rfl rfl
noncomputable def rd_number_b7 (v0 : Option Nat) (v1 : Int32) (v2 : Int32) (h : PH) : Option ((Int32 × PH) ⊕ (Int32 × PH)) :=
  (rd_isGood v0 h).bind fun x51 =>
  (if x51 = 0 then
  some (.inr ((v2, h)))
  else
  (rd_seesDigit v0 h).bind fun x52 =>
  (if x52 = 0 then
  some (.inr ((v2, h)))
  else
  (gfi [6] 2 v0 h).bind fun x53 =>
  (if x53 = (v1 + 5) then
  (gfi [6] 2 v0 h).bind fun x54 =>
  (rd_bad v0 2 x54 h).bind fun h55 =>
  rd_number_40 v0 v1 v2 h55
  else
  rd_number_40 v0 v1 v2 h)))
noncomputable def rd_number_L7 (v0 : Option Nat) (v1 : Int32) (v2 : Int32) (h : PH) : Option (Int32 × PH) :=
  iter (fun s : Int32 × PH => rd_number_b7 v0 v1 s.1 s.2) (v2, h)
theorem rd_number_b7_ok (X : CT) (v0 : Option Nat) (v1 : Int32) (v2 : Int32) (h : PH) : Im X (cX7_number, 3, RX7, "number", (some .int), 3) 7 [some (.inr v0), some (.inl v1), some (.inl v2)] [] h (rd_number_b7 v0 v1 v2 h) (ez (fun s : Int32 × PH => s.2) szI) (ek X 7 (fun s : Int32 × PH => [some (.inr v0), some (.inl v1), some (.inl s.1)]) (fun s : Int32 × PH => s.2) (kI X)) := by
  unfold rd_number_b7
  refine im_aload_n (pc := 7) dX7_number_7 rfl rfl ?_
  refine cl_X7_43 rd_isGood_im (pc := 8) (by decide) dX7_number_8 (Nat.le_of_ble_eq_true rfl) fun x51 => ?_
  refine im_if_eq (pc := 11) (tgt := 66) dX7_number_11 (by decide) ?_ ?_
  · refine im_iload_n (pc := 66) dX7_number_66 rfl rfl ?_
    exact Im.outS (im_iret (pc := 67) dX7_number_67)
  · refine im_aload_n (pc := 14) dX7_number_14 rfl rfl ?_
    refine cl_X7_47 rd_seesDigit_im (pc := 15) (by decide) dX7_number_15 (Nat.le_of_ble_eq_true rfl) fun x52 => ?_
    refine im_if_eq (pc := 18) (tgt := 66) dX7_number_18 (by decide) ?_ ?_
    · refine im_iload_n (pc := 66) dX7_number_66 rfl rfl ?_
      exact Im.outS (im_iret (pc := 67) dX7_number_67)
    · refine im_aload_n (pc := 21) dX7_number_21 rfl rfl ?_
      refine im_gi (pc := 22) fl_X7_26 dX7_number_22 fun x53 => ?_
      refine im_iload_n (pc := 25) dX7_number_25 rfl rfl ?_
      refine im_iconst (pc := 26) (v := 5) dX7_number_26 (by decide) ?_
      refine im_iadd (pc := 27) dX7_number_27 ?_
      refine im_icmp_ne (pc := 28) (tgt := 40) dX7_number_28 (by decide) ?_ ?_
      · exact Im.drop [true, true, true] rfl (rd_number_40_ok X v0 v1 v2 h)
      · refine im_aload_n (pc := 31) dX7_number_31 rfl rfl ?_
        refine im_iconst (pc := 32) (v := 2) dX7_number_32 (by decide) ?_
        refine im_aload_n (pc := 33) dX7_number_33 rfl rfl ?_
        refine im_gi (pc := 34) fl_X7_26 dX7_number_34 fun x54 => ?_
        refine cl_X7_50 rd_bad_im (pc := 37) (by decide) dX7_number_37 (Nat.le_of_ble_eq_true rfl) fun h55 => ?_
        exact Im.drop [true, true, true] rfl (rd_number_40_ok X v0 v1 v2 h55)
theorem rd_number_L7_ok (X : CT) (v0 : Option Nat) (v1 : Int32) (v2 : Int32) (h : PH) : Im X (cX7_number, 3, RX7, "number", (some .int), 3) 7 [some (.inr v0), some (.inl v1), some (.inl v2)] [] h (rd_number_L7 v0 v1 v2 h) szI (kI X) := by
  unfold rd_number_L7
  exact Im.iter (lv := (fun s : Int32 × PH => [some (.inr v0), some (.inl v1), some (.inl s.1)])) (hp := (fun s : Int32 × PH => s.2)) (fun s => rd_number_b7_ok X v0 v1 s.1 s.2) _ rfl rfl
noncomputable def rd_number_0 (v0 : Option Nat) (h : PH) : Option (Int32 × PH) :=
  (gfi [6] 2 v0 h).bind fun x51 =>
  rd_number_L7 v0 x51 0 h
theorem rd_number_0_ok (X : CT) (v0 : Option Nat) (h : PH) : Im X (cX7_number, 3, RX7, "number", (some .int), 3) 0 [some (.inr v0), none, none] [] h (rd_number_0 v0 h) szI (kI X) := by
  unfold rd_number_0
  refine im_aload_n (pc := 0) dX7_number_0 rfl rfl ?_
  refine im_gi (pc := 1) fl_X7_26 dX7_number_1 fun x51 => ?_
  refine im_istore_n (pc := 4) (lv' := [some (.inr v0), some (.inl x51), none]) dX7_number_4 rfl (by decide) rfl ?_
  refine im_iconst (pc := 5) (v := 0) dX7_number_5 (by decide) ?_
  refine im_istore_n (pc := 6) (lv' := [some (.inr v0), some (.inl x51), some (.inl 0)]) dX7_number_6 rfl (by decide) rfl ?_
  exact Im.drop [true, true, true] rfl (rd_number_L7_ok X v0 x51 0 h)
noncomputable def rd_number (a0 : Option Nat) (h : PH) : Option (Int32 × PH) := grd (isC [6] a0 h) (rd_number_0 a0 h)
theorem rd_number_im : IM_X7_number rd_number 3 := by
  intro a0 h r h' e
  obtain ⟨e1, e2⟩ := grd_some e
  exact ⟨e1, SpI.of (k := 2) (plainFor_of_name (by decide)) rfl (fun X => Im.drop [true, false, false] rfl (rd_number_0_ok X a0 h)) e2⟩
def IM_X8_init (f : Option Nat → PH → Option (PH)) (d : Nat) : Prop := ∀ (a0 : Option Nat) (h : PH) (h' : PH), f a0 h = some h' → isC [7, 8, 9] a0 h = true ∧ SpV yX8_init cX8_init 1 none d [.inr a0] h h'
noncomputable def su_init_0 (v0 : Option Nat) (h : PH) : Option (PH) :=
  nul v0 none (
  some (h))
theorem su_init_0_ok (X : CT) (v0 : Option Nat) (h : PH) : Im X (cX8_init, 1, RX8, "<init>", none, 1) 0 [some (.inr v0)] [] h (su_init_0 v0 h) szV (kV X) := by
  unfold su_init_0
  refine im_aload_n (pc := 0) dX8_init_0 rfl rfl ?_
  refine im_objInit (pc := 1) (by decide) q537 q138 q139 (Nat.le_of_ble_eq_true rfl) dX8_init_1 ?_
  exact im_vret (pc := 4) dX8_init_4
noncomputable def su_init (a0 : Option Nat) (h : PH) : Option (PH) := grd (isC [7, 8, 9] a0 h) (su_init_0 a0 h)
theorem su_init_im : IM_X8_init su_init 1 := by
  intro a0 h h' e
  obtain ⟨e1, e2⟩ := grd_some e
  exact ⟨e1, SpV.of (k := 0) (plainFor_of_name (by decide)) rfl (fun X => Im.drop [true] rfl (su_init_0_ok X a0 h)) e2⟩
theorem cl_X10_1 {X : CT} {cc : ByteArray} {nL : Nat} {mn : String} {ret : Option FieldType} {d d0 : Nat} {τ : Type} {pc : Nat} {lv : List (Option PV)} {st : List PV} {h : PH} {sz : τ → Nat × Nat} {K : τ → Prop} {f : Option Nat → PH → Option (PH)} (HR : IM_X8_init f d0) {a0 : Option Nat} {g : PH → Option τ} (hd : d0 + 1 ≤ d) (hdg : decode cc pc = .ok (.invokespecial 1, 3)) (hst : st.length ≤ 8) (kk : ∀ h', Im X (cc, nL, RX10, mn, ret, d) (pc + 3) lv st h' (g h') sz K) : Im X (cc, nL, RX10, mn, ret, d) pc lv (.inr a0 :: st) h ((f a0 h).bind g) sz K := by
  refine im_cV (y := yX8_init) (cY := cX8_init) (nY := 1) (rY := none) (d' := d0) (av := [.inr a0]) (fun h' e hX => ?_) (fun h' e => (HR _ _ _ e).2) hd (by decide) hst rfl kk
  obtain ⟨a, c, fs, rfl, ec, hm⟩ := isC_some (HR _ _ _ e).1
  exact cal_IN (n := 0) hX (lw_n q534 rfl) q535 q120 q536 rfl (by decide +kernel) rfl hdg

theorem apt_X10 : Apt 8 1 := apt_of rfl in_X10 tyX10 tyX10_ok nmX10
theorem fp_X10_7 : ∀ c ∈ [8], FPF RX10 7 c 0 .int := List.forall_mem_cons.mpr ⟨⟨RX10, TX10, 1, rfl, in_X10, by decide, apt_X10, rfl, rfl, by decide +kernel, q538⟩, fun _ h => absurd h List.not_mem_nil⟩
def IM_X10_init (f : Option Nat → Int32 → PH → Option (PH)) (d : Nat) : Prop := ∀ (a0 : Option Nat) (a1 : Int32) (h : PH) (h' : PH), f a0 a1 h = some h' → isC [8] a0 h = true ∧ SpV yX10_init cX10_init 2 none d [.inr a0, .inl a1] h h'
noncomputable def nu_init_0 (v0 : Option Nat) (v1 : Int32) (h : PH) : Option (PH) :=
  (su_init v0 h).bind fun h51 =>
  (pf [8] 0 v0 (.inl v1) h51).bind fun h52 =>
  some (h52)
theorem nu_init_0_ok (X : CT) (v0 : Option Nat) (v1 : Int32) (h : PH) : Im X (cX10_init, 2, RX10, "<init>", none, 2) 0 [some (.inr v0), some (.inl v1)] [] h (nu_init_0 v0 v1 h) szV (kV X) := by
  unfold nu_init_0
  refine im_aload_n (pc := 0) dX10_init_0 rfl rfl ?_
  refine cl_X10_1 su_init_im (pc := 1) (by decide) dX10_init_1 (Nat.le_of_ble_eq_true rfl) fun h51 => ?_
  refine im_aload_n (pc := 4) dX10_init_4 rfl rfl ?_
  refine im_iload_n (pc := 5) dX10_init_5 rfl rfl ?_
  refine im_pfF (pc := 6) fp_X10_7 (okT_i _) dX10_init_6 fun h52 => ?_
  exact im_vret (pc := 9) dX10_init_9
noncomputable def nu_init (a0 : Option Nat) (a1 : Int32) (h : PH) : Option (PH) := grd (isC [8] a0 h) (nu_init_0 a0 a1 h)
theorem nu_init_im : IM_X10_init nu_init 2 := by
  intro a0 a1 h h' e
  obtain ⟨e1, e2⟩ := grd_some e
  exact ⟨e1, SpV.of (k := 0) (plainFor_of_name (by decide)) rfl (fun X => Im.drop [true, true] rfl (nu_init_0_ok X a0 a1 h)) e2⟩
theorem cl_X11_1 {X : CT} {cc : ByteArray} {nL : Nat} {mn : String} {ret : Option FieldType} {d d0 : Nat} {τ : Type} {pc : Nat} {lv : List (Option PV)} {st : List PV} {h : PH} {sz : τ → Nat × Nat} {K : τ → Prop} {f : Option Nat → PH → Option (PH)} (HR : IM_X8_init f d0) {a0 : Option Nat} {g : PH → Option τ} (hd : d0 + 1 ≤ d) (hdg : decode cc pc = .ok (.invokespecial 1, 3)) (hst : st.length ≤ 8) (kk : ∀ h', Im X (cc, nL, RX11, mn, ret, d) (pc + 3) lv st h' (g h') sz K) : Im X (cc, nL, RX11, mn, ret, d) pc lv (.inr a0 :: st) h ((f a0 h).bind g) sz K := by
  refine im_cV (y := yX8_init) (cY := cX8_init) (nY := 1) (rY := none) (d' := d0) (av := [.inr a0]) (fun h' e hX => ?_) (fun h' e => (HR _ _ _ e).2) hd (by decide) hst rfl kk
  obtain ⟨a, c, fs, rfl, ec, hm⟩ := isC_some (HR _ _ _ e).1
  exact cal_IN (n := 0) hX (lw_n q548 rfl) q535 q120 q536 rfl (by decide +kernel) rfl hdg

theorem apt_X11 : Apt 9 1 := apt_of rfl in_X11 tyX11 tyX11_ok nmX11
theorem fp_X11_7 : ∀ c ∈ [9], FPF RX11 7 c 0 .int := List.forall_mem_cons.mpr ⟨⟨RX11, TX11, 1, rfl, in_X11, by decide, apt_X11, rfl, rfl, by decide +kernel, q549⟩, fun _ h => absurd h List.not_mem_nil⟩
def IM_X11_init (f : Option Nat → Int32 → PH → Option (PH)) (d : Nat) : Prop := ∀ (a0 : Option Nat) (a1 : Int32) (h : PH) (h' : PH), f a0 a1 h = some h' → isC [9] a0 h = true ∧ SpV yX11_init cX11_init 2 none d [.inr a0, .inl a1] h h'
noncomputable def le_init_0 (v0 : Option Nat) (v1 : Int32) (h : PH) : Option (PH) :=
  (su_init v0 h).bind fun h51 =>
  (pf [9] 0 v0 (.inl v1) h51).bind fun h52 =>
  some (h52)
theorem le_init_0_ok (X : CT) (v0 : Option Nat) (v1 : Int32) (h : PH) : Im X (cX11_init, 2, RX11, "<init>", none, 2) 0 [some (.inr v0), some (.inl v1)] [] h (le_init_0 v0 v1 h) szV (kV X) := by
  unfold le_init_0
  refine im_aload_n (pc := 0) dX11_init_0 rfl rfl ?_
  refine cl_X11_1 su_init_im (pc := 1) (by decide) dX11_init_1 (Nat.le_of_ble_eq_true rfl) fun h51 => ?_
  refine im_aload_n (pc := 4) dX11_init_4 rfl rfl ?_
  refine im_iload_n (pc := 5) dX11_init_5 rfl rfl ?_
  refine im_pfF (pc := 6) fp_X11_7 (okT_i _) dX11_init_6 fun h52 => ?_
  exact im_vret (pc := 9) dX11_init_9
noncomputable def le_init (a0 : Option Nat) (a1 : Int32) (h : PH) : Option (PH) := grd (isC [9] a0 h) (le_init_0 a0 a1 h)
theorem le_init_im : IM_X11_init le_init 2 := by
  intro a0 a1 h h' e
  obtain ⟨e1, e2⟩ := grd_some e
  exact ⟨e1, SpV.of (k := 0) (plainFor_of_name (by decide)) rfl (fun X => Im.drop [true, true] rfl (le_init_0_ok X a0 a1 h)) e2⟩
theorem cl_X9_1 {X : CT} {cc : ByteArray} {nL : Nat} {mn : String} {ret : Option FieldType} {d d0 : Nat} {τ : Type} {pc : Nat} {lv : List (Option PV)} {st : List PV} {h : PH} {sz : τ → Nat × Nat} {K : τ → Prop} {f : Option Nat → PH → Option (PH)} (HR : IM_X8_init f d0) {a0 : Option Nat} {g : PH → Option τ} (hd : d0 + 1 ≤ d) (hdg : decode cc pc = .ok (.invokespecial 1, 3)) (hst : st.length ≤ 8) (kk : ∀ h', Im X (cc, nL, RX9, mn, ret, d) (pc + 3) lv st h' (g h') sz K) : Im X (cc, nL, RX9, mn, ret, d) pc lv (.inr a0 :: st) h ((f a0 h).bind g) sz K := by
  refine im_cV (y := yX8_init) (cY := cX8_init) (nY := 1) (rY := none) (d' := d0) (av := [.inr a0]) (fun h' e hX => ?_) (fun h' e => (HR _ _ _ e).2) hd (by decide) hst rfl kk
  obtain ⟨a, c, fs, rfl, ec, hm⟩ := isC_some (HR _ _ _ e).1
  exact cal_IN (n := 0) hX (lw_n q556 rfl) q535 q120 q536 rfl (by decide +kernel) rfl hdg

theorem apt_X9 : Apt 7 3 := apt_of rfl in_X9 tyX9 tyX9_ok nmX9
theorem fp_X9_7 : ∀ c ∈ [7], FPF RX9 7 c 0 .int := List.forall_mem_cons.mpr ⟨⟨RX9, TX9, 3, rfl, in_X9, by decide, apt_X9, rfl, rfl, by decide +kernel, q557⟩, fun _ h => absurd h List.not_mem_nil⟩
theorem fp_X9_13 : ∀ c ∈ [7], FPF RX9 13 c 1 (.object "TalkingPlots$Sum") := List.forall_mem_cons.mpr ⟨⟨RX9, TX9, 3, rfl, in_X9, by decide, apt_X9, rfl, rfl, by decide +kernel, q558⟩, fun _ h => absurd h List.not_mem_nil⟩
def IM_X9_init (f : Option Nat → Int32 → Option Nat → PH → Option (PH)) (d : Nat) : Prop := ∀ (a0 : Option Nat) (a1 : Int32) (a2 : Option Nat) (h : PH) (h' : PH), f a0 a1 a2 h = some h' → isC [7] a0 h = true ∧ SpV yX9_init cX9_init 3 none d [.inr a0, .inl a1, .inr a2] h h'
noncomputable def ro_init_0 (v0 : Option Nat) (v1 : Int32) (v2 : Option Nat) (h : PH) : Option (PH) :=
  (su_init v0 h).bind fun h51 =>
  (pf [7] 0 v0 (.inl v1) h51).bind fun h52 =>
  (pf [7] 1 v0 (.inr v2) h52).bind fun h53 =>
  some (h53)
theorem ro_init_0_ok (X : CT) (v0 : Option Nat) (v1 : Int32) (v2 : Option Nat) (h : PH) : Im X (cX9_init, 3, RX9, "<init>", none, 2) 0 [some (.inr v0), some (.inl v1), some (.inr v2)] [] h (ro_init_0 v0 v1 v2 h) szV (kV X) := by
  unfold ro_init_0
  refine im_aload_n (pc := 0) dX9_init_0 rfl rfl ?_
  refine cl_X9_1 su_init_im (pc := 1) (by decide) dX9_init_1 (Nat.le_of_ble_eq_true rfl) fun h51 => ?_
  refine im_aload_n (pc := 4) dX9_init_4 rfl rfl ?_
  refine im_iload_n (pc := 5) dX9_init_5 rfl rfl ?_
  refine im_pfF (pc := 6) fp_X9_7 (okT_i _) dX9_init_6 fun h52 => ?_
  refine im_aload_n (pc := 9) dX9_init_9 rfl rfl ?_
  refine im_aload_n (pc := 10) dX9_init_10 rfl rfl ?_
  refine im_pfF (pc := 11) fp_X9_13 (okT_o _ _) dX9_init_11 fun h53 => ?_
  exact im_vret (pc := 14) dX9_init_14
noncomputable def ro_init (a0 : Option Nat) (a1 : Int32) (a2 : Option Nat) (h : PH) : Option (PH) := grd (isC [7] a0 h) (ro_init_0 a0 a1 a2 h)
theorem ro_init_im : IM_X9_init ro_init 2 := by
  intro a0 a1 a2 h h' e
  obtain ⟨e1, e2⟩ := grd_some e
  exact ⟨e1, SpV.of (k := 0) (plainFor_of_name (by decide)) rfl (fun X => Im.drop [true, true, true] rfl (ro_init_0_ok X a0 a1 a2 h)) e2⟩
