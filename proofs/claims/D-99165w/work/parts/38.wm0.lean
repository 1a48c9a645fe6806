set_option maxRecDepth 100000
theorem apt_X6 : Apt 5 50 := apt_of rfl in_X6 tyX6 tyX6_ok nmX6
theorem fp_X6_7 : ∀ c ∈ [5], FPF RX6 7 c 0 (.array .int) := List.forall_mem_cons.mpr ⟨⟨RX6, TX6, 50, rfl, in_X6, by decide, apt_X6, rfl, rfl, by decide +kernel, q1177⟩, fun _ h => absurd h List.not_mem_nil⟩
theorem fp_X6_13 : ∀ c ∈ [5], FPF RX6 13 c 1 (.array .int) := List.forall_mem_cons.mpr ⟨⟨RX6, TX6, 50, rfl, in_X6, by decide, apt_X6, rfl, rfl, by decide +kernel, q1178⟩, fun _ h => absurd h List.not_mem_nil⟩
theorem fp_X6_16 : ∀ c ∈ [5], FPF RX6 16 c 2 (.array .int) := List.forall_mem_cons.mpr ⟨⟨RX6, TX6, 50, rfl, in_X6, by decide, apt_X6, rfl, rfl, by decide +kernel, q1179⟩, fun _ h => absurd h List.not_mem_nil⟩
theorem fp_X6_19 : ∀ c ∈ [5], FPF RX6 19 c 3 (.array .byte) := List.forall_mem_cons.mpr ⟨⟨RX6, TX6, 50, rfl, in_X6, by decide, apt_X6, rfl, rfl, by decide +kernel, q1180⟩, fun _ h => absurd h List.not_mem_nil⟩
theorem fp_X6_23 : ∀ c ∈ [5], FPF RX6 23 c 14 (.array .int) := List.forall_mem_cons.mpr ⟨⟨RX6, TX6, 50, rfl, in_X6, by decide, apt_X6, rfl, rfl, by decide +kernel, q1191⟩, fun _ h => absurd h List.not_mem_nil⟩
theorem fp_X6_26 : ∀ c ∈ [5], FPF RX6 26 c 15 (.array .int) := List.forall_mem_cons.mpr ⟨⟨RX6, TX6, 50, rfl, in_X6, by decide, apt_X6, rfl, rfl, by decide +kernel, q1192⟩, fun _ h => absurd h List.not_mem_nil⟩
theorem fp_X6_29 : ∀ c ∈ [5], FPF RX6 29 c 16 (.array .int) := List.forall_mem_cons.mpr ⟨⟨RX6, TX6, 50, rfl, in_X6, by decide, apt_X6, rfl, rfl, by decide +kernel, q1193⟩, fun _ h => absurd h List.not_mem_nil⟩
theorem fp_X6_32 : ∀ c ∈ [5], FPF RX6 32 c 17 (.array .int) := List.forall_mem_cons.mpr ⟨⟨RX6, TX6, 50, rfl, in_X6, by decide, apt_X6, rfl, rfl, by decide +kernel, q1194⟩, fun _ h => absurd h List.not_mem_nil⟩
theorem fp_X6_35 : ∀ c ∈ [5], FPF RX6 35 c 18 (.array .int) := List.forall_mem_cons.mpr ⟨⟨RX6, TX6, 50, rfl, in_X6, by decide, apt_X6, rfl, rfl, by decide +kernel, q1195⟩, fun _ h => absurd h List.not_mem_nil⟩
theorem fp_X6_38 : ∀ c ∈ [5], FPF RX6 38 c 19 (.array .int) := List.forall_mem_cons.mpr ⟨⟨RX6, TX6, 50, rfl, in_X6, by decide, apt_X6, rfl, rfl, by decide +kernel, q1196⟩, fun _ h => absurd h List.not_mem_nil⟩
theorem fp_X6_41 : ∀ c ∈ [5], FPF RX6 41 c 20 (.array .int) := List.forall_mem_cons.mpr ⟨⟨RX6, TX6, 50, rfl, in_X6, by decide, apt_X6, rfl, rfl, by decide +kernel, q1197⟩, fun _ h => absurd h List.not_mem_nil⟩
theorem fp_X6_44 : ∀ c ∈ [5], FPF RX6 44 c 21 (.array .int) := List.forall_mem_cons.mpr ⟨⟨RX6, TX6, 50, rfl, in_X6, by decide, apt_X6, rfl, rfl, by decide +kernel, q1198⟩, fun _ h => absurd h List.not_mem_nil⟩
theorem fp_X6_47 : ∀ c ∈ [5], FPF RX6 47 c 22 (.array .int) := List.forall_mem_cons.mpr ⟨⟨RX6, TX6, 50, rfl, in_X6, by decide, apt_X6, rfl, rfl, by decide +kernel, q1199⟩, fun _ h => absurd h List.not_mem_nil⟩
theorem fp_X6_50 : ∀ c ∈ [5], FPF RX6 50 c 23 (.array .int) := List.forall_mem_cons.mpr ⟨⟨RX6, TX6, 50, rfl, in_X6, by decide, apt_X6, rfl, rfl, by decide +kernel, q1200⟩, fun _ h => absurd h List.not_mem_nil⟩
theorem fp_X6_53 : ∀ c ∈ [5], FPF RX6 53 c 24 (.array .int) := List.forall_mem_cons.mpr ⟨⟨RX6, TX6, 50, rfl, in_X6, by decide, apt_X6, rfl, rfl, by decide +kernel, q1201⟩, fun _ h => absurd h List.not_mem_nil⟩
theorem fp_X6_56 : ∀ c ∈ [5], FPF RX6 56 c 25 (.array .int) := List.forall_mem_cons.mpr ⟨⟨RX6, TX6, 50, rfl, in_X6, by decide, apt_X6, rfl, rfl, by decide +kernel, q1202⟩, fun _ h => absurd h List.not_mem_nil⟩
theorem fp_X6_59 : ∀ c ∈ [5], FPF RX6 59 c 26 (.array .int) := List.forall_mem_cons.mpr ⟨⟨RX6, TX6, 50, rfl, in_X6, by decide, apt_X6, rfl, rfl, by decide +kernel, q1203⟩, fun _ h => absurd h List.not_mem_nil⟩
theorem fp_X6_62 : ∀ c ∈ [5], FPF RX6 62 c 28 (.array .int) := List.forall_mem_cons.mpr ⟨⟨RX6, TX6, 50, rfl, in_X6, by decide, apt_X6, rfl, rfl, by decide +kernel, q1205⟩, fun _ h => absurd h List.not_mem_nil⟩
theorem fp_X6_65 : ∀ c ∈ [5], FPF RX6 65 c 29 (.array .int) := List.forall_mem_cons.mpr ⟨⟨RX6, TX6, 50, rfl, in_X6, by decide, apt_X6, rfl, rfl, by decide +kernel, q1206⟩, fun _ h => absurd h List.not_mem_nil⟩
theorem fp_X6_68 : ∀ c ∈ [5], FPF RX6 68 c 30 (.array .int) := List.forall_mem_cons.mpr ⟨⟨RX6, TX6, 50, rfl, in_X6, by decide, apt_X6, rfl, rfl, by decide +kernel, q1207⟩, fun _ h => absurd h List.not_mem_nil⟩
theorem fp_X6_71 : ∀ c ∈ [5], FPF RX6 71 c 31 (.array .int) := List.forall_mem_cons.mpr ⟨⟨RX6, TX6, 50, rfl, in_X6, by decide, apt_X6, rfl, rfl, by decide +kernel, q1208⟩, fun _ h => absurd h List.not_mem_nil⟩
theorem fp_X6_74 : ∀ c ∈ [5], FPF RX6 74 c 32 (.array .int) := List.forall_mem_cons.mpr ⟨⟨RX6, TX6, 50, rfl, in_X6, by decide, apt_X6, rfl, rfl, by decide +kernel, q1209⟩, fun _ h => absurd h List.not_mem_nil⟩
theorem fp_X6_77 : ∀ c ∈ [5], FPF RX6 77 c 33 (.array .int) := List.forall_mem_cons.mpr ⟨⟨RX6, TX6, 50, rfl, in_X6, by decide, apt_X6, rfl, rfl, by decide +kernel, q1210⟩, fun _ h => absurd h List.not_mem_nil⟩
theorem fp_X6_80 : ∀ c ∈ [5], FPF RX6 80 c 38 (.array .int) := List.forall_mem_cons.mpr ⟨⟨RX6, TX6, 50, rfl, in_X6, by decide, apt_X6, rfl, rfl, by decide +kernel, q1215⟩, fun _ h => absurd h List.not_mem_nil⟩
theorem fp_X6_83 : ∀ c ∈ [5], FPF RX6 83 c 39 (.array .int) := List.forall_mem_cons.mpr ⟨⟨RX6, TX6, 50, rfl, in_X6, by decide, apt_X6, rfl, rfl, by decide +kernel, q1216⟩, fun _ h => absurd h List.not_mem_nil⟩
theorem fp_X6_86 : ∀ c ∈ [5], FPF RX6 86 c 40 (.array .int) := List.forall_mem_cons.mpr ⟨⟨RX6, TX6, 50, rfl, in_X6, by decide, apt_X6, rfl, rfl, by decide +kernel, q1217⟩, fun _ h => absurd h List.not_mem_nil⟩
theorem fp_X6_89 : ∀ c ∈ [5], FPF RX6 89 c 43 (.array .int) := List.forall_mem_cons.mpr ⟨⟨RX6, TX6, 50, rfl, in_X6, by decide, apt_X6, rfl, rfl, by decide +kernel, q1220⟩, fun _ h => absurd h List.not_mem_nil⟩
theorem fp_X6_92 : ∀ c ∈ [5], FPF RX6 92 c 44 (.array .int) := List.forall_mem_cons.mpr ⟨⟨RX6, TX6, 50, rfl, in_X6, by decide, apt_X6, rfl, rfl, by decide +kernel, q1221⟩, fun _ h => absurd h List.not_mem_nil⟩
theorem fp_X6_95 : ∀ c ∈ [5], FPF RX6 95 c 46 (.array .int) := List.forall_mem_cons.mpr ⟨⟨RX6, TX6, 50, rfl, in_X6, by decide, apt_X6, rfl, rfl, by decide +kernel, q1223⟩, fun _ h => absurd h List.not_mem_nil⟩
theorem fp_X6_98 : ∀ c ∈ [5], FPF RX6 98 c 47 (.array .int) := List.forall_mem_cons.mpr ⟨⟨RX6, TX6, 50, rfl, in_X6, by decide, apt_X6, rfl, rfl, by decide +kernel, q1224⟩, fun _ h => absurd h List.not_mem_nil⟩
theorem fp_X6_101 : ∀ c ∈ [5], FPF RX6 101 c 48 (.array .int) := List.forall_mem_cons.mpr ⟨⟨RX6, TX6, 50, rfl, in_X6, by decide, apt_X6, rfl, rfl, by decide +kernel, q1225⟩, fun _ h => absurd h List.not_mem_nil⟩
theorem fl_X6_7 : ∀ c ∈ [5], FL RX6 7 c 0 := List.forall_mem_cons.mpr ⟨⟨RX6, TX6, 50, rfl, in_X6, by decide, Or.inl q1177⟩, fun _ h => absurd h List.not_mem_nil⟩
def IM_X6_init (f : Option Nat → PH → Option (PH)) (d : Nat) : Prop := ∀ (a0 : Option Nat) (h : PH) (h' : PH), f a0 h = some h' → isC [5] a0 h = true ∧ SpV yX6_init cX6_init 2 none d [.inr a0] h h'
noncomputable def mo_init_b268 (v0 : Option Nat) (v1 : Int32) (h : PH) : Option ((Int32 × PH) ⊕ (PH)) :=
  (if 16 ≤ v1 then
  some (.inr h)
  else
  (gfr [5] 0 v0 h).bind fun r51 =>
  (ast 0 r51 (48 + v1) (-2) h).bind fun h52 =>
  some (.inl ((v1 + 1), h52)))
noncomputable def mo_init_L268 (v0 : Option Nat) (v1 : Int32) (h : PH) : Option (PH) :=
  iter (fun s : Int32 × PH => mo_init_b268 v0 s.1 s.2) (v1, h)
theorem mo_init_b268_ok (X : CT) (v0 : Option Nat) (v1 : Int32) (h : PH) : Im X (cX6_init, 2, RX6, "<init>", none, 1) 268 [some (.inr v0), some (.inl v1)] [] h (mo_init_b268 v0 v1 h) (ez (fun s : Int32 × PH => s.2) szV) (ek X 268 (fun s : Int32 × PH => [some (.inr v0), some (.inl s.1)]) (fun s : Int32 × PH => s.2) (kV X)) := by
  unfold mo_init_b268
  refine im_iload_n (pc := 268) dX6_init_268 rfl rfl ?_
  refine im_bipush (pc := 269) (v := 16) dX6_init_269 (by decide) ?_
  refine im_icmp_ge (pc := 271) (tgt := 291) dX6_init_271 (by decide) ?_ ?_
  · exact Im.outS (im_vret (pc := 291) dX6_init_291)
  · refine im_aload_n (pc := 274) dX6_init_274 rfl rfl ?_
    refine im_gr (pc := 275) fl_X6_7 dX6_init_275 fun r51 => ?_
    refine im_bipush (pc := 278) (v := 48) dX6_init_278 (by decide) ?_
    refine im_iload_n (pc := 280) dX6_init_280 rfl rfl ?_
    refine im_iadd (pc := 281) dX6_init_281 ?_
    refine im_bipush (pc := 282) (v := (-2)) dX6_init_282 (by decide) ?_
    refine im_iast (pc := 284) dX6_init_284 fun h52 => ?_
    refine im_iinc (pc := 285) (v := (v1 + 1)) (lv' := [some (.inr v0), some (.inl (v1 + 1))]) dX6_init_285 rfl rfl (by decide) rfl ?_
    refine im_goto (pc := 288) (tgt := 268) dX6_init_288 (by decide) ?_
    exact Im.back [true, true] rfl rfl
theorem mo_init_L268_ok (X : CT) (v0 : Option Nat) (v1 : Int32) (h : PH) : Im X (cX6_init, 2, RX6, "<init>", none, 1) 268 [some (.inr v0), some (.inl v1)] [] h (mo_init_L268 v0 v1 h) szV (kV X) := by
  unfold mo_init_L268
  exact Im.iter (lv := (fun s : Int32 × PH => [some (.inr v0), some (.inl s.1)])) (hp := (fun s : Int32 × PH => s.2)) (fun s => mo_init_b268_ok X v0 s.1 s.2) _ rfl rfl
noncomputable def mo_init_0 (v0 : Option Nat) (h : PH) : Option (PH) :=
  nul v0 none (
  (nwa 0 66 h).bind fun h51 =>
  (pf [5] 0 v0 (.inr (some h.1)) h51).bind fun h52 =>
  (nwa 0 66 h52).bind fun h53 =>
  (pf [5] 1 v0 (.inr (some h52.1)) h53).bind fun h54 =>
  (nwa 0 66 h54).bind fun h55 =>
  (pf [5] 2 v0 (.inr (some h54.1)) h55).bind fun h56 =>
  (nwa 1 260 h56).bind fun h57 =>
  (pf [5] 3 v0 (.inr (some h56.1)) h57).bind fun h58 =>
  (nwa 0 260 h58).bind fun h59 =>
  (pf [5] 14 v0 (.inr (some h58.1)) h59).bind fun h60 =>
  (nwa 0 260 h60).bind fun h61 =>
  (pf [5] 15 v0 (.inr (some h60.1)) h61).bind fun h62 =>
  (nwa 0 16 h62).bind fun h63 =>
  (pf [5] 16 v0 (.inr (some h62.1)) h63).bind fun h64 =>
  (nwa 0 16 h64).bind fun h65 =>
  (pf [5] 17 v0 (.inr (some h64.1)) h65).bind fun h66 =>
  (nwa 0 16 h66).bind fun h67 =>
  (pf [5] 18 v0 (.inr (some h66.1)) h67).bind fun h68 =>
  (nwa 0 16 h68).bind fun h69 =>
  (pf [5] 19 v0 (.inr (some h68.1)) h69).bind fun h70 =>
  (nwa 0 260 h70).bind fun h71 =>
  (pf [5] 20 v0 (.inr (some h70.1)) h71).bind fun h72 =>
  (nwa 0 16 h72).bind fun h73 =>
  (pf [5] 21 v0 (.inr (some h72.1)) h73).bind fun h74 =>
  (nwa 0 16 h74).bind fun h75 =>
  (pf [5] 22 v0 (.inr (some h74.1)) h75).bind fun h76 =>
  (nwa 0 16 h76).bind fun h77 =>
  (pf [5] 23 v0 (.inr (some h76.1)) h77).bind fun h78 =>
  (nwa 0 16 h78).bind fun h79 =>
  (pf [5] 24 v0 (.inr (some h78.1)) h79).bind fun h80 =>
  (nwa 0 260 h80).bind fun h81 =>
  (pf [5] 25 v0 (.inr (some h80.1)) h81).bind fun h82 =>
  (nwa 0 8 h82).bind fun h83 =>
  (pf [5] 26 v0 (.inr (some h82.1)) h83).bind fun h84 =>
  (nwa 0 24 h84).bind fun h85 =>
  (pf [5] 28 v0 (.inr (some h84.1)) h85).bind fun h86 =>
  (nwa 0 24 h86).bind fun h87 =>
  (pf [5] 29 v0 (.inr (some h86.1)) h87).bind fun h88 =>
  (nwa 0 24 h88).bind fun h89 =>
  (pf [5] 30 v0 (.inr (some h88.1)) h89).bind fun h90 =>
  (nwa 0 24 h90).bind fun h91 =>
  (pf [5] 31 v0 (.inr (some h90.1)) h91).bind fun h92 =>
  (nwa 0 24 h92).bind fun h93 =>
  (pf [5] 32 v0 (.inr (some h92.1)) h93).bind fun h94 =>
  (nwa 0 24 h94).bind fun h95 =>
  (pf [5] 33 v0 (.inr (some h94.1)) h95).bind fun h96 =>
  (nwa 0 7 h96).bind fun h97 =>
  (pf [5] 38 v0 (.inr (some h96.1)) h97).bind fun h98 =>
  (nwa 0 7 h98).bind fun h99 =>
  (pf [5] 39 v0 (.inr (some h98.1)) h99).bind fun h100 =>
  (nwa 0 16 h100).bind fun h101 =>
  (pf [5] 40 v0 (.inr (some h100.1)) h101).bind fun h102 =>
  (nwa 0 10 h102).bind fun h103 =>
  (pf [5] 43 v0 (.inr (some h102.1)) h103).bind fun h104 =>
  (nwa 0 1024 h104).bind fun h105 =>
  (pf [5] 44 v0 (.inr (some h104.1)) h105).bind fun h106 =>
  (nwa 0 20 h106).bind fun h107 =>
  (pf [5] 46 v0 (.inr (some h106.1)) h107).bind fun h108 =>
  (nwa 0 60 h108).bind fun h109 =>
  (pf [5] 47 v0 (.inr (some h108.1)) h109).bind fun h110 =>
  (nwa 0 60 h110).bind fun h111 =>
  (pf [5] 48 v0 (.inr (some h110.1)) h111).bind fun h112 =>
  (gfr [5] 0 v0 h112).bind fun r113 =>
  (ast 0 r113 65 1 h112).bind fun h114 =>
  mo_init_L268 v0 0 h114)
theorem mo_init_0_ok (X : CT) (v0 : Option Nat) (h : PH) : Im X (cX6_init, 2, RX6, "<init>", none, 1) 0 [some (.inr v0), none] [] h (mo_init_0 v0 h) szV (kV X) := by
  unfold mo_init_0
  refine im_aload_n (pc := 0) dX6_init_0 rfl rfl ?_
  refine im_objInit (pc := 1) (by decide) q1176 q138 q139 (Nat.le_of_ble_eq_true rfl) dX6_init_1 ?_
  refine im_aload_n (pc := 4) dX6_init_4 rfl rfl ?_
  refine im_bipush (pc := 5) (v := 66) dX6_init_5 (by decide) ?_
  refine im_newa (pc := 7) (t := 0) (n := 66) (Or.inl ⟨rfl, rfl⟩) (by decide) (by decide) (by decide) dX6_init_7 fun h51 => ?_
  refine im_pfF (pc := 9) fp_X6_7 (okT_a _ _) dX6_init_9 fun h52 => ?_
  refine im_aload_n (pc := 12) dX6_init_12 rfl rfl ?_
  refine im_bipush (pc := 13) (v := 66) dX6_init_13 (by decide) ?_
  refine im_newa (pc := 15) (t := 0) (n := 66) (Or.inl ⟨rfl, rfl⟩) (by decide) (by decide) (by decide) dX6_init_15 fun h53 => ?_
  refine im_pfF (pc := 17) fp_X6_13 (okT_a _ _) dX6_init_17 fun h54 => ?_
  refine im_aload_n (pc := 20) dX6_init_20 rfl rfl ?_
  refine im_bipush (pc := 21) (v := 66) dX6_init_21 (by decide) ?_
  refine im_newa (pc := 23) (t := 0) (n := 66) (Or.inl ⟨rfl, rfl⟩) (by decide) (by decide) (by decide) dX6_init_23 fun h55 => ?_
  refine im_pfF (pc := 25) fp_X6_16 (okT_a _ _) dX6_init_25 fun h56 => ?_
  refine im_aload_n (pc := 28) dX6_init_28 rfl rfl ?_
  refine im_sipush (pc := 29) (v := 260) dX6_init_29 (by decide) ?_
  refine im_newa (pc := 32) (t := 1) (n := 260) (Or.inr ⟨rfl, rfl⟩) (by decide) (by decide) (by decide) dX6_init_32 fun h57 => ?_
  refine im_pfF (pc := 34) fp_X6_19 (okT_a _ _) dX6_init_34 fun h58 => ?_
  refine im_aload_n (pc := 37) dX6_init_37 rfl rfl ?_
  refine im_sipush (pc := 38) (v := 260) dX6_init_38 (by decide) ?_
  refine im_newa (pc := 41) (t := 0) (n := 260) (Or.inl ⟨rfl, rfl⟩) (by decide) (by decide) (by decide) dX6_init_41 fun h59 => ?_
  refine im_pfF (pc := 43) fp_X6_23 (okT_a _ _) dX6_init_43 fun h60 => ?_
  refine im_aload_n (pc := 46) dX6_init_46 rfl rfl ?_
  refine im_sipush (pc := 47) (v := 260) dX6_init_47 (by decide) ?_
  refine im_newa (pc := 50) (t := 0) (n := 260) (Or.inl ⟨rfl, rfl⟩) (by decide) (by decide) (by decide) dX6_init_50 fun h61 => ?_
  refine im_pfF (pc := 52) fp_X6_26 (okT_a _ _) dX6_init_52 fun h62 => ?_
  refine im_aload_n (pc := 55) dX6_init_55 rfl rfl ?_
  refine im_bipush (pc := 56) (v := 16) dX6_init_56 (by decide) ?_
  refine im_newa (pc := 58) (t := 0) (n := 16) (Or.inl ⟨rfl, rfl⟩) (by decide) (by decide) (by decide) dX6_init_58 fun h63 => ?_
  refine im_pfF (pc := 60) fp_X6_29 (okT_a _ _) dX6_init_60 fun h64 => ?_
  refine im_aload_n (pc := 63) dX6_init_63 rfl rfl ?_
  refine im_bipush (pc := 64) (v := 16) dX6_init_64 (by decide) ?_
  refine im_newa (pc := 66) (t := 0) (n := 16) (Or.inl ⟨rfl, rfl⟩) (by decide) (by decide) (by decide) dX6_init_66 fun h65 => ?_
  refine im_pfF (pc := 68) fp_X6_32 (okT_a _ _) dX6_init_68 fun h66 => ?_
  refine im_aload_n (pc := 71) dX6_init_71 rfl rfl ?_
  refine im_bipush (pc := 72) (v := 16) dX6_init_72 (by decide) ?_
  refine im_newa (pc := 74) (t := 0) (n := 16) (Or.inl ⟨rfl, rfl⟩) (by decide) (by decide) (by decide) dX6_init_74 fun h67 => ?_
  refine im_pfF (pc := 76) fp_X6_35 (okT_a _ _) dX6_init_76 fun h68 => ?_
  refine im_aload_n (pc := 79) dX6_init_79 rfl rfl ?_
  refine im_bipush (pc := 80) (v := 16) dX6_init_80 (by decide) ?_
  refine im_newa (pc := 82) (t := 0) (n := 16) (Or.inl ⟨rfl, rfl⟩) (by decide) (by decide) (by decide) dX6_init_82 fun h69 => ?_
  refine im_pfF (pc := 84) fp_X6_38 (okT_a _ _) dX6_init_84 fun h70 => ?_
  refine im_aload_n (pc := 87) dX6_init_87 rfl rfl ?_
  refine im_sipush (pc := 88) (v := 260) dX6_init_88 (by decide) ?_
  refine im_newa (pc := 91) (t := 0) (n := 260) (Or.inl ⟨rfl, rfl⟩) (by decide) (by decide) (by decide) dX6_init_91 fun h71 => ?_
  refine im_pfF (pc := 93) fp_X6_41 (okT_a _ _) dX6_init_93 fun h72 => ?_
  refine im_aload_n (pc := 96) dX6_init_96 rfl rfl ?_
  refine im_bipush (pc := 97) (v := 16) dX6_init_97 (by decide) ?_
  refine im_newa (pc := 99) (t := 0) (n := 16) (Or.inl ⟨rfl, rfl⟩) (by decide) (by decide) (by decide) dX6_init_99 fun h73 => ?_
  refine im_pfF (pc := 101) fp_X6_44 (okT_a _ _) dX6_init_101 fun h74 => ?_
  refine im_aload_n (pc := 104) dX6_init_104 rfl rfl ?_
  refine im_bipush (pc := 105) (v := 16) dX6_init_105 (by decide) ?_
  refine im_newa (pc := 107) (t := 0) (n := 16) (Or.inl ⟨rfl, rfl⟩) (by decide) (by decide) (by decide) dX6_init_107 fun h75 => ?_
  refine im_pfF (pc := 109) fp_X6_47 (okT_a _ _) dX6_init_109 fun h76 => ?_
  refine im_aload_n (pc := 112) dX6_init_112 rfl rfl ?_
  refine im_bipush (pc := 113) (v := 16) dX6_init_113 (by decide) ?_
  refine im_newa (pc := 115) (t := 0) (n := 16) (Or.inl ⟨rfl, rfl⟩) (by decide) (by decide) (by decide) dX6_init_115 fun h77 => ?_
  refine im_pfF (pc := 117) fp_X6_50 (okT_a _ _) dX6_init_117 fun h78 => ?_
  refine im_aload_n (pc := 120) dX6_init_120 rfl rfl ?_
  refine im_bipush (pc := 121) (v := 16) dX6_init_121 (by decide) ?_
  refine im_newa (pc := 123) (t := 0) (n := 16) (Or.inl ⟨rfl, rfl⟩) (by decide) (by decide) (by decide) dX6_init_123 fun h79 => ?_
  refine im_pfF (pc := 125) fp_X6_53 (okT_a _ _) dX6_init_125 fun h80 => ?_
  refine im_aload_n (pc := 128) dX6_init_128 rfl rfl ?_
  refine im_sipush (pc := 129) (v := 260) dX6_init_129 (by decide) ?_
  refine im_newa (pc := 132) (t := 0) (n := 260) (Or.inl ⟨rfl, rfl⟩) (by decide) (by decide) (by decide) dX6_init_132 fun h81 => ?_
  refine im_pfF (pc := 134) fp_X6_56 (okT_a _ _) dX6_init_134 fun h82 => ?_
  refine im_aload_n (pc := 137) dX6_init_137 rfl rfl ?_
  refine im_bipush (pc := 138) (v := 8) dX6_init_138 (by decide) ?_
  refine im_newa (pc := 140) (t := 0) (n := 8) (Or.inl ⟨rfl, rfl⟩) (by decide) (by decide) (by decide) dX6_init_140 fun h83 => ?_
  refine im_pfF (pc := 142) fp_X6_59 (okT_a _ _) dX6_init_142 fun h84 => ?_
  refine im_aload_n (pc := 145) dX6_init_145 rfl rfl ?_
  refine im_bipush (pc := 146) (v := 24) dX6_init_146 (by decide) ?_
  refine im_newa (pc := 148) (t := 0) (n := 24) (Or.inl ⟨rfl, rfl⟩) (by decide) (by decide) (by decide) dX6_init_148 fun h85 => ?_
  refine im_pfF (pc := 150) fp_X6_62 (okT_a _ _) dX6_init_150 fun h86 => ?_
  refine im_aload_n (pc := 153) dX6_init_153 rfl rfl ?_
  refine im_bipush (pc := 154) (v := 24) dX6_init_154 (by decide) ?_
  refine im_newa (pc := 156) (t := 0) (n := 24) (Or.inl ⟨rfl, rfl⟩) (by decide) (by decide) (by decide) dX6_init_156 fun h87 => ?_
  refine im_pfF (pc := 158) fp_X6_65 (okT_a _ _) dX6_init_158 fun h88 => ?_
  refine im_aload_n (pc := 161) dX6_init_161 rfl rfl ?_
  refine im_bipush (pc := 162) (v := 24) dX6_init_162 (by decide) ?_
  refine im_newa (pc := 164) (t := 0) (n := 24) (Or.inl ⟨rfl, rfl⟩) (by decide) (by decide) (by decide) dX6_init_164 fun h89 => ?_
  refine im_pfF (pc := 166) fp_X6_68 (okT_a _ _) dX6_init_166 fun h90 => ?_
  refine im_aload_n (pc := 169) dX6_init_169 rfl rfl ?_
  refine im_bipush (pc := 170) (v := 24) dX6_init_170 (by decide) ?_
  refine im_newa (pc := 172) (t := 0) (n := 24) (Or.inl ⟨rfl, rfl⟩) (by decide) (by decide) (by decide) dX6_init_172 fun h91 => ?_
  refine im_pfF (pc := 174) fp_X6_71 (okT_a _ _) dX6_init_174 fun h92 => ?_
  refine im_aload_n (pc := 177) dX6_init_177 rfl rfl ?_
  refine im_bipush (pc := 178) (v := 24) dX6_init_178 (by decide) ?_
  refine im_newa (pc := 180) (t := 0) (n := 24) (Or.inl ⟨rfl, rfl⟩) (by decide) (by decide) (by decide) dX6_init_180 fun h93 => ?_
  refine im_pfF (pc := 182) fp_X6_74 (okT_a _ _) dX6_init_182 fun h94 => ?_
  refine im_aload_n (pc := 185) dX6_init_185 rfl rfl ?_
  refine im_bipush (pc := 186) (v := 24) dX6_init_186 (by decide) ?_
  refine im_newa (pc := 188) (t := 0) (n := 24) (Or.inl ⟨rfl, rfl⟩) (by decide) (by decide) (by decide) dX6_init_188 fun h95 => ?_
  refine im_pfF (pc := 190) fp_X6_77 (okT_a _ _) dX6_init_190 fun h96 => ?_
  refine im_aload_n (pc := 193) dX6_init_193 rfl rfl ?_
  refine im_bipush (pc := 194) (v := 7) dX6_init_194 (by decide) ?_
  refine im_newa (pc := 196) (t := 0) (n := 7) (Or.inl ⟨rfl, rfl⟩) (by decide) (by decide) (by decide) dX6_init_196 fun h97 => ?_
  refine im_pfF (pc := 198) fp_X6_80 (okT_a _ _) dX6_init_198 fun h98 => ?_
  refine im_aload_n (pc := 201) dX6_init_201 rfl rfl ?_
  refine im_bipush (pc := 202) (v := 7) dX6_init_202 (by decide) ?_
  refine im_newa (pc := 204) (t := 0) (n := 7) (Or.inl ⟨rfl, rfl⟩) (by decide) (by decide) (by decide) dX6_init_204 fun h99 => ?_
  refine im_pfF (pc := 206) fp_X6_83 (okT_a _ _) dX6_init_206 fun h100 => ?_
  refine im_aload_n (pc := 209) dX6_init_209 rfl rfl ?_
  refine im_bipush (pc := 210) (v := 16) dX6_init_210 (by decide) ?_
  refine im_newa (pc := 212) (t := 0) (n := 16) (Or.inl ⟨rfl, rfl⟩) (by decide) (by decide) (by decide) dX6_init_212 fun h101 => ?_
  refine im_pfF (pc := 214) fp_X6_86 (okT_a _ _) dX6_init_214 fun h102 => ?_
  refine im_aload_n (pc := 217) dX6_init_217 rfl rfl ?_
  refine im_bipush (pc := 218) (v := 10) dX6_init_218 (by decide) ?_
  refine im_newa (pc := 220) (t := 0) (n := 10) (Or.inl ⟨rfl, rfl⟩) (by decide) (by decide) (by decide) dX6_init_220 fun h103 => ?_
  refine im_pfF (pc := 222) fp_X6_89 (okT_a _ _) dX6_init_222 fun h104 => ?_
  refine im_aload_n (pc := 225) dX6_init_225 rfl rfl ?_
  refine im_sipush (pc := 226) (v := 1024) dX6_init_226 (by decide) ?_
  refine im_newa (pc := 229) (t := 0) (n := 1024) (Or.inl ⟨rfl, rfl⟩) (by decide) (by decide) (by decide) dX6_init_229 fun h105 => ?_
  refine im_pfF (pc := 231) fp_X6_92 (okT_a _ _) dX6_init_231 fun h106 => ?_
  refine im_aload_n (pc := 234) dX6_init_234 rfl rfl ?_
  refine im_bipush (pc := 235) (v := 20) dX6_init_235 (by decide) ?_
  refine im_newa (pc := 237) (t := 0) (n := 20) (Or.inl ⟨rfl, rfl⟩) (by decide) (by decide) (by decide) dX6_init_237 fun h107 => ?_
  refine im_pfF (pc := 239) fp_X6_95 (okT_a _ _) dX6_init_239 fun h108 => ?_
  refine im_aload_n (pc := 242) dX6_init_242 rfl rfl ?_
  refine im_bipush (pc := 243) (v := 60) dX6_init_243 (by decide) ?_
  refine im_newa (pc := 245) (t := 0) (n := 60) (Or.inl ⟨rfl, rfl⟩) (by decide) (by decide) (by decide) dX6_init_245 fun h109 => ?_
  refine im_pfF (pc := 247) fp_X6_98 (okT_a _ _) dX6_init_247 fun h110 => ?_
  refine im_aload_n (pc := 250) dX6_init_250 rfl rfl ?_
  refine im_bipush (pc := 251) (v := 60) dX6_init_251 (by decide) ?_
  refine im_newa (pc := 253) (t := 0) (n := 60) (Or.inl ⟨rfl, rfl⟩) (by decide) (by decide) (by decide) dX6_init_253 fun h111 => ?_
  refine im_pfF (pc := 255) fp_X6_101 (okT_a _ _) dX6_init_255 fun h112 => ?_
  refine im_aload_n (pc := 258) dX6_init_258 rfl rfl ?_
  refine im_gr (pc := 259) fl_X6_7 dX6_init_259 fun r113 => ?_
  refine im_bipush (pc := 262) (v := 65) dX6_init_262 (by decide) ?_
  refine im_iconst (pc := 264) (v := 1) dX6_init_264 (by decide) ?_
  refine im_iast (pc := 265) dX6_init_265 fun h114 => ?_
  refine im_iconst (pc := 266) (v := 0) dX6_init_266 (by decide) ?_
  refine im_istore_n (pc := 267) (lv' := [some (.inr v0), some (.inl 0)]) dX6_init_267 rfl (by decide) rfl ?_
  exact Im.drop [true, true] rfl (mo_init_L268_ok X v0 0 h114)
noncomputable def mo_init (a0 : Option Nat) (h : PH) : Option (PH) := grd (isC [5] a0 h) (mo_init_0 a0 h)
theorem mo_init_im : IM_X6_init mo_init 1 := by
  intro a0 h h' e
  obtain ⟨e1, e2⟩ := grd_some e
  exact ⟨e1, SpV.of (k := 1) (plainFor_of_name (by decide)) rfl (fun X => Im.drop [true, false] rfl (mo_init_0_ok X a0 h)) e2⟩
def IM_X6_in (f : Int32 → Int32 → Int32 → PH → Option (Int32)) (d : Nat) : Prop := ∀ (a0 : Int32) (a1 : Int32) (a2 : Int32) (h : PH) (r : Int32), f a0 a1 a2 h = some r → SpI yX6_in cX6_in 3 (some .boolean) d [.inl a0, .inl a1, .inl a2] h r h
noncomputable def mo_in_0 (v0 : Int32) (v1 : Int32) (v2 : Int32) (h : PH) : Option (Int32) :=
  (if v0 < v1 then
  some (0)
  else
  (if v2 < v0 then
  some (0)
  else
  some (1)))
theorem mo_in_0_ok (X : CT) (v0 : Int32) (v1 : Int32) (v2 : Int32) (h : PH) : Im X (cX6_in, 3, RX6, "in", (some .boolean), 1) 0 [some (.inl v0), some (.inl v1), some (.inl v2)] [] h (mo_in_0 v0 v1 v2 h) (szP h) (kP X h) := by
  unfold mo_in_0
  refine im_iload_n (pc := 0) dX6_in_0 rfl rfl ?_
  refine im_iload_n (pc := 1) dX6_in_1 rfl rfl ?_
  refine im_icmp_lt (pc := 2) (tgt := 14) dX6_in_2 (by decide) ?_ ?_
  · refine im_iconst (pc := 14) (v := 0) dX6_in_14 (by decide) ?_
    exact im_zretTP (pc := 15) (nar_z (Or.inl rfl)) dX6_in_15
  · refine im_iload_n (pc := 5) dX6_in_5 rfl rfl ?_
    refine im_iload_n (pc := 6) dX6_in_6 rfl rfl ?_
    refine im_icmp_gt (pc := 7) (tgt := 14) dX6_in_7 (by decide) ?_ ?_
    · refine im_iconst (pc := 14) (v := 0) dX6_in_14 (by decide) ?_
      exact im_zretTP (pc := 15) (nar_z (Or.inl rfl)) dX6_in_15
    · refine im_iconst (pc := 10) (v := 1) dX6_in_10 (by decide) ?_
      refine im_goto (pc := 11) (tgt := 15) dX6_in_11 (by decide) ?_
      exact im_zretTP (pc := 15) (nar_z (Or.inr rfl)) dX6_in_15
noncomputable def mo_in (a0 : Int32) (a1 : Int32) (a2 : Int32) (h : PH) : Option (Int32) := mo_in_0 a0 a1 a2 h
theorem mo_in_im : IM_X6_in mo_in 1 := by
  intro a0 a1 a2 h r e
  exact SpI.ofP (k := 0) (plainFor_of_name (by decide)) rfl (fun X => Im.drop [true, true, true] rfl (mo_in_0_ok X a0 a1 a2 h)) e
theorem cl_X6_104 {X : CT} {cc : ByteArray} {nL : Nat} {mn : String} {ret : Option FieldType} {d d0 : Nat} {τ : Type} {pc : Nat} {lv : List (Option PV)} {st : List PV} {h : PH} {sz : τ → Nat × Nat} {K : τ → Prop} {f : Int32 → Int32 → Int32 → PH → Option (Int32)} (HR : IM_X6_in f d0) {a0 : Int32} {a1 : Int32} {a2 : Int32} {g : Int32 → Option τ} (hd : d0 + 1 ≤ d) (hdg : decode cc pc = .ok (.invokestatic 104, 3)) (hst : st.length ≤ 8) (kk : ∀ r, Im X (cc, nL, RX6, mn, ret, d) (pc + 3) lv (.inl r :: st) h (g r) sz K) : Im X (cc, nL, RX6, mn, ret, d) pc lv (.inl a2 :: .inl a1 :: .inl a0 :: st) h ((f a0 a1 a2 h).bind g) sz K := by
  refine im_cP (y := yX6_in) (cY := cX6_in) (nY := 3) (rY := (some .boolean)) (d' := d0) (av := [.inl a0, .inl a1, .inl a2]) (fun r e hX => ?_) (fun r e => HR _ _ _ _ _ e) hd (by decide) hst rfl kk
  exact cal_S (n := 3) hX (lw_S q1332 q1333 q112 q1334) (by decide +kernel) rfl hdg

def IM_X6_person (f : Option Nat → Int32 → Int32 → Int32 → PH → Option (Int32 × PH)) (d : Nat) : Prop := ∀ (a0 : Option Nat) (a1 : Int32) (a2 : Int32) (a3 : Int32) (h : PH) (r : Int32) (h' : PH), f a0 a1 a2 a3 h = some (r, h') → isC [5] a0 h = true ∧ SpI yX6_person cX6_person 4 (some .boolean) d [.inr a0, .inl a1, .inl a2, .inl a3] h r h'
noncomputable def mo_person_0 (v0 : Option Nat) (v1 : Int32) (v2 : Int32) (v3 : Int32) (h : PH) : Option (Int32 × PH) :=
  (mo_in v1 0 15 h).bind fun x51 =>
  (if x51 = 0 then
  some ((0, h))
  else
  (mo_in v2 0 65535 h).bind fun x52 =>
  (if x52 = 0 then
  some ((0, h))
  else
  (mo_in v3 0 99 h).bind fun x53 =>
  (if x53 = 0 then
  some ((0, h))
  else
  (gfr [5] 0 v0 h).bind fun r54 =>
  (ast 0 r54 (0 + v1) 1 h).bind fun h55 =>
  (gfr [5] 0 v0 h55).bind fun r56 =>
  (ast 0 r56 (16 + v1) v2 h55).bind fun h57 =>
  (gfr [5] 0 v0 h57).bind fun r58 =>
  (ast 0 r58 (32 + v1) v3 h57).bind fun h59 =>
  (gfr [5] 0 v0 h59).bind fun r60 =>
  (ast 0 r60 (48 + v1) (-2) h59).bind fun h61 =>
  some ((1, h61)))))
theorem mo_person_0_ok (X : CT) (v0 : Option Nat) (v1 : Int32) (v2 : Int32) (v3 : Int32) (h : PH) : Im X (cX6_person, 4, RX6, "person", (some .boolean), 2) 0 [some (.inr v0), some (.inl v1), some (.inl v2), some (.inl v3)] [] h (mo_person_0 v0 v1 v2 v3 h) szI (kI X) := by
  unfold mo_person_0
  refine im_iload_n (pc := 0) dX6_person_0 rfl rfl ?_
  refine im_iconst (pc := 1) (v := 0) dX6_person_1 (by decide) ?_
  refine im_bipush (pc := 2) (v := 15) dX6_person_2 (by decide) ?_
  refine cl_X6_104 mo_in_im (pc := 4) (by decide) dX6_person_4 (Nat.le_of_ble_eq_true rfl) fun x51 => ?_
  refine im_if_eq (pc := 7) (tgt := 30) dX6_person_7 (by decide) ?_ ?_
  · refine im_iconst (pc := 30) (v := 0) dX6_person_30 (by decide) ?_
    exact im_zretT (pc := 31) (nar_z (Or.inl rfl)) dX6_person_31
  · refine im_iload_n (pc := 10) dX6_person_10 rfl rfl ?_
    refine im_iconst (pc := 11) (v := 0) dX6_person_11 (by decide) ?_
    refine im_ldc (pc := 12) q1335 dX6_person_12 ?_
    refine cl_X6_104 mo_in_im (pc := 14) (by decide) dX6_person_14 (Nat.le_of_ble_eq_true rfl) fun x52 => ?_
    refine im_if_eq (pc := 17) (tgt := 30) dX6_person_17 (by decide) ?_ ?_
    · refine im_iconst (pc := 30) (v := 0) dX6_person_30 (by decide) ?_
      exact im_zretT (pc := 31) (nar_z (Or.inl rfl)) dX6_person_31
    · refine im_iload_n (pc := 20) dX6_person_20 rfl rfl ?_
      refine im_iconst (pc := 21) (v := 0) dX6_person_21 (by decide) ?_
      refine im_bipush (pc := 22) (v := 99) dX6_person_22 (by decide) ?_
      refine cl_X6_104 mo_in_im (pc := 24) (by decide) dX6_person_24 (Nat.le_of_ble_eq_true rfl) fun x53 => ?_
      refine im_if_ne (pc := 27) (tgt := 32) dX6_person_27 (by decide) ?_ ?_
      · refine im_aload_n (pc := 32) dX6_person_32 rfl rfl ?_
        refine im_gr (pc := 33) fl_X6_7 dX6_person_33 fun r54 => ?_
        refine im_iconst (pc := 36) (v := 0) dX6_person_36 (by decide) ?_
        refine im_iload_n (pc := 37) dX6_person_37 rfl rfl ?_
        refine im_iadd (pc := 38) dX6_person_38 ?_
        refine im_iconst (pc := 39) (v := 1) dX6_person_39 (by decide) ?_
        refine im_iast (pc := 40) dX6_person_40 fun h55 => ?_
        refine im_aload_n (pc := 41) dX6_person_41 rfl rfl ?_
        refine im_gr (pc := 42) fl_X6_7 dX6_person_42 fun r56 => ?_
        refine im_bipush (pc := 45) (v := 16) dX6_person_45 (by decide) ?_
        refine im_iload_n (pc := 47) dX6_person_47 rfl rfl ?_
        refine im_iadd (pc := 48) dX6_person_48 ?_
        refine im_iload_n (pc := 49) dX6_person_49 rfl rfl ?_
        refine im_iast (pc := 50) dX6_person_50 fun h57 => ?_
        refine im_aload_n (pc := 51) dX6_person_51 rfl rfl ?_
        refine im_gr (pc := 52) fl_X6_7 dX6_person_52 fun r58 => ?_
        refine im_bipush (pc := 55) (v := 32) dX6_person_55 (by decide) ?_
        refine im_iload_n (pc := 57) dX6_person_57 rfl rfl ?_
        refine im_iadd (pc := 58) dX6_person_58 ?_
        refine im_iload_n (pc := 59) dX6_person_59 rfl rfl ?_
        refine im_iast (pc := 60) dX6_person_60 fun h59 => ?_
        refine im_aload_n (pc := 61) dX6_person_61 rfl rfl ?_
        refine im_gr (pc := 62) fl_X6_7 dX6_person_62 fun r60 => ?_
        refine im_bipush (pc := 65) (v := 48) dX6_person_65 (by decide) ?_
        refine im_iload_n (pc := 67) dX6_person_67 rfl rfl ?_
        refine im_iadd (pc := 68) dX6_person_68 ?_
        refine im_bipush (pc := 69) (v := (-2)) dX6_person_69 (by decide) ?_
        refine im_iast (pc := 71) dX6_person_71 fun h61 => ?_
        refine im_iconst (pc := 72) (v := 1) dX6_person_72 (by decide) ?_
        exact im_zretT (pc := 73) (nar_z (Or.inr rfl)) dX6_person_73
      · refine im_iconst (pc := 30) (v := 0) dX6_person_30 (by decide) ?_
        exact im_zretT (pc := 31) (nar_z (Or.inl rfl)) dX6_person_31
noncomputable def mo_person (a0 : Option Nat) (a1 : Int32) (a2 : Int32) (a3 : Int32) (h : PH) : Option (Int32 × PH) := grd (isC [5] a0 h) (mo_person_0 a0 a1 a2 a3 h)
theorem mo_person_im : IM_X6_person mo_person 2 := by
  intro a0 a1 a2 a3 h r h' e
  obtain ⟨e1, e2⟩ := grd_some e
  exact ⟨e1, SpI.of (k := 0) (plainFor_of_name (by decide)) rfl (fun X => Im.drop [true, true, true, true] rfl (mo_person_0_ok X a0 a1 a2 a3 h)) e2⟩
theorem fl_X6_19 : ∀ c ∈ [5], FL RX6 19 c 3 := List.forall_mem_cons.mpr ⟨⟨RX6, TX6, 50, rfl, in_X6, by decide, Or.inl q1180⟩, fun _ h => absurd h List.not_mem_nil⟩
theorem fl_X6_134 : ∀ c ∈ [5], FL RX6 134 c 4 := List.forall_mem_cons.mpr ⟨⟨RX6, TX6, 50, rfl, in_X6, by decide, Or.inl q1181⟩, fun _ h => absurd h List.not_mem_nil⟩
theorem fp_X6_134 : ∀ c ∈ [5], FP RX6 134 c 4 .int := List.forall_mem_cons.mpr ⟨⟨RX6, TX6, 50, rfl, in_X6, by decide, apt_X6, rfl, by decide +kernel, Or.inl q1181⟩, fun _ h => absurd h List.not_mem_nil⟩
def IM_X6_types (f : Option Nat → Int32 → PH → Option (PH)) (d : Nat) : Prop := ∀ (a0 : Option Nat) (a1 : Int32) (h : PH) (h' : PH), f a0 a1 h = some h' → isC [5] a0 h = true ∧ SpV yX6_types cX6_types 3 none d [.inr a0, .inl a1] h h'
noncomputable def mo_types_b2 (v0 : Option Nat) (v1 : Int32) (v2 : Int32) (h : PH) : Option ((Int32 × PH) ⊕ (PH)) :=
  (if v2 < 0 then
  some (.inr h)
  else
  (gfr [5] 3 v0 h).bind fun r51 =>
  (gfi [5] 4 v0 h).bind fun x52 =>
  (ast 1 r51 x52 ((v1 >>> ((8 * v2) &&& 31)).toInt8.toInt32).toInt8.toInt32 h).bind fun h53 =>
  (gfi [5] 4 v0 h53).bind fun x54 =>
  (pf [5] 4 v0 (.inl (x54 + 1)) h53).bind fun h55 =>
  some (.inl ((v2 + (-1)), h55)))
noncomputable def mo_types_L2 (v0 : Option Nat) (v1 : Int32) (v2 : Int32) (h : PH) : Option (PH) :=
  iter (fun s : Int32 × PH => mo_types_b2 v0 v1 s.1 s.2) (v2, h)
theorem mo_types_b2_ok (X : CT) (v0 : Option Nat) (v1 : Int32) (v2 : Int32) (h : PH) : Im X (cX6_types, 3, RX6, "types", none, 1) 2 [some (.inr v0), some (.inl v1), some (.inl v2)] [] h (mo_types_b2 v0 v1 v2 h) (ez (fun s : Int32 × PH => s.2) szV) (ek X 2 (fun s : Int32 × PH => [some (.inr v0), some (.inl v1), some (.inl s.1)]) (fun s : Int32 × PH => s.2) (kV X)) := by
  unfold mo_types_b2
  refine im_iload_n (pc := 2) dX6_types_2 rfl rfl ?_
  refine im_if_lt (pc := 3) (tgt := 38) dX6_types_3 (by decide) ?_ ?_
  · exact Im.outS (im_vret (pc := 38) dX6_types_38)
  · refine im_aload_n (pc := 6) dX6_types_6 rfl rfl ?_
    refine im_gr (pc := 7) fl_X6_19 dX6_types_7 fun r51 => ?_
    refine im_aload_n (pc := 10) dX6_types_10 rfl rfl ?_
    refine im_gi (pc := 11) fl_X6_134 dX6_types_11 fun x52 => ?_
    refine im_iload_n (pc := 14) dX6_types_14 rfl rfl ?_
    refine im_bipush (pc := 15) (v := 8) dX6_types_15 (by decide) ?_
    refine im_iload_n (pc := 17) dX6_types_17 rfl rfl ?_
    refine im_imul (pc := 18) dX6_types_18 ?_
    refine im_ishr (pc := 19) dX6_types_19 ?_
    refine im_i2b (pc := 20) dX6_types_20 ?_
    refine im_bast (pc := 21) dX6_types_21 fun h53 => ?_
    refine im_aload_n (pc := 22) dX6_types_22 rfl rfl ?_
    refine im_aload_n (pc := 23) dX6_types_23 rfl rfl ?_
    refine im_gi (pc := 24) fl_X6_134 dX6_types_24 fun x54 => ?_
    refine im_iconst (pc := 27) (v := 1) dX6_types_27 (by decide) ?_
    refine im_iadd (pc := 28) dX6_types_28 ?_
    refine im_pf (pc := 29) fp_X6_134 (okT_i _) dX6_types_29 fun h55 => ?_
    refine im_iinc (pc := 32) (v := (v2 + (-1))) (lv' := [some (.inr v0), some (.inl v1), some (.inl (v2 + (-1)))]) dX6_types_32 rfl rfl (by decide) rfl ?_
    refine im_goto (pc := 35) (tgt := 2) dX6_types_35 (by decide) ?_
    exact Im.back [true, true, true] rfl rfl
theorem mo_types_L2_ok (X : CT) (v0 : Option Nat) (v1 : Int32) (v2 : Int32) (h : PH) : Im X (cX6_types, 3, RX6, "types", none, 1) 2 [some (.inr v0), some (.inl v1), some (.inl v2)] [] h (mo_types_L2 v0 v1 v2 h) szV (kV X) := by
  unfold mo_types_L2
  exact Im.iter (lv := (fun s : Int32 × PH => [some (.inr v0), some (.inl v1), some (.inl s.1)])) (hp := (fun s : Int32 × PH => s.2)) (fun s => mo_types_b2_ok X v0 v1 s.1 s.2) _ rfl rfl
noncomputable def mo_types_0 (v0 : Option Nat) (v1 : Int32) (h : PH) : Option (PH) :=
  mo_types_L2 v0 v1 3 h
theorem mo_types_0_ok (X : CT) (v0 : Option Nat) (v1 : Int32) (h : PH) : Im X (cX6_types, 3, RX6, "types", none, 1) 0 [some (.inr v0), some (.inl v1), none] [] h (mo_types_0 v0 v1 h) szV (kV X) := by
  unfold mo_types_0
  refine im_iconst (pc := 0) (v := 3) dX6_types_0 (by decide) ?_
  refine im_istore_n (pc := 1) (lv' := [some (.inr v0), some (.inl v1), some (.inl 3)]) dX6_types_1 rfl (by decide) rfl ?_
  exact Im.drop [true, true, true] rfl (mo_types_L2_ok X v0 v1 3 h)
noncomputable def mo_types (a0 : Option Nat) (a1 : Int32) (h : PH) : Option (PH) := grd (isC [5] a0 h) (mo_types_0 a0 a1 h)
theorem mo_types_im : IM_X6_types mo_types 1 := by
  intro a0 a1 h h' e
  obtain ⟨e1, e2⟩ := grd_some e
  exact ⟨e1, SpV.of (k := 1) (plainFor_of_name (by decide)) rfl (fun X => Im.drop [true, true, false] rfl (mo_types_0_ok X a0 a1 h)) e2⟩
theorem cl_X6_138 {X : CT} {cc : ByteArray} {nL : Nat} {mn : String} {ret : Option FieldType} {d d0 : Nat} {τ : Type} {pc : Nat} {lv : List (Option PV)} {st : List PV} {h : PH} {sz : τ → Nat × Nat} {K : τ → Prop} {f : Option Nat → Int32 → PH → Option (PH)} (HR : IM_X6_types f d0) {a0 : Option Nat} {a1 : Int32} {g : PH → Option τ} (hd : d0 + 1 ≤ d) (hdg : decode cc pc = .ok (.invokevirtual 138, 3)) (hst : st.length ≤ 8) (kk : ∀ h', Im X (cc, nL, RX6, mn, ret, d) (pc + 3) lv st h' (g h') sz K) : Im X (cc, nL, RX6, mn, ret, d) pc lv (.inl a1 :: .inr a0 :: st) h ((f a0 a1 h).bind g) sz K := by
  refine im_cV (y := yX6_types) (cY := cX6_types) (nY := 3) (rY := none) (d' := d0) (av := [.inr a0, .inl a1]) (fun h' e hX => ?_) (fun h' e => (HR _ _ _ _ e).2) hd (by decide) hst rfl kk
  obtain ⟨a, c, fs, rfl, ec, hm⟩ := isC_some (HR _ _ _ _ e).1
  cases List.mem_singleton.mp hm
  exact cal_V (n := 1) hX (lw_V q1340 q1342 qs44 q112 q1343) (by decide +kernel) rfl rfl ec hdg

def IM_X6_feed (f : Option Nat → Int32 → Int32 → Int32 → Int32 → Int32 → PH → Option (Int32 × PH)) (d : Nat) : Prop := ∀ (a0 : Option Nat) (a1 : Int32) (a2 : Int32) (a3 : Int32) (a4 : Int32) (a5 : Int32) (h : PH) (r : Int32) (h' : PH), f a0 a1 a2 a3 a4 a5 h = some (r, h') → isC [5] a0 h = true ∧ SpI yX6_feed cX6_feed 6 (some .int) d [.inr a0, .inl a1, .inl a2, .inl a3, .inl a4, .inl a5] h r h'
noncomputable def mo_feed_0 (v0 : Option Nat) (v1 : Int32) (v2 : Int32) (v3 : Int32) (v4 : Int32) (v5 : Int32) (h : PH) : Option (Int32 × PH) :=
  (gfi [5] 4 v0 h).bind fun x51 =>
  (if (x51 + 20) ≤ 260 then
  (mo_types v0 v1 h).bind fun h52 =>
  (mo_types v0 v2 h52).bind fun h53 =>
  (mo_types v0 v3 h53).bind fun h54 =>
  (mo_types v0 v4 h54).bind fun h55 =>
  (mo_types v0 v5 h55).bind fun h56 =>
  (gfi [5] 4 v0 h56).bind fun x57 =>
  some ((x57, h56))
  else
  some (((-1), h)))
theorem mo_feed_0_ok (X : CT) (v0 : Option Nat) (v1 : Int32) (v2 : Int32) (v3 : Int32) (v4 : Int32) (v5 : Int32) (h : PH) : Im X (cX6_feed, 6, RX6, "feed", (some .int), 2) 0 [some (.inr v0), some (.inl v1), some (.inl v2), some (.inl v3), some (.inl v4), some (.inl v5)] [] h (mo_feed_0 v0 v1 v2 v3 v4 v5 h) szI (kI X) := by
  unfold mo_feed_0
  refine im_aload_n (pc := 0) dX6_feed_0 rfl rfl ?_
  refine im_gi (pc := 1) fl_X6_134 dX6_feed_1 fun x51 => ?_
  refine im_bipush (pc := 4) (v := 20) dX6_feed_4 (by decide) ?_
  refine im_iadd (pc := 6) dX6_feed_6 ?_
  refine im_sipush (pc := 7) (v := 260) dX6_feed_7 (by decide) ?_
  refine im_icmp_le (pc := 10) (tgt := 15) dX6_feed_10 (by decide) ?_ ?_
  · refine im_aload_n (pc := 15) dX6_feed_15 rfl rfl ?_
    refine im_iload_n (pc := 16) dX6_feed_16 rfl rfl ?_
    refine cl_X6_138 mo_types_im (pc := 17) (by decide) dX6_feed_17 (Nat.le_of_ble_eq_true rfl) fun h52 => ?_
    refine im_aload_n (pc := 20) dX6_feed_20 rfl rfl ?_
    refine im_iload_n (pc := 21) dX6_feed_21 rfl rfl ?_
    refine cl_X6_138 mo_types_im (pc := 22) (by decide) dX6_feed_22 (Nat.le_of_ble_eq_true rfl) fun h53 => ?_
    refine im_aload_n (pc := 25) dX6_feed_25 rfl rfl ?_
    refine im_iload_n (pc := 26) dX6_feed_26 rfl rfl ?_
    refine cl_X6_138 mo_types_im (pc := 27) (by decide) dX6_feed_27 (Nat.le_of_ble_eq_true rfl) fun h54 => ?_
    refine im_aload_n (pc := 30) dX6_feed_30 rfl rfl ?_
    refine im_iload (pc := 31) dX6_feed_31 rfl ?_
    refine cl_X6_138 mo_types_im (pc := 33) (by decide) dX6_feed_33 (Nat.le_of_ble_eq_true rfl) fun h55 => ?_
    refine im_aload_n (pc := 36) dX6_feed_36 rfl rfl ?_
    refine im_iload (pc := 37) dX6_feed_37 rfl ?_
    refine cl_X6_138 mo_types_im (pc := 39) (by decide) dX6_feed_39 (Nat.le_of_ble_eq_true rfl) fun h56 => ?_
    refine im_aload_n (pc := 42) dX6_feed_42 rfl rfl ?_
    refine im_gi (pc := 43) fl_X6_134 dX6_feed_43 fun x57 => ?_
    exact im_iret (pc := 46) dX6_feed_46
  · refine im_iconst (pc := 13) (v := (-1)) dX6_feed_13 (by decide) ?_
    exact im_iret (pc := 14) dX6_feed_14
noncomputable def mo_feed (a0 : Option Nat) (a1 : Int32) (a2 : Int32) (a3 : Int32) (a4 : Int32) (a5 : Int32) (h : PH) : Option (Int32 × PH) := grd (isC [5] a0 h) (mo_feed_0 a0 a1 a2 a3 a4 a5 h)
theorem mo_feed_im : IM_X6_feed mo_feed 2 := by
  intro a0 a1 a2 a3 a4 a5 h r h' e
  obtain ⟨e1, e2⟩ := grd_some e
  exact ⟨e1, SpI.of (k := 0) (plainFor_of_name (by decide)) rfl (fun X => Im.drop [true, true, true, true, true, true] rfl (mo_feed_0_ok X a0 a1 a2 a3 a4 a5 h)) e2⟩
theorem fp_X6_142 : ∀ c ∈ [5], FP RX6 142 c 5 .int := List.forall_mem_cons.mpr ⟨⟨RX6, TX6, 50, rfl, in_X6, by decide, apt_X6, rfl, by decide +kernel, Or.inl q1182⟩, fun _ h => absurd h List.not_mem_nil⟩
theorem fp_X6_145 : ∀ c ∈ [5], FP RX6 145 c 6 .int := List.forall_mem_cons.mpr ⟨⟨RX6, TX6, 50, rfl, in_X6, by decide, apt_X6, rfl, by decide +kernel, Or.inl q1183⟩, fun _ h => absurd h List.not_mem_nil⟩
theorem fp_X6_165 : ∀ c ∈ [5], FP RX6 165 c 10 .int := List.forall_mem_cons.mpr ⟨⟨RX6, TX6, 50, rfl, in_X6, by decide, apt_X6, rfl, by decide +kernel, Or.inl q1187⟩, fun _ h => absurd h List.not_mem_nil⟩
theorem fp_X6_219 : ∀ c ∈ [5], FP RX6 219 c 12 .int := List.forall_mem_cons.mpr ⟨⟨RX6, TX6, 50, rfl, in_X6, by decide, apt_X6, rfl, by decide +kernel, Or.inl q1189⟩, fun _ h => absurd h List.not_mem_nil⟩
def IM_X6_beginsText (f : Option Nat → Int32 → PH → Option (PH)) (d : Nat) : Prop := ∀ (a0 : Option Nat) (a1 : Int32) (h : PH) (h' : PH), f a0 a1 h = some h' → isC [5] a0 h = true ∧ SpV yX6_beginsText cX6_beginsText 2 none d [.inr a0, .inl a1] h h'
noncomputable def mo_beginsText_0 (v0 : Option Nat) (v1 : Int32) (h : PH) : Option (PH) :=
  (pf [5] 5 v0 (.inl 0) h).bind fun h51 =>
  (pf [5] 6 v0 (.inl v1) h51).bind fun h52 =>
  (pf [5] 10 v0 (.inl 0) h52).bind fun h53 =>
  (pf [5] 12 v0 (.inl 0) h53).bind fun h54 =>
  some (h54)
theorem mo_beginsText_0_ok (X : CT) (v0 : Option Nat) (v1 : Int32) (h : PH) : Im X (cX6_beginsText, 2, RX6, "beginsText", none, 1) 0 [some (.inr v0), some (.inl v1)] [] h (mo_beginsText_0 v0 v1 h) szV (kV X) := by
  unfold mo_beginsText_0
  refine im_aload_n (pc := 0) dX6_beginsText_0 rfl rfl ?_
  refine im_iconst (pc := 1) (v := 0) dX6_beginsText_1 (by decide) ?_
  refine im_pf (pc := 2) fp_X6_142 (okT_i _) dX6_beginsText_2 fun h51 => ?_
  refine im_aload_n (pc := 5) dX6_beginsText_5 rfl rfl ?_
  refine im_iload_n (pc := 6) dX6_beginsText_6 rfl rfl ?_
  refine im_pf (pc := 7) fp_X6_145 (okT_i _) dX6_beginsText_7 fun h52 => ?_
  refine im_aload_n (pc := 10) dX6_beginsText_10 rfl rfl ?_
  refine im_iconst (pc := 11) (v := 0) dX6_beginsText_11 (by decide) ?_
  refine im_pf (pc := 12) fp_X6_165 (okT_i _) dX6_beginsText_12 fun h53 => ?_
  refine im_aload_n (pc := 15) dX6_beginsText_15 rfl rfl ?_
  refine im_iconst (pc := 16) (v := 0) dX6_beginsText_16 (by decide) ?_
  refine im_pf (pc := 17) fp_X6_219 (okT_i _) dX6_beginsText_17 fun h54 => ?_
  exact im_vret (pc := 20) dX6_beginsText_20
noncomputable def mo_beginsText (a0 : Option Nat) (a1 : Int32) (h : PH) : Option (PH) := grd (isC [5] a0 h) (mo_beginsText_0 a0 a1 h)
theorem mo_beginsText_im : IM_X6_beginsText mo_beginsText 1 := by
  intro a0 a1 h h' e
  obtain ⟨e1, e2⟩ := grd_some e
  exact ⟨e1, SpV.of (k := 0) (plainFor_of_name (by decide)) rfl (fun X => Im.drop [true, true] rfl (mo_beginsText_0_ok X a0 a1 h)) e2⟩
theorem fl_X6_142 : ∀ c ∈ [5], FL RX6 142 c 5 := List.forall_mem_cons.mpr ⟨⟨RX6, TX6, 50, rfl, in_X6, by decide, Or.inl q1182⟩, fun _ h => absurd h List.not_mem_nil⟩
theorem fl_X6_145 : ∀ c ∈ [5], FL RX6 145 c 6 := List.forall_mem_cons.mpr ⟨⟨RX6, TX6, 50, rfl, in_X6, by decide, Or.inl q1183⟩, fun _ h => absurd h List.not_mem_nil⟩
def IM_X6_here (f : Option Nat → PH → Option (Int32)) (d : Nat) : Prop := ∀ (a0 : Option Nat) (h : PH) (r : Int32), f a0 h = some r → isC [5] a0 h = true ∧ SpI yX6_here cX6_here 1 (some .int) d [.inr a0] h r h
noncomputable def mo_here_0 (v0 : Option Nat) (h : PH) : Option (Int32) :=
  (gfi [5] 5 v0 h).bind fun x51 =>
  (gfi [5] 6 v0 h).bind fun x52 =>
  (if x52 ≤ x51 then
  some ((-1))
  else
  (gfr [5] 3 v0 h).bind fun r53 =>
  (gfi [5] 5 v0 h).bind fun x54 =>
  (ald 1 r53 x54 h).bind fun x55 =>
  some ((x55 &&& 255)))
theorem mo_here_0_ok (X : CT) (v0 : Option Nat) (h : PH) : Im X (cX6_here, 1, RX6, "here", (some .int), 1) 0 [some (.inr v0)] [] h (mo_here_0 v0 h) (szP h) (kP X h) := by
  unfold mo_here_0
  refine im_aload_n (pc := 0) dX6_here_0 rfl rfl ?_
  refine im_gi (pc := 1) fl_X6_142 dX6_here_1 fun x51 => ?_
  refine im_aload_n (pc := 4) dX6_here_4 rfl rfl ?_
  refine im_gi (pc := 5) fl_X6_145 dX6_here_5 fun x52 => ?_
  refine im_icmp_ge (pc := 8) (tgt := 27) dX6_here_8 (by decide) ?_ ?_
  · refine im_iconst (pc := 27) (v := (-1)) dX6_here_27 (by decide) ?_
    exact im_iretP (pc := 28) dX6_here_28
  · refine im_aload_n (pc := 11) dX6_here_11 rfl rfl ?_
    refine im_gr (pc := 12) fl_X6_19 dX6_here_12 fun r53 => ?_
    refine im_aload_n (pc := 15) dX6_here_15 rfl rfl ?_
    refine im_gi (pc := 16) fl_X6_142 dX6_here_16 fun x54 => ?_
    refine im_bald (pc := 19) dX6_here_19 fun x55 => ?_
    refine im_sipush (pc := 20) (v := 255) dX6_here_20 (by decide) ?_
    refine im_iand (pc := 23) dX6_here_23 ?_
    refine im_goto (pc := 24) (tgt := 28) dX6_here_24 (by decide) ?_
    exact im_iretP (pc := 28) dX6_here_28
noncomputable def mo_here (a0 : Option Nat) (h : PH) : Option (Int32) := grd (isC [5] a0 h) (mo_here_0 a0 h)
theorem mo_here_im : IM_X6_here mo_here 1 := by
  intro a0 h r e
  obtain ⟨e1, e2⟩ := grd_some e
  exact ⟨e1, SpI.ofP (k := 0) (plainFor_of_name (by decide)) rfl (fun X => Im.drop [true] rfl (mo_here_0_ok X a0 h)) e2⟩
theorem fp_X6_152 : ∀ c ∈ [5], FP RX6 152 c 7 .int := List.forall_mem_cons.mpr ⟨⟨RX6, TX6, 50, rfl, in_X6, by decide, apt_X6, rfl, by decide +kernel, Or.inl q1184⟩, fun _ h => absurd h List.not_mem_nil⟩
def IM_X6_wrongAt (f : Option Nat → Int32 → Int32 → PH → Option (Int32 × PH)) (d : Nat) : Prop := ∀ (a0 : Option Nat) (a1 : Int32) (a2 : Int32) (h : PH) (r : Int32) (h' : PH), f a0 a1 a2 h = some (r, h') → isC [5] a0 h = true ∧ SpI yX6_wrongAt cX6_wrongAt 3 (some .boolean) d [.inr a0, .inl a1, .inl a2] h r h'
noncomputable def mo_wrongAt_0 (v0 : Option Nat) (v1 : Int32) (v2 : Int32) (h : PH) : Option (Int32 × PH) :=
  (pf [5] 7 v0 (.inl (((-1000) * v1) - v2)) h).bind fun h51 =>
  some ((0, h51))
theorem mo_wrongAt_0_ok (X : CT) (v0 : Option Nat) (v1 : Int32) (v2 : Int32) (h : PH) : Im X (cX6_wrongAt, 3, RX6, "wrongAt", (some .boolean), 1) 0 [some (.inr v0), some (.inl v1), some (.inl v2)] [] h (mo_wrongAt_0 v0 v1 v2 h) szI (kI X) := by
  unfold mo_wrongAt_0
  refine im_aload_n (pc := 0) dX6_wrongAt_0 rfl rfl ?_
  refine im_sipush (pc := 1) (v := (-1000)) dX6_wrongAt_1 (by decide) ?_
  refine im_iload_n (pc := 4) dX6_wrongAt_4 rfl rfl ?_
  refine im_imul (pc := 5) dX6_wrongAt_5 ?_
  refine im_iload_n (pc := 6) dX6_wrongAt_6 rfl rfl ?_
  refine im_isub (pc := 7) dX6_wrongAt_7 ?_
  refine im_pf (pc := 8) fp_X6_152 (okT_i _) dX6_wrongAt_8 fun h51 => ?_
  refine im_iconst (pc := 11) (v := 0) dX6_wrongAt_11 (by decide) ?_
  exact im_zretT (pc := 12) (nar_z (Or.inl rfl)) dX6_wrongAt_12
noncomputable def mo_wrongAt (a0 : Option Nat) (a1 : Int32) (a2 : Int32) (h : PH) : Option (Int32 × PH) := grd (isC [5] a0 h) (mo_wrongAt_0 a0 a1 a2 h)
theorem mo_wrongAt_im : IM_X6_wrongAt mo_wrongAt 1 := by
  intro a0 a1 a2 h r h' e
  obtain ⟨e1, e2⟩ := grd_some e
  exact ⟨e1, SpI.of (k := 0) (plainFor_of_name (by decide)) rfl (fun X => Im.drop [true, true, true] rfl (mo_wrongAt_0_ok X a0 a1 a2 h)) e2⟩
theorem fl_X6_169 : ∀ c ∈ [5], FL RX6 169 c 9 := List.forall_mem_cons.mpr ⟨⟨RX6, TX6, 50, rfl, in_X6, by decide, Or.inl q1186⟩, fun _ h => absurd h List.not_mem_nil⟩
theorem fp_X6_169 : ∀ c ∈ [5], FP RX6 169 c 9 .int := List.forall_mem_cons.mpr ⟨⟨RX6, TX6, 50, rfl, in_X6, by decide, apt_X6, rfl, by decide +kernel, Or.inl q1186⟩, fun _ h => absurd h List.not_mem_nil⟩
theorem fl_X6_26 : ∀ c ∈ [5], FL RX6 26 c 15 := List.forall_mem_cons.mpr ⟨⟨RX6, TX6, 50, rfl, in_X6, by decide, Or.inl q1192⟩, fun _ h => absurd h List.not_mem_nil⟩
theorem fl_X6_172 : ∀ c ∈ [5], FL RX6 172 c 11 := List.forall_mem_cons.mpr ⟨⟨RX6, TX6, 50, rfl, in_X6, by decide, Or.inl q1188⟩, fun _ h => absurd h List.not_mem_nil⟩
theorem fp_X6_172 : ∀ c ∈ [5], FP RX6 172 c 11 .int := List.forall_mem_cons.mpr ⟨⟨RX6, TX6, 50, rfl, in_X6, by decide, apt_X6, rfl, by decide +kernel, Or.inl q1188⟩, fun _ h => absurd h List.not_mem_nil⟩
theorem cl_X6_155 {X : CT} {cc : ByteArray} {nL : Nat} {mn : String} {ret : Option FieldType} {d d0 : Nat} {τ : Type} {pc : Nat} {lv : List (Option PV)} {st : List PV} {h : PH} {sz : τ → Nat × Nat} {K : τ → Prop} {f : Option Nat → Int32 → Int32 → PH → Option (Int32 × PH)} (HR : IM_X6_wrongAt f d0) {a0 : Option Nat} {a1 : Int32} {a2 : Int32} {g : Int32 → PH → Option τ} (hd : d0 + 1 ≤ d) (hdg : decode cc pc = .ok (.invokevirtual 155, 3)) (hst : st.length ≤ 8) (kk : ∀ r h', Im X (cc, nL, RX6, mn, ret, d) (pc + 3) lv (.inl r :: st) h' (g r h') sz K) : Im X (cc, nL, RX6, mn, ret, d) pc lv (.inl a2 :: .inl a1 :: .inr a0 :: st) h (bd2 (f a0 a1 a2 h) g) sz K := by
  refine im_cI (y := yX6_wrongAt) (cY := cX6_wrongAt) (nY := 3) (rY := (some .boolean)) (d' := d0) (av := [.inr a0, .inl a1, .inl a2]) (fun r h' e hX => ?_) (fun r h' e => (HR _ _ _ _ _ _ e).2) hd (by decide) hst rfl kk
  obtain ⟨a, c, fs, rfl, ec, hm⟩ := isC_some (HR _ _ _ _ _ _ e).1
  cases List.mem_singleton.mp hm
  exact cal_V (n := 2) hX (lw_V q1360 q1362 qs48 q112 q1363) (by decide +kernel) rfl rfl ec hdg

def IM_X6_opens (f : Option Nat → Int32 → PH → Option (Int32 × PH)) (d : Nat) : Prop := ∀ (a0 : Option Nat) (a1 : Int32) (h : PH) (r : Int32) (h' : PH), f a0 a1 h = some (r, h') → isC [5] a0 h = true ∧ SpI yX6_opens cX6_opens 2 (some .boolean) d [.inr a0, .inl a1] h r h'
noncomputable def mo_opens_0 (v0 : Option Nat) (v1 : Int32) (h : PH) : Option (Int32 × PH) :=
  (gfi [5] 9 v0 h).bind fun x51 =>
  (if x51 = 6 then
  (gfi [5] 5 v0 h).bind fun x61 =>
  bd2 (mo_wrongAt v0 5 x61 h) fun x63 h62 =>
  (zok x63).bind fun x64 => some ((x64, h62))
  else
  (gfi [5] 9 v0 h).bind fun x52 =>
  (pf [5] 9 v0 (.inl (x52 + 1)) h).bind fun h53 =>
  (gfr [5] 15 v0 h53).bind fun r54 =>
  (gfi [5] 11 v0 h53).bind fun x55 =>
  (ast 0 r54 x55 (1048576 * v1) h53).bind fun h56 =>
  (gfi [5] 11 v0 h56).bind fun x57 =>
  (pf [5] 11 v0 (.inl (x57 + 1)) h56).bind fun h58 =>
  (gfi [5] 5 v0 h58).bind fun x59 =>
  (pf [5] 5 v0 (.inl (x59 + 1)) h58).bind fun h60 =>
  some ((1, h60)))
theorem mo_opens_0_ok (X : CT) (v0 : Option Nat) (v1 : Int32) (h : PH) : Im X (cX6_opens, 2, RX6, "opens", (some .boolean), 2) 0 [some (.inr v0), some (.inl v1)] [] h (mo_opens_0 v0 v1 h) szI (kI X) := by
  unfold mo_opens_0
  refine im_aload_n (pc := 0) dX6_opens_0 rfl rfl ?_
  refine im_gi (pc := 1) fl_X6_169 dX6_opens_1 fun x51 => ?_
  refine im_bipush (pc := 4) (v := 6) dX6_opens_4 (by decide) ?_
  refine im_icmp_ne (pc := 6) (tgt := 19) dX6_opens_6 (by decide) ?_ ?_
  · refine im_aload_n (pc := 19) dX6_opens_19 rfl rfl ?_
    refine im_aload_n (pc := 20) dX6_opens_20 rfl rfl ?_
    refine im_gi (pc := 21) fl_X6_169 dX6_opens_21 fun x52 => ?_
    refine im_iconst (pc := 24) (v := 1) dX6_opens_24 (by decide) ?_
    refine im_iadd (pc := 25) dX6_opens_25 ?_
    refine im_pf (pc := 26) fp_X6_169 (okT_i _) dX6_opens_26 fun h53 => ?_
    refine im_aload_n (pc := 29) dX6_opens_29 rfl rfl ?_
    refine im_gr (pc := 30) fl_X6_26 dX6_opens_30 fun r54 => ?_
    refine im_aload_n (pc := 33) dX6_opens_33 rfl rfl ?_
    refine im_gi (pc := 34) fl_X6_172 dX6_opens_34 fun x55 => ?_
    refine im_ldc (pc := 37) q1376 dX6_opens_37 ?_
    refine im_iload_n (pc := 39) dX6_opens_39 rfl rfl ?_
    refine im_imul (pc := 40) dX6_opens_40 ?_
    refine im_iast (pc := 41) dX6_opens_41 fun h56 => ?_
    refine im_aload_n (pc := 42) dX6_opens_42 rfl rfl ?_
    refine im_aload_n (pc := 43) dX6_opens_43 rfl rfl ?_
    refine im_gi (pc := 44) fl_X6_172 dX6_opens_44 fun x57 => ?_
    refine im_iconst (pc := 47) (v := 1) dX6_opens_47 (by decide) ?_
    refine im_iadd (pc := 48) dX6_opens_48 ?_
    refine im_pf (pc := 49) fp_X6_172 (okT_i _) dX6_opens_49 fun h58 => ?_
    refine im_aload_n (pc := 52) dX6_opens_52 rfl rfl ?_
    refine im_aload_n (pc := 53) dX6_opens_53 rfl rfl ?_
    refine im_gi (pc := 54) fl_X6_142 dX6_opens_54 fun x59 => ?_
    refine im_iconst (pc := 57) (v := 1) dX6_opens_57 (by decide) ?_
    refine im_iadd (pc := 58) dX6_opens_58 ?_
    refine im_pf (pc := 59) fp_X6_142 (okT_i _) dX6_opens_59 fun h60 => ?_
    refine im_iconst (pc := 62) (v := 1) dX6_opens_62 (by decide) ?_
    exact im_zretT (pc := 63) (nar_z (Or.inr rfl)) dX6_opens_63
  · refine im_aload_n (pc := 9) dX6_opens_9 rfl rfl ?_
    refine im_iconst (pc := 10) (v := 5) dX6_opens_10 (by decide) ?_
    refine im_aload_n (pc := 11) dX6_opens_11 rfl rfl ?_
    refine im_gi (pc := 12) fl_X6_142 dX6_opens_12 fun x61 => ?_
    refine cl_X6_155 mo_wrongAt_im (pc := 15) (by decide) dX6_opens_15 (Nat.le_of_ble_eq_true rfl) fun x63 h62 => ?_
    refine im_zok fun x64 hz => ?_
    exact im_zretT (pc := 18) (nar_z hz) dX6_opens_18
noncomputable def mo_opens (a0 : Option Nat) (a1 : Int32) (h : PH) : Option (Int32 × PH) := grd (isC [5] a0 h) (mo_opens_0 a0 a1 h)
theorem mo_opens_im : IM_X6_opens mo_opens 2 := by
  intro a0 a1 h r h' e
  obtain ⟨e1, e2⟩ := grd_some e
  exact ⟨e1, SpI.of (k := 0) (plainFor_of_name (by decide)) rfl (fun X => Im.drop [true, true] rfl (mo_opens_0_ok X a0 a1 h)) e2⟩
theorem cl_X6_148 {X : CT} {cc : ByteArray} {nL : Nat} {mn : String} {ret : Option FieldType} {d d0 : Nat} {τ : Type} {pc : Nat} {lv : List (Option PV)} {st : List PV} {h : PH} {sz : τ → Nat × Nat} {K : τ → Prop} {f : Option Nat → PH → Option (Int32)} (HR : IM_X6_here f d0) {a0 : Option Nat} {g : Int32 → Option τ} (hd : d0 + 1 ≤ d) (hdg : decode cc pc = .ok (.invokevirtual 148, 3)) (hst : st.length ≤ 8) (kk : ∀ r, Im X (cc, nL, RX6, mn, ret, d) (pc + 3) lv (.inl r :: st) h (g r) sz K) : Im X (cc, nL, RX6, mn, ret, d) pc lv (.inr a0 :: st) h ((f a0 h).bind g) sz K := by
  refine im_cP (y := yX6_here) (cY := cX6_here) (nY := 1) (rY := (some .int)) (d' := d0) (av := [.inr a0]) (fun r e hX => ?_) (fun r e => (HR _ _ _ e).2) hd (by decide) hst rfl kk
  obtain ⟨a, c, fs, rfl, ec, hm⟩ := isC_some (HR _ _ _ e).1
  cases List.mem_singleton.mp hm
  exact cal_V (n := 0) hX (lw_V q1356 q1358 qs47 q112 q1359) (by decide +kernel) rfl rfl ec hdg

def IM_X6_isDigit (f : Option Nat → PH → Option (Int32)) (d : Nat) : Prop := ∀ (a0 : Option Nat) (h : PH) (r : Int32), f a0 h = some r → isC [5] a0 h = true ∧ SpI yX6_isDigit cX6_isDigit 1 (some .boolean) d [.inr a0] h r h
noncomputable def mo_isDigit_0 (v0 : Option Nat) (h : PH) : Option (Int32) :=
  (mo_here v0 h).bind fun x51 =>
  (if x51 < 48 then
  some (0)
  else
  (mo_here v0 h).bind fun x52 =>
  (if 57 < x52 then
  some (0)
  else
  some (1)))
theorem mo_isDigit_0_ok (X : CT) (v0 : Option Nat) (h : PH) : Im X (cX6_isDigit, 1, RX6, "isDigit", (some .boolean), 2) 0 [some (.inr v0)] [] h (mo_isDigit_0 v0 h) (szP h) (kP X h) := by
  unfold mo_isDigit_0
  refine im_aload_n (pc := 0) dX6_isDigit_0 rfl rfl ?_
  refine cl_X6_148 mo_here_im (pc := 1) (by decide) dX6_isDigit_1 (Nat.le_of_ble_eq_true rfl) fun x51 => ?_
  refine im_bipush (pc := 4) (v := 48) dX6_isDigit_4 (by decide) ?_
  refine im_icmp_lt (pc := 6) (tgt := 22) dX6_isDigit_6 (by decide) ?_ ?_
  · refine im_iconst (pc := 22) (v := 0) dX6_isDigit_22 (by decide) ?_
    exact im_zretTP (pc := 23) (nar_z (Or.inl rfl)) dX6_isDigit_23
  · refine im_aload_n (pc := 9) dX6_isDigit_9 rfl rfl ?_
    refine cl_X6_148 mo_here_im (pc := 10) (by decide) dX6_isDigit_10 (Nat.le_of_ble_eq_true rfl) fun x52 => ?_
    refine im_bipush (pc := 13) (v := 57) dX6_isDigit_13 (by decide) ?_
    refine im_icmp_gt (pc := 15) (tgt := 22) dX6_isDigit_15 (by decide) ?_ ?_
    · refine im_iconst (pc := 22) (v := 0) dX6_isDigit_22 (by decide) ?_
      exact im_zretTP (pc := 23) (nar_z (Or.inl rfl)) dX6_isDigit_23
    · refine im_iconst (pc := 18) (v := 1) dX6_isDigit_18 (by decide) ?_
      refine im_goto (pc := 19) (tgt := 23) dX6_isDigit_19 (by decide) ?_
      exact im_zretTP (pc := 23) (nar_z (Or.inr rfl)) dX6_isDigit_23
noncomputable def mo_isDigit (a0 : Option Nat) (h : PH) : Option (Int32) := grd (isC [5] a0 h) (mo_isDigit_0 a0 h)
theorem mo_isDigit_im : IM_X6_isDigit mo_isDigit 2 := by
  intro a0 h r e
  obtain ⟨e1, e2⟩ := grd_some e
  exact ⟨e1, SpI.ofP (k := 0) (plainFor_of_name (by decide)) rfl (fun X => Im.drop [true] rfl (mo_isDigit_0_ok X a0 h)) e2⟩
theorem fp_X6_158 : ∀ c ∈ [5], FP RX6 158 c 8 .int := List.forall_mem_cons.mpr ⟨⟨RX6, TX6, 50, rfl, in_X6, by decide, apt_X6, rfl, by decide +kernel, Or.inl q1185⟩, fun _ h => absurd h List.not_mem_nil⟩
theorem cl_X6_161 {X : CT} {cc : ByteArray} {nL : Nat} {mn : String} {ret : Option FieldType} {d d0 : Nat} {τ : Type} {pc : Nat} {lv : List (Option PV)} {st : List PV} {h : PH} {sz : τ → Nat × Nat} {K : τ → Prop} {f : Option Nat → PH → Option (Int32)} (HR : IM_X6_isDigit f d0) {a0 : Option Nat} {g : Int32 → Option τ} (hd : d0 + 1 ≤ d) (hdg : decode cc pc = .ok (.invokevirtual 161, 3)) (hst : st.length ≤ 8) (kk : ∀ r, Im X (cc, nL, RX6, mn, ret, d) (pc + 3) lv (.inl r :: st) h (g r) sz K) : Im X (cc, nL, RX6, mn, ret, d) pc lv (.inr a0 :: st) h ((f a0 h).bind g) sz K := by
  refine im_cP (y := yX6_isDigit) (cY := cX6_isDigit) (nY := 1) (rY := (some .boolean)) (d' := d0) (av := [.inr a0]) (fun r e hX => ?_) (fun r e => (HR _ _ _ e).2) hd (by decide) hst rfl kk
  obtain ⟨a, c, fs, rfl, ec, hm⟩ := isC_some (HR _ _ _ e).1
  cases List.mem_singleton.mp hm
  exact cal_V (n := 0) hX (lw_V q1377 q1379 qs52 q112 q1380) (by decide +kernel) rfl rfl ec hdg

theorem fl_X6_158 : ∀ c ∈ [5], FL RX6 158 c 8 := List.forall_mem_cons.mpr ⟨⟨RX6, TX6, 50, rfl, in_X6, by decide, Or.inl q1185⟩, fun _ h => absurd h List.not_mem_nil⟩
def IM_X6_readsNumber (f : Option Nat → PH → Option (Int32 × PH)) (d : Nat) : Prop := ∀ (a0 : Option Nat) (h : PH) (r : Int32) (h' : PH), f a0 h = some (r, h') → isC [5] a0 h = true ∧ SpI yX6_readsNumber cX6_readsNumber 2 (some .boolean) d [.inr a0] h r h'
noncomputable def mo_readsNumber_b10 (v0 : Option Nat) (v1 : Int32) (h : PH) : Option ((PH) ⊕ (Int32 × PH)) :=
  (mo_isDigit v0 h).bind fun x51 =>
  (if x51 = 0 then
  some (.inr ((1, h)))
  else
  (gfi [5] 5 v0 h).bind fun x52 =>
  (if x52 = (v1 + 5) then
  (gfi [5] 5 v0 h).bind fun x58 =>
  bd2 (mo_wrongAt v0 2 x58 h) fun x60 h59 =>
  (zok x60).bind fun x61 => some (.inr ((x61, h59)))
  else
  (gfi [5] 8 v0 h).bind fun x53 =>
  (mo_here v0 h).bind fun x54 =>
  (pf [5] 8 v0 (.inl (((10 * x53) + x54) - 48)) h).bind fun h55 =>
  (gfi [5] 5 v0 h55).bind fun x56 =>
  (pf [5] 5 v0 (.inl (x56 + 1)) h55).bind fun h57 =>
  some (.inl h57)))
noncomputable def mo_readsNumber_L10 (v0 : Option Nat) (v1 : Int32) (h : PH) : Option (Int32 × PH) :=
  iter (fun s : PH => mo_readsNumber_b10 v0 v1 s) h
theorem mo_readsNumber_b10_ok (X : CT) (v0 : Option Nat) (v1 : Int32) (h : PH) : Im X (cX6_readsNumber, 2, RX6, "readsNumber", (some .boolean), 3) 10 [some (.inr v0), some (.inl v1)] [] h (mo_readsNumber_b10 v0 v1 h) (ez (fun s : PH => s) szI) (ek X 10 (fun s : PH => [some (.inr v0), some (.inl v1)]) (fun s : PH => s) (kI X)) := by
  unfold mo_readsNumber_b10
  refine im_aload_n (pc := 10) dX6_readsNumber_10 rfl rfl ?_
  refine cl_X6_161 mo_isDigit_im (pc := 11) (by decide) dX6_readsNumber_11 (Nat.le_of_ble_eq_true rfl) fun x51 => ?_
  refine im_if_eq (pc := 14) (tgt := 69) dX6_readsNumber_14 (by decide) ?_ ?_
  · refine im_iconst (pc := 69) (v := 1) dX6_readsNumber_69 (by decide) ?_
    exact Im.outS (im_zretT (pc := 70) (nar_z (Or.inr rfl)) dX6_readsNumber_70)
  · refine im_aload_n (pc := 17) dX6_readsNumber_17 rfl rfl ?_
    refine im_gi (pc := 18) fl_X6_142 dX6_readsNumber_18 fun x52 => ?_
    refine im_iload_n (pc := 21) dX6_readsNumber_21 rfl rfl ?_
    refine im_iconst (pc := 22) (v := 5) dX6_readsNumber_22 (by decide) ?_
    refine im_iadd (pc := 23) dX6_readsNumber_23 ?_
    refine im_icmp_ne (pc := 24) (tgt := 37) dX6_readsNumber_24 (by decide) ?_ ?_
    · refine im_aload_n (pc := 37) dX6_readsNumber_37 rfl rfl ?_
      refine im_bipush (pc := 38) (v := 10) dX6_readsNumber_38 (by decide) ?_
      refine im_aload_n (pc := 40) dX6_readsNumber_40 rfl rfl ?_
      refine im_gi (pc := 41) fl_X6_158 dX6_readsNumber_41 fun x53 => ?_
      refine im_imul (pc := 44) dX6_readsNumber_44 ?_
      refine im_aload_n (pc := 45) dX6_readsNumber_45 rfl rfl ?_
      refine cl_X6_148 mo_here_im (pc := 46) (by decide) dX6_readsNumber_46 (Nat.le_of_ble_eq_true rfl) fun x54 => ?_
      refine im_iadd (pc := 49) dX6_readsNumber_49 ?_
      refine im_bipush (pc := 50) (v := 48) dX6_readsNumber_50 (by decide) ?_
      refine im_isub (pc := 52) dX6_readsNumber_52 ?_
      refine im_pf (pc := 53) fp_X6_158 (okT_i _) dX6_readsNumber_53 fun h55 => ?_
      refine im_aload_n (pc := 56) dX6_readsNumber_56 rfl rfl ?_
      refine im_aload_n (pc := 57) dX6_readsNumber_57 rfl rfl ?_
      refine im_gi (pc := 58) fl_X6_142 dX6_readsNumber_58 fun x56 => ?_
      refine im_iconst (pc := 61) (v := 1) dX6_readsNumber_61 (by decide) ?_
      refine im_iadd (pc := 62) dX6_readsNumber_62 ?_
      refine im_pf (pc := 63) fp_X6_142 (okT_i _) dX6_readsNumber_63 fun h57 => ?_
      refine im_goto (pc := 66) (tgt := 10) dX6_readsNumber_66 (by decide) ?_
      exact Im.back [true, true] rfl rfl
    · refine im_aload_n (pc := 27) dX6_readsNumber_27 rfl rfl ?_
      refine im_iconst (pc := 28) (v := 2) dX6_readsNumber_28 (by decide) ?_
      refine im_aload_n (pc := 29) dX6_readsNumber_29 rfl rfl ?_
      refine im_gi (pc := 30) fl_X6_142 dX6_readsNumber_30 fun x58 => ?_
      refine cl_X6_155 mo_wrongAt_im (pc := 33) (by decide) dX6_readsNumber_33 (Nat.le_of_ble_eq_true rfl) fun x60 h59 => ?_
      refine im_zok fun x61 hz => ?_
      exact Im.outS (im_zretT (pc := 36) (nar_z hz) dX6_readsNumber_36)
theorem mo_readsNumber_L10_ok (X : CT) (v0 : Option Nat) (v1 : Int32) (h : PH) : Im X (cX6_readsNumber, 2, RX6, "readsNumber", (some .boolean), 3) 10 [some (.inr v0), some (.inl v1)] [] h (mo_readsNumber_L10 v0 v1 h) szI (kI X) := by
  unfold mo_readsNumber_L10
  exact Im.iter (lv := (fun s : PH => [some (.inr v0), some (.inl v1)])) (hp := (fun s : PH => s)) (fun s => mo_readsNumber_b10_ok X v0 v1 s) _ rfl rfl
noncomputable def mo_readsNumber_0 (v0 : Option Nat) (h : PH) : Option (Int32 × PH) :=
  (gfi [5] 5 v0 h).bind fun x51 =>
  (pf [5] 8 v0 (.inl 0) h).bind fun h52 =>
  mo_readsNumber_L10 v0 x51 h52
theorem mo_readsNumber_0_ok (X : CT) (v0 : Option Nat) (h : PH) : Im X (cX6_readsNumber, 2, RX6, "readsNumber", (some .boolean), 3) 0 [some (.inr v0), none] [] h (mo_readsNumber_0 v0 h) szI (kI X) := by
  unfold mo_readsNumber_0
  refine im_aload_n (pc := 0) dX6_readsNumber_0 rfl rfl ?_
  refine im_gi (pc := 1) fl_X6_142 dX6_readsNumber_1 fun x51 => ?_
  refine im_istore_n (pc := 4) (lv' := [some (.inr v0), some (.inl x51)]) dX6_readsNumber_4 rfl (by decide) rfl ?_
  refine im_aload_n (pc := 5) dX6_readsNumber_5 rfl rfl ?_
  refine im_iconst (pc := 6) (v := 0) dX6_readsNumber_6 (by decide) ?_
  refine im_pf (pc := 7) fp_X6_158 (okT_i _) dX6_readsNumber_7 fun h52 => ?_
  exact Im.drop [true, true] rfl (mo_readsNumber_L10_ok X v0 x51 h52)
noncomputable def mo_readsNumber (a0 : Option Nat) (h : PH) : Option (Int32 × PH) := grd (isC [5] a0 h) (mo_readsNumber_0 a0 h)
theorem mo_readsNumber_im : IM_X6_readsNumber mo_readsNumber 3 := by
  intro a0 h r h' e
  obtain ⟨e1, e2⟩ := grd_some e
  exact ⟨e1, SpI.of (k := 1) (plainFor_of_name (by decide)) rfl (fun X => Im.drop [true, false] rfl (mo_readsNumber_0_ok X a0 h)) e2⟩
theorem fl_X6_23 : ∀ c ∈ [5], FL RX6 23 c 14 := List.forall_mem_cons.mpr ⟨⟨RX6, TX6, 50, rfl, in_X6, by decide, Or.inl q1191⟩, fun _ h => absurd h List.not_mem_nil⟩
theorem fl_X6_165 : ∀ c ∈ [5], FL RX6 165 c 10 := List.forall_mem_cons.mpr ⟨⟨RX6, TX6, 50, rfl, in_X6, by decide, Or.inl q1187⟩, fun _ h => absurd h List.not_mem_nil⟩
def IM_X6_notes (f : Option Nat → Int32 → Int32 → PH → Option (PH)) (d : Nat) : Prop := ∀ (a0 : Option Nat) (a1 : Int32) (a2 : Int32) (h : PH) (h' : PH), f a0 a1 a2 h = some h' → isC [5] a0 h = true ∧ SpV yX6_notes cX6_notes 3 none d [.inr a0, .inl a1, .inl a2] h h'
noncomputable def mo_notes_0 (v0 : Option Nat) (v1 : Int32) (v2 : Int32) (h : PH) : Option (PH) :=
  (gfr [5] 14 v0 h).bind fun r51 =>
  (gfi [5] 10 v0 h).bind fun x52 =>
  (ast 0 r51 x52 ((1048576 * v1) + v2) h).bind fun h53 =>
  (gfi [5] 10 v0 h53).bind fun x54 =>
  (pf [5] 10 v0 (.inl (x54 + 1)) h53).bind fun h55 =>
  some (h55)
theorem mo_notes_0_ok (X : CT) (v0 : Option Nat) (v1 : Int32) (v2 : Int32) (h : PH) : Im X (cX6_notes, 3, RX6, "notes", none, 1) 0 [some (.inr v0), some (.inl v1), some (.inl v2)] [] h (mo_notes_0 v0 v1 v2 h) szV (kV X) := by
  unfold mo_notes_0
  refine im_aload_n (pc := 0) dX6_notes_0 rfl rfl ?_
  refine im_gr (pc := 1) fl_X6_23 dX6_notes_1 fun r51 => ?_
  refine im_aload_n (pc := 4) dX6_notes_4 rfl rfl ?_
  refine im_gi (pc := 5) fl_X6_165 dX6_notes_5 fun x52 => ?_
  refine im_ldc (pc := 8) q1376 dX6_notes_8 ?_
  refine im_iload_n (pc := 10) dX6_notes_10 rfl rfl ?_
  refine im_imul (pc := 11) dX6_notes_11 ?_
  refine im_iload_n (pc := 12) dX6_notes_12 rfl rfl ?_
  refine im_iadd (pc := 13) dX6_notes_13 ?_
  refine im_iast (pc := 14) dX6_notes_14 fun h53 => ?_
  refine im_aload_n (pc := 15) dX6_notes_15 rfl rfl ?_
  refine im_aload_n (pc := 16) dX6_notes_16 rfl rfl ?_
  refine im_gi (pc := 17) fl_X6_165 dX6_notes_17 fun x54 => ?_
  refine im_iconst (pc := 20) (v := 1) dX6_notes_20 (by decide) ?_
  refine im_iadd (pc := 21) dX6_notes_21 ?_
  refine im_pf (pc := 22) fp_X6_165 (okT_i _) dX6_notes_22 fun h55 => ?_
  exact im_vret (pc := 25) dX6_notes_25
noncomputable def mo_notes (a0 : Option Nat) (a1 : Int32) (a2 : Int32) (h : PH) : Option (PH) := grd (isC [5] a0 h) (mo_notes_0 a0 a1 a2 h)
theorem mo_notes_im : IM_X6_notes mo_notes 1 := by
  intro a0 a1 a2 h h' e
  obtain ⟨e1, e2⟩ := grd_some e
  exact ⟨e1, SpV.of (k := 0) (plainFor_of_name (by decide)) rfl (fun X => Im.drop [true, true, true] rfl (mo_notes_0_ok X a0 a1 a2 h)) e2⟩
def IM_X6_factOf (f : Int32 → PH → Option (Int32)) (d : Nat) : Prop := ∀ (a0 : Int32) (h : PH) (r : Int32), f a0 h = some r → SpI yX6_factOf cX6_factOf 1 (some .int) d [.inl a0] h r h
noncomputable def mo_factOf_0 (v0 : Int32) (h : PH) : Option (Int32) :=
  (if v0 = 107 then
  some (1)
  else
  (if v0 = 109 then
  some (4)
  else
  (if v0 = 110 then
  some (6)
  else
  (if v0 = 111 then
  some (5)
  else
  (if v0 = 112 then
  some (0)
  else
  (if v0 = 115 then
  some (2)
  else
  (if v0 = 116 then
  some (7)
  else
  (if v0 = 117 then
  some (3)
  else
  some ((-1))))))))))
theorem mo_factOf_0_ok (X : CT) (v0 : Int32) (h : PH) : Im X (cX6_factOf, 1, RX6, "factOf", (some .int), 1) 0 [some (.inl v0)] [] h (mo_factOf_0 v0 h) (szP h) (kP X h) := by
  unfold mo_factOf_0
  refine im_iload_n (pc := 0) dX6_factOf_0 rfl rfl ?_
  refine im_tsw (pc := 1) (dt := 78) [(107, 62), (109, 68), (110, 72), (111, 70), (112, 60), (115, 64), (116, 75), (117, 66)] dX6_factOf_1 (by decide) ⟨_, _, rfl, ?_, ⟨_, _, rfl, ?_, ⟨_, _, rfl, ?_, ⟨_, _, rfl, ?_, ⟨_, _, rfl, ?_, ⟨_, _, rfl, ?_, ⟨_, _, rfl, ?_, ⟨_, _, rfl, ?_, ?_⟩⟩⟩⟩⟩⟩⟩⟩
  · refine im_iconst (pc := 62) (v := 1) dX6_factOf_62 (by decide) ?_
    exact im_iretP (pc := 63) dX6_factOf_63
  · refine im_iconst (pc := 68) (v := 4) dX6_factOf_68 (by decide) ?_
    exact im_iretP (pc := 69) dX6_factOf_69
  · refine im_bipush (pc := 72) (v := 6) dX6_factOf_72 (by decide) ?_
    exact im_iretP (pc := 74) dX6_factOf_74
  · refine im_iconst (pc := 70) (v := 5) dX6_factOf_70 (by decide) ?_
    exact im_iretP (pc := 71) dX6_factOf_71
  · refine im_iconst (pc := 60) (v := 0) dX6_factOf_60 (by decide) ?_
    exact im_iretP (pc := 61) dX6_factOf_61
  · refine im_iconst (pc := 64) (v := 2) dX6_factOf_64 (by decide) ?_
    exact im_iretP (pc := 65) dX6_factOf_65
  · refine im_bipush (pc := 75) (v := 7) dX6_factOf_75 (by decide) ?_
    exact im_iretP (pc := 77) dX6_factOf_77
  · refine im_iconst (pc := 66) (v := 3) dX6_factOf_66 (by decide) ?_
    exact im_iretP (pc := 67) dX6_factOf_67
  · refine im_iconst (pc := 78) (v := (-1)) dX6_factOf_78 (by decide) ?_
    exact im_iretP (pc := 79) dX6_factOf_79
noncomputable def mo_factOf (a0 : Int32) (h : PH) : Option (Int32) := mo_factOf_0 a0 h
theorem mo_factOf_im : IM_X6_factOf mo_factOf 1 := by
  intro a0 h r e
  exact SpI.ofP (k := 0) (plainFor_of_name (by decide)) rfl (fun X => Im.drop [true] rfl (mo_factOf_0_ok X a0 h)) e
theorem cl_X6_188 {X : CT} {cc : ByteArray} {nL : Nat} {mn : String} {ret : Option FieldType} {d d0 : Nat} {τ : Type} {pc : Nat} {lv : List (Option PV)} {st : List PV} {h : PH} {sz : τ → Nat × Nat} {K : τ → Prop} {f : Int32 → PH → Option (Int32)} (HR : IM_X6_factOf f d0) {a0 : Int32} {g : Int32 → Option τ} (hd : d0 + 1 ≤ d) (hdg : decode cc pc = .ok (.invokestatic 188, 3)) (hst : st.length ≤ 8) (kk : ∀ r, Im X (cc, nL, RX6, mn, ret, d) (pc + 3) lv (.inl r :: st) h (g r) sz K) : Im X (cc, nL, RX6, mn, ret, d) pc lv (.inl a0 :: st) h ((f a0 h).bind g) sz K := by
  refine im_cP (y := yX6_factOf) (cY := cX6_factOf) (nY := 1) (rY := (some .int)) (d' := d0) (av := [.inl a0]) (fun r e hX => ?_) (fun r e => HR _ _ _ e) hd (by decide) hst rfl kk
  exact cal_S (n := 1) hX (lw_S q1389 q1390 q112 q1391) (by decide +kernel) rfl hdg

theorem cl_X6_178 {X : CT} {cc : ByteArray} {nL : Nat} {mn : String} {ret : Option FieldType} {d d0 : Nat} {τ : Type} {pc : Nat} {lv : List (Option PV)} {st : List PV} {h : PH} {sz : τ → Nat × Nat} {K : τ → Prop} {f : Option Nat → Int32 → Int32 → PH → Option (PH)} (HR : IM_X6_notes f d0) {a0 : Option Nat} {a1 : Int32} {a2 : Int32} {g : PH → Option τ} (hd : d0 + 1 ≤ d) (hdg : decode cc pc = .ok (.invokevirtual 178, 3)) (hst : st.length ≤ 8) (kk : ∀ h', Im X (cc, nL, RX6, mn, ret, d) (pc + 3) lv st h' (g h') sz K) : Im X (cc, nL, RX6, mn, ret, d) pc lv (.inl a2 :: .inl a1 :: .inr a0 :: st) h ((f a0 a1 a2 h).bind g) sz K := by
  refine im_cV (y := yX6_notes) (cY := cX6_notes) (nY := 3) (rY := none) (d' := d0) (av := [.inr a0, .inl a1, .inl a2]) (fun h' e hX => ?_) (fun h' e => (HR _ _ _ _ _ e).2) hd (by decide) hst rfl kk
  obtain ⟨a, c, fs, rfl, ec, hm⟩ := isC_some (HR _ _ _ _ _ e).1
  cases List.mem_singleton.mp hm
  exact cal_V (n := 2) hX (lw_V q1385 q1387 qs54 q112 q1388) (by decide +kernel) rfl rfl ec hdg

theorem cl_X6_185 {X : CT} {cc : ByteArray} {nL : Nat} {mn : String} {ret : Option FieldType} {d d0 : Nat} {τ : Type} {pc : Nat} {lv : List (Option PV)} {st : List PV} {h : PH} {sz : τ → Nat × Nat} {K : τ → Prop} {f : Option Nat → PH → Option (Int32 × PH)} (HR : IM_X6_readsNumber f d0) {a0 : Option Nat} {g : Int32 → PH → Option τ} (hd : d0 + 1 ≤ d) (hdg : decode cc pc = .ok (.invokevirtual 185, 3)) (hst : st.length ≤ 8) (kk : ∀ r h', Im X (cc, nL, RX6, mn, ret, d) (pc + 3) lv (.inl r :: st) h' (g r h') sz K) : Im X (cc, nL, RX6, mn, ret, d) pc lv (.inr a0 :: st) h (bd2 (f a0 h) g) sz K := by
  refine im_cI (y := yX6_readsNumber) (cY := cX6_readsNumber) (nY := 2) (rY := (some .boolean)) (d' := d0) (av := [.inr a0]) (fun r h' e hX => ?_) (fun r h' e => (HR _ _ _ _ e).2) hd (by decide) hst rfl kk
  obtain ⟨a, c, fs, rfl, ec, hm⟩ := isC_some (HR _ _ _ _ e).1
  cases List.mem_singleton.mp hm
  exact cal_V (n := 0) hX (lw_V q1381 q1383 qs53 q112 q1384) (by decide +kernel) rfl rfl ec hdg

theorem cl_X6_182 {X : CT} {cc : ByteArray} {nL : Nat} {mn : String} {ret : Option FieldType} {d d0 : Nat} {τ : Type} {pc : Nat} {lv : List (Option PV)} {st : List PV} {h : PH} {sz : τ → Nat × Nat} {K : τ → Prop} {f : Option Nat → Int32 → PH → Option (Int32 × PH)} (HR : IM_X6_opens f d0) {a0 : Option Nat} {a1 : Int32} {g : Int32 → PH → Option τ} (hd : d0 + 1 ≤ d) (hdg : decode cc pc = .ok (.invokevirtual 182, 3)) (hst : st.length ≤ 8) (kk : ∀ r h', Im X (cc, nL, RX6, mn, ret, d) (pc + 3) lv (.inl r :: st) h' (g r h') sz K) : Im X (cc, nL, RX6, mn, ret, d) pc lv (.inl a1 :: .inr a0 :: st) h (bd2 (f a0 a1 h) g) sz K := by
  refine im_cI (y := yX6_opens) (cY := cX6_opens) (nY := 2) (rY := (some .boolean)) (d' := d0) (av := [.inr a0, .inl a1]) (fun r h' e hX => ?_) (fun r h' e => (HR _ _ _ _ _ e).2) hd (by decide) hst rfl kk
  obtain ⟨a, c, fs, rfl, ec, hm⟩ := isC_some (HR _ _ _ _ _ e).1
  cases List.mem_singleton.mp hm
  exact cal_V (n := 1) hX (lw_V q1372 q1374 qs51 q112 q1375) (by decide +kernel) rfl rfl ec hdg

def IM_X6_readsFactor (f : Option Nat → PH → Option (Int32 × PH)) (d : Nat) : Prop := ∀ (a0 : Option Nat) (h : PH) (r : Int32) (h' : PH), f a0 h = some (r, h') → isC [5] a0 h = true ∧ SpI yX6_readsFactor cX6_readsFactor 2 (some .boolean) d [.inr a0] h r h'
noncomputable def mo_readsFactor_b0 (v0 : Option Nat) (h : PH) : Option ((PH) ⊕ (Int32 × PH)) :=
  (mo_here v0 h).bind fun x51 =>
  (if x51 = 91 then
  bd2 (mo_opens v0 14 h) fun x67 h66 =>
  (if x67 = 0 then
  some (.inr ((0, h66)))
  else
  some (.inl h66))
  else
  (mo_isDigit v0 h).bind fun x52 =>
  (if x52 = 0 then
  (mo_here v0 h).bind fun x53 =>
  (mo_factOf x53 h).bind fun x54 =>
  (if x54 = (-1) then
  (gfi [5] 5 v0 h).bind fun x58 =>
  bd2 (mo_wrongAt v0 1 x58 h) fun x60 h59 =>
  (zok x60).bind fun x61 => some (.inr ((x61, h59)))
  else
  (mo_notes v0 1 x54 h).bind fun h55 =>
  (gfi [5] 5 v0 h55).bind fun x56 =>
  (pf [5] 5 v0 (.inl (x56 + 1)) h55).bind fun h57 =>
  some (.inr ((1, h57))))
  else
  bd2 (mo_readsNumber v0 h) fun x63 h62 =>
  (if x63 = 0 then
  some (.inr ((0, h62)))
  else
  (gfi [5] 8 v0 h62).bind fun x64 =>
  (mo_notes v0 0 x64 h62).bind fun h65 =>
  some (.inr ((1, h65))))))
noncomputable def mo_readsFactor_L0 (v0 : Option Nat) (h : PH) : Option (Int32 × PH) :=
  iter (fun s : PH => mo_readsFactor_b0 v0 s) h
theorem mo_readsFactor_b0_ok (X : CT) (v0 : Option Nat) (h : PH) : Im X (cX6_readsFactor, 2, RX6, "readsFactor", (some .boolean), 4) 0 [some (.inr v0), none] [] h (mo_readsFactor_b0 v0 h) (ez (fun s : PH => s) szI) (ek X 0 (fun s : PH => [some (.inr v0), none]) (fun s : PH => s) (kI X)) := by
  unfold mo_readsFactor_b0
  refine im_aload_n (pc := 0) dX6_readsFactor_0 rfl rfl ?_
  refine cl_X6_148 mo_here_im (pc := 1) (by decide) dX6_readsFactor_1 (Nat.le_of_ble_eq_true rfl) fun x51 => ?_
  refine im_bipush (pc := 4) (v := 91) dX6_readsFactor_4 (by decide) ?_
  refine im_icmp_ne (pc := 6) (tgt := 20) dX6_readsFactor_6 (by decide) ?_ ?_
  · refine im_aload_n (pc := 20) dX6_readsFactor_20 rfl rfl ?_
    refine cl_X6_161 mo_isDigit_im (pc := 21) (by decide) dX6_readsFactor_21 (Nat.le_of_ble_eq_true rfl) fun x52 => ?_
    refine im_if_eq (pc := 24) (tgt := 47) dX6_readsFactor_24 (by decide) ?_ ?_
    · refine im_aload_n (pc := 47) dX6_readsFactor_47 rfl rfl ?_
      refine cl_X6_148 mo_here_im (pc := 48) (by decide) dX6_readsFactor_48 (Nat.le_of_ble_eq_true rfl) fun x53 => ?_
      refine cl_X6_188 mo_factOf_im (pc := 51) (by decide) dX6_readsFactor_51 (Nat.le_of_ble_eq_true rfl) fun x54 => ?_
      refine im_istore_n (pc := 54) (lv' := [some (.inr v0), some (.inl x54)]) dX6_readsFactor_54 rfl (by decide) rfl ?_
      refine im_iload_n (pc := 55) dX6_readsFactor_55 rfl rfl ?_
      refine im_iconst (pc := 56) (v := (-1)) dX6_readsFactor_56 (by decide) ?_
      refine im_icmp_ne (pc := 57) (tgt := 70) dX6_readsFactor_57 (by decide) ?_ ?_
      · refine im_aload_n (pc := 70) dX6_readsFactor_70 rfl rfl ?_
        refine im_iconst (pc := 71) (v := 1) dX6_readsFactor_71 (by decide) ?_
        refine im_iload_n (pc := 72) dX6_readsFactor_72 rfl rfl ?_
        refine cl_X6_178 mo_notes_im (pc := 73) (by decide) dX6_readsFactor_73 (Nat.le_of_ble_eq_true rfl) fun h55 => ?_
        refine im_aload_n (pc := 76) dX6_readsFactor_76 rfl rfl ?_
        refine im_aload_n (pc := 77) dX6_readsFactor_77 rfl rfl ?_
        refine im_gi (pc := 78) fl_X6_142 dX6_readsFactor_78 fun x56 => ?_
        refine im_iconst (pc := 81) (v := 1) dX6_readsFactor_81 (by decide) ?_
        refine im_iadd (pc := 82) dX6_readsFactor_82 ?_
        refine im_pf (pc := 83) fp_X6_142 (okT_i _) dX6_readsFactor_83 fun h57 => ?_
        refine im_iconst (pc := 86) (v := 1) dX6_readsFactor_86 (by decide) ?_
        exact Im.outS (im_zretT (pc := 87) (nar_z (Or.inr rfl)) dX6_readsFactor_87)
      · refine im_aload_n (pc := 60) dX6_readsFactor_60 rfl rfl ?_
        refine im_iconst (pc := 61) (v := 1) dX6_readsFactor_61 (by decide) ?_
        refine im_aload_n (pc := 62) dX6_readsFactor_62 rfl rfl ?_
        refine im_gi (pc := 63) fl_X6_142 dX6_readsFactor_63 fun x58 => ?_
        refine cl_X6_155 mo_wrongAt_im (pc := 66) (by decide) dX6_readsFactor_66 (Nat.le_of_ble_eq_true rfl) fun x60 h59 => ?_
        refine im_zok fun x61 hz => ?_
        exact Im.outS (im_zretT (pc := 69) (nar_z hz) dX6_readsFactor_69)
    · refine im_aload_n (pc := 27) dX6_readsFactor_27 rfl rfl ?_
      refine cl_X6_185 mo_readsNumber_im (pc := 28) (by decide) dX6_readsFactor_28 (Nat.le_of_ble_eq_true rfl) fun x63 h62 => ?_
      refine im_if_ne (pc := 31) (tgt := 36) dX6_readsFactor_31 (by decide) ?_ ?_
      · refine im_aload_n (pc := 36) dX6_readsFactor_36 rfl rfl ?_
        refine im_iconst (pc := 37) (v := 0) dX6_readsFactor_37 (by decide) ?_
        refine im_aload_n (pc := 38) dX6_readsFactor_38 rfl rfl ?_
        refine im_gi (pc := 39) fl_X6_158 dX6_readsFactor_39 fun x64 => ?_
        refine cl_X6_178 mo_notes_im (pc := 42) (by decide) dX6_readsFactor_42 (Nat.le_of_ble_eq_true rfl) fun h65 => ?_
        refine im_iconst (pc := 45) (v := 1) dX6_readsFactor_45 (by decide) ?_
        exact Im.outS (im_zretT (pc := 46) (nar_z (Or.inr rfl)) dX6_readsFactor_46)
      · refine im_iconst (pc := 34) (v := 0) dX6_readsFactor_34 (by decide) ?_
        exact Im.outS (im_zretT (pc := 35) (nar_z (Or.inl rfl)) dX6_readsFactor_35)
  · refine im_aload_n (pc := 9) dX6_readsFactor_9 rfl rfl ?_
    refine im_bipush (pc := 10) (v := 14) dX6_readsFactor_10 (by decide) ?_
    refine cl_X6_182 mo_opens_im (pc := 12) (by decide) dX6_readsFactor_12 (Nat.le_of_ble_eq_true rfl) fun x67 h66 => ?_
    refine im_if_ne (pc := 15) (tgt := 0) dX6_readsFactor_15 (by decide) ?_ ?_
    · exact Im.back [true, false] rfl rfl
    · refine im_iconst (pc := 18) (v := 0) dX6_readsFactor_18 (by decide) ?_
      exact Im.outS (im_zretT (pc := 19) (nar_z (Or.inl rfl)) dX6_readsFactor_19)
theorem mo_readsFactor_L0_ok (X : CT) (v0 : Option Nat) (h : PH) : Im X (cX6_readsFactor, 2, RX6, "readsFactor", (some .boolean), 4) 0 [some (.inr v0), none] [] h (mo_readsFactor_L0 v0 h) szI (kI X) := by
  unfold mo_readsFactor_L0
  exact Im.iter (lv := (fun s : PH => [some (.inr v0), none])) (hp := (fun s : PH => s)) (fun s => mo_readsFactor_b0_ok X v0 s) _ rfl rfl
noncomputable def mo_readsFactor (a0 : Option Nat) (h : PH) : Option (Int32 × PH) := grd (isC [5] a0 h) (mo_readsFactor_L0 a0 h)
theorem mo_readsFactor_im : IM_X6_readsFactor mo_readsFactor 4 := by
  intro a0 h r h' e
  obtain ⟨e1, e2⟩ := grd_some e
  exact ⟨e1, SpI.of (k := 1) (plainFor_of_name (by decide)) rfl (fun X => Im.drop [true, false] rfl (mo_readsFactor_L0_ok X a0 h)) e2⟩
def IM_X6_sumSign (f : Int32 → PH → Option (Int32)) (d : Nat) : Prop := ∀ (a0 : Int32) (h : PH) (r : Int32), f a0 h = some r → SpI yX6_sumSign cX6_sumSign 1 (some .int) d [.inl a0] h r h
noncomputable def mo_sumSign_0 (v0 : Int32) (h : PH) : Option (Int32) :=
  (if v0 = 43 then
  some (2)
  else
  (if v0 = 45 then
  some (3)
  else
  (if v0 = 42 then
  some (4)
  else
  (if v0 = 47 then
  some (5)
  else
  (if v0 = 37 then
  some (6)
  else
  some ((-1)))))))
theorem mo_sumSign_0_ok (X : CT) (v0 : Int32) (h : PH) : Im X (cX6_sumSign, 1, RX6, "sumSign", (some .int), 1) 0 [some (.inl v0)] [] h (mo_sumSign_0 v0 h) (szP h) (kP X h) := by
  unfold mo_sumSign_0
  refine im_iload_n (pc := 0) dX6_sumSign_0 rfl rfl ?_
  refine im_bipush (pc := 1) (v := 43) dX6_sumSign_1 (by decide) ?_
  refine im_icmp_ne (pc := 3) (tgt := 10) dX6_sumSign_3 (by decide) ?_ ?_
  · refine im_iload_n (pc := 10) dX6_sumSign_10 rfl rfl ?_
    refine im_bipush (pc := 11) (v := 45) dX6_sumSign_11 (by decide) ?_
    refine im_icmp_ne (pc := 13) (tgt := 20) dX6_sumSign_13 (by decide) ?_ ?_
    · refine im_iload_n (pc := 20) dX6_sumSign_20 rfl rfl ?_
      refine im_bipush (pc := 21) (v := 42) dX6_sumSign_21 (by decide) ?_
      refine im_icmp_ne (pc := 23) (tgt := 30) dX6_sumSign_23 (by decide) ?_ ?_
      · refine im_iload_n (pc := 30) dX6_sumSign_30 rfl rfl ?_
        refine im_bipush (pc := 31) (v := 47) dX6_sumSign_31 (by decide) ?_
        refine im_icmp_ne (pc := 33) (tgt := 40) dX6_sumSign_33 (by decide) ?_ ?_
        · refine im_iload_n (pc := 40) dX6_sumSign_40 rfl rfl ?_
          refine im_bipush (pc := 41) (v := 37) dX6_sumSign_41 (by decide) ?_
          refine im_icmp_ne (pc := 43) (tgt := 51) dX6_sumSign_43 (by decide) ?_ ?_
          · refine im_iconst (pc := 51) (v := (-1)) dX6_sumSign_51 (by decide) ?_
            exact im_iretP (pc := 52) dX6_sumSign_52
          · refine im_bipush (pc := 46) (v := 6) dX6_sumSign_46 (by decide) ?_
            refine im_goto (pc := 48) (tgt := 52) dX6_sumSign_48 (by decide) ?_
            exact im_iretP (pc := 52) dX6_sumSign_52
        · refine im_iconst (pc := 36) (v := 5) dX6_sumSign_36 (by decide) ?_
          refine im_goto (pc := 37) (tgt := 52) dX6_sumSign_37 (by decide) ?_
          exact im_iretP (pc := 52) dX6_sumSign_52
      · refine im_iconst (pc := 26) (v := 4) dX6_sumSign_26 (by decide) ?_
        refine im_goto (pc := 27) (tgt := 52) dX6_sumSign_27 (by decide) ?_
        exact im_iretP (pc := 52) dX6_sumSign_52
    · refine im_iconst (pc := 16) (v := 3) dX6_sumSign_16 (by decide) ?_
      refine im_goto (pc := 17) (tgt := 52) dX6_sumSign_17 (by decide) ?_
      exact im_iretP (pc := 52) dX6_sumSign_52
  · refine im_iconst (pc := 6) (v := 2) dX6_sumSign_6 (by decide) ?_
    refine im_goto (pc := 7) (tgt := 52) dX6_sumSign_7 (by decide) ?_
    exact im_iretP (pc := 52) dX6_sumSign_52
noncomputable def mo_sumSign (a0 : Int32) (h : PH) : Option (Int32) := mo_sumSign_0 a0 h
theorem mo_sumSign_im : IM_X6_sumSign mo_sumSign 1 := by
  intro a0 h r e
  exact SpI.ofP (k := 0) (plainFor_of_name (by decide)) rfl (fun X => Im.drop [true] rfl (mo_sumSign_0_ok X a0 h)) e
def IM_X6_waitTop (f : Option Nat → PH → Option (Int32)) (d : Nat) : Prop := ∀ (a0 : Option Nat) (h : PH) (r : Int32), f a0 h = some r → isC [5] a0 h = true ∧ SpI yX6_waitTop cX6_waitTop 1 (some .int) d [.inr a0] h r h
noncomputable def mo_waitTop_0 (v0 : Option Nat) (h : PH) : Option (Int32) :=
  (gfi [5] 11 v0 h).bind fun x51 =>
  (if x51 = 0 then
  some ((-1))
  else
  (gfr [5] 15 v0 h).bind fun r52 =>
  (gfi [5] 11 v0 h).bind fun x53 =>
  (ald 0 r52 (x53 - 1) h).bind fun x54 =>
  some ((x54 / 1048576)))
theorem mo_waitTop_0_ok (X : CT) (v0 : Option Nat) (h : PH) : Im X (cX6_waitTop, 1, RX6, "waitTop", (some .int), 1) 0 [some (.inr v0)] [] h (mo_waitTop_0 v0 h) (szP h) (kP X h) := by
  unfold mo_waitTop_0
  refine im_aload_n (pc := 0) dX6_waitTop_0 rfl rfl ?_
  refine im_gi (pc := 1) fl_X6_172 dX6_waitTop_1 fun x51 => ?_
  refine im_if_ne (pc := 4) (tgt := 11) dX6_waitTop_4 (by decide) ?_ ?_
  · refine im_aload_n (pc := 11) dX6_waitTop_11 rfl rfl ?_
    refine im_gr (pc := 12) fl_X6_26 dX6_waitTop_12 fun r52 => ?_
    refine im_aload_n (pc := 15) dX6_waitTop_15 rfl rfl ?_
    refine im_gi (pc := 16) fl_X6_172 dX6_waitTop_16 fun x53 => ?_
    refine im_iconst (pc := 19) (v := 1) dX6_waitTop_19 (by decide) ?_
    refine im_isub (pc := 20) dX6_waitTop_20 ?_
    refine im_iald (pc := 21) dX6_waitTop_21 fun x54 => ?_
    refine im_ldc (pc := 22) q1376 dX6_waitTop_22 ?_
    refine im_idivC (pc := 24) (by decide) dX6_waitTop_24 ?_
    exact im_iretP (pc := 25) dX6_waitTop_25
  · refine im_iconst (pc := 7) (v := (-1)) dX6_waitTop_7 (by decide) ?_
    refine im_goto (pc := 8) (tgt := 25) dX6_waitTop_8 (by decide) ?_
    exact im_iretP (pc := 25) dX6_waitTop_25
noncomputable def mo_waitTop (a0 : Option Nat) (h : PH) : Option (Int32) := grd (isC [5] a0 h) (mo_waitTop_0 a0 h)
theorem mo_waitTop_im : IM_X6_waitTop mo_waitTop 1 := by
  intro a0 h r e
  obtain ⟨e1, e2⟩ := grd_some e
  exact ⟨e1, SpI.ofP (k := 0) (plainFor_of_name (by decide)) rfl (fun X => Im.drop [true] rfl (mo_waitTop_0_ok X a0 h)) e2⟩
theorem cl_X6_175 {X : CT} {cc : ByteArray} {nL : Nat} {mn : String} {ret : Option FieldType} {d d0 : Nat} {τ : Type} {pc : Nat} {lv : List (Option PV)} {st : List PV} {h : PH} {sz : τ → Nat × Nat} {K : τ → Prop} {f : Option Nat → PH → Option (Int32)} (HR : IM_X6_waitTop f d0) {a0 : Option Nat} {g : Int32 → Option τ} (hd : d0 + 1 ≤ d) (hdg : decode cc pc = .ok (.invokevirtual 175, 3)) (hst : st.length ≤ 8) (kk : ∀ r, Im X (cc, nL, RX6, mn, ret, d) (pc + 3) lv (.inl r :: st) h (g r) sz K) : Im X (cc, nL, RX6, mn, ret, d) pc lv (.inr a0 :: st) h ((f a0 h).bind g) sz K := by
  refine im_cP (y := yX6_waitTop) (cY := cX6_waitTop) (nY := 1) (rY := (some .int)) (d' := d0) (av := [.inr a0]) (fun r e hX => ?_) (fun r e => (HR _ _ _ e).2) hd (by decide) hst rfl kk
  obtain ⟨a, c, fs, rfl, ec, hm⟩ := isC_some (HR _ _ _ e).1
  cases List.mem_singleton.mp hm
  exact cal_V (n := 0) hX (lw_V q1399 q1401 qs56 q112 q1402) (by decide +kernel) rfl rfl ec hdg

def IM_X6_closesSums (f : Option Nat → Int32 → PH → Option (PH)) (d : Nat) : Prop := ∀ (a0 : Option Nat) (a1 : Int32) (h : PH) (h' : PH), f a0 a1 h = some h' → isC [5] a0 h = true ∧ SpV yX6_closesSums cX6_closesSums 2 none d [.inr a0, .inl a1] h h'
noncomputable def mo_closesSums_37 (v0 : Option Nat) (v1 : Int32) (h : PH) : Option ((PH) ⊕ (PH)) :=
  (mo_waitTop v0 h).bind fun x51 =>
  (mo_notes v0 x51 0 h).bind fun h52 =>
  (gfi [5] 11 v0 h52).bind fun x53 =>
  (pf [5] 11 v0 (.inl (x53 - 1)) h52).bind fun h54 =>
  some (.inl h54)
theorem mo_closesSums_37_ok (X : CT) (v0 : Option Nat) (v1 : Int32) (h : PH) : Im X (cX6_closesSums, 2, RX6, "closesSums", none, 2) 37 [some (.inr v0), some (.inl v1)] [] h (mo_closesSums_37 v0 v1 h) (ez (fun s : PH => s) szV) (ek X 0 (fun s : PH => [some (.inr v0), some (.inl v1)]) (fun s : PH => s) (kV X)) := by
  unfold mo_closesSums_37
  refine im_aload_n (pc := 37) dX6_closesSums_37 rfl rfl ?_
  refine im_aload_n (pc := 38) dX6_closesSums_38 rfl rfl ?_
  refine cl_X6_175 mo_waitTop_im (pc := 39) (by decide) dX6_closesSums_39 (Nat.le_of_ble_eq_true rfl) fun x51 => ?_
  refine im_iconst (pc := 42) (v := 0) dX6_closesSums_42 (by decide) ?_
  refine cl_X6_178 mo_notes_im (pc := 43) (by decide) dX6_closesSums_43 (Nat.le_of_ble_eq_true rfl) fun h52 => ?_
  refine im_aload_n (pc := 46) dX6_closesSums_46 rfl rfl ?_
  refine im_aload_n (pc := 47) dX6_closesSums_47 rfl rfl ?_
  refine im_gi (pc := 48) fl_X6_172 dX6_closesSums_48 fun x53 => ?_
  refine im_iconst (pc := 51) (v := 1) dX6_closesSums_51 (by decide) ?_
  refine im_isub (pc := 52) dX6_closesSums_52 ?_
  refine im_pf (pc := 53) fp_X6_172 (okT_i _) dX6_closesSums_53 fun h54 => ?_
  refine im_goto (pc := 56) (tgt := 0) dX6_closesSums_56 (by decide) ?_
  exact Im.back [true, true] rfl rfl
noncomputable def mo_closesSums_17 (v0 : Option Nat) (v1 : Int32) (h : PH) : Option ((PH) ⊕ (PH)) :=
  (if v1 = 0 then
  some (.inr h)
  else
  (mo_waitTop v0 h).bind fun x51 =>
  (if x51 = 2 then
  mo_closesSums_37 v0 v1 h
  else
  (mo_waitTop v0 h).bind fun x52 =>
  (if x52 = 3 then
  mo_closesSums_37 v0 v1 h
  else
  some (.inr h))))
theorem mo_closesSums_17_ok (X : CT) (v0 : Option Nat) (v1 : Int32) (h : PH) : Im X (cX6_closesSums, 2, RX6, "closesSums", none, 2) 17 [some (.inr v0), some (.inl v1)] [] h (mo_closesSums_17 v0 v1 h) (ez (fun s : PH => s) szV) (ek X 0 (fun s : PH => [some (.inr v0), some (.inl v1)]) (fun s : PH => s) (kV X)) := by
  unfold mo_closesSums_17
  refine im_iload_n (pc := 17) dX6_closesSums_17 rfl rfl ?_
  refine im_if_eq (pc := 18) (tgt := 59) dX6_closesSums_18 (by decide) ?_ ?_
  · exact Im.outS (im_vret (pc := 59) dX6_closesSums_59)
  · refine im_aload_n (pc := 21) dX6_closesSums_21 rfl rfl ?_
    refine cl_X6_175 mo_waitTop_im (pc := 22) (by decide) dX6_closesSums_22 (Nat.le_of_ble_eq_true rfl) fun x51 => ?_
    refine im_iconst (pc := 25) (v := 2) dX6_closesSums_25 (by decide) ?_
    refine im_icmp_eq (pc := 26) (tgt := 37) dX6_closesSums_26 (by decide) ?_ ?_
    · exact Im.drop [true, true] rfl (mo_closesSums_37_ok X v0 v1 h)
    · refine im_aload_n (pc := 29) dX6_closesSums_29 rfl rfl ?_
      refine cl_X6_175 mo_waitTop_im (pc := 30) (by decide) dX6_closesSums_30 (Nat.le_of_ble_eq_true rfl) fun x52 => ?_
      refine im_iconst (pc := 33) (v := 3) dX6_closesSums_33 (by decide) ?_
      refine im_icmp_ne (pc := 34) (tgt := 59) dX6_closesSums_34 (by decide) ?_ ?_
      · exact Im.outS (im_vret (pc := 59) dX6_closesSums_59)
      · exact Im.drop [true, true] rfl (mo_closesSums_37_ok X v0 v1 h)
noncomputable def mo_closesSums_b0 (v0 : Option Nat) (v1 : Int32) (h : PH) : Option ((PH) ⊕ (PH)) :=
  (mo_waitTop v0 h).bind fun x51 =>
  (if x51 < 4 then
  mo_closesSums_17 v0 v1 h
  else
  (mo_waitTop v0 h).bind fun x52 =>
  (if x52 ≤ 6 then
  mo_closesSums_37 v0 v1 h
  else
  mo_closesSums_17 v0 v1 h))
noncomputable def mo_closesSums_L0 (v0 : Option Nat) (v1 : Int32) (h : PH) : Option (PH) :=
  iter (fun s : PH => mo_closesSums_b0 v0 v1 s) h
theorem mo_closesSums_b0_ok (X : CT) (v0 : Option Nat) (v1 : Int32) (h : PH) : Im X (cX6_closesSums, 2, RX6, "closesSums", none, 2) 0 [some (.inr v0), some (.inl v1)] [] h (mo_closesSums_b0 v0 v1 h) (ez (fun s : PH => s) szV) (ek X 0 (fun s : PH => [some (.inr v0), some (.inl v1)]) (fun s : PH => s) (kV X)) := by
  unfold mo_closesSums_b0
  refine im_aload_n (pc := 0) dX6_closesSums_0 rfl rfl ?_
  refine cl_X6_175 mo_waitTop_im (pc := 1) (by decide) dX6_closesSums_1 (Nat.le_of_ble_eq_true rfl) fun x51 => ?_
  refine im_iconst (pc := 4) (v := 4) dX6_closesSums_4 (by decide) ?_
  refine im_icmp_lt (pc := 5) (tgt := 17) dX6_closesSums_5 (by decide) ?_ ?_
  · exact Im.drop [true, true] rfl (mo_closesSums_17_ok X v0 v1 h)
  · refine im_aload_n (pc := 8) dX6_closesSums_8 rfl rfl ?_
    refine cl_X6_175 mo_waitTop_im (pc := 9) (by decide) dX6_closesSums_9 (Nat.le_of_ble_eq_true rfl) fun x52 => ?_
    refine im_bipush (pc := 12) (v := 6) dX6_closesSums_12 (by decide) ?_
    refine im_icmp_le (pc := 14) (tgt := 37) dX6_closesSums_14 (by decide) ?_ ?_
    · exact Im.drop [true, true] rfl (mo_closesSums_37_ok X v0 v1 h)
    · exact Im.drop [true, true] rfl (mo_closesSums_17_ok X v0 v1 h)
theorem mo_closesSums_L0_ok (X : CT) (v0 : Option Nat) (v1 : Int32) (h : PH) : Im X (cX6_closesSums, 2, RX6, "closesSums", none, 2) 0 [some (.inr v0), some (.inl v1)] [] h (mo_closesSums_L0 v0 v1 h) szV (kV X) := by
  unfold mo_closesSums_L0
  exact Im.iter (lv := (fun s : PH => [some (.inr v0), some (.inl v1)])) (hp := (fun s : PH => s)) (fun s => mo_closesSums_b0_ok X v0 v1 s) _ rfl rfl
noncomputable def mo_closesSums (a0 : Option Nat) (a1 : Int32) (h : PH) : Option (PH) := grd (isC [5] a0 h) (mo_closesSums_L0 a0 a1 h)
theorem mo_closesSums_im : IM_X6_closesSums mo_closesSums 2 := by
  intro a0 a1 h h' e
  obtain ⟨e1, e2⟩ := grd_some e
  exact ⟨e1, SpV.of (k := 0) (plainFor_of_name (by decide)) rfl (fun X => Im.drop [true, true] rfl (mo_closesSums_L0_ok X a0 a1 h)) e2⟩
def IM_X6_hasOpenSum (f : Option Nat → Int32 → PH → Option (Int32)) (d : Nat) : Prop := ∀ (a0 : Option Nat) (a1 : Int32) (h : PH) (r : Int32), f a0 a1 h = some r → isC [5] a0 h = true ∧ SpI yX6_hasOpenSum cX6_hasOpenSum 3 (some .boolean) d [.inr a0, .inl a1] h r h
noncomputable def mo_hasOpenSum_b2 (v0 : Option Nat) (v2 : Int32) (h : PH) : Option ((Int32) ⊕ (Int32)) :=
  (gfi [5] 11 v0 h).bind fun x51 =>
  (if x51 ≤ v2 then
  some (.inr 0)
  else
  (gfr [5] 15 v0 h).bind fun r52 =>
  (ald 0 r52 v2 h).bind fun x53 =>
  (if (x53 / 1048576) = 14 then
  some (.inr 1)
  else
  some (.inl (v2 + 1))))
noncomputable def mo_hasOpenSum_L2 (v0 : Option Nat) (v2 : Int32) (h : PH) : Option (Int32) :=
  iter (fun s : Int32 => mo_hasOpenSum_b2 v0 s h) v2
theorem mo_hasOpenSum_b2_ok (X : CT) (v0 : Option Nat) (v2 : Int32) (h : PH) : Im X (cX6_hasOpenSum, 3, RX6, "hasOpenSum", (some .boolean), 1) 2 [some (.inr v0), none, some (.inl v2)] [] h (mo_hasOpenSum_b2 v0 v2 h) (ez (fun s : Int32 => h) (szP h)) (ek X 2 (fun s : Int32 => [some (.inr v0), none, some (.inl s)]) (fun s : Int32 => h) (kP X h)) := by
  unfold mo_hasOpenSum_b2
  refine im_iload_n (pc := 2) dX6_hasOpenSum_2 rfl rfl ?_
  refine im_aload_n (pc := 3) dX6_hasOpenSum_3 rfl rfl ?_
  refine im_gi (pc := 4) fl_X6_172 dX6_hasOpenSum_4 fun x51 => ?_
  refine im_icmp_ge (pc := 7) (tgt := 32) dX6_hasOpenSum_7 (by decide) ?_ ?_
  · refine im_iconst (pc := 32) (v := 0) dX6_hasOpenSum_32 (by decide) ?_
    exact Im.outS (im_zretTP (pc := 33) (nar_z (Or.inl rfl)) dX6_hasOpenSum_33)
  · refine im_aload_n (pc := 10) dX6_hasOpenSum_10 rfl rfl ?_
    refine im_gr (pc := 11) fl_X6_26 dX6_hasOpenSum_11 fun r52 => ?_
    refine im_iload_n (pc := 14) dX6_hasOpenSum_14 rfl rfl ?_
    refine im_iald (pc := 15) dX6_hasOpenSum_15 fun x53 => ?_
    refine im_ldc (pc := 16) q1376 dX6_hasOpenSum_16 ?_
    refine im_idivC (pc := 18) (by decide) dX6_hasOpenSum_18 ?_
    refine im_bipush (pc := 19) (v := 14) dX6_hasOpenSum_19 (by decide) ?_
    refine im_icmp_ne (pc := 21) (tgt := 26) dX6_hasOpenSum_21 (by decide) ?_ ?_
    · refine im_iinc (pc := 26) (v := (v2 + 1)) (lv' := [some (.inr v0), none, some (.inl (v2 + 1))]) dX6_hasOpenSum_26 rfl rfl (by decide) rfl ?_
      refine im_goto (pc := 29) (tgt := 2) dX6_hasOpenSum_29 (by decide) ?_
      exact Im.back [true, false, true] rfl rfl
    · refine im_iconst (pc := 24) (v := 1) dX6_hasOpenSum_24 (by decide) ?_
      exact Im.outS (im_zretTP (pc := 25) (nar_z (Or.inr rfl)) dX6_hasOpenSum_25)
theorem mo_hasOpenSum_L2_ok (X : CT) (v0 : Option Nat) (v2 : Int32) (h : PH) : Im X (cX6_hasOpenSum, 3, RX6, "hasOpenSum", (some .boolean), 1) 2 [some (.inr v0), none, some (.inl v2)] [] h (mo_hasOpenSum_L2 v0 v2 h) (szP h) (kP X h) := by
  unfold mo_hasOpenSum_L2
  exact Im.iter (lv := (fun s : Int32 => [some (.inr v0), none, some (.inl s)])) (hp := (fun s : Int32 => h)) (fun s => mo_hasOpenSum_b2_ok X v0 s h) _ rfl rfl
noncomputable def mo_hasOpenSum_0 (v0 : Option Nat) (v1 : Int32) (h : PH) : Option (Int32) :=
  mo_hasOpenSum_L2 v0 v1 h
theorem mo_hasOpenSum_0_ok (X : CT) (v0 : Option Nat) (v1 : Int32) (h : PH) : Im X (cX6_hasOpenSum, 3, RX6, "hasOpenSum", (some .boolean), 1) 0 [some (.inr v0), some (.inl v1), none] [] h (mo_hasOpenSum_0 v0 v1 h) (szP h) (kP X h) := by
  unfold mo_hasOpenSum_0
  refine im_iload_n (pc := 0) dX6_hasOpenSum_0 rfl rfl ?_
  refine im_istore_n (pc := 1) (lv' := [some (.inr v0), some (.inl v1), some (.inl v1)]) dX6_hasOpenSum_1 rfl (by decide) rfl ?_
  exact Im.drop [true, false, true] rfl (mo_hasOpenSum_L2_ok X v0 v1 h)
noncomputable def mo_hasOpenSum (a0 : Option Nat) (a1 : Int32) (h : PH) : Option (Int32) := grd (isC [5] a0 h) (mo_hasOpenSum_0 a0 a1 h)
theorem mo_hasOpenSum_im : IM_X6_hasOpenSum mo_hasOpenSum 1 := by
  intro a0 a1 h r e
  obtain ⟨e1, e2⟩ := grd_some e
  exact ⟨e1, SpI.ofP (k := 1) (plainFor_of_name (by decide)) rfl (fun X => Im.drop [true, true, false] rfl (mo_hasOpenSum_0_ok X a0 a1 h)) e2⟩
theorem cl_X6_191 {X : CT} {cc : ByteArray} {nL : Nat} {mn : String} {ret : Option FieldType} {d d0 : Nat} {τ : Type} {pc : Nat} {lv : List (Option PV)} {st : List PV} {h : PH} {sz : τ → Nat × Nat} {K : τ → Prop} {f : Option Nat → PH → Option (Int32 × PH)} (HR : IM_X6_readsFactor f d0) {a0 : Option Nat} {g : Int32 → PH → Option τ} (hd : d0 + 1 ≤ d) (hdg : decode cc pc = .ok (.invokevirtual 191, 3)) (hst : st.length ≤ 8) (kk : ∀ r h', Im X (cc, nL, RX6, mn, ret, d) (pc + 3) lv (.inl r :: st) h' (g r h') sz K) : Im X (cc, nL, RX6, mn, ret, d) pc lv (.inr a0 :: st) h (bd2 (f a0 h) g) sz K := by
  refine im_cI (y := yX6_readsFactor) (cY := cX6_readsFactor) (nY := 2) (rY := (some .boolean)) (d' := d0) (av := [.inr a0]) (fun r h' e hX => ?_) (fun r h' e => (HR _ _ _ _ e).2) hd (by decide) hst rfl kk
  obtain ⟨a, c, fs, rfl, ec, hm⟩ := isC_some (HR _ _ _ _ e).1
  cases List.mem_singleton.mp hm
  exact cal_V (n := 0) hX (lw_V q1368 q1370 qs50 q112 q1371) (by decide +kernel) rfl rfl ec hdg

theorem cl_X6_194 {X : CT} {cc : ByteArray} {nL : Nat} {mn : String} {ret : Option FieldType} {d d0 : Nat} {τ : Type} {pc : Nat} {lv : List (Option PV)} {st : List PV} {h : PH} {sz : τ → Nat × Nat} {K : τ → Prop} {f : Int32 → PH → Option (Int32)} (HR : IM_X6_sumSign f d0) {a0 : Int32} {g : Int32 → Option τ} (hd : d0 + 1 ≤ d) (hdg : decode cc pc = .ok (.invokestatic 194, 3)) (hst : st.length ≤ 8) (kk : ∀ r, Im X (cc, nL, RX6, mn, ret, d) (pc + 3) lv (.inl r :: st) h (g r) sz K) : Im X (cc, nL, RX6, mn, ret, d) pc lv (.inl a0 :: st) h ((f a0 h).bind g) sz K := by
  refine im_cP (y := yX6_sumSign) (cY := cX6_sumSign) (nY := 1) (rY := (some .int)) (d' := d0) (av := [.inl a0]) (fun r e hX => ?_) (fun r e => HR _ _ _ e) hd (by decide) hst rfl kk
  exact cal_S (n := 1) hX (lw_S q1392 q1393 q112 q1394) (by decide +kernel) rfl hdg

theorem cl_X6_201 {X : CT} {cc : ByteArray} {nL : Nat} {mn : String} {ret : Option FieldType} {d d0 : Nat} {τ : Type} {pc : Nat} {lv : List (Option PV)} {st : List PV} {h : PH} {sz : τ → Nat × Nat} {K : τ → Prop} {f : Option Nat → Int32 → PH → Option (Int32)} (HR : IM_X6_hasOpenSum f d0) {a0 : Option Nat} {a1 : Int32} {g : Int32 → Option τ} (hd : d0 + 1 ≤ d) (hdg : decode cc pc = .ok (.invokevirtual 201, 3)) (hst : st.length ≤ 8) (kk : ∀ r, Im X (cc, nL, RX6, mn, ret, d) (pc + 3) lv (.inl r :: st) h (g r) sz K) : Im X (cc, nL, RX6, mn, ret, d) pc lv (.inl a1 :: .inr a0 :: st) h ((f a0 a1 h).bind g) sz K := by
  refine im_cP (y := yX6_hasOpenSum) (cY := cX6_hasOpenSum) (nY := 3) (rY := (some .boolean)) (d' := d0) (av := [.inr a0, .inl a1]) (fun r e hX => ?_) (fun r e => (HR _ _ _ _ e).2) hd (by decide) hst rfl kk
  obtain ⟨a, c, fs, rfl, ec, hm⟩ := isC_some (HR _ _ _ _ e).1
  cases List.mem_singleton.mp hm
  exact cal_V (n := 1) hX (lw_V q1403 q1405 qs57 q112 q1406) (by decide +kernel) rfl rfl ec hdg

theorem cl_X6_197 {X : CT} {cc : ByteArray} {nL : Nat} {mn : String} {ret : Option FieldType} {d d0 : Nat} {τ : Type} {pc : Nat} {lv : List (Option PV)} {st : List PV} {h : PH} {sz : τ → Nat × Nat} {K : τ → Prop} {f : Option Nat → Int32 → PH → Option (PH)} (HR : IM_X6_closesSums f d0) {a0 : Option Nat} {a1 : Int32} {g : PH → Option τ} (hd : d0 + 1 ≤ d) (hdg : decode cc pc = .ok (.invokevirtual 197, 3)) (hst : st.length ≤ 8) (kk : ∀ h', Im X (cc, nL, RX6, mn, ret, d) (pc + 3) lv st h' (g h') sz K) : Im X (cc, nL, RX6, mn, ret, d) pc lv (.inl a1 :: .inr a0 :: st) h ((f a0 a1 h).bind g) sz K := by
  refine im_cV (y := yX6_closesSums) (cY := cX6_closesSums) (nY := 2) (rY := none) (d' := d0) (av := [.inr a0, .inl a1]) (fun h' e hX => ?_) (fun h' e => (HR _ _ _ _ e).2) hd (by decide) hst rfl kk
  obtain ⟨a, c, fs, rfl, ec, hm⟩ := isC_some (HR _ _ _ _ e).1
  cases List.mem_singleton.mp hm
  exact cal_V (n := 1) hX (lw_V q1395 q1397 qs55 q112 q1398) (by decide +kernel) rfl rfl ec hdg

def IM_X6_readsSum (f : Option Nat → PH → Option (Int32 × PH)) (d : Nat) : Prop := ∀ (a0 : Option Nat) (h : PH) (r : Int32) (h' : PH), f a0 h = some (r, h') → isC [5] a0 h = true ∧ SpI yX6_readsSum cX6_readsSum 3 (some .boolean) d [.inr a0] h r h'
noncomputable def mo_readsSum_38 (v0 : Option Nat) (v1 : Int32) (v2 : Int32) (s0 : Int32) (s1 : Option Nat) (h : PH) : Option ((PH) ⊕ (Int32 × PH)) :=
  (mo_closesSums s1 s0 h).bind fun h51 =>
  (gfr [5] 15 v0 h51).bind fun r52 =>
  (gfi [5] 11 v0 h51).bind fun x53 =>
  (ast 0 r52 x53 (1048576 * v2) h51).bind fun h54 =>
  (gfi [5] 11 v0 h54).bind fun x55 =>
  (pf [5] 11 v0 (.inl (x55 + 1)) h54).bind fun h56 =>
  (gfi [5] 5 v0 h56).bind fun x57 =>
  (pf [5] 5 v0 (.inl (x57 + 1)) h56).bind fun h58 =>
  bd2 (mo_readsFactor v0 h58) fun x60 h59 =>
  (if x60 = 0 then
  some (.inr ((0, h59)))
  else
  some (.inl h59))
theorem mo_readsSum_38_ok (X : CT) (v0 : Option Nat) (v1 : Int32) (v2 : Int32) (s0 : Int32) (s1 : Option Nat) (h : PH) : Im X (cX6_readsSum, 3, RX6, "readsSum", (some .boolean), 5) 38 [some (.inr v0), some (.inl v1), some (.inl v2)] [.inl s0, .inr s1] h (mo_readsSum_38 v0 v1 v2 s0 s1 h) (ez (fun s : PH => s) szI) (ek X 14 (fun s : PH => [some (.inr v0), some (.inl v1), none]) (fun s : PH => s) (kI X)) := by
  unfold mo_readsSum_38
  refine cl_X6_197 mo_closesSums_im (pc := 38) (by decide) dX6_readsSum_38 (Nat.le_of_ble_eq_true rfl) fun h51 => ?_
  refine im_aload_n (pc := 41) dX6_readsSum_41 rfl rfl ?_
  refine im_gr (pc := 42) fl_X6_26 dX6_readsSum_42 fun r52 => ?_
  refine im_aload_n (pc := 45) dX6_readsSum_45 rfl rfl ?_
  refine im_gi (pc := 46) fl_X6_172 dX6_readsSum_46 fun x53 => ?_
  refine im_ldc (pc := 49) q1376 dX6_readsSum_49 ?_
  refine im_iload_n (pc := 51) dX6_readsSum_51 rfl rfl ?_
  refine im_imul (pc := 52) dX6_readsSum_52 ?_
  refine im_iast (pc := 53) dX6_readsSum_53 fun h54 => ?_
  refine im_aload_n (pc := 54) dX6_readsSum_54 rfl rfl ?_
  refine im_aload_n (pc := 55) dX6_readsSum_55 rfl rfl ?_
  refine im_gi (pc := 56) fl_X6_172 dX6_readsSum_56 fun x55 => ?_
  refine im_iconst (pc := 59) (v := 1) dX6_readsSum_59 (by decide) ?_
  refine im_iadd (pc := 60) dX6_readsSum_60 ?_
  refine im_pf (pc := 61) fp_X6_172 (okT_i _) dX6_readsSum_61 fun h56 => ?_
  refine im_aload_n (pc := 64) dX6_readsSum_64 rfl rfl ?_
  refine im_aload_n (pc := 65) dX6_readsSum_65 rfl rfl ?_
  refine im_gi (pc := 66) fl_X6_142 dX6_readsSum_66 fun x57 => ?_
  refine im_iconst (pc := 69) (v := 1) dX6_readsSum_69 (by decide) ?_
  refine im_iadd (pc := 70) dX6_readsSum_70 ?_
  refine im_pf (pc := 71) fp_X6_142 (okT_i _) dX6_readsSum_71 fun h58 => ?_
  refine im_aload_n (pc := 74) dX6_readsSum_74 rfl rfl ?_
  refine cl_X6_191 mo_readsFactor_im (pc := 75) (by decide) dX6_readsSum_75 (Nat.le_of_ble_eq_true rfl) fun x60 h59 => ?_
  refine im_if_ne (pc := 78) (tgt := 163) dX6_readsSum_78 (by decide) ?_ ?_
  · refine im_goto (pc := 163) (tgt := 14) dX6_readsSum_163 (by decide) ?_
    exact Im.back [true, true, false] rfl rfl
  · refine im_iconst (pc := 81) (v := 0) dX6_readsSum_81 (by decide) ?_
    exact Im.outS (im_zretT (pc := 82) (nar_z (Or.inl rfl)) dX6_readsSum_82)
noncomputable def mo_readsSum_138 (v0 : Option Nat) (v1 : Int32) (h : PH) : Option (Int32 × PH) :=
  (mo_hasOpenSum v0 v1 h).bind fun x51 =>
  (if x51 = 0 then
  (mo_closesSums v0 1 h).bind fun h52 =>
  some ((1, h52))
  else
  (gfi [5] 5 v0 h).bind fun x53 =>
  bd2 (mo_wrongAt v0 1 x53 h) fun x55 h54 =>
  (zok x55).bind fun x56 => some ((x56, h54)))
theorem mo_readsSum_138_ok (X : CT) (v0 : Option Nat) (v1 : Int32) (h : PH) : Im X (cX6_readsSum, 3, RX6, "readsSum", (some .boolean), 5) 138 [some (.inr v0), some (.inl v1), none] [] h (mo_readsSum_138 v0 v1 h) szI (kI X) := by
  unfold mo_readsSum_138
  refine im_aload_n (pc := 138) dX6_readsSum_138 rfl rfl ?_
  refine im_iload_n (pc := 139) dX6_readsSum_139 rfl rfl ?_
  refine cl_X6_201 mo_hasOpenSum_im (pc := 140) (by decide) dX6_readsSum_140 (Nat.le_of_ble_eq_true rfl) fun x51 => ?_
  refine im_if_eq (pc := 143) (tgt := 156) dX6_readsSum_143 (by decide) ?_ ?_
  · refine im_aload_n (pc := 156) dX6_readsSum_156 rfl rfl ?_
    refine im_iconst (pc := 157) (v := 1) dX6_readsSum_157 (by decide) ?_
    refine cl_X6_197 mo_closesSums_im (pc := 158) (by decide) dX6_readsSum_158 (Nat.le_of_ble_eq_true rfl) fun h52 => ?_
    refine im_iconst (pc := 161) (v := 1) dX6_readsSum_161 (by decide) ?_
    exact im_zretT (pc := 162) (nar_z (Or.inr rfl)) dX6_readsSum_162
  · refine im_aload_n (pc := 146) dX6_readsSum_146 rfl rfl ?_
    refine im_iconst (pc := 147) (v := 1) dX6_readsSum_147 (by decide) ?_
    refine im_aload_n (pc := 148) dX6_readsSum_148 rfl rfl ?_
    refine im_gi (pc := 149) fl_X6_142 dX6_readsSum_149 fun x53 => ?_
    refine cl_X6_155 mo_wrongAt_im (pc := 152) (by decide) dX6_readsSum_152 (Nat.le_of_ble_eq_true rfl) fun x55 h54 => ?_
    refine im_zok fun x56 hz => ?_
    exact im_zretT (pc := 155) (nar_z hz) dX6_readsSum_155
noncomputable def mo_readsSum_b14 (v0 : Option Nat) (v1 : Int32) (h : PH) : Option ((PH) ⊕ (Int32 × PH)) :=
  (mo_here v0 h).bind fun x51 =>
  (mo_sumSign x51 h).bind fun x52 =>
  (if x52 = (-1) then
  (mo_here v0 h).bind fun x53 =>
  (if x53 = 93 then
  (mo_hasOpenSum v0 v1 h).bind fun x54 =>
  (if x54 = 0 then
  (mo_readsSum_138 v0 v1 h).map .inr
  else
  (mo_closesSums v0 1 h).bind fun h55 =>
  (gfi [5] 11 v0 h55).bind fun x56 =>
  (pf [5] 11 v0 (.inl (x56 - 1)) h55).bind fun h57 =>
  (gfi [5] 9 v0 h57).bind fun x58 =>
  (pf [5] 9 v0 (.inl (x58 - 1)) h57).bind fun h59 =>
  (gfi [5] 5 v0 h59).bind fun x60 =>
  (pf [5] 5 v0 (.inl (x60 + 1)) h59).bind fun h61 =>
  some (.inl h61))
  else
  (mo_readsSum_138 v0 v1 h).map .inr)
  else
  (if 4 ≤ x52 then
  mo_readsSum_38 v0 v1 x52 0 v0 h
  else
  mo_readsSum_38 v0 v1 x52 1 v0 h))
noncomputable def mo_readsSum_L14 (v0 : Option Nat) (v1 : Int32) (h : PH) : Option (Int32 × PH) :=
  iter (fun s : PH => mo_readsSum_b14 v0 v1 s) h
theorem mo_readsSum_b14_ok (X : CT) (v0 : Option Nat) (v1 : Int32) (h : PH) : Im X (cX6_readsSum, 3, RX6, "readsSum", (some .boolean), 5) 14 [some (.inr v0), some (.inl v1), none] [] h (mo_readsSum_b14 v0 v1 h) (ez (fun s : PH => s) szI) (ek X 14 (fun s : PH => [some (.inr v0), some (.inl v1), none]) (fun s : PH => s) (kI X)) := by
  unfold mo_readsSum_b14
  refine im_aload_n (pc := 14) dX6_readsSum_14 rfl rfl ?_
  refine cl_X6_148 mo_here_im (pc := 15) (by decide) dX6_readsSum_15 (Nat.le_of_ble_eq_true rfl) fun x51 => ?_
  refine cl_X6_194 mo_sumSign_im (pc := 18) (by decide) dX6_readsSum_18 (Nat.le_of_ble_eq_true rfl) fun x52 => ?_
  refine im_istore_n (pc := 21) (lv' := [some (.inr v0), some (.inl v1), some (.inl x52)]) dX6_readsSum_21 rfl (by decide) rfl ?_
  refine im_iload_n (pc := 22) dX6_readsSum_22 rfl rfl ?_
  refine im_iconst (pc := 23) (v := (-1)) dX6_readsSum_23 (by decide) ?_
  refine im_icmp_eq (pc := 24) (tgt := 83) dX6_readsSum_24 (by decide) ?_ ?_
  · refine im_aload_n (pc := 83) dX6_readsSum_83 rfl rfl ?_
    refine cl_X6_148 mo_here_im (pc := 84) (by decide) dX6_readsSum_84 (Nat.le_of_ble_eq_true rfl) fun x53 => ?_
    refine im_bipush (pc := 87) (v := 93) dX6_readsSum_87 (by decide) ?_
    refine im_icmp_ne (pc := 89) (tgt := 138) dX6_readsSum_89 (by decide) ?_ ?_
    · exact Im.out (Im.drop [true, true, false] rfl (mo_readsSum_138_ok X v0 v1 h))
    · refine im_aload_n (pc := 92) dX6_readsSum_92 rfl rfl ?_
      refine im_iload_n (pc := 93) dX6_readsSum_93 rfl rfl ?_
      refine cl_X6_201 mo_hasOpenSum_im (pc := 94) (by decide) dX6_readsSum_94 (Nat.le_of_ble_eq_true rfl) fun x54 => ?_
      refine im_if_eq (pc := 97) (tgt := 138) dX6_readsSum_97 (by decide) ?_ ?_
      · exact Im.out (Im.drop [true, true, false] rfl (mo_readsSum_138_ok X v0 v1 h))
      · refine im_aload_n (pc := 100) dX6_readsSum_100 rfl rfl ?_
        refine im_iconst (pc := 101) (v := 1) dX6_readsSum_101 (by decide) ?_
        refine cl_X6_197 mo_closesSums_im (pc := 102) (by decide) dX6_readsSum_102 (Nat.le_of_ble_eq_true rfl) fun h55 => ?_
        refine im_aload_n (pc := 105) dX6_readsSum_105 rfl rfl ?_
        refine im_aload_n (pc := 106) dX6_readsSum_106 rfl rfl ?_
        refine im_gi (pc := 107) fl_X6_172 dX6_readsSum_107 fun x56 => ?_
        refine im_iconst (pc := 110) (v := 1) dX6_readsSum_110 (by decide) ?_
        refine im_isub (pc := 111) dX6_readsSum_111 ?_
        refine im_pf (pc := 112) fp_X6_172 (okT_i _) dX6_readsSum_112 fun h57 => ?_
        refine im_aload_n (pc := 115) dX6_readsSum_115 rfl rfl ?_
        refine im_aload_n (pc := 116) dX6_readsSum_116 rfl rfl ?_
        refine im_gi (pc := 117) fl_X6_169 dX6_readsSum_117 fun x58 => ?_
        refine im_iconst (pc := 120) (v := 1) dX6_readsSum_120 (by decide) ?_
        refine im_isub (pc := 121) dX6_readsSum_121 ?_
        refine im_pf (pc := 122) fp_X6_169 (okT_i _) dX6_readsSum_122 fun h59 => ?_
        refine im_aload_n (pc := 125) dX6_readsSum_125 rfl rfl ?_
        refine im_aload_n (pc := 126) dX6_readsSum_126 rfl rfl ?_
        refine im_gi (pc := 127) fl_X6_142 dX6_readsSum_127 fun x60 => ?_
        refine im_iconst (pc := 130) (v := 1) dX6_readsSum_130 (by decide) ?_
        refine im_iadd (pc := 131) dX6_readsSum_131 ?_
        refine im_pf (pc := 132) fp_X6_142 (okT_i _) dX6_readsSum_132 fun h61 => ?_
        refine im_goto (pc := 135) (tgt := 163) dX6_readsSum_135 (by decide) ?_
        refine im_goto (pc := 163) (tgt := 14) dX6_readsSum_163 (by decide) ?_
        exact Im.back [true, true, false] rfl rfl
  · refine im_aload_n (pc := 27) dX6_readsSum_27 rfl rfl ?_
    refine im_iload_n (pc := 28) dX6_readsSum_28 rfl rfl ?_
    refine im_iconst (pc := 29) (v := 4) dX6_readsSum_29 (by decide) ?_
    refine im_icmp_ge (pc := 30) (tgt := 37) dX6_readsSum_30 (by decide) ?_ ?_
    · refine im_iconst (pc := 37) (v := 0) dX6_readsSum_37 (by decide) ?_
      exact Im.drop [true, true, true] rfl (mo_readsSum_38_ok X v0 v1 x52 0 v0 h)
    · refine im_iconst (pc := 33) (v := 1) dX6_readsSum_33 (by decide) ?_
      refine im_goto (pc := 34) (tgt := 38) dX6_readsSum_34 (by decide) ?_
      exact Im.drop [true, true, true] rfl (mo_readsSum_38_ok X v0 v1 x52 1 v0 h)
theorem mo_readsSum_L14_ok (X : CT) (v0 : Option Nat) (v1 : Int32) (h : PH) : Im X (cX6_readsSum, 3, RX6, "readsSum", (some .boolean), 5) 14 [some (.inr v0), some (.inl v1), none] [] h (mo_readsSum_L14 v0 v1 h) szI (kI X) := by
  unfold mo_readsSum_L14
  exact Im.iter (lv := (fun s : PH => [some (.inr v0), some (.inl v1), none])) (hp := (fun s : PH => s)) (fun s => mo_readsSum_b14_ok X v0 v1 s) _ rfl rfl
noncomputable def mo_readsSum_0 (v0 : Option Nat) (h : PH) : Option (Int32 × PH) :=
  (gfi [5] 11 v0 h).bind fun x51 =>
  bd2 (mo_readsFactor v0 h) fun x53 h52 =>
  (if x53 = 0 then
  some ((0, h52))
  else
  mo_readsSum_L14 v0 x51 h52)
theorem mo_readsSum_0_ok (X : CT) (v0 : Option Nat) (h : PH) : Im X (cX6_readsSum, 3, RX6, "readsSum", (some .boolean), 5) 0 [some (.inr v0), none, none] [] h (mo_readsSum_0 v0 h) szI (kI X) := by
  unfold mo_readsSum_0
  refine im_aload_n (pc := 0) dX6_readsSum_0 rfl rfl ?_
  refine im_gi (pc := 1) fl_X6_172 dX6_readsSum_1 fun x51 => ?_
  refine im_istore_n (pc := 4) (lv' := [some (.inr v0), some (.inl x51), none]) dX6_readsSum_4 rfl (by decide) rfl ?_
  refine im_aload_n (pc := 5) dX6_readsSum_5 rfl rfl ?_
  refine cl_X6_191 mo_readsFactor_im (pc := 6) (by decide) dX6_readsSum_6 (Nat.le_of_ble_eq_true rfl) fun x53 h52 => ?_
  refine im_if_ne (pc := 9) (tgt := 14) dX6_readsSum_9 (by decide) ?_ ?_
  · exact Im.drop [true, true, false] rfl (mo_readsSum_L14_ok X v0 x51 h52)
  · refine im_iconst (pc := 12) (v := 0) dX6_readsSum_12 (by decide) ?_
    exact im_zretT (pc := 13) (nar_z (Or.inl rfl)) dX6_readsSum_13
noncomputable def mo_readsSum (a0 : Option Nat) (h : PH) : Option (Int32 × PH) := grd (isC [5] a0 h) (mo_readsSum_0 a0 h)
theorem mo_readsSum_im : IM_X6_readsSum mo_readsSum 5 := by
  intro a0 h r h' e
  obtain ⟨e1, e2⟩ := grd_some e
  exact ⟨e1, SpI.of (k := 2) (plainFor_of_name (by decide)) rfl (fun X => Im.drop [true, false, false] rfl (mo_readsSum_0_ok X a0 h)) e2⟩
def IM_X6_endsPiece (f : Option Nat → PH → Option (PH)) (d : Nat) : Prop := ∀ (a0 : Option Nat) (h : PH) (h' : PH), f a0 h = some h' → isC [5] a0 h = true ∧ SpV yX6_endsPiece cX6_endsPiece 1 none d [.inr a0] h h'
noncomputable def mo_endsPiece_b0 (v0 : Option Nat) (h : PH) : Option ((PH) ⊕ (PH)) :=
  (mo_waitTop v0 h).bind fun x51 =>
  (if x51 = 10 then
  (mo_notes v0 10 0 h).bind fun h52 =>
  (gfi [5] 11 v0 h52).bind fun x53 =>
  (pf [5] 11 v0 (.inl (x53 - 1)) h52).bind fun h54 =>
  (gfi [5] 9 v0 h54).bind fun x55 =>
  (pf [5] 9 v0 (.inl (x55 - 1)) h54).bind fun h56 =>
  some (.inl h56)
  else
  some (.inr h))
noncomputable def mo_endsPiece_L0 (v0 : Option Nat) (h : PH) : Option (PH) :=
  iter (fun s : PH => mo_endsPiece_b0 v0 s) h
theorem mo_endsPiece_b0_ok (X : CT) (v0 : Option Nat) (h : PH) : Im X (cX6_endsPiece, 1, RX6, "endsPiece", none, 2) 0 [some (.inr v0)] [] h (mo_endsPiece_b0 v0 h) (ez (fun s : PH => s) szV) (ek X 0 (fun s : PH => [some (.inr v0)]) (fun s : PH => s) (kV X)) := by
  unfold mo_endsPiece_b0
  refine im_aload_n (pc := 0) dX6_endsPiece_0 rfl rfl ?_
  refine cl_X6_175 mo_waitTop_im (pc := 1) (by decide) dX6_endsPiece_1 (Nat.le_of_ble_eq_true rfl) fun x51 => ?_
  refine im_bipush (pc := 4) (v := 10) dX6_endsPiece_4 (by decide) ?_
  refine im_icmp_ne (pc := 6) (tgt := 39) dX6_endsPiece_6 (by decide) ?_ ?_
  · exact Im.outS (im_vret (pc := 39) dX6_endsPiece_39)
  · refine im_aload_n (pc := 9) dX6_endsPiece_9 rfl rfl ?_
    refine im_bipush (pc := 10) (v := 10) dX6_endsPiece_10 (by decide) ?_
    refine im_iconst (pc := 12) (v := 0) dX6_endsPiece_12 (by decide) ?_
    refine cl_X6_178 mo_notes_im (pc := 13) (by decide) dX6_endsPiece_13 (Nat.le_of_ble_eq_true rfl) fun h52 => ?_
    refine im_aload_n (pc := 16) dX6_endsPiece_16 rfl rfl ?_
    refine im_aload_n (pc := 17) dX6_endsPiece_17 rfl rfl ?_
    refine im_gi (pc := 18) fl_X6_172 dX6_endsPiece_18 fun x53 => ?_
    refine im_iconst (pc := 21) (v := 1) dX6_endsPiece_21 (by decide) ?_
    refine im_isub (pc := 22) dX6_endsPiece_22 ?_
    refine im_pf (pc := 23) fp_X6_172 (okT_i _) dX6_endsPiece_23 fun h54 => ?_
    refine im_aload_n (pc := 26) dX6_endsPiece_26 rfl rfl ?_
    refine im_aload_n (pc := 27) dX6_endsPiece_27 rfl rfl ?_
    refine im_gi (pc := 28) fl_X6_169 dX6_endsPiece_28 fun x55 => ?_
    refine im_iconst (pc := 31) (v := 1) dX6_endsPiece_31 (by decide) ?_
    refine im_isub (pc := 32) dX6_endsPiece_32 ?_
    refine im_pf (pc := 33) fp_X6_169 (okT_i _) dX6_endsPiece_33 fun h56 => ?_
    refine im_goto (pc := 36) (tgt := 0) dX6_endsPiece_36 (by decide) ?_
    exact Im.back [true] rfl rfl
theorem mo_endsPiece_L0_ok (X : CT) (v0 : Option Nat) (h : PH) : Im X (cX6_endsPiece, 1, RX6, "endsPiece", none, 2) 0 [some (.inr v0)] [] h (mo_endsPiece_L0 v0 h) szV (kV X) := by
  unfold mo_endsPiece_L0
  exact Im.iter (lv := (fun s : PH => [some (.inr v0)])) (hp := (fun s : PH => s)) (fun s => mo_endsPiece_b0_ok X v0 s) _ rfl rfl
noncomputable def mo_endsPiece (a0 : Option Nat) (h : PH) : Option (PH) := grd (isC [5] a0 h) (mo_endsPiece_L0 a0 h)
theorem mo_endsPiece_im : IM_X6_endsPiece mo_endsPiece 2 := by
  intro a0 h h' e
  obtain ⟨e1, e2⟩ := grd_some e
  exact ⟨e1, SpV.of (k := 0) (plainFor_of_name (by decide)) rfl (fun X => Im.drop [true] rfl (mo_endsPiece_L0_ok X a0 h)) e2⟩
theorem cl_X6_204 {X : CT} {cc : ByteArray} {nL : Nat} {mn : String} {ret : Option FieldType} {d d0 : Nat} {τ : Type} {pc : Nat} {lv : List (Option PV)} {st : List PV} {h : PH} {sz : τ → Nat × Nat} {K : τ → Prop} {f : Option Nat → PH → Option (Int32 × PH)} (HR : IM_X6_readsSum f d0) {a0 : Option Nat} {g : Int32 → PH → Option τ} (hd : d0 + 1 ≤ d) (hdg : decode cc pc = .ok (.invokevirtual 204, 3)) (hst : st.length ≤ 8) (kk : ∀ r h', Im X (cc, nL, RX6, mn, ret, d) (pc + 3) lv (.inl r :: st) h' (g r h') sz K) : Im X (cc, nL, RX6, mn, ret, d) pc lv (.inr a0 :: st) h (bd2 (f a0 h) g) sz K := by
  refine im_cI (y := yX6_readsSum) (cY := cX6_readsSum) (nY := 3) (rY := (some .boolean)) (d' := d0) (av := [.inr a0]) (fun r h' e hX => ?_) (fun r h' e => (HR _ _ _ _ e).2) hd (by decide) hst rfl kk
  obtain ⟨a, c, fs, rfl, ec, hm⟩ := isC_some (HR _ _ _ _ e).1
  cases List.mem_singleton.mp hm
  exact cal_V (n := 0) hX (lw_V q1364 q1366 qs49 q112 q1367) (by decide +kernel) rfl rfl ec hdg

theorem cl_X6_207 {X : CT} {cc : ByteArray} {nL : Nat} {mn : String} {ret : Option FieldType} {d d0 : Nat} {τ : Type} {pc : Nat} {lv : List (Option PV)} {st : List PV} {h : PH} {sz : τ → Nat × Nat} {K : τ → Prop} {f : Option Nat → PH → Option (PH)} (HR : IM_X6_endsPiece f d0) {a0 : Option Nat} {g : PH → Option τ} (hd : d0 + 1 ≤ d) (hdg : decode cc pc = .ok (.invokevirtual 207, 3)) (hst : st.length ≤ 8) (kk : ∀ h', Im X (cc, nL, RX6, mn, ret, d) (pc + 3) lv st h' (g h') sz K) : Im X (cc, nL, RX6, mn, ret, d) pc lv (.inr a0 :: st) h ((f a0 h).bind g) sz K := by
  refine im_cV (y := yX6_endsPiece) (cY := cX6_endsPiece) (nY := 1) (rY := none) (d' := d0) (av := [.inr a0]) (fun h' e hX => ?_) (fun h' e => (HR _ _ _ e).2) hd (by decide) hst rfl kk
  obtain ⟨a, c, fs, rfl, ec, hm⟩ := isC_some (HR _ _ _ e).1
  cases List.mem_singleton.mp hm
  exact cal_V (n := 0) hX (lw_V q1415 q1417 qs60 q112 q1418) (by decide +kernel) rfl rfl ec hdg

def IM_X6_readsCompared (f : Option Nat → PH → Option (Int32 × PH)) (d : Nat) : Prop := ∀ (a0 : Option Nat) (h : PH) (r : Int32) (h' : PH), f a0 h = some (r, h') → isC [5] a0 h = true ∧ SpI yX6_readsCompared cX6_readsCompared 2 (some .boolean) d [.inr a0] h r h'
noncomputable def mo_readsCompared_52 (v0 : Option Nat) (s0 : Int32) (h : PH) : Option (Int32 × PH) :=
  (if s0 = (-1) then
  (gfi [5] 5 v0 h).bind fun x57 =>
  bd2 (mo_wrongAt v0 1 x57 h) fun x59 h58 =>
  (zok x59).bind fun x60 => some ((x60, h58))
  else
  (gfi [5] 5 v0 h).bind fun x51 =>
  (pf [5] 5 v0 (.inl (x51 + 1)) h).bind fun h52 =>
  bd2 (mo_readsSum v0 h52) fun x54 h53 =>
  (if x54 = 0 then
  some ((0, h53))
  else
  (mo_notes v0 s0 0 h53).bind fun h55 =>
  (mo_endsPiece v0 h55).bind fun h56 =>
  some ((1, h56))))
theorem mo_readsCompared_52_ok (X : CT) (v0 : Option Nat) (s0 : Int32) (h : PH) : Im X (cX6_readsCompared, 2, RX6, "readsCompared", (some .boolean), 6) 52 [some (.inr v0), none] [.inl s0] h (mo_readsCompared_52 v0 s0 h) szI (kI X) := by
  unfold mo_readsCompared_52
  refine im_istore_n (pc := 52) (lv' := [some (.inr v0), some (.inl s0)]) dX6_readsCompared_52 rfl (by decide) rfl ?_
  refine im_iload_n (pc := 53) dX6_readsCompared_53 rfl rfl ?_
  refine im_iconst (pc := 54) (v := (-1)) dX6_readsCompared_54 (by decide) ?_
  refine im_icmp_ne (pc := 55) (tgt := 68) dX6_readsCompared_55 (by decide) ?_ ?_
  · refine im_aload_n (pc := 68) dX6_readsCompared_68 rfl rfl ?_
    refine im_aload_n (pc := 69) dX6_readsCompared_69 rfl rfl ?_
    refine im_gi (pc := 70) fl_X6_142 dX6_readsCompared_70 fun x51 => ?_
    refine im_iconst (pc := 73) (v := 1) dX6_readsCompared_73 (by decide) ?_
    refine im_iadd (pc := 74) dX6_readsCompared_74 ?_
    refine im_pf (pc := 75) fp_X6_142 (okT_i _) dX6_readsCompared_75 fun h52 => ?_
    refine im_aload_n (pc := 78) dX6_readsCompared_78 rfl rfl ?_
    refine cl_X6_204 mo_readsSum_im (pc := 79) (by decide) dX6_readsCompared_79 (Nat.le_of_ble_eq_true rfl) fun x54 h53 => ?_
    refine im_if_ne (pc := 82) (tgt := 87) dX6_readsCompared_82 (by decide) ?_ ?_
    · refine im_aload_n (pc := 87) dX6_readsCompared_87 rfl rfl ?_
      refine im_iload_n (pc := 88) dX6_readsCompared_88 rfl rfl ?_
      refine im_iconst (pc := 89) (v := 0) dX6_readsCompared_89 (by decide) ?_
      refine cl_X6_178 mo_notes_im (pc := 90) (by decide) dX6_readsCompared_90 (Nat.le_of_ble_eq_true rfl) fun h55 => ?_
      refine im_aload_n (pc := 93) dX6_readsCompared_93 rfl rfl ?_
      refine cl_X6_207 mo_endsPiece_im (pc := 94) (by decide) dX6_readsCompared_94 (Nat.le_of_ble_eq_true rfl) fun h56 => ?_
      refine im_iconst (pc := 97) (v := 1) dX6_readsCompared_97 (by decide) ?_
      exact im_zretT (pc := 98) (nar_z (Or.inr rfl)) dX6_readsCompared_98
    · refine im_iconst (pc := 85) (v := 0) dX6_readsCompared_85 (by decide) ?_
      exact im_zretT (pc := 86) (nar_z (Or.inl rfl)) dX6_readsCompared_86
  · refine im_aload_n (pc := 58) dX6_readsCompared_58 rfl rfl ?_
    refine im_iconst (pc := 59) (v := 1) dX6_readsCompared_59 (by decide) ?_
    refine im_aload_n (pc := 60) dX6_readsCompared_60 rfl rfl ?_
    refine im_gi (pc := 61) fl_X6_142 dX6_readsCompared_61 fun x57 => ?_
    refine cl_X6_155 mo_wrongAt_im (pc := 64) (by decide) dX6_readsCompared_64 (Nat.le_of_ble_eq_true rfl) fun x59 h58 => ?_
    refine im_zok fun x60 hz => ?_
    exact im_zretT (pc := 67) (nar_z hz) dX6_readsCompared_67
noncomputable def mo_readsCompared_0 (v0 : Option Nat) (h : PH) : Option (Int32 × PH) :=
  bd2 (mo_readsSum v0 h) fun x52 h51 =>
  (if x52 = 0 then
  some ((0, h51))
  else
  (mo_here v0 h51).bind fun x53 =>
  (if x53 = 60 then
  mo_readsCompared_52 v0 7 h51
  else
  (mo_here v0 h51).bind fun x54 =>
  (if x54 = 62 then
  mo_readsCompared_52 v0 8 h51
  else
  (mo_here v0 h51).bind fun x55 =>
  (if x55 = 61 then
  mo_readsCompared_52 v0 9 h51
  else
  mo_readsCompared_52 v0 (-1) h51))))
theorem mo_readsCompared_0_ok (X : CT) (v0 : Option Nat) (h : PH) : Im X (cX6_readsCompared, 2, RX6, "readsCompared", (some .boolean), 6) 0 [some (.inr v0), none] [] h (mo_readsCompared_0 v0 h) szI (kI X) := by
  unfold mo_readsCompared_0
  refine im_aload_n (pc := 0) dX6_readsCompared_0 rfl rfl ?_
  refine cl_X6_204 mo_readsSum_im (pc := 1) (by decide) dX6_readsCompared_1 (Nat.le_of_ble_eq_true rfl) fun x52 h51 => ?_
  refine im_if_ne (pc := 4) (tgt := 9) dX6_readsCompared_4 (by decide) ?_ ?_
  · refine im_aload_n (pc := 9) dX6_readsCompared_9 rfl rfl ?_
    refine cl_X6_148 mo_here_im (pc := 10) (by decide) dX6_readsCompared_10 (Nat.le_of_ble_eq_true rfl) fun x53 => ?_
    refine im_bipush (pc := 13) (v := 60) dX6_readsCompared_13 (by decide) ?_
    refine im_icmp_ne (pc := 15) (tgt := 23) dX6_readsCompared_15 (by decide) ?_ ?_
    · refine im_aload_n (pc := 23) dX6_readsCompared_23 rfl rfl ?_
      refine cl_X6_148 mo_here_im (pc := 24) (by decide) dX6_readsCompared_24 (Nat.le_of_ble_eq_true rfl) fun x54 => ?_
      refine im_bipush (pc := 27) (v := 62) dX6_readsCompared_27 (by decide) ?_
      refine im_icmp_ne (pc := 29) (tgt := 37) dX6_readsCompared_29 (by decide) ?_ ?_
      · refine im_aload_n (pc := 37) dX6_readsCompared_37 rfl rfl ?_
        refine cl_X6_148 mo_here_im (pc := 38) (by decide) dX6_readsCompared_38 (Nat.le_of_ble_eq_true rfl) fun x55 => ?_
        refine im_bipush (pc := 41) (v := 61) dX6_readsCompared_41 (by decide) ?_
        refine im_icmp_ne (pc := 43) (tgt := 51) dX6_readsCompared_43 (by decide) ?_ ?_
        · refine im_iconst (pc := 51) (v := (-1)) dX6_readsCompared_51 (by decide) ?_
          exact Im.drop [true, false] rfl (mo_readsCompared_52_ok X v0 (-1) h51)
        · refine im_bipush (pc := 46) (v := 9) dX6_readsCompared_46 (by decide) ?_
          refine im_goto (pc := 48) (tgt := 52) dX6_readsCompared_48 (by decide) ?_
          exact Im.drop [true, false] rfl (mo_readsCompared_52_ok X v0 9 h51)
      · refine im_bipush (pc := 32) (v := 8) dX6_readsCompared_32 (by decide) ?_
        refine im_goto (pc := 34) (tgt := 52) dX6_readsCompared_34 (by decide) ?_
        exact Im.drop [true, false] rfl (mo_readsCompared_52_ok X v0 8 h51)
    · refine im_bipush (pc := 18) (v := 7) dX6_readsCompared_18 (by decide) ?_
      refine im_goto (pc := 20) (tgt := 52) dX6_readsCompared_20 (by decide) ?_
      exact Im.drop [true, false] rfl (mo_readsCompared_52_ok X v0 7 h51)
  · refine im_iconst (pc := 7) (v := 0) dX6_readsCompared_7 (by decide) ?_
    exact im_zretT (pc := 8) (nar_z (Or.inl rfl)) dX6_readsCompared_8
noncomputable def mo_readsCompared (a0 : Option Nat) (h : PH) : Option (Int32 × PH) := grd (isC [5] a0 h) (mo_readsCompared_0 a0 h)
theorem mo_readsCompared_im : IM_X6_readsCompared mo_readsCompared 6 := by
  intro a0 h r h' e
  obtain ⟨e1, e2⟩ := grd_some e
  exact ⟨e1, SpI.of (k := 1) (plainFor_of_name (by decide)) rfl (fun X => Im.drop [true, false] rfl (mo_readsCompared_0_ok X a0 h)) e2⟩
def IM_X6_lands (f : Option Nat → Int32 → PH → Option (PH)) (d : Nat) : Prop := ∀ (a0 : Option Nat) (a1 : Int32) (h : PH) (h' : PH), f a0 a1 h = some h' → isC [5] a0 h = true ∧ SpV yX6_lands cX6_lands 3 none d [.inr a0, .inl a1] h h'
noncomputable def mo_lands_22 (v0 : Option Nat) (v1 : Int32) (h : PH) : Option ((PH) ⊕ (PH)) :=
  (gfr [5] 15 v0 h).bind fun r51 =>
  (gfi [5] 11 v0 h).bind fun x52 =>
  (ald 0 r51 (x52 - 1) h).bind fun x53 =>
  (gfr [5] 14 v0 h).bind fun r54 =>
  (gfr [5] 14 v0 h).bind fun r55 =>
  (ald 0 r55 (irm x53 1048576) h).bind fun x56 =>
  (gfi [5] 10 v0 h).bind fun x57 =>
  (ast 0 r54 (irm x53 1048576) ((1048576 * (x56 / 1048576)) + x57) h).bind fun h58 =>
  (gfi [5] 11 v0 h58).bind fun x59 =>
  (pf [5] 11 v0 (.inl (x59 - 1)) h58).bind fun h60 =>
  some (.inl h60)
theorem mo_lands_22_ok (X : CT) (v0 : Option Nat) (v1 : Int32) (h : PH) : Im X (cX6_lands, 3, RX6, "lands", none, 2) 22 [some (.inr v0), some (.inl v1), none] [] h (mo_lands_22 v0 v1 h) (ez (fun s : PH => s) szV) (ek X 0 (fun s : PH => [some (.inr v0), some (.inl v1), none]) (fun s : PH => s) (kV X)) := by
  unfold mo_lands_22
  refine im_aload_n (pc := 22) dX6_lands_22 rfl rfl ?_
  refine im_gr (pc := 23) fl_X6_26 dX6_lands_23 fun r51 => ?_
  refine im_aload_n (pc := 26) dX6_lands_26 rfl rfl ?_
  refine im_gi (pc := 27) fl_X6_172 dX6_lands_27 fun x52 => ?_
  refine im_iconst (pc := 30) (v := 1) dX6_lands_30 (by decide) ?_
  refine im_isub (pc := 31) dX6_lands_31 ?_
  refine im_iald (pc := 32) dX6_lands_32 fun x53 => ?_
  refine im_ldc (pc := 33) q1376 dX6_lands_33 ?_
  refine im_iremC (pc := 35) (by decide) dX6_lands_35 ?_
  refine im_istore_n (pc := 36) (lv' := [some (.inr v0), some (.inl v1), some (.inl (irm x53 1048576))]) dX6_lands_36 rfl (by decide) rfl ?_
  refine im_aload_n (pc := 37) dX6_lands_37 rfl rfl ?_
  refine im_gr (pc := 38) fl_X6_23 dX6_lands_38 fun r54 => ?_
  refine im_iload_n (pc := 41) dX6_lands_41 rfl rfl ?_
  refine im_ldc (pc := 42) q1376 dX6_lands_42 ?_
  refine im_aload_n (pc := 44) dX6_lands_44 rfl rfl ?_
  refine im_gr (pc := 45) fl_X6_23 dX6_lands_45 fun r55 => ?_
  refine im_iload_n (pc := 48) dX6_lands_48 rfl rfl ?_
  refine im_iald (pc := 49) dX6_lands_49 fun x56 => ?_
  refine im_ldc (pc := 50) q1376 dX6_lands_50 ?_
  refine im_idivC (pc := 52) (by decide) dX6_lands_52 ?_
  refine im_imul (pc := 53) dX6_lands_53 ?_
  refine im_aload_n (pc := 54) dX6_lands_54 rfl rfl ?_
  refine im_gi (pc := 55) fl_X6_165 dX6_lands_55 fun x57 => ?_
  refine im_iadd (pc := 58) dX6_lands_58 ?_
  refine im_iast (pc := 59) dX6_lands_59 fun h58 => ?_
  refine im_aload_n (pc := 60) dX6_lands_60 rfl rfl ?_
  refine im_aload_n (pc := 61) dX6_lands_61 rfl rfl ?_
  refine im_gi (pc := 62) fl_X6_172 dX6_lands_62 fun x59 => ?_
  refine im_iconst (pc := 65) (v := 1) dX6_lands_65 (by decide) ?_
  refine im_isub (pc := 66) dX6_lands_66 ?_
  refine im_pf (pc := 67) fp_X6_172 (okT_i _) dX6_lands_67 fun h60 => ?_
  refine im_goto (pc := 70) (tgt := 0) dX6_lands_70 (by decide) ?_
  exact Im.back [true, true, false] rfl rfl
noncomputable def mo_lands_b0 (v0 : Option Nat) (v1 : Int32) (h : PH) : Option ((PH) ⊕ (PH)) :=
  (mo_waitTop v0 h).bind fun x51 =>
  (if x51 = 11 then
  mo_lands_22 v0 v1 h
  else
  (if v1 = 0 then
  some (.inr h)
  else
  (mo_waitTop v0 h).bind fun x52 =>
  (if x52 = 12 then
  mo_lands_22 v0 v1 h
  else
  some (.inr h))))
noncomputable def mo_lands_L0 (v0 : Option Nat) (v1 : Int32) (h : PH) : Option (PH) :=
  iter (fun s : PH => mo_lands_b0 v0 v1 s) h
theorem mo_lands_b0_ok (X : CT) (v0 : Option Nat) (v1 : Int32) (h : PH) : Im X (cX6_lands, 3, RX6, "lands", none, 2) 0 [some (.inr v0), some (.inl v1), none] [] h (mo_lands_b0 v0 v1 h) (ez (fun s : PH => s) szV) (ek X 0 (fun s : PH => [some (.inr v0), some (.inl v1), none]) (fun s : PH => s) (kV X)) := by
  unfold mo_lands_b0
  refine im_aload_n (pc := 0) dX6_lands_0 rfl rfl ?_
  refine cl_X6_175 mo_waitTop_im (pc := 1) (by decide) dX6_lands_1 (Nat.le_of_ble_eq_true rfl) fun x51 => ?_
  refine im_bipush (pc := 4) (v := 11) dX6_lands_4 (by decide) ?_
  refine im_icmp_eq (pc := 6) (tgt := 22) dX6_lands_6 (by decide) ?_ ?_
  · exact Im.drop [true, true, false] rfl (mo_lands_22_ok X v0 v1 h)
  · refine im_iload_n (pc := 9) dX6_lands_9 rfl rfl ?_
    refine im_if_eq (pc := 10) (tgt := 73) dX6_lands_10 (by decide) ?_ ?_
    · exact Im.outS (im_vret (pc := 73) dX6_lands_73)
    · refine im_aload_n (pc := 13) dX6_lands_13 rfl rfl ?_
      refine cl_X6_175 mo_waitTop_im (pc := 14) (by decide) dX6_lands_14 (Nat.le_of_ble_eq_true rfl) fun x52 => ?_
      refine im_bipush (pc := 17) (v := 12) dX6_lands_17 (by decide) ?_
      refine im_icmp_ne (pc := 19) (tgt := 73) dX6_lands_19 (by decide) ?_ ?_
      · exact Im.outS (im_vret (pc := 73) dX6_lands_73)
      · exact Im.drop [true, true, false] rfl (mo_lands_22_ok X v0 v1 h)
theorem mo_lands_L0_ok (X : CT) (v0 : Option Nat) (v1 : Int32) (h : PH) : Im X (cX6_lands, 3, RX6, "lands", none, 2) 0 [some (.inr v0), some (.inl v1), none] [] h (mo_lands_L0 v0 v1 h) szV (kV X) := by
  unfold mo_lands_L0
  exact Im.iter (lv := (fun s : PH => [some (.inr v0), some (.inl v1), none])) (hp := (fun s : PH => s)) (fun s => mo_lands_b0_ok X v0 v1 s) _ rfl rfl
noncomputable def mo_lands (a0 : Option Nat) (a1 : Int32) (h : PH) : Option (PH) := grd (isC [5] a0 h) (mo_lands_L0 a0 a1 h)
theorem mo_lands_im : IM_X6_lands mo_lands 2 := by
  intro a0 a1 h h' e
  obtain ⟨e1, e2⟩ := grd_some e
  exact ⟨e1, SpV.of (k := 1) (plainFor_of_name (by decide)) rfl (fun X => Im.drop [true, true, false] rfl (mo_lands_L0_ok X a0 a1 h)) e2⟩
