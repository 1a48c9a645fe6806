set_option maxRecDepth 100000
def IM_X6_jumps (f : Option Nat → Int32 → PH → Option (PH)) (d : Nat) : Prop := ∀ (a0 : Option Nat) (a1 : Int32) (h : PH) (h' : PH), f a0 a1 h = some h' → isC [5] a0 h = true ∧ SpV yX6_jumps cX6_jumps 2 none d [.inr a0, .inl a1] h h'
noncomputable def mo_jumps_0 (v0 : Option Nat) (v1 : Int32) (h : PH) : Option (PH) :=
  (gfr [5] 15 v0 h).bind fun r51 =>
  (gfi [5] 11 v0 h).bind fun x52 =>
  (gfi [5] 10 v0 h).bind fun x53 =>
  (ast 0 r51 x52 ((1048576 * v1) + x53) h).bind fun h54 =>
  (gfi [5] 11 v0 h54).bind fun x55 =>
  (pf [5] 11 v0 (.inl (x55 + 1)) h54).bind fun h56 =>
  (mo_notes v0 v1 0 h56).bind fun h57 =>
  (gfi [5] 5 v0 h57).bind fun x58 =>
  (pf [5] 5 v0 (.inl (x58 + 1)) h57).bind fun h59 =>
  some (h59)
theorem mo_jumps_0_ok (X : CT) (v0 : Option Nat) (v1 : Int32) (h : PH) : Im X (cX6_jumps, 2, RX6, "jumps", none, 2) 0 [some (.inr v0), some (.inl v1)] [] h (mo_jumps_0 v0 v1 h) szV (kV X) := by
  unfold mo_jumps_0
  refine im_aload_n (pc := 0) dX6_jumps_0 rfl rfl ?_
  refine im_gr (pc := 1) fl_X6_26 dX6_jumps_1 fun r51 => ?_
  refine im_aload_n (pc := 4) dX6_jumps_4 rfl rfl ?_
  refine im_gi (pc := 5) fl_X6_172 dX6_jumps_5 fun x52 => ?_
  refine im_ldc (pc := 8) q1376 dX6_jumps_8 ?_
  refine im_iload_n (pc := 10) dX6_jumps_10 rfl rfl ?_
  refine im_imul (pc := 11) dX6_jumps_11 ?_
  refine im_aload_n (pc := 12) dX6_jumps_12 rfl rfl ?_
  refine im_gi (pc := 13) fl_X6_165 dX6_jumps_13 fun x53 => ?_
  refine im_iadd (pc := 16) dX6_jumps_16 ?_
  refine im_iast (pc := 17) dX6_jumps_17 fun h54 => ?_
  refine im_aload_n (pc := 18) dX6_jumps_18 rfl rfl ?_
  refine im_aload_n (pc := 19) dX6_jumps_19 rfl rfl ?_
  refine im_gi (pc := 20) fl_X6_172 dX6_jumps_20 fun x55 => ?_
  refine im_iconst (pc := 23) (v := 1) dX6_jumps_23 (by decide) ?_
  refine im_iadd (pc := 24) dX6_jumps_24 ?_
  refine im_pf (pc := 25) fp_X6_172 (okT_i _) dX6_jumps_25 fun h56 => ?_
  refine im_aload_n (pc := 28) dX6_jumps_28 rfl rfl ?_
  refine im_iload_n (pc := 29) dX6_jumps_29 rfl rfl ?_
  refine im_iconst (pc := 30) (v := 0) dX6_jumps_30 (by decide) ?_
  refine cl_X6_178 mo_notes_im (pc := 31) (by decide) dX6_jumps_31 (Nat.le_of_ble_eq_true rfl) fun h57 => ?_
  refine im_aload_n (pc := 34) dX6_jumps_34 rfl rfl ?_
  refine im_aload_n (pc := 35) dX6_jumps_35 rfl rfl ?_
  refine im_gi (pc := 36) fl_X6_142 dX6_jumps_36 fun x58 => ?_
  refine im_iconst (pc := 39) (v := 1) dX6_jumps_39 (by decide) ?_
  refine im_iadd (pc := 40) dX6_jumps_40 ?_
  refine im_pf (pc := 41) fp_X6_142 (okT_i _) dX6_jumps_41 fun h59 => ?_
  exact im_vret (pc := 44) dX6_jumps_44
noncomputable def mo_jumps (a0 : Option Nat) (a1 : Int32) (h : PH) : Option (PH) := grd (isC [5] a0 h) (mo_jumps_0 a0 a1 h)
theorem mo_jumps_im : IM_X6_jumps mo_jumps 2 := by
  intro a0 a1 h h' e
  obtain ⟨e1, e2⟩ := grd_some e
  exact ⟨e1, SpV.of (k := 0) (plainFor_of_name (by decide)) rfl (fun X => Im.drop [true, true] rfl (mo_jumps_0_ok X a0 a1 h)) e2⟩
theorem cl_X6_210 {X : CT} {cc : ByteArray} {nL : Nat} {mn : String} {ret : Option FieldType} {d d0 : Nat} {τ : Type} {pc : Nat} {lv : List (Option PV)} {st : List PV} {h : PH} {sz : τ → Nat × Nat} {K : τ → Prop} {f : Option Nat → PH → Option (Int32 × PH)} (HR : IM_X6_readsCompared f d0) {a0 : Option Nat} {g : Int32 → PH → Option τ} (hd : d0 + 1 ≤ d) (hdg : decode cc pc = .ok (.invokevirtual 210, 3)) (hst : st.length ≤ 8) (kk : ∀ r h', Im X (cc, nL, RX6, mn, ret, d) (pc + 3) lv (.inl r :: st) h' (g r h') sz K) : Im X (cc, nL, RX6, mn, ret, d) pc lv (.inr a0 :: st) h (bd2 (f a0 h) g) sz K := by
  refine im_cI (y := yX6_readsCompared) (cY := cX6_readsCompared) (nY := 2) (rY := (some .boolean)) (d' := d0) (av := [.inr a0]) (fun r h' e hX => ?_) (fun r h' e => (HR _ _ _ _ e).2) hd (by decide) hst rfl kk
  obtain ⟨a, c, fs, rfl, ec, hm⟩ := isC_some (HR _ _ _ _ e).1
  cases List.mem_singleton.mp hm
  exact cal_V (n := 0) hX (lw_V q1411 q1413 qs59 q112 q1414) (by decide +kernel) rfl rfl ec hdg

theorem cl_X6_213 {X : CT} {cc : ByteArray} {nL : Nat} {mn : String} {ret : Option FieldType} {d d0 : Nat} {τ : Type} {pc : Nat} {lv : List (Option PV)} {st : List PV} {h : PH} {sz : τ → Nat × Nat} {K : τ → Prop} {f : Option Nat → Int32 → PH → Option (PH)} (HR : IM_X6_lands f d0) {a0 : Option Nat} {a1 : Int32} {g : PH → Option τ} (hd : d0 + 1 ≤ d) (hdg : decode cc pc = .ok (.invokevirtual 213, 3)) (hst : st.length ≤ 8) (kk : ∀ h', Im X (cc, nL, RX6, mn, ret, d) (pc + 3) lv st h' (g h') sz K) : Im X (cc, nL, RX6, mn, ret, d) pc lv (.inl a1 :: .inr a0 :: st) h ((f a0 a1 h).bind g) sz K := by
  refine im_cV (y := yX6_lands) (cY := cX6_lands) (nY := 3) (rY := none) (d' := d0) (av := [.inr a0, .inl a1]) (fun h' e hX => ?_) (fun h' e => (HR _ _ _ _ e).2) hd (by decide) hst rfl kk
  obtain ⟨a, c, fs, rfl, ec, hm⟩ := isC_some (HR _ _ _ _ e).1
  cases List.mem_singleton.mp hm
  exact cal_V (n := 1) hX (lw_V q1419 q1421 qs61 q112 q1422) (by decide +kernel) rfl rfl ec hdg

theorem cl_X6_216 {X : CT} {cc : ByteArray} {nL : Nat} {mn : String} {ret : Option FieldType} {d d0 : Nat} {τ : Type} {pc : Nat} {lv : List (Option PV)} {st : List PV} {h : PH} {sz : τ → Nat × Nat} {K : τ → Prop} {f : Option Nat → Int32 → PH → Option (PH)} (HR : IM_X6_jumps f d0) {a0 : Option Nat} {a1 : Int32} {g : PH → Option τ} (hd : d0 + 1 ≤ d) (hdg : decode cc pc = .ok (.invokevirtual 216, 3)) (hst : st.length ≤ 8) (kk : ∀ h', Im X (cc, nL, RX6, mn, ret, d) (pc + 3) lv st h' (g h') sz K) : Im X (cc, nL, RX6, mn, ret, d) pc lv (.inl a1 :: .inr a0 :: st) h ((f a0 a1 h).bind g) sz K := by
  refine im_cV (y := yX6_jumps) (cY := cX6_jumps) (nY := 2) (rY := none) (d' := d0) (av := [.inr a0, .inl a1]) (fun h' e hX => ?_) (fun h' e => (HR _ _ _ _ e).2) hd (by decide) hst rfl kk
  obtain ⟨a, c, fs, rfl, ec, hm⟩ := isC_some (HR _ _ _ _ e).1
  cases List.mem_singleton.mp hm
  exact cal_V (n := 1) hX (lw_V q1423 q1425 qs62 q112 q1426) (by decide +kernel) rfl rfl ec hdg

def IM_X6_readsCondition (f : Option Nat → PH → Option (Int32 × PH)) (d : Nat) : Prop := ∀ (a0 : Option Nat) (h : PH) (r : Int32) (h' : PH), f a0 h = some (r, h') → isC [5] a0 h = true ∧ SpI yX6_readsCondition cX6_readsCondition 1 (some .boolean) d [.inr a0] h r h'
noncomputable def mo_readsCondition_75 (v0 : Option Nat) (s0 : Int32) (s1 : Option Nat) (h : PH) : Option ((PH) ⊕ (Int32 × PH)) :=
  bd2 (mo_opens s1 s0 h) fun x52 h51 =>
  (if x52 = 0 then
  some (.inr ((0, h51)))
  else
  some (.inl h51))
theorem mo_readsCondition_75_ok (X : CT) (v0 : Option Nat) (s0 : Int32) (s1 : Option Nat) (h : PH) : Im X (cX6_readsCondition, 1, RX6, "readsCondition", (some .boolean), 7) 75 [some (.inr v0)] [.inl s0, .inr s1] h (mo_readsCondition_75 v0 s0 s1 h) (ez (fun s : PH => s) szI) (ek X 40 (fun s : PH => [some (.inr v0)]) (fun s : PH => s) (kI X)) := by
  unfold mo_readsCondition_75
  refine cl_X6_182 mo_opens_im (pc := 75) (by decide) dX6_readsCondition_75 (Nat.le_of_ble_eq_true rfl) fun x52 h51 => ?_
  refine im_if_ne (pc := 78) (tgt := 40) dX6_readsCondition_78 (by decide) ?_ ?_
  · exact Im.back [true] rfl rfl
  · refine im_iconst (pc := 81) (v := 0) dX6_readsCondition_81 (by decide) ?_
    exact Im.outS (im_zretT (pc := 82) (nar_z (Or.inl rfl)) dX6_readsCondition_82)
noncomputable def mo_readsCondition_58 (v0 : Option Nat) (h : PH) : Option ((PH) ⊕ (Int32 × PH)) :=
  (mo_here v0 h).bind fun x51 =>
  (if x51 = 33 then
  mo_readsCondition_75 v0 10 v0 h
  else
  mo_readsCondition_75 v0 13 v0 h)
theorem mo_readsCondition_58_ok (X : CT) (v0 : Option Nat) (h : PH) : Im X (cX6_readsCondition, 1, RX6, "readsCondition", (some .boolean), 7) 58 [some (.inr v0)] [] h (mo_readsCondition_58 v0 h) (ez (fun s : PH => s) szI) (ek X 40 (fun s : PH => [some (.inr v0)]) (fun s : PH => s) (kI X)) := by
  unfold mo_readsCondition_58
  refine im_aload_n (pc := 58) dX6_readsCondition_58 rfl rfl ?_
  refine im_aload_n (pc := 59) dX6_readsCondition_59 rfl rfl ?_
  refine cl_X6_148 mo_here_im (pc := 60) (by decide) dX6_readsCondition_60 (Nat.le_of_ble_eq_true rfl) fun x51 => ?_
  refine im_bipush (pc := 63) (v := 33) dX6_readsCondition_63 (by decide) ?_
  refine im_icmp_ne (pc := 65) (tgt := 73) dX6_readsCondition_65 (by decide) ?_ ?_
  · refine im_bipush (pc := 73) (v := 13) dX6_readsCondition_73 (by decide) ?_
    exact Im.drop [true] rfl (mo_readsCondition_75_ok X v0 13 v0 h)
  · refine im_bipush (pc := 68) (v := 10) dX6_readsCondition_68 (by decide) ?_
    refine im_goto (pc := 70) (tgt := 75) dX6_readsCondition_70 (by decide) ?_
    exact Im.drop [true] rfl (mo_readsCondition_75_ok X v0 10 v0 h)
noncomputable def mo_readsCondition_215 (v0 : Option Nat) (s0 : Int32) (s1 : Option Nat) (h : PH) : Option ((PH) ⊕ (Int32 × PH)) :=
  (mo_jumps s1 s0 h).bind fun h51 =>
  some (.inl h51)
theorem mo_readsCondition_215_ok (X : CT) (v0 : Option Nat) (s0 : Int32) (s1 : Option Nat) (h : PH) : Im X (cX6_readsCondition, 1, RX6, "readsCondition", (some .boolean), 7) 215 [some (.inr v0)] [.inl s0, .inr s1] h (mo_readsCondition_215 v0 s0 s1 h) (ez (fun s : PH => s) szI) (ek X 40 (fun s : PH => [some (.inr v0)]) (fun s : PH => s) (kI X)) := by
  unfold mo_readsCondition_215
  refine cl_X6_216 mo_jumps_im (pc := 215) (by decide) dX6_readsCondition_215 (Nat.le_of_ble_eq_true rfl) fun h51 => ?_
  refine im_goto (pc := 218) (tgt := 40) dX6_readsCondition_218 (by decide) ?_
  exact Im.back [true] rfl rfl
noncomputable def mo_readsCondition_195 (v0 : Option Nat) (s0 : Int32) (s1 : Option Nat) (h : PH) : Option ((PH) ⊕ (Int32 × PH)) :=
  (mo_lands s1 s0 h).bind fun h51 =>
  (mo_here v0 h51).bind fun x52 =>
  (if x52 = 38 then
  mo_readsCondition_215 v0 11 v0 h51
  else
  mo_readsCondition_215 v0 12 v0 h51)
theorem mo_readsCondition_195_ok (X : CT) (v0 : Option Nat) (s0 : Int32) (s1 : Option Nat) (h : PH) : Im X (cX6_readsCondition, 1, RX6, "readsCondition", (some .boolean), 7) 195 [some (.inr v0)] [.inl s0, .inr s1] h (mo_readsCondition_195 v0 s0 s1 h) (ez (fun s : PH => s) szI) (ek X 40 (fun s : PH => [some (.inr v0)]) (fun s : PH => s) (kI X)) := by
  unfold mo_readsCondition_195
  refine cl_X6_213 mo_lands_im (pc := 195) (by decide) dX6_readsCondition_195 (Nat.le_of_ble_eq_true rfl) fun h51 => ?_
  refine im_aload_n (pc := 198) dX6_readsCondition_198 rfl rfl ?_
  refine im_aload_n (pc := 199) dX6_readsCondition_199 rfl rfl ?_
  refine cl_X6_148 mo_here_im (pc := 200) (by decide) dX6_readsCondition_200 (Nat.le_of_ble_eq_true rfl) fun x52 => ?_
  refine im_bipush (pc := 203) (v := 38) dX6_readsCondition_203 (by decide) ?_
  refine im_icmp_ne (pc := 205) (tgt := 213) dX6_readsCondition_205 (by decide) ?_ ?_
  · refine im_bipush (pc := 213) (v := 12) dX6_readsCondition_213 (by decide) ?_
    exact Im.drop [true] rfl (mo_readsCondition_215_ok X v0 12 v0 h51)
  · refine im_bipush (pc := 208) (v := 11) dX6_readsCondition_208 (by decide) ?_
    refine im_goto (pc := 210) (tgt := 215) dX6_readsCondition_210 (by decide) ?_
    exact Im.drop [true] rfl (mo_readsCondition_215_ok X v0 11 v0 h51)
noncomputable def mo_readsCondition_180 (v0 : Option Nat) (h : PH) : Option ((PH) ⊕ (Int32 × PH)) :=
  (mo_here v0 h).bind fun x51 =>
  (if x51 = 124 then
  mo_readsCondition_195 v0 1 v0 h
  else
  mo_readsCondition_195 v0 0 v0 h)
theorem mo_readsCondition_180_ok (X : CT) (v0 : Option Nat) (h : PH) : Im X (cX6_readsCondition, 1, RX6, "readsCondition", (some .boolean), 7) 180 [some (.inr v0)] [] h (mo_readsCondition_180 v0 h) (ez (fun s : PH => s) szI) (ek X 40 (fun s : PH => [some (.inr v0)]) (fun s : PH => s) (kI X)) := by
  unfold mo_readsCondition_180
  refine im_aload_n (pc := 180) dX6_readsCondition_180 rfl rfl ?_
  refine im_aload_n (pc := 181) dX6_readsCondition_181 rfl rfl ?_
  refine cl_X6_148 mo_here_im (pc := 182) (by decide) dX6_readsCondition_182 (Nat.le_of_ble_eq_true rfl) fun x51 => ?_
  refine im_bipush (pc := 185) (v := 124) dX6_readsCondition_185 (by decide) ?_
  refine im_icmp_ne (pc := 187) (tgt := 194) dX6_readsCondition_187 (by decide) ?_ ?_
  · refine im_iconst (pc := 194) (v := 0) dX6_readsCondition_194 (by decide) ?_
    exact Im.drop [true] rfl (mo_readsCondition_195_ok X v0 0 v0 h)
  · refine im_iconst (pc := 190) (v := 1) dX6_readsCondition_190 (by decide) ?_
    refine im_goto (pc := 191) (tgt := 195) dX6_readsCondition_191 (by decide) ?_
    exact Im.drop [true] rfl (mo_readsCondition_195_ok X v0 1 v0 h)
noncomputable def mo_readsCondition_b92 (v0 : Option Nat) (h : PH) : Option ((PH) ⊕ ((PH) ⊕ (Int32 × PH))) :=
  (mo_here v0 h).bind fun x51 =>
  (if x51 = 41 then
  (mo_lands v0 1 h).bind fun h58 =>
  (gfi [5] 11 v0 h58).bind fun x59 =>
  (pf [5] 11 v0 (.inl (x59 - 1)) h58).bind fun h60 =>
  (gfi [5] 9 v0 h60).bind fun x61 =>
  (pf [5] 9 v0 (.inl (x61 - 1)) h60).bind fun h62 =>
  (gfi [5] 5 v0 h62).bind fun x63 =>
  (pf [5] 5 v0 (.inl (x63 + 1)) h62).bind fun h64 =>
  (gfi [5] 11 v0 h64).bind fun x65 =>
  (if x65 = 0 then
  some (.inr (.inr ((1, h64))))
  else
  (mo_endsPiece v0 h64).bind fun h66 =>
  some (.inl h66))
  else
  (mo_here v0 h).bind fun x52 =>
  (if x52 = 38 then
  (mo_readsCondition_180 v0 h).map .inr
  else
  (mo_here v0 h).bind fun x53 =>
  (if x53 = 124 then
  (mo_readsCondition_180 v0 h).map .inr
  else
  (gfi [5] 5 v0 h).bind fun x54 =>
  bd2 (mo_wrongAt v0 1 x54 h) fun x56 h55 =>
  (zok x56).bind fun x57 => some (.inr (.inr ((x57, h55)))))))
noncomputable def mo_readsCondition_L92 (v0 : Option Nat) (h : PH) : Option ((PH) ⊕ (Int32 × PH)) :=
  iter (fun s : PH => mo_readsCondition_b92 v0 s) h
theorem mo_readsCondition_b92_ok (X : CT) (v0 : Option Nat) (h : PH) : Im X (cX6_readsCondition, 1, RX6, "readsCondition", (some .boolean), 7) 92 [some (.inr v0)] [] h (mo_readsCondition_b92 v0 h) (ez (fun s : PH => s) (ez (fun s : PH => s) szI)) (ek X 92 (fun s : PH => [some (.inr v0)]) (fun s : PH => s) (ek X 40 (fun s : PH => [some (.inr v0)]) (fun s : PH => s) (kI X))) := by
  unfold mo_readsCondition_b92
  refine im_aload_n (pc := 92) dX6_readsCondition_92 rfl rfl ?_
  refine cl_X6_148 mo_here_im (pc := 93) (by decide) dX6_readsCondition_93 (Nat.le_of_ble_eq_true rfl) fun x51 => ?_
  refine im_bipush (pc := 96) (v := 41) dX6_readsCondition_96 (by decide) ?_
  refine im_icmp_ne (pc := 98) (tgt := 152) dX6_readsCondition_98 (by decide) ?_ ?_
  · refine im_aload_n (pc := 152) dX6_readsCondition_152 rfl rfl ?_
    refine cl_X6_148 mo_here_im (pc := 153) (by decide) dX6_readsCondition_153 (Nat.le_of_ble_eq_true rfl) fun x52 => ?_
    refine im_bipush (pc := 156) (v := 38) dX6_readsCondition_156 (by decide) ?_
    refine im_icmp_eq (pc := 158) (tgt := 180) dX6_readsCondition_158 (by decide) ?_ ?_
    · exact Im.out (Im.drop [true] rfl (mo_readsCondition_180_ok X v0 h))
    · refine im_aload_n (pc := 161) dX6_readsCondition_161 rfl rfl ?_
      refine cl_X6_148 mo_here_im (pc := 162) (by decide) dX6_readsCondition_162 (Nat.le_of_ble_eq_true rfl) fun x53 => ?_
      refine im_bipush (pc := 165) (v := 124) dX6_readsCondition_165 (by decide) ?_
      refine im_icmp_eq (pc := 167) (tgt := 180) dX6_readsCondition_167 (by decide) ?_ ?_
      · exact Im.out (Im.drop [true] rfl (mo_readsCondition_180_ok X v0 h))
      · refine im_aload_n (pc := 170) dX6_readsCondition_170 rfl rfl ?_
        refine im_iconst (pc := 171) (v := 1) dX6_readsCondition_171 (by decide) ?_
        refine im_aload_n (pc := 172) dX6_readsCondition_172 rfl rfl ?_
        refine im_gi (pc := 173) fl_X6_142 dX6_readsCondition_173 fun x54 => ?_
        refine cl_X6_155 mo_wrongAt_im (pc := 176) (by decide) dX6_readsCondition_176 (Nat.le_of_ble_eq_true rfl) fun x56 h55 => ?_
        refine im_zok fun x57 hz => ?_
        exact Im.outS (Im.outS (im_zretT (pc := 179) (nar_z hz) dX6_readsCondition_179))
  · refine im_aload_n (pc := 101) dX6_readsCondition_101 rfl rfl ?_
    refine im_iconst (pc := 102) (v := 1) dX6_readsCondition_102 (by decide) ?_
    refine cl_X6_213 mo_lands_im (pc := 103) (by decide) dX6_readsCondition_103 (Nat.le_of_ble_eq_true rfl) fun h58 => ?_
    refine im_aload_n (pc := 106) dX6_readsCondition_106 rfl rfl ?_
    refine im_aload_n (pc := 107) dX6_readsCondition_107 rfl rfl ?_
    refine im_gi (pc := 108) fl_X6_172 dX6_readsCondition_108 fun x59 => ?_
    refine im_iconst (pc := 111) (v := 1) dX6_readsCondition_111 (by decide) ?_
    refine im_isub (pc := 112) dX6_readsCondition_112 ?_
    refine im_pf (pc := 113) fp_X6_172 (okT_i _) dX6_readsCondition_113 fun h60 => ?_
    refine im_aload_n (pc := 116) dX6_readsCondition_116 rfl rfl ?_
    refine im_aload_n (pc := 117) dX6_readsCondition_117 rfl rfl ?_
    refine im_gi (pc := 118) fl_X6_169 dX6_readsCondition_118 fun x61 => ?_
    refine im_iconst (pc := 121) (v := 1) dX6_readsCondition_121 (by decide) ?_
    refine im_isub (pc := 122) dX6_readsCondition_122 ?_
    refine im_pf (pc := 123) fp_X6_169 (okT_i _) dX6_readsCondition_123 fun h62 => ?_
    refine im_aload_n (pc := 126) dX6_readsCondition_126 rfl rfl ?_
    refine im_aload_n (pc := 127) dX6_readsCondition_127 rfl rfl ?_
    refine im_gi (pc := 128) fl_X6_142 dX6_readsCondition_128 fun x63 => ?_
    refine im_iconst (pc := 131) (v := 1) dX6_readsCondition_131 (by decide) ?_
    refine im_iadd (pc := 132) dX6_readsCondition_132 ?_
    refine im_pf (pc := 133) fp_X6_142 (okT_i _) dX6_readsCondition_133 fun h64 => ?_
    refine im_aload_n (pc := 136) dX6_readsCondition_136 rfl rfl ?_
    refine im_gi (pc := 137) fl_X6_172 dX6_readsCondition_137 fun x65 => ?_
    refine im_if_ne (pc := 140) (tgt := 145) dX6_readsCondition_140 (by decide) ?_ ?_
    · refine im_aload_n (pc := 145) dX6_readsCondition_145 rfl rfl ?_
      refine cl_X6_207 mo_endsPiece_im (pc := 146) (by decide) dX6_readsCondition_146 (Nat.le_of_ble_eq_true rfl) fun h66 => ?_
      refine im_goto (pc := 149) (tgt := 92) dX6_readsCondition_149 (by decide) ?_
      exact Im.back [true] rfl rfl
    · refine im_iconst (pc := 143) (v := 1) dX6_readsCondition_143 (by decide) ?_
      exact Im.outS (Im.outS (im_zretT (pc := 144) (nar_z (Or.inr rfl)) dX6_readsCondition_144))
theorem mo_readsCondition_L92_ok (X : CT) (v0 : Option Nat) (h : PH) : Im X (cX6_readsCondition, 1, RX6, "readsCondition", (some .boolean), 7) 92 [some (.inr v0)] [] h (mo_readsCondition_L92 v0 h) (ez (fun s : PH => s) szI) (ek X 40 (fun s : PH => [some (.inr v0)]) (fun s : PH => s) (kI X)) := by
  unfold mo_readsCondition_L92
  exact Im.iter (lv := (fun s : PH => [some (.inr v0)])) (hp := (fun s : PH => s)) (fun s => mo_readsCondition_b92_ok X v0 s) _ rfl rfl
noncomputable def mo_readsCondition_b40 (v0 : Option Nat) (h : PH) : Option ((PH) ⊕ (Int32 × PH)) :=
  (mo_here v0 h).bind fun x51 =>
  (if x51 = 33 then
  mo_readsCondition_58 v0 h
  else
  (mo_here v0 h).bind fun x52 =>
  (if x52 = 40 then
  mo_readsCondition_58 v0 h
  else
  bd2 (mo_readsCompared v0 h) fun x54 h53 =>
  (if x54 = 0 then
  some (.inr ((0, h53)))
  else
  mo_readsCondition_L92 v0 h53)))
noncomputable def mo_readsCondition_L40 (v0 : Option Nat) (h : PH) : Option (Int32 × PH) :=
  iter (fun s : PH => mo_readsCondition_b40 v0 s) h
theorem mo_readsCondition_b40_ok (X : CT) (v0 : Option Nat) (h : PH) : Im X (cX6_readsCondition, 1, RX6, "readsCondition", (some .boolean), 7) 40 [some (.inr v0)] [] h (mo_readsCondition_b40 v0 h) (ez (fun s : PH => s) szI) (ek X 40 (fun s : PH => [some (.inr v0)]) (fun s : PH => s) (kI X)) := by
  unfold mo_readsCondition_b40
  refine im_aload_n (pc := 40) dX6_readsCondition_40 rfl rfl ?_
  refine cl_X6_148 mo_here_im (pc := 41) (by decide) dX6_readsCondition_41 (Nat.le_of_ble_eq_true rfl) fun x51 => ?_
  refine im_bipush (pc := 44) (v := 33) dX6_readsCondition_44 (by decide) ?_
  refine im_icmp_eq (pc := 46) (tgt := 58) dX6_readsCondition_46 (by decide) ?_ ?_
  · exact Im.drop [true] rfl (mo_readsCondition_58_ok X v0 h)
  · refine im_aload_n (pc := 49) dX6_readsCondition_49 rfl rfl ?_
    refine cl_X6_148 mo_here_im (pc := 50) (by decide) dX6_readsCondition_50 (Nat.le_of_ble_eq_true rfl) fun x52 => ?_
    refine im_bipush (pc := 53) (v := 40) dX6_readsCondition_53 (by decide) ?_
    refine im_icmp_ne (pc := 55) (tgt := 83) dX6_readsCondition_55 (by decide) ?_ ?_
    · refine im_aload_n (pc := 83) dX6_readsCondition_83 rfl rfl ?_
      refine cl_X6_210 mo_readsCompared_im (pc := 84) (by decide) dX6_readsCondition_84 (Nat.le_of_ble_eq_true rfl) fun x54 h53 => ?_
      refine im_if_ne (pc := 87) (tgt := 92) dX6_readsCondition_87 (by decide) ?_ ?_
      · exact Im.drop [true] rfl (mo_readsCondition_L92_ok X v0 h53)
      · refine im_iconst (pc := 90) (v := 0) dX6_readsCondition_90 (by decide) ?_
        exact Im.outS (im_zretT (pc := 91) (nar_z (Or.inl rfl)) dX6_readsCondition_91)
    · exact Im.drop [true] rfl (mo_readsCondition_58_ok X v0 h)
theorem mo_readsCondition_L40_ok (X : CT) (v0 : Option Nat) (h : PH) : Im X (cX6_readsCondition, 1, RX6, "readsCondition", (some .boolean), 7) 40 [some (.inr v0)] [] h (mo_readsCondition_L40 v0 h) szI (kI X) := by
  unfold mo_readsCondition_L40
  exact Im.iter (lv := (fun s : PH => [some (.inr v0)])) (hp := (fun s : PH => s)) (fun s => mo_readsCondition_b40_ok X v0 s) _ rfl rfl
noncomputable def mo_readsCondition_0 (v0 : Option Nat) (h : PH) : Option (Int32 × PH) :=
  (mo_here v0 h).bind fun x51 =>
  (if x51 = 40 then
  (pf [5] 9 v0 (.inl 0) h).bind fun h52 =>
  (pf [5] 11 v0 (.inl 0) h52).bind fun h53 =>
  bd2 (mo_opens v0 13 h53) fun x55 h54 =>
  (if x55 = 0 then
  some ((0, h54))
  else
  mo_readsCondition_L40 v0 h54)
  else
  (gfi [5] 5 v0 h).bind fun x56 =>
  bd2 (mo_wrongAt v0 1 x56 h) fun x58 h57 =>
  (zok x58).bind fun x59 => some ((x59, h57)))
theorem mo_readsCondition_0_ok (X : CT) (v0 : Option Nat) (h : PH) : Im X (cX6_readsCondition, 1, RX6, "readsCondition", (some .boolean), 7) 0 [some (.inr v0)] [] h (mo_readsCondition_0 v0 h) szI (kI X) := by
  unfold mo_readsCondition_0
  refine im_aload_n (pc := 0) dX6_readsCondition_0 rfl rfl ?_
  refine cl_X6_148 mo_here_im (pc := 1) (by decide) dX6_readsCondition_1 (Nat.le_of_ble_eq_true rfl) fun x51 => ?_
  refine im_bipush (pc := 4) (v := 40) dX6_readsCondition_4 (by decide) ?_
  refine im_icmp_eq (pc := 6) (tgt := 19) dX6_readsCondition_6 (by decide) ?_ ?_
  · refine im_aload_n (pc := 19) dX6_readsCondition_19 rfl rfl ?_
    refine im_iconst (pc := 20) (v := 0) dX6_readsCondition_20 (by decide) ?_
    refine im_pf (pc := 21) fp_X6_169 (okT_i _) dX6_readsCondition_21 fun h52 => ?_
    refine im_aload_n (pc := 24) dX6_readsCondition_24 rfl rfl ?_
    refine im_iconst (pc := 25) (v := 0) dX6_readsCondition_25 (by decide) ?_
    refine im_pf (pc := 26) fp_X6_172 (okT_i _) dX6_readsCondition_26 fun h53 => ?_
    refine im_aload_n (pc := 29) dX6_readsCondition_29 rfl rfl ?_
    refine im_bipush (pc := 30) (v := 13) dX6_readsCondition_30 (by decide) ?_
    refine cl_X6_182 mo_opens_im (pc := 32) (by decide) dX6_readsCondition_32 (Nat.le_of_ble_eq_true rfl) fun x55 h54 => ?_
    refine im_if_ne (pc := 35) (tgt := 40) dX6_readsCondition_35 (by decide) ?_ ?_
    · exact Im.drop [true] rfl (mo_readsCondition_L40_ok X v0 h54)
    · refine im_iconst (pc := 38) (v := 0) dX6_readsCondition_38 (by decide) ?_
      exact im_zretT (pc := 39) (nar_z (Or.inl rfl)) dX6_readsCondition_39
  · refine im_aload_n (pc := 9) dX6_readsCondition_9 rfl rfl ?_
    refine im_iconst (pc := 10) (v := 1) dX6_readsCondition_10 (by decide) ?_
    refine im_aload_n (pc := 11) dX6_readsCondition_11 rfl rfl ?_
    refine im_gi (pc := 12) fl_X6_142 dX6_readsCondition_12 fun x56 => ?_
    refine cl_X6_155 mo_wrongAt_im (pc := 15) (by decide) dX6_readsCondition_15 (Nat.le_of_ble_eq_true rfl) fun x58 h57 => ?_
    refine im_zok fun x59 hz => ?_
    exact im_zretT (pc := 18) (nar_z hz) dX6_readsCondition_18
noncomputable def mo_readsCondition (a0 : Option Nat) (h : PH) : Option (Int32 × PH) := grd (isC [5] a0 h) (mo_readsCondition_0 a0 h)
theorem mo_readsCondition_im : IM_X6_readsCondition mo_readsCondition 7 := by
  intro a0 h r h' e
  obtain ⟨e1, e2⟩ := grd_some e
  exact ⟨e1, SpI.of (k := 0) (plainFor_of_name (by decide)) rfl (fun X => Im.drop [true] rfl (mo_readsCondition_0_ok X a0 h)) e2⟩
theorem fl_X6_219 : ∀ c ∈ [5], FL RX6 219 c 12 := List.forall_mem_cons.mpr ⟨⟨RX6, TX6, 50, rfl, in_X6, by decide, Or.inl q1189⟩, fun _ h => absurd h List.not_mem_nil⟩
theorem fl_X6_29 : ∀ c ∈ [5], FL RX6 29 c 16 := List.forall_mem_cons.mpr ⟨⟨RX6, TX6, 50, rfl, in_X6, by decide, Or.inl q1193⟩, fun _ h => absurd h List.not_mem_nil⟩
theorem fl_X6_32 : ∀ c ∈ [5], FL RX6 32 c 17 := List.forall_mem_cons.mpr ⟨⟨RX6, TX6, 50, rfl, in_X6, by decide, Or.inl q1194⟩, fun _ h => absurd h List.not_mem_nil⟩
theorem fl_X6_35 : ∀ c ∈ [5], FL RX6 35 c 18 := List.forall_mem_cons.mpr ⟨⟨RX6, TX6, 50, rfl, in_X6, by decide, Or.inl q1195⟩, fun _ h => absurd h List.not_mem_nil⟩
theorem cl_X6_222 {X : CT} {cc : ByteArray} {nL : Nat} {mn : String} {ret : Option FieldType} {d d0 : Nat} {τ : Type} {pc : Nat} {lv : List (Option PV)} {st : List PV} {h : PH} {sz : τ → Nat × Nat} {K : τ → Prop} {f : Option Nat → PH → Option (Int32 × PH)} (HR : IM_X6_readsCondition f d0) {a0 : Option Nat} {g : Int32 → PH → Option τ} (hd : d0 + 1 ≤ d) (hdg : decode cc pc = .ok (.invokevirtual 222, 3)) (hst : st.length ≤ 8) (kk : ∀ r h', Im X (cc, nL, RX6, mn, ret, d) (pc + 3) lv (.inl r :: st) h' (g r h') sz K) : Im X (cc, nL, RX6, mn, ret, d) pc lv (.inr a0 :: st) h (bd2 (f a0 h) g) sz K := by
  refine im_cI (y := yX6_readsCondition) (cY := cX6_readsCondition) (nY := 1) (rY := (some .boolean)) (d' := d0) (av := [.inr a0]) (fun r h' e hX => ?_) (fun r h' e => (HR _ _ _ _ e).2) hd (by decide) hst rfl kk
  obtain ⟨a, c, fs, rfl, ec, hm⟩ := isC_some (HR _ _ _ _ e).1
  cases List.mem_singleton.mp hm
  exact cal_V (n := 0) hX (lw_V q1407 q1409 qs58 q112 q1410) (by decide +kernel) rfl rfl ec hdg

theorem fl_X6_38 : ∀ c ∈ [5], FL RX6 38 c 19 := List.forall_mem_cons.mpr ⟨⟨RX6, TX6, 50, rfl, in_X6, by decide, Or.inl q1196⟩, fun _ h => absurd h List.not_mem_nil⟩
def IM_X6_readsRule (f : Option Nat → PH → Option (Int32 × PH)) (d : Nat) : Prop := ∀ (a0 : Option Nat) (h : PH) (r : Int32) (h' : PH), f a0 h = some (r, h') → isC [5] a0 h = true ∧ SpI yX6_readsRule cX6_readsRule 2 (some .boolean) d [.inr a0] h r h'
noncomputable def mo_readsRule_122 (v0 : Option Nat) (h : PH) : Option (Int32 × PH) :=
  (gfr [5] 18 v0 h).bind fun r51 =>
  (gfi [5] 12 v0 h).bind fun x52 =>
  (gfi [5] 10 v0 h).bind fun x53 =>
  (ast 0 r51 x52 x53 h).bind fun h54 =>
  bd2 (mo_readsCondition v0 h54) fun x56 h55 =>
  (if x56 = 0 then
  some ((0, h55))
  else
  (gfr [5] 19 v0 h55).bind fun r57 =>
  (gfi [5] 12 v0 h55).bind fun x58 =>
  (gfi [5] 10 v0 h55).bind fun x59 =>
  (ast 0 r57 x58 x59 h55).bind fun h60 =>
  (gfi [5] 12 v0 h60).bind fun x61 =>
  (pf [5] 12 v0 (.inl (x61 + 1)) h60).bind fun h62 =>
  some ((1, h62)))
theorem mo_readsRule_122_ok (X : CT) (v0 : Option Nat) (h : PH) : Im X (cX6_readsRule, 2, RX6, "readsRule", (some .boolean), 8) 122 [some (.inr v0), none] [] h (mo_readsRule_122 v0 h) szI (kI X) := by
  unfold mo_readsRule_122
  refine im_aload_n (pc := 122) dX6_readsRule_122 rfl rfl ?_
  refine im_gr (pc := 123) fl_X6_35 dX6_readsRule_123 fun r51 => ?_
  refine im_aload_n (pc := 126) dX6_readsRule_126 rfl rfl ?_
  refine im_gi (pc := 127) fl_X6_219 dX6_readsRule_127 fun x52 => ?_
  refine im_aload_n (pc := 130) dX6_readsRule_130 rfl rfl ?_
  refine im_gi (pc := 131) fl_X6_165 dX6_readsRule_131 fun x53 => ?_
  refine im_iast (pc := 134) dX6_readsRule_134 fun h54 => ?_
  refine im_aload_n (pc := 135) dX6_readsRule_135 rfl rfl ?_
  refine cl_X6_222 mo_readsCondition_im (pc := 136) (by decide) dX6_readsRule_136 (Nat.le_of_ble_eq_true rfl) fun x56 h55 => ?_
  refine im_if_ne (pc := 139) (tgt := 144) dX6_readsRule_139 (by decide) ?_ ?_
  · refine im_aload_n (pc := 144) dX6_readsRule_144 rfl rfl ?_
    refine im_gr (pc := 145) fl_X6_38 dX6_readsRule_145 fun r57 => ?_
    refine im_aload_n (pc := 148) dX6_readsRule_148 rfl rfl ?_
    refine im_gi (pc := 149) fl_X6_219 dX6_readsRule_149 fun x58 => ?_
    refine im_aload_n (pc := 152) dX6_readsRule_152 rfl rfl ?_
    refine im_gi (pc := 153) fl_X6_165 dX6_readsRule_153 fun x59 => ?_
    refine im_iast (pc := 156) dX6_readsRule_156 fun h60 => ?_
    refine im_aload_n (pc := 157) dX6_readsRule_157 rfl rfl ?_
    refine im_aload_n (pc := 158) dX6_readsRule_158 rfl rfl ?_
    refine im_gi (pc := 159) fl_X6_219 dX6_readsRule_159 fun x61 => ?_
    refine im_iconst (pc := 162) (v := 1) dX6_readsRule_162 (by decide) ?_
    refine im_iadd (pc := 163) dX6_readsRule_163 ?_
    refine im_pf (pc := 164) fp_X6_219 (okT_i _) dX6_readsRule_164 fun h62 => ?_
    refine im_iconst (pc := 167) (v := 1) dX6_readsRule_167 (by decide) ?_
    exact im_zretT (pc := 168) (nar_z (Or.inr rfl)) dX6_readsRule_168
  · refine im_iconst (pc := 142) (v := 0) dX6_readsRule_142 (by decide) ?_
    exact im_zretT (pc := 143) (nar_z (Or.inl rfl)) dX6_readsRule_143
noncomputable def mo_readsRule_45 (v0 : Option Nat) (v1 : Int32) (h : PH) : Option (Int32 × PH) :=
  (gfi [5] 12 v0 h).bind fun x51 =>
  (if x51 = 16 then
  (gfi [5] 5 v0 h).bind fun x65 =>
  bd2 (mo_wrongAt v0 4 x65 h) fun x67 h66 =>
  (zok x67).bind fun x68 => some ((x68, h66))
  else
  (gfr [5] 16 v0 h).bind fun r52 =>
  (gfi [5] 12 v0 h).bind fun x53 =>
  (ast 0 r52 x53 v1 h).bind fun h54 =>
  (gfi [5] 5 v0 h54).bind fun x55 =>
  (pf [5] 5 v0 (.inl (x55 + 1)) h54).bind fun h56 =>
  (gfr [5] 17 v0 h56).bind fun r57 =>
  (gfi [5] 12 v0 h56).bind fun x58 =>
  (gfi [5] 10 v0 h56).bind fun x59 =>
  (ast 0 r57 x58 x59 h56).bind fun h60 =>
  (pf [5] 9 v0 (.inl 0) h60).bind fun h61 =>
  (pf [5] 11 v0 (.inl 0) h61).bind fun h62 =>
  (if v1 = 113 then
  mo_readsRule_122 v0 h62
  else
  bd2 (mo_readsSum v0 h62) fun x64 h63 =>
  (if x64 = 0 then
  some ((0, h63))
  else
  mo_readsRule_122 v0 h63)))
theorem mo_readsRule_45_ok (X : CT) (v0 : Option Nat) (v1 : Int32) (h : PH) : Im X (cX6_readsRule, 2, RX6, "readsRule", (some .boolean), 8) 45 [some (.inr v0), some (.inl v1)] [] h (mo_readsRule_45 v0 v1 h) szI (kI X) := by
  unfold mo_readsRule_45
  refine im_aload_n (pc := 45) dX6_readsRule_45 rfl rfl ?_
  refine im_gi (pc := 46) fl_X6_219 dX6_readsRule_46 fun x51 => ?_
  refine im_bipush (pc := 49) (v := 16) dX6_readsRule_49 (by decide) ?_
  refine im_icmp_ne (pc := 51) (tgt := 64) dX6_readsRule_51 (by decide) ?_ ?_
  · refine im_aload_n (pc := 64) dX6_readsRule_64 rfl rfl ?_
    refine im_gr (pc := 65) fl_X6_29 dX6_readsRule_65 fun r52 => ?_
    refine im_aload_n (pc := 68) dX6_readsRule_68 rfl rfl ?_
    refine im_gi (pc := 69) fl_X6_219 dX6_readsRule_69 fun x53 => ?_
    refine im_iload_n (pc := 72) dX6_readsRule_72 rfl rfl ?_
    refine im_iast (pc := 73) dX6_readsRule_73 fun h54 => ?_
    refine im_aload_n (pc := 74) dX6_readsRule_74 rfl rfl ?_
    refine im_aload_n (pc := 75) dX6_readsRule_75 rfl rfl ?_
    refine im_gi (pc := 76) fl_X6_142 dX6_readsRule_76 fun x55 => ?_
    refine im_iconst (pc := 79) (v := 1) dX6_readsRule_79 (by decide) ?_
    refine im_iadd (pc := 80) dX6_readsRule_80 ?_
    refine im_pf (pc := 81) fp_X6_142 (okT_i _) dX6_readsRule_81 fun h56 => ?_
    refine im_aload_n (pc := 84) dX6_readsRule_84 rfl rfl ?_
    refine im_gr (pc := 85) fl_X6_32 dX6_readsRule_85 fun r57 => ?_
    refine im_aload_n (pc := 88) dX6_readsRule_88 rfl rfl ?_
    refine im_gi (pc := 89) fl_X6_219 dX6_readsRule_89 fun x58 => ?_
    refine im_aload_n (pc := 92) dX6_readsRule_92 rfl rfl ?_
    refine im_gi (pc := 93) fl_X6_165 dX6_readsRule_93 fun x59 => ?_
    refine im_iast (pc := 96) dX6_readsRule_96 fun h60 => ?_
    refine im_aload_n (pc := 97) dX6_readsRule_97 rfl rfl ?_
    refine im_iconst (pc := 98) (v := 0) dX6_readsRule_98 (by decide) ?_
    refine im_pf (pc := 99) fp_X6_169 (okT_i _) dX6_readsRule_99 fun h61 => ?_
    refine im_aload_n (pc := 102) dX6_readsRule_102 rfl rfl ?_
    refine im_iconst (pc := 103) (v := 0) dX6_readsRule_103 (by decide) ?_
    refine im_pf (pc := 104) fp_X6_172 (okT_i _) dX6_readsRule_104 fun h62 => ?_
    refine im_iload_n (pc := 107) dX6_readsRule_107 rfl rfl ?_
    refine im_bipush (pc := 108) (v := 113) dX6_readsRule_108 (by decide) ?_
    refine im_icmp_eq (pc := 110) (tgt := 122) dX6_readsRule_110 (by decide) ?_ ?_
    · exact Im.drop [true, false] rfl (mo_readsRule_122_ok X v0 h62)
    · refine im_aload_n (pc := 113) dX6_readsRule_113 rfl rfl ?_
      refine cl_X6_204 mo_readsSum_im (pc := 114) (by decide) dX6_readsRule_114 (Nat.le_of_ble_eq_true rfl) fun x64 h63 => ?_
      refine im_if_ne (pc := 117) (tgt := 122) dX6_readsRule_117 (by decide) ?_ ?_
      · exact Im.drop [true, false] rfl (mo_readsRule_122_ok X v0 h63)
      · refine im_iconst (pc := 120) (v := 0) dX6_readsRule_120 (by decide) ?_
        exact im_zretT (pc := 121) (nar_z (Or.inl rfl)) dX6_readsRule_121
  · refine im_aload_n (pc := 54) dX6_readsRule_54 rfl rfl ?_
    refine im_iconst (pc := 55) (v := 4) dX6_readsRule_55 (by decide) ?_
    refine im_aload_n (pc := 56) dX6_readsRule_56 rfl rfl ?_
    refine im_gi (pc := 57) fl_X6_142 dX6_readsRule_57 fun x65 => ?_
    refine cl_X6_155 mo_wrongAt_im (pc := 60) (by decide) dX6_readsRule_60 (Nat.le_of_ble_eq_true rfl) fun x67 h66 => ?_
    refine im_zok fun x68 hz => ?_
    exact im_zretT (pc := 63) (nar_z hz) dX6_readsRule_63
noncomputable def mo_readsRule_0 (v0 : Option Nat) (h : PH) : Option (Int32 × PH) :=
  (mo_here v0 h).bind fun x51 =>
  (if x51 = 101 then
  mo_readsRule_45 v0 x51 h
  else
  (if x51 = 104 then
  mo_readsRule_45 v0 x51 h
  else
  (if x51 = 103 then
  mo_readsRule_45 v0 x51 h
  else
  (if x51 = 98 then
  mo_readsRule_45 v0 x51 h
  else
  (if x51 = 113 then
  mo_readsRule_45 v0 x51 h
  else
  (gfi [5] 5 v0 h).bind fun x52 =>
  bd2 (mo_wrongAt v0 1 x52 h) fun x54 h53 =>
  (zok x54).bind fun x55 => some ((x55, h53)))))))
theorem mo_readsRule_0_ok (X : CT) (v0 : Option Nat) (h : PH) : Im X (cX6_readsRule, 2, RX6, "readsRule", (some .boolean), 8) 0 [some (.inr v0), none] [] h (mo_readsRule_0 v0 h) szI (kI X) := by
  unfold mo_readsRule_0
  refine im_aload_n (pc := 0) dX6_readsRule_0 rfl rfl ?_
  refine cl_X6_148 mo_here_im (pc := 1) (by decide) dX6_readsRule_1 (Nat.le_of_ble_eq_true rfl) fun x51 => ?_
  refine im_istore_n (pc := 4) (lv' := [some (.inr v0), some (.inl x51)]) dX6_readsRule_4 rfl (by decide) rfl ?_
  refine im_iload_n (pc := 5) dX6_readsRule_5 rfl rfl ?_
  refine im_bipush (pc := 6) (v := 101) dX6_readsRule_6 (by decide) ?_
  refine im_icmp_eq (pc := 8) (tgt := 45) dX6_readsRule_8 (by decide) ?_ ?_
  · exact Im.drop [true, true] rfl (mo_readsRule_45_ok X v0 x51 h)
  · refine im_iload_n (pc := 11) dX6_readsRule_11 rfl rfl ?_
    refine im_bipush (pc := 12) (v := 104) dX6_readsRule_12 (by decide) ?_
    refine im_icmp_eq (pc := 14) (tgt := 45) dX6_readsRule_14 (by decide) ?_ ?_
    · exact Im.drop [true, true] rfl (mo_readsRule_45_ok X v0 x51 h)
    · refine im_iload_n (pc := 17) dX6_readsRule_17 rfl rfl ?_
      refine im_bipush (pc := 18) (v := 103) dX6_readsRule_18 (by decide) ?_
      refine im_icmp_eq (pc := 20) (tgt := 45) dX6_readsRule_20 (by decide) ?_ ?_
      · exact Im.drop [true, true] rfl (mo_readsRule_45_ok X v0 x51 h)
      · refine im_iload_n (pc := 23) dX6_readsRule_23 rfl rfl ?_
        refine im_bipush (pc := 24) (v := 98) dX6_readsRule_24 (by decide) ?_
        refine im_icmp_eq (pc := 26) (tgt := 45) dX6_readsRule_26 (by decide) ?_ ?_
        · exact Im.drop [true, true] rfl (mo_readsRule_45_ok X v0 x51 h)
        · refine im_iload_n (pc := 29) dX6_readsRule_29 rfl rfl ?_
          refine im_bipush (pc := 30) (v := 113) dX6_readsRule_30 (by decide) ?_
          refine im_icmp_eq (pc := 32) (tgt := 45) dX6_readsRule_32 (by decide) ?_ ?_
          · exact Im.drop [true, true] rfl (mo_readsRule_45_ok X v0 x51 h)
          · refine im_aload_n (pc := 35) dX6_readsRule_35 rfl rfl ?_
            refine im_iconst (pc := 36) (v := 1) dX6_readsRule_36 (by decide) ?_
            refine im_aload_n (pc := 37) dX6_readsRule_37 rfl rfl ?_
            refine im_gi (pc := 38) fl_X6_142 dX6_readsRule_38 fun x52 => ?_
            refine cl_X6_155 mo_wrongAt_im (pc := 41) (by decide) dX6_readsRule_41 (Nat.le_of_ble_eq_true rfl) fun x54 h53 => ?_
            refine im_zok fun x55 hz => ?_
            exact im_zretT (pc := 44) (nar_z hz) dX6_readsRule_44
noncomputable def mo_readsRule (a0 : Option Nat) (h : PH) : Option (Int32 × PH) := grd (isC [5] a0 h) (mo_readsRule_0 a0 h)
theorem mo_readsRule_im : IM_X6_readsRule mo_readsRule 8 := by
  intro a0 h r h' e
  obtain ⟨e1, e2⟩ := grd_some e
  exact ⟨e1, SpI.of (k := 1) (plainFor_of_name (by decide)) rfl (fun X => Im.drop [true, false] rfl (mo_readsRule_0_ok X a0 h)) e2⟩
def IM_X6_takes (f : Option Nat → Int32 → PH → Option (Int32 × PH)) (d : Nat) : Prop := ∀ (a0 : Option Nat) (a1 : Int32) (h : PH) (r : Int32) (h' : PH), f a0 a1 h = some (r, h') → isC [5] a0 h = true ∧ SpI yX6_takes cX6_takes 2 (some .boolean) d [.inr a0, .inl a1] h r h'
noncomputable def mo_takes_0 (v0 : Option Nat) (v1 : Int32) (h : PH) : Option (Int32 × PH) :=
  (mo_here v0 h).bind fun x51 =>
  (if x51 = v1 then
  (gfi [5] 5 v0 h).bind fun x52 =>
  (pf [5] 5 v0 (.inl (x52 + 1)) h).bind fun h53 =>
  some ((1, h53))
  else
  (gfi [5] 5 v0 h).bind fun x54 =>
  bd2 (mo_wrongAt v0 1 x54 h) fun x56 h55 =>
  (zok x56).bind fun x57 => some ((x57, h55)))
theorem mo_takes_0_ok (X : CT) (v0 : Option Nat) (v1 : Int32) (h : PH) : Im X (cX6_takes, 2, RX6, "takes", (some .boolean), 2) 0 [some (.inr v0), some (.inl v1)] [] h (mo_takes_0 v0 v1 h) szI (kI X) := by
  unfold mo_takes_0
  refine im_aload_n (pc := 0) dX6_takes_0 rfl rfl ?_
  refine cl_X6_148 mo_here_im (pc := 1) (by decide) dX6_takes_1 (Nat.le_of_ble_eq_true rfl) fun x51 => ?_
  refine im_iload_n (pc := 4) dX6_takes_4 rfl rfl ?_
  refine im_icmp_eq (pc := 5) (tgt := 18) dX6_takes_5 (by decide) ?_ ?_
  · refine im_aload_n (pc := 18) dX6_takes_18 rfl rfl ?_
    refine im_aload_n (pc := 19) dX6_takes_19 rfl rfl ?_
    refine im_gi (pc := 20) fl_X6_142 dX6_takes_20 fun x52 => ?_
    refine im_iconst (pc := 23) (v := 1) dX6_takes_23 (by decide) ?_
    refine im_iadd (pc := 24) dX6_takes_24 ?_
    refine im_pf (pc := 25) fp_X6_142 (okT_i _) dX6_takes_25 fun h53 => ?_
    refine im_iconst (pc := 28) (v := 1) dX6_takes_28 (by decide) ?_
    exact im_zretT (pc := 29) (nar_z (Or.inr rfl)) dX6_takes_29
  · refine im_aload_n (pc := 8) dX6_takes_8 rfl rfl ?_
    refine im_iconst (pc := 9) (v := 1) dX6_takes_9 (by decide) ?_
    refine im_aload_n (pc := 10) dX6_takes_10 rfl rfl ?_
    refine im_gi (pc := 11) fl_X6_142 dX6_takes_11 fun x54 => ?_
    refine cl_X6_155 mo_wrongAt_im (pc := 14) (by decide) dX6_takes_14 (Nat.le_of_ble_eq_true rfl) fun x56 h55 => ?_
    refine im_zok fun x57 hz => ?_
    exact im_zretT (pc := 17) (nar_z hz) dX6_takes_17
noncomputable def mo_takes (a0 : Option Nat) (a1 : Int32) (h : PH) : Option (Int32 × PH) := grd (isC [5] a0 h) (mo_takes_0 a0 a1 h)
theorem mo_takes_im : IM_X6_takes mo_takes 2 := by
  intro a0 a1 h r h' e
  obtain ⟨e1, e2⟩ := grd_some e
  exact ⟨e1, SpI.of (k := 0) (plainFor_of_name (by decide)) rfl (fun X => Im.drop [true, true] rfl (mo_takes_0_ok X a0 a1 h)) e2⟩
theorem cl_X6_225 {X : CT} {cc : ByteArray} {nL : Nat} {mn : String} {ret : Option FieldType} {d d0 : Nat} {τ : Type} {pc : Nat} {lv : List (Option PV)} {st : List PV} {h : PH} {sz : τ → Nat × Nat} {K : τ → Prop} {f : Option Nat → Int32 → PH → Option (PH)} (HR : IM_X6_beginsText f d0) {a0 : Option Nat} {a1 : Int32} {g : PH → Option τ} (hd : d0 + 1 ≤ d) (hdg : decode cc pc = .ok (.invokevirtual 225, 3)) (hst : st.length ≤ 8) (kk : ∀ h', Im X (cc, nL, RX6, mn, ret, d) (pc + 3) lv st h' (g h') sz K) : Im X (cc, nL, RX6, mn, ret, d) pc lv (.inl a1 :: .inr a0 :: st) h ((f a0 a1 h).bind g) sz K := by
  refine im_cV (y := yX6_beginsText) (cY := cX6_beginsText) (nY := 2) (rY := none) (d' := d0) (av := [.inr a0, .inl a1]) (fun h' e hX => ?_) (fun h' e => (HR _ _ _ _ e).2) hd (by decide) hst rfl kk
  obtain ⟨a, c, fs, rfl, ec, hm⟩ := isC_some (HR _ _ _ _ e).1
  cases List.mem_singleton.mp hm
  exact cal_V (n := 1) hX (lw_V q1348 q1350 qs45 q112 q1351) (by decide +kernel) rfl rfl ec hdg

theorem cl_X6_228 {X : CT} {cc : ByteArray} {nL : Nat} {mn : String} {ret : Option FieldType} {d d0 : Nat} {τ : Type} {pc : Nat} {lv : List (Option PV)} {st : List PV} {h : PH} {sz : τ → Nat × Nat} {K : τ → Prop} {f : Option Nat → PH → Option (Int32 × PH)} (HR : IM_X6_readsRule f d0) {a0 : Option Nat} {g : Int32 → PH → Option τ} (hd : d0 + 1 ≤ d) (hdg : decode cc pc = .ok (.invokevirtual 228, 3)) (hst : st.length ≤ 8) (kk : ∀ r h', Im X (cc, nL, RX6, mn, ret, d) (pc + 3) lv (.inl r :: st) h' (g r h') sz K) : Im X (cc, nL, RX6, mn, ret, d) pc lv (.inr a0 :: st) h (bd2 (f a0 h) g) sz K := by
  refine im_cI (y := yX6_readsRule) (cY := cX6_readsRule) (nY := 2) (rY := (some .boolean)) (d' := d0) (av := [.inr a0]) (fun r h' e hX => ?_) (fun r h' e => (HR _ _ _ _ e).2) hd (by decide) hst rfl kk
  obtain ⟨a, c, fs, rfl, ec, hm⟩ := isC_some (HR _ _ _ _ e).1
  cases List.mem_singleton.mp hm
  exact cal_V (n := 0) hX (lw_V q1352 q1354 qs46 q112 q1355) (by decide +kernel) rfl rfl ec hdg

theorem cl_X6_231 {X : CT} {cc : ByteArray} {nL : Nat} {mn : String} {ret : Option FieldType} {d d0 : Nat} {τ : Type} {pc : Nat} {lv : List (Option PV)} {st : List PV} {h : PH} {sz : τ → Nat × Nat} {K : τ → Prop} {f : Option Nat → Int32 → PH → Option (Int32 × PH)} (HR : IM_X6_takes f d0) {a0 : Option Nat} {a1 : Int32} {g : Int32 → PH → Option τ} (hd : d0 + 1 ≤ d) (hdg : decode cc pc = .ok (.invokevirtual 231, 3)) (hst : st.length ≤ 8) (kk : ∀ r h', Im X (cc, nL, RX6, mn, ret, d) (pc + 3) lv (.inl r :: st) h' (g r h') sz K) : Im X (cc, nL, RX6, mn, ret, d) pc lv (.inl a1 :: .inr a0 :: st) h (bd2 (f a0 a1 h) g) sz K := by
  refine im_cI (y := yX6_takes) (cY := cX6_takes) (nY := 2) (rY := (some .boolean)) (d' := d0) (av := [.inr a0, .inl a1]) (fun r h' e hX => ?_) (fun r h' e => (HR _ _ _ _ _ e).2) hd (by decide) hst rfl kk
  obtain ⟨a, c, fs, rfl, ec, hm⟩ := isC_some (HR _ _ _ _ _ e).1
  cases List.mem_singleton.mp hm
  exact cal_V (n := 1) hX (lw_V q1427 q1429 qs63 q112 q1430) (by decide +kernel) rfl rfl ec hdg

theorem fp_X6_234 : ∀ c ∈ [5], FP RX6 234 c 13 .int := List.forall_mem_cons.mpr ⟨⟨RX6, TX6, 50, rfl, in_X6, by decide, apt_X6, rfl, by decide +kernel, Or.inl q1190⟩, fun _ h => absurd h List.not_mem_nil⟩
theorem fl_X6_152 : ∀ c ∈ [5], FL RX6 152 c 7 := List.forall_mem_cons.mpr ⟨⟨RX6, TX6, 50, rfl, in_X6, by decide, Or.inl q1184⟩, fun _ h => absurd h List.not_mem_nil⟩
theorem fl_X6_41 : ∀ c ∈ [5], FL RX6 41 c 20 := List.forall_mem_cons.mpr ⟨⟨RX6, TX6, 50, rfl, in_X6, by decide, Or.inl q1197⟩, fun _ h => absurd h List.not_mem_nil⟩
theorem fl_X6_44 : ∀ c ∈ [5], FL RX6 44 c 21 := List.forall_mem_cons.mpr ⟨⟨RX6, TX6, 50, rfl, in_X6, by decide, Or.inl q1198⟩, fun _ h => absurd h List.not_mem_nil⟩
theorem fl_X6_47 : ∀ c ∈ [5], FL RX6 47 c 22 := List.forall_mem_cons.mpr ⟨⟨RX6, TX6, 50, rfl, in_X6, by decide, Or.inl q1199⟩, fun _ h => absurd h List.not_mem_nil⟩
theorem fl_X6_50 : ∀ c ∈ [5], FL RX6 50 c 23 := List.forall_mem_cons.mpr ⟨⟨RX6, TX6, 50, rfl, in_X6, by decide, Or.inl q1200⟩, fun _ h => absurd h List.not_mem_nil⟩
theorem fl_X6_53 : ∀ c ∈ [5], FL RX6 53 c 24 := List.forall_mem_cons.mpr ⟨⟨RX6, TX6, 50, rfl, in_X6, by decide, Or.inl q1201⟩, fun _ h => absurd h List.not_mem_nil⟩
def IM_X6_law (f : Option Nat → Int32 → PH → Option (Int32 × PH)) (d : Nat) : Prop := ∀ (a0 : Option Nat) (a1 : Int32) (h : PH) (r : Int32) (h' : PH), f a0 a1 h = some (r, h') → isC [5] a0 h = true ∧ SpI yX6_law cX6_law 4 (some .int) d [.inr a0, .inl a1] h r h'
noncomputable def mo_law_b123 (v0 : Option Nat) (v3 : Int32) (h : PH) : Option ((Int32 × PH) ⊕ (Int32 × PH)) :=
  (gfi [5] 12 v0 h).bind fun x51 =>
  (if x51 ≤ v3 then
  (gfi [5] 12 v0 h).bind fun x52 =>
  some (.inr ((x52, h)))
  else
  (gfr [5] 21 v0 h).bind fun r53 =>
  (gfr [5] 16 v0 h).bind fun r54 =>
  (ald 0 r54 v3 h).bind fun x55 =>
  (ast 0 r53 v3 x55 h).bind fun h56 =>
  (gfr [5] 22 v0 h56).bind fun r57 =>
  (gfr [5] 17 v0 h56).bind fun r58 =>
  (ald 0 r58 v3 h56).bind fun x59 =>
  (ast 0 r57 v3 x59 h56).bind fun h60 =>
  (gfr [5] 23 v0 h60).bind fun r61 =>
  (gfr [5] 18 v0 h60).bind fun r62 =>
  (ald 0 r62 v3 h60).bind fun x63 =>
  (ast 0 r61 v3 x63 h60).bind fun h64 =>
  (gfr [5] 24 v0 h64).bind fun r65 =>
  (gfr [5] 19 v0 h64).bind fun r66 =>
  (ald 0 r66 v3 h64).bind fun x67 =>
  (ast 0 r65 v3 x67 h64).bind fun h68 =>
  some (.inl ((v3 + 1), h68)))
noncomputable def mo_law_L123 (v0 : Option Nat) (v3 : Int32) (h : PH) : Option (Int32 × PH) :=
  iter (fun s : Int32 × PH => mo_law_b123 v0 s.1 s.2) (v3, h)
theorem mo_law_b123_ok (X : CT) (v0 : Option Nat) (v3 : Int32) (h : PH) : Im X (cX6_law, 4, RX6, "law", (some .int), 9) 123 [some (.inr v0), none, none, some (.inl v3)] [] h (mo_law_b123 v0 v3 h) (ez (fun s : Int32 × PH => s.2) szI) (ek X 123 (fun s : Int32 × PH => [some (.inr v0), none, none, some (.inl s.1)]) (fun s : Int32 × PH => s.2) (kI X)) := by
  unfold mo_law_b123
  refine im_iload_n (pc := 123) dX6_law_123 rfl rfl ?_
  refine im_aload_n (pc := 124) dX6_law_124 rfl rfl ?_
  refine im_gi (pc := 125) fl_X6_219 dX6_law_125 fun x51 => ?_
  refine im_icmp_ge (pc := 128) (tgt := 185) dX6_law_128 (by decide) ?_ ?_
  · refine im_aload_n (pc := 185) dX6_law_185 rfl rfl ?_
    refine im_gi (pc := 186) fl_X6_219 dX6_law_186 fun x52 => ?_
    exact Im.outS (im_iret (pc := 189) dX6_law_189)
  · refine im_aload_n (pc := 131) dX6_law_131 rfl rfl ?_
    refine im_gr (pc := 132) fl_X6_44 dX6_law_132 fun r53 => ?_
    refine im_iload_n (pc := 135) dX6_law_135 rfl rfl ?_
    refine im_aload_n (pc := 136) dX6_law_136 rfl rfl ?_
    refine im_gr (pc := 137) fl_X6_29 dX6_law_137 fun r54 => ?_
    refine im_iload_n (pc := 140) dX6_law_140 rfl rfl ?_
    refine im_iald (pc := 141) dX6_law_141 fun x55 => ?_
    refine im_iast (pc := 142) dX6_law_142 fun h56 => ?_
    refine im_aload_n (pc := 143) dX6_law_143 rfl rfl ?_
    refine im_gr (pc := 144) fl_X6_47 dX6_law_144 fun r57 => ?_
    refine im_iload_n (pc := 147) dX6_law_147 rfl rfl ?_
    refine im_aload_n (pc := 148) dX6_law_148 rfl rfl ?_
    refine im_gr (pc := 149) fl_X6_32 dX6_law_149 fun r58 => ?_
    refine im_iload_n (pc := 152) dX6_law_152 rfl rfl ?_
    refine im_iald (pc := 153) dX6_law_153 fun x59 => ?_
    refine im_iast (pc := 154) dX6_law_154 fun h60 => ?_
    refine im_aload_n (pc := 155) dX6_law_155 rfl rfl ?_
    refine im_gr (pc := 156) fl_X6_50 dX6_law_156 fun r61 => ?_
    refine im_iload_n (pc := 159) dX6_law_159 rfl rfl ?_
    refine im_aload_n (pc := 160) dX6_law_160 rfl rfl ?_
    refine im_gr (pc := 161) fl_X6_35 dX6_law_161 fun r62 => ?_
    refine im_iload_n (pc := 164) dX6_law_164 rfl rfl ?_
    refine im_iald (pc := 165) dX6_law_165 fun x63 => ?_
    refine im_iast (pc := 166) dX6_law_166 fun h64 => ?_
    refine im_aload_n (pc := 167) dX6_law_167 rfl rfl ?_
    refine im_gr (pc := 168) fl_X6_53 dX6_law_168 fun r65 => ?_
    refine im_iload_n (pc := 171) dX6_law_171 rfl rfl ?_
    refine im_aload_n (pc := 172) dX6_law_172 rfl rfl ?_
    refine im_gr (pc := 173) fl_X6_38 dX6_law_173 fun r66 => ?_
    refine im_iload_n (pc := 176) dX6_law_176 rfl rfl ?_
    refine im_iald (pc := 177) dX6_law_177 fun x67 => ?_
    refine im_iast (pc := 178) dX6_law_178 fun h68 => ?_
    refine im_iinc (pc := 179) (v := (v3 + 1)) (lv' := [some (.inr v0), none, none, some (.inl (v3 + 1))]) dX6_law_179 rfl rfl (by decide) rfl ?_
    refine im_goto (pc := 182) (tgt := 123) dX6_law_182 (by decide) ?_
    exact Im.back [true, false, false, true] rfl rfl
theorem mo_law_L123_ok (X : CT) (v0 : Option Nat) (v3 : Int32) (h : PH) : Im X (cX6_law, 4, RX6, "law", (some .int), 9) 123 [some (.inr v0), none, none, some (.inl v3)] [] h (mo_law_L123 v0 v3 h) szI (kI X) := by
  unfold mo_law_L123
  exact Im.iter (lv := (fun s : Int32 × PH => [some (.inr v0), none, none, some (.inl s.1)])) (hp := (fun s : Int32 × PH => s.2)) (fun s => mo_law_b123_ok X v0 s.1 s.2) _ rfl rfl
noncomputable def mo_law_b95 (v0 : Option Nat) (v3 : Int32) (h : PH) : Option ((Int32 × PH) ⊕ (Int32 × PH)) :=
  (gfi [5] 10 v0 h).bind fun x51 =>
  (if x51 ≤ v3 then
  (mo_law_L123 v0 0 h).map .inr
  else
  (gfr [5] 20 v0 h).bind fun r52 =>
  (gfr [5] 14 v0 h).bind fun r53 =>
  (ald 0 r53 v3 h).bind fun x54 =>
  (ast 0 r52 v3 x54 h).bind fun h55 =>
  some (.inl ((v3 + 1), h55)))
noncomputable def mo_law_L95 (v0 : Option Nat) (v3 : Int32) (h : PH) : Option (Int32 × PH) :=
  iter (fun s : Int32 × PH => mo_law_b95 v0 s.1 s.2) (v3, h)
theorem mo_law_b95_ok (X : CT) (v0 : Option Nat) (v3 : Int32) (h : PH) : Im X (cX6_law, 4, RX6, "law", (some .int), 9) 95 [some (.inr v0), none, none, some (.inl v3)] [] h (mo_law_b95 v0 v3 h) (ez (fun s : Int32 × PH => s.2) szI) (ek X 95 (fun s : Int32 × PH => [some (.inr v0), none, none, some (.inl s.1)]) (fun s : Int32 × PH => s.2) (kI X)) := by
  unfold mo_law_b95
  refine im_iload_n (pc := 95) dX6_law_95 rfl rfl ?_
  refine im_aload_n (pc := 96) dX6_law_96 rfl rfl ?_
  refine im_gi (pc := 97) fl_X6_165 dX6_law_97 fun x51 => ?_
  refine im_icmp_ge (pc := 100) (tgt := 121) dX6_law_100 (by decide) ?_ ?_
  · refine im_iconst (pc := 121) (v := 0) dX6_law_121 (by decide) ?_
    refine im_istore_n (pc := 122) (lv' := [some (.inr v0), none, none, some (.inl 0)]) dX6_law_122 rfl (by decide) rfl ?_
    exact Im.out (Im.drop [true, false, false, true] rfl (mo_law_L123_ok X v0 0 h))
  · refine im_aload_n (pc := 103) dX6_law_103 rfl rfl ?_
    refine im_gr (pc := 104) fl_X6_41 dX6_law_104 fun r52 => ?_
    refine im_iload_n (pc := 107) dX6_law_107 rfl rfl ?_
    refine im_aload_n (pc := 108) dX6_law_108 rfl rfl ?_
    refine im_gr (pc := 109) fl_X6_23 dX6_law_109 fun r53 => ?_
    refine im_iload_n (pc := 112) dX6_law_112 rfl rfl ?_
    refine im_iald (pc := 113) dX6_law_113 fun x54 => ?_
    refine im_iast (pc := 114) dX6_law_114 fun h55 => ?_
    refine im_iinc (pc := 115) (v := (v3 + 1)) (lv' := [some (.inr v0), none, none, some (.inl (v3 + 1))]) dX6_law_115 rfl rfl (by decide) rfl ?_
    refine im_goto (pc := 118) (tgt := 95) dX6_law_118 (by decide) ?_
    exact Im.back [true, false, false, true] rfl rfl
theorem mo_law_L95_ok (X : CT) (v0 : Option Nat) (v3 : Int32) (h : PH) : Im X (cX6_law, 4, RX6, "law", (some .int), 9) 95 [some (.inr v0), none, none, some (.inl v3)] [] h (mo_law_L95 v0 v3 h) szI (kI X) := by
  unfold mo_law_L95
  exact Im.iter (lv := (fun s : Int32 × PH => [some (.inr v0), none, none, some (.inl s.1)])) (hp := (fun s : Int32 × PH => s.2)) (fun s => mo_law_b95_ok X v0 s.1 s.2) _ rfl rfl
noncomputable def mo_law_71 (v0 : Option Nat) (v2 : Int32) (h : PH) : Option (Int32 × PH) :=
  (pf [5] 4 v0 (.inl 0) h).bind fun h51 =>
  (if v2 = 0 then
  (gfi [5] 7 v0 h51).bind fun x54 =>
  some ((x54, h51))
  else
  (gfi [5] 12 v0 h51).bind fun x52 =>
  (pf [5] 13 v0 (.inl x52) h51).bind fun h53 =>
  mo_law_L95 v0 0 h53)
theorem mo_law_71_ok (X : CT) (v0 : Option Nat) (v2 : Int32) (h : PH) : Im X (cX6_law, 4, RX6, "law", (some .int), 9) 71 [some (.inr v0), none, some (.inl v2), none] [] h (mo_law_71 v0 v2 h) szI (kI X) := by
  unfold mo_law_71
  refine im_aload_n (pc := 71) dX6_law_71 rfl rfl ?_
  refine im_iconst (pc := 72) (v := 0) dX6_law_72 (by decide) ?_
  refine im_pf (pc := 73) fp_X6_134 (okT_i _) dX6_law_73 fun h51 => ?_
  refine im_iload_n (pc := 76) dX6_law_76 rfl rfl ?_
  refine im_if_ne (pc := 77) (tgt := 85) dX6_law_77 (by decide) ?_ ?_
  · refine im_aload_n (pc := 85) dX6_law_85 rfl rfl ?_
    refine im_aload_n (pc := 86) dX6_law_86 rfl rfl ?_
    refine im_gi (pc := 87) fl_X6_219 dX6_law_87 fun x52 => ?_
    refine im_pf (pc := 90) fp_X6_234 (okT_i _) dX6_law_90 fun h53 => ?_
    refine im_iconst (pc := 93) (v := 0) dX6_law_93 (by decide) ?_
    refine im_istore_n (pc := 94) (lv' := [some (.inr v0), none, some (.inl v2), some (.inl 0)]) dX6_law_94 rfl (by decide) rfl ?_
    exact Im.drop [true, false, false, true] rfl (mo_law_L95_ok X v0 0 h53)
  · refine im_aload_n (pc := 80) dX6_law_80 rfl rfl ?_
    refine im_gi (pc := 81) fl_X6_152 dX6_law_81 fun x54 => ?_
    exact im_iret (pc := 84) dX6_law_84
noncomputable def mo_law_b31 (v0 : Option Nat) (v2 : Int32) (h : PH) : Option ((Int32 × PH) ⊕ (Int32 × PH)) :=
  (if v2 = 0 then
  (mo_law_71 v0 v2 h).map .inr
  else
  (gfi [5] 5 v0 h).bind fun x51 =>
  (gfi [5] 6 v0 h).bind fun x52 =>
  (if x52 ≤ x51 then
  (mo_law_71 v0 v2 h).map .inr
  else
  bd2 (mo_takes v0 59 h) fun x54 h53 =>
  (if x54 = 0 then
  some (.inl (0, h53))
  else
  bd2 (mo_readsRule v0 h53) fun x56 h55 =>
  (if x56 = 0 then
  some (.inl (0, h55))
  else
  some (.inl (1, h55))))))
noncomputable def mo_law_L31 (v0 : Option Nat) (v2 : Int32) (h : PH) : Option (Int32 × PH) :=
  iter (fun s : Int32 × PH => mo_law_b31 v0 s.1 s.2) (v2, h)
theorem mo_law_b31_ok (X : CT) (v0 : Option Nat) (v2 : Int32) (h : PH) : Im X (cX6_law, 4, RX6, "law", (some .int), 9) 31 [some (.inr v0), none, some (.inl v2), none] [] h (mo_law_b31 v0 v2 h) (ez (fun s : Int32 × PH => s.2) szI) (ek X 31 (fun s : Int32 × PH => [some (.inr v0), none, some (.inl s.1), none]) (fun s : Int32 × PH => s.2) (kI X)) := by
  unfold mo_law_b31
  refine im_iload_n (pc := 31) dX6_law_31 rfl rfl ?_
  refine im_if_eq (pc := 32) (tgt := 71) dX6_law_32 (by decide) ?_ ?_
  · exact Im.out (Im.drop [true, false, true, false] rfl (mo_law_71_ok X v0 v2 h))
  · refine im_aload_n (pc := 35) dX6_law_35 rfl rfl ?_
    refine im_gi (pc := 36) fl_X6_142 dX6_law_36 fun x51 => ?_
    refine im_aload_n (pc := 39) dX6_law_39 rfl rfl ?_
    refine im_gi (pc := 40) fl_X6_145 dX6_law_40 fun x52 => ?_
    refine im_icmp_ge (pc := 43) (tgt := 71) dX6_law_43 (by decide) ?_ ?_
    · exact Im.out (Im.drop [true, false, true, false] rfl (mo_law_71_ok X v0 v2 h))
    · refine im_aload_n (pc := 46) dX6_law_46 rfl rfl ?_
      refine im_bipush (pc := 47) (v := 59) dX6_law_47 (by decide) ?_
      refine cl_X6_231 mo_takes_im (pc := 49) (by decide) dX6_law_49 (Nat.le_of_ble_eq_true rfl) fun x54 h53 => ?_
      refine im_if_eq (pc := 52) (tgt := 66) dX6_law_52 (by decide) ?_ ?_
      · refine im_iconst (pc := 66) (v := 0) dX6_law_66 (by decide) ?_
        refine im_istore_n (pc := 67) (lv' := [some (.inr v0), none, some (.inl 0), none]) dX6_law_67 rfl (by decide) rfl ?_
        refine im_goto (pc := 68) (tgt := 31) dX6_law_68 (by decide) ?_
        exact Im.back [true, false, true, false] rfl rfl
      · refine im_aload_n (pc := 55) dX6_law_55 rfl rfl ?_
        refine cl_X6_228 mo_readsRule_im (pc := 56) (by decide) dX6_law_56 (Nat.le_of_ble_eq_true rfl) fun x56 h55 => ?_
        refine im_if_eq (pc := 59) (tgt := 66) dX6_law_59 (by decide) ?_ ?_
        · refine im_iconst (pc := 66) (v := 0) dX6_law_66 (by decide) ?_
          refine im_istore_n (pc := 67) (lv' := [some (.inr v0), none, some (.inl 0), none]) dX6_law_67 rfl (by decide) rfl ?_
          refine im_goto (pc := 68) (tgt := 31) dX6_law_68 (by decide) ?_
          exact Im.back [true, false, true, false] rfl rfl
        · refine im_iconst (pc := 62) (v := 1) dX6_law_62 (by decide) ?_
          refine im_goto (pc := 63) (tgt := 67) dX6_law_63 (by decide) ?_
          refine im_istore_n (pc := 67) (lv' := [some (.inr v0), none, some (.inl 1), none]) dX6_law_67 rfl (by decide) rfl ?_
          refine im_goto (pc := 68) (tgt := 31) dX6_law_68 (by decide) ?_
          exact Im.back [true, false, true, false] rfl rfl
theorem mo_law_L31_ok (X : CT) (v0 : Option Nat) (v2 : Int32) (h : PH) : Im X (cX6_law, 4, RX6, "law", (some .int), 9) 31 [some (.inr v0), none, some (.inl v2), none] [] h (mo_law_L31 v0 v2 h) szI (kI X) := by
  unfold mo_law_L31
  exact Im.iter (lv := (fun s : Int32 × PH => [some (.inr v0), none, some (.inl s.1), none])) (hp := (fun s : Int32 × PH => s.2)) (fun s => mo_law_b31_ok X v0 s.1 s.2) _ rfl rfl
noncomputable def mo_law_0 (v0 : Option Nat) (v1 : Int32) (h : PH) : Option (Int32 × PH) :=
  (mo_in v1 1 240 h).bind fun x51 =>
  (if x51 = 0 then
  some (((-1), h))
  else
  (gfi [5] 4 v0 h).bind fun x52 =>
  (if v1 ≤ x52 then
  (mo_beginsText v0 v1 h).bind fun h53 =>
  bd2 (mo_readsRule v0 h53) fun x55 h54 =>
  mo_law_L31 v0 x55 h54
  else
  some (((-1), h))))
theorem mo_law_0_ok (X : CT) (v0 : Option Nat) (v1 : Int32) (h : PH) : Im X (cX6_law, 4, RX6, "law", (some .int), 9) 0 [some (.inr v0), some (.inl v1), none, none] [] h (mo_law_0 v0 v1 h) szI (kI X) := by
  unfold mo_law_0
  refine im_iload_n (pc := 0) dX6_law_0 rfl rfl ?_
  refine im_iconst (pc := 1) (v := 1) dX6_law_1 (by decide) ?_
  refine im_sipush (pc := 2) (v := 240) dX6_law_2 (by decide) ?_
  refine cl_X6_104 mo_in_im (pc := 5) (by decide) dX6_law_5 (Nat.le_of_ble_eq_true rfl) fun x51 => ?_
  refine im_if_eq (pc := 8) (tgt := 19) dX6_law_8 (by decide) ?_ ?_
  · refine im_iconst (pc := 19) (v := (-1)) dX6_law_19 (by decide) ?_
    exact im_iret (pc := 20) dX6_law_20
  · refine im_iload_n (pc := 11) dX6_law_11 rfl rfl ?_
    refine im_aload_n (pc := 12) dX6_law_12 rfl rfl ?_
    refine im_gi (pc := 13) fl_X6_134 dX6_law_13 fun x52 => ?_
    refine im_icmp_le (pc := 16) (tgt := 21) dX6_law_16 (by decide) ?_ ?_
    · refine im_aload_n (pc := 21) dX6_law_21 rfl rfl ?_
      refine im_iload_n (pc := 22) dX6_law_22 rfl rfl ?_
      refine cl_X6_225 mo_beginsText_im (pc := 23) (by decide) dX6_law_23 (Nat.le_of_ble_eq_true rfl) fun h53 => ?_
      refine im_aload_n (pc := 26) dX6_law_26 rfl rfl ?_
      refine cl_X6_228 mo_readsRule_im (pc := 27) (by decide) dX6_law_27 (Nat.le_of_ble_eq_true rfl) fun x55 h54 => ?_
      refine im_istore_n (pc := 30) (lv' := [some (.inr v0), some (.inl v1), some (.inl x55), none]) dX6_law_30 rfl (by decide) rfl ?_
      exact Im.drop [true, false, true, false] rfl (mo_law_L31_ok X v0 x55 h54)
    · refine im_iconst (pc := 19) (v := (-1)) dX6_law_19 (by decide) ?_
      exact im_iret (pc := 20) dX6_law_20
noncomputable def mo_law (a0 : Option Nat) (a1 : Int32) (h : PH) : Option (Int32 × PH) := grd (isC [5] a0 h) (mo_law_0 a0 a1 h)
theorem mo_law_im : IM_X6_law mo_law 9 := by
  intro a0 a1 h r h' e
  obtain ⟨e1, e2⟩ := grd_some e
  exact ⟨e1, SpI.of (k := 2) (plainFor_of_name (by decide)) rfl (fun X => Im.drop [true, true, false, false] rfl (mo_law_0_ok X a0 a1 h)) e2⟩
def IM_X6_copies (f : Option Nat → Option Nat → PH → Option (PH)) (d : Nat) : Prop := ∀ (a0 : Option Nat) (a1 : Option Nat) (h : PH) (h' : PH), f a0 a1 h = some h' → SpV yX6_copies cX6_copies 3 none d [.inr a0, .inr a1] h h'
noncomputable def mo_copies_b2 (v0 : Option Nat) (v1 : Option Nat) (v2 : Int32) (h : PH) : Option ((Int32 × PH) ⊕ (PH)) :=
  (if 66 ≤ v2 then
  some (.inr h)
  else
  (ald 0 v0 v2 h).bind fun x51 =>
  (ast 0 v1 v2 x51 h).bind fun h52 =>
  some (.inl ((v2 + 1), h52)))
noncomputable def mo_copies_L2 (v0 : Option Nat) (v1 : Option Nat) (v2 : Int32) (h : PH) : Option (PH) :=
  iter (fun s : Int32 × PH => mo_copies_b2 v0 v1 s.1 s.2) (v2, h)
theorem mo_copies_b2_ok (X : CT) (v0 : Option Nat) (v1 : Option Nat) (v2 : Int32) (h : PH) : Im X (cX6_copies, 3, RX6, "copies", none, 1) 2 [some (.inr v0), some (.inr v1), some (.inl v2)] [] h (mo_copies_b2 v0 v1 v2 h) (ez (fun s : Int32 × PH => s.2) szV) (ek X 2 (fun s : Int32 × PH => [some (.inr v0), some (.inr v1), some (.inl s.1)]) (fun s : Int32 × PH => s.2) (kV X)) := by
  unfold mo_copies_b2
  refine im_iload_n (pc := 2) dX6_copies_2 rfl rfl ?_
  refine im_bipush (pc := 3) (v := 66) dX6_copies_3 (by decide) ?_
  refine im_icmp_ge (pc := 5) (tgt := 20) dX6_copies_5 (by decide) ?_ ?_
  · exact Im.outS (im_vret (pc := 20) dX6_copies_20)
  · refine im_aload_n (pc := 8) dX6_copies_8 rfl rfl ?_
    refine im_iload_n (pc := 9) dX6_copies_9 rfl rfl ?_
    refine im_aload_n (pc := 10) dX6_copies_10 rfl rfl ?_
    refine im_iload_n (pc := 11) dX6_copies_11 rfl rfl ?_
    refine im_iald (pc := 12) dX6_copies_12 fun x51 => ?_
    refine im_iast (pc := 13) dX6_copies_13 fun h52 => ?_
    refine im_iinc (pc := 14) (v := (v2 + 1)) (lv' := [some (.inr v0), some (.inr v1), some (.inl (v2 + 1))]) dX6_copies_14 rfl rfl (by decide) rfl ?_
    refine im_goto (pc := 17) (tgt := 2) dX6_copies_17 (by decide) ?_
    exact Im.back [true, true, true] rfl rfl
theorem mo_copies_L2_ok (X : CT) (v0 : Option Nat) (v1 : Option Nat) (v2 : Int32) (h : PH) : Im X (cX6_copies, 3, RX6, "copies", none, 1) 2 [some (.inr v0), some (.inr v1), some (.inl v2)] [] h (mo_copies_L2 v0 v1 v2 h) szV (kV X) := by
  unfold mo_copies_L2
  exact Im.iter (lv := (fun s : Int32 × PH => [some (.inr v0), some (.inr v1), some (.inl s.1)])) (hp := (fun s : Int32 × PH => s.2)) (fun s => mo_copies_b2_ok X v0 v1 s.1 s.2) _ rfl rfl
noncomputable def mo_copies_0 (v0 : Option Nat) (v1 : Option Nat) (h : PH) : Option (PH) :=
  mo_copies_L2 v0 v1 0 h
theorem mo_copies_0_ok (X : CT) (v0 : Option Nat) (v1 : Option Nat) (h : PH) : Im X (cX6_copies, 3, RX6, "copies", none, 1) 0 [some (.inr v0), some (.inr v1), none] [] h (mo_copies_0 v0 v1 h) szV (kV X) := by
  unfold mo_copies_0
  refine im_iconst (pc := 0) (v := 0) dX6_copies_0 (by decide) ?_
  refine im_istore_n (pc := 1) (lv' := [some (.inr v0), some (.inr v1), some (.inl 0)]) dX6_copies_1 rfl (by decide) rfl ?_
  exact Im.drop [true, true, true] rfl (mo_copies_L2_ok X v0 v1 0 h)
noncomputable def mo_copies (a0 : Option Nat) (a1 : Option Nat) (h : PH) : Option (PH) := mo_copies_0 a0 a1 h
theorem mo_copies_im : IM_X6_copies mo_copies 1 := by
  intro a0 a1 h h' e
  exact SpV.of (k := 1) (plainFor_of_name (by decide)) rfl (fun X => Im.drop [true, true, false] rfl (mo_copies_0_ok X a0 a1 h)) e
def IM_X6_isLetter (f : Option Nat → PH → Option (Int32)) (d : Nat) : Prop := ∀ (a0 : Option Nat) (h : PH) (r : Int32), f a0 h = some r → isC [5] a0 h = true ∧ SpI yX6_isLetter cX6_isLetter 1 (some .boolean) d [.inr a0] h r h
noncomputable def mo_isLetter_0 (v0 : Option Nat) (h : PH) : Option (Int32) :=
  (mo_here v0 h).bind fun x51 =>
  (mo_in (x51 - 97) 0 15 h).bind fun x52 =>
  (zok x52).bind fun x53 => some (x53)
theorem mo_isLetter_0_ok (X : CT) (v0 : Option Nat) (h : PH) : Im X (cX6_isLetter, 1, RX6, "isLetter", (some .boolean), 2) 0 [some (.inr v0)] [] h (mo_isLetter_0 v0 h) (szP h) (kP X h) := by
  unfold mo_isLetter_0
  refine im_aload_n (pc := 0) dX6_isLetter_0 rfl rfl ?_
  refine cl_X6_148 mo_here_im (pc := 1) (by decide) dX6_isLetter_1 (Nat.le_of_ble_eq_true rfl) fun x51 => ?_
  refine im_bipush (pc := 4) (v := 97) dX6_isLetter_4 (by decide) ?_
  refine im_isub (pc := 6) dX6_isLetter_6 ?_
  refine im_iconst (pc := 7) (v := 0) dX6_isLetter_7 (by decide) ?_
  refine im_bipush (pc := 8) (v := 15) dX6_isLetter_8 (by decide) ?_
  refine cl_X6_104 mo_in_im (pc := 10) (by decide) dX6_isLetter_10 (Nat.le_of_ble_eq_true rfl) fun x52 => ?_
  refine im_zok fun x53 hz => ?_
  exact im_zretTP (pc := 13) (nar_z hz) dX6_isLetter_13
noncomputable def mo_isLetter (a0 : Option Nat) (h : PH) : Option (Int32) := grd (isC [5] a0 h) (mo_isLetter_0 a0 h)
theorem mo_isLetter_im : IM_X6_isLetter mo_isLetter 2 := by
  intro a0 h r e
  obtain ⟨e1, e2⟩ := grd_some e
  exact ⟨e1, SpI.ofP (k := 0) (plainFor_of_name (by decide)) rfl (fun X => Im.drop [true] rfl (mo_isLetter_0_ok X a0 h)) e2⟩
def IM_X6_isTold (f : Option Nat → Int32 → PH → Option (Int32)) (d : Nat) : Prop := ∀ (a0 : Option Nat) (a1 : Int32) (h : PH) (r : Int32), f a0 a1 h = some r → isC [5] a0 h = true ∧ SpI yX6_isTold cX6_isTold 2 (some .boolean) d [.inr a0, .inl a1] h r h
noncomputable def mo_isTold_0 (v0 : Option Nat) (v1 : Int32) (h : PH) : Option (Int32) :=
  (mo_in v1 0 15 h).bind fun x51 =>
  (if x51 = 0 then
  some (0)
  else
  (gfr [5] 0 v0 h).bind fun r52 =>
  (ald 0 r52 (0 + v1) h).bind fun x53 =>
  (if x53 = 1 then
  some (1)
  else
  some (0)))
theorem mo_isTold_0_ok (X : CT) (v0 : Option Nat) (v1 : Int32) (h : PH) : Im X (cX6_isTold, 2, RX6, "isTold", (some .boolean), 2) 0 [some (.inr v0), some (.inl v1)] [] h (mo_isTold_0 v0 v1 h) (szP h) (kP X h) := by
  unfold mo_isTold_0
  refine im_iload_n (pc := 0) dX6_isTold_0 rfl rfl ?_
  refine im_iconst (pc := 1) (v := 0) dX6_isTold_1 (by decide) ?_
  refine im_bipush (pc := 2) (v := 15) dX6_isTold_2 (by decide) ?_
  refine cl_X6_104 mo_in_im (pc := 4) (by decide) dX6_isTold_4 (Nat.le_of_ble_eq_true rfl) fun x51 => ?_
  refine im_if_eq (pc := 7) (tgt := 26) dX6_isTold_7 (by decide) ?_ ?_
  · refine im_iconst (pc := 26) (v := 0) dX6_isTold_26 (by decide) ?_
    exact im_zretTP (pc := 27) (nar_z (Or.inl rfl)) dX6_isTold_27
  · refine im_aload_n (pc := 10) dX6_isTold_10 rfl rfl ?_
    refine im_gr (pc := 11) fl_X6_7 dX6_isTold_11 fun r52 => ?_
    refine im_iconst (pc := 14) (v := 0) dX6_isTold_14 (by decide) ?_
    refine im_iload_n (pc := 15) dX6_isTold_15 rfl rfl ?_
    refine im_iadd (pc := 16) dX6_isTold_16 ?_
    refine im_iald (pc := 17) dX6_isTold_17 fun x53 => ?_
    refine im_iconst (pc := 18) (v := 1) dX6_isTold_18 (by decide) ?_
    refine im_icmp_ne (pc := 19) (tgt := 26) dX6_isTold_19 (by decide) ?_ ?_
    · refine im_iconst (pc := 26) (v := 0) dX6_isTold_26 (by decide) ?_
      exact im_zretTP (pc := 27) (nar_z (Or.inl rfl)) dX6_isTold_27
    · refine im_iconst (pc := 22) (v := 1) dX6_isTold_22 (by decide) ?_
      refine im_goto (pc := 23) (tgt := 27) dX6_isTold_23 (by decide) ?_
      exact im_zretTP (pc := 27) (nar_z (Or.inr rfl)) dX6_isTold_27
noncomputable def mo_isTold (a0 : Option Nat) (a1 : Int32) (h : PH) : Option (Int32) := grd (isC [5] a0 h) (mo_isTold_0 a0 a1 h)
theorem mo_isTold_im : IM_X6_isTold mo_isTold 2 := by
  intro a0 a1 h r e
  obtain ⟨e1, e2⟩ := grd_some e
  exact ⟨e1, SpI.ofP (k := 0) (plainFor_of_name (by decide)) rfl (fun X => Im.drop [true, true] rfl (mo_isTold_0_ok X a0 a1 h)) e2⟩
def IM_X6_isLaid (f : Option Nat → Int32 → PH → Option (Int32)) (d : Nat) : Prop := ∀ (a0 : Option Nat) (a1 : Int32) (h : PH) (r : Int32), f a0 a1 h = some r → isC [5] a0 h = true ∧ SpI yX6_isLaid cX6_isLaid 2 (some .boolean) d [.inr a0, .inl a1] h r h
noncomputable def mo_isLaid_0 (v0 : Option Nat) (v1 : Int32) (h : PH) : Option (Int32) :=
  (gfr [5] 0 v0 h).bind fun r51 =>
  (ald 0 r51 (0 + v1) h).bind fun x52 =>
  (if x52 = 1 then
  (gfr [5] 0 v0 h).bind fun r53 =>
  (ald 0 r53 (48 + v1) h).bind fun x54 =>
  (if x54 < 0 then
  some (0)
  else
  some (1))
  else
  some (0))
theorem mo_isLaid_0_ok (X : CT) (v0 : Option Nat) (v1 : Int32) (h : PH) : Im X (cX6_isLaid, 2, RX6, "isLaid", (some .boolean), 1) 0 [some (.inr v0), some (.inl v1)] [] h (mo_isLaid_0 v0 v1 h) (szP h) (kP X h) := by
  unfold mo_isLaid_0
  refine im_aload_n (pc := 0) dX6_isLaid_0 rfl rfl ?_
  refine im_gr (pc := 1) fl_X6_7 dX6_isLaid_1 fun r51 => ?_
  refine im_iconst (pc := 4) (v := 0) dX6_isLaid_4 (by decide) ?_
  refine im_iload_n (pc := 5) dX6_isLaid_5 rfl rfl ?_
  refine im_iadd (pc := 6) dX6_isLaid_6 ?_
  refine im_iald (pc := 7) dX6_isLaid_7 fun x52 => ?_
  refine im_iconst (pc := 8) (v := 1) dX6_isLaid_8 (by decide) ?_
  refine im_icmp_ne (pc := 9) (tgt := 28) dX6_isLaid_9 (by decide) ?_ ?_
  · refine im_iconst (pc := 28) (v := 0) dX6_isLaid_28 (by decide) ?_
    exact im_zretTP (pc := 29) (nar_z (Or.inl rfl)) dX6_isLaid_29
  · refine im_aload_n (pc := 12) dX6_isLaid_12 rfl rfl ?_
    refine im_gr (pc := 13) fl_X6_7 dX6_isLaid_13 fun r53 => ?_
    refine im_bipush (pc := 16) (v := 48) dX6_isLaid_16 (by decide) ?_
    refine im_iload_n (pc := 18) dX6_isLaid_18 rfl rfl ?_
    refine im_iadd (pc := 19) dX6_isLaid_19 ?_
    refine im_iald (pc := 20) dX6_isLaid_20 fun x54 => ?_
    refine im_if_lt (pc := 21) (tgt := 28) dX6_isLaid_21 (by decide) ?_ ?_
    · refine im_iconst (pc := 28) (v := 0) dX6_isLaid_28 (by decide) ?_
      exact im_zretTP (pc := 29) (nar_z (Or.inl rfl)) dX6_isLaid_29
    · refine im_iconst (pc := 24) (v := 1) dX6_isLaid_24 (by decide) ?_
      refine im_goto (pc := 25) (tgt := 29) dX6_isLaid_25 (by decide) ?_
      exact im_zretTP (pc := 29) (nar_z (Or.inr rfl)) dX6_isLaid_29
noncomputable def mo_isLaid (a0 : Option Nat) (a1 : Int32) (h : PH) : Option (Int32) := grd (isC [5] a0 h) (mo_isLaid_0 a0 a1 h)
theorem mo_isLaid_im : IM_X6_isLaid mo_isLaid 1 := by
  intro a0 a1 h r e
  obtain ⟨e1, e2⟩ := grd_some e
  exact ⟨e1, SpI.ofP (k := 0) (plainFor_of_name (by decide)) rfl (fun X => Im.drop [true, true] rfl (mo_isLaid_0_ok X a0 a1 h)) e2⟩
theorem cl_X6_112 {X : CT} {cc : ByteArray} {nL : Nat} {mn : String} {ret : Option FieldType} {d d0 : Nat} {τ : Type} {pc : Nat} {lv : List (Option PV)} {st : List PV} {h : PH} {sz : τ → Nat × Nat} {K : τ → Prop} {f : Option Nat → Int32 → PH → Option (Int32)} (HR : IM_X6_isLaid f d0) {a0 : Option Nat} {a1 : Int32} {g : Int32 → Option τ} (hd : d0 + 1 ≤ d) (hdg : decode cc pc = .ok (.invokevirtual 112, 3)) (hst : st.length ≤ 8) (kk : ∀ r, Im X (cc, nL, RX6, mn, ret, d) (pc + 3) lv (.inl r :: st) h (g r) sz K) : Im X (cc, nL, RX6, mn, ret, d) pc lv (.inl a1 :: .inr a0 :: st) h ((f a0 a1 h).bind g) sz K := by
  refine im_cP (y := yX6_isLaid) (cY := cX6_isLaid) (nY := 2) (rY := (some .boolean)) (d' := d0) (av := [.inr a0, .inl a1]) (fun r e hX => ?_) (fun r e => (HR _ _ _ _ e).2) hd (by decide) hst rfl kk
  obtain ⟨a, c, fs, rfl, ec, hm⟩ := isC_some (HR _ _ _ _ e).1
  cases List.mem_singleton.mp hm
  exact cal_V (n := 1) hX (lw_V q1458 q1460 qs69 q112 q1461) (by decide +kernel) rfl rfl ec hdg

def IM_X6_whoLies (f : Option Nat → Int32 → PH → Option (Int32)) (d : Nat) : Prop := ∀ (a0 : Option Nat) (a1 : Int32) (h : PH) (r : Int32), f a0 a1 h = some r → isC [5] a0 h = true ∧ SpI yX6_whoLies cX6_whoLies 3 (some .int) d [.inr a0, .inl a1] h r h
noncomputable def mo_whoLies_b2 (v0 : Option Nat) (v1 : Int32) (v2 : Int32) (h : PH) : Option ((Int32) ⊕ (Int32)) :=
  (if 16 ≤ v2 then
  some (.inr ((-2)))
  else
  (mo_isLaid v0 v2 h).bind fun x51 =>
  (if x51 = 0 then
  some (.inl (v2 + 1))
  else
  (gfr [5] 0 v0 h).bind fun r52 =>
  (ald 0 r52 (48 + v2) h).bind fun x53 =>
  (if x53 = v1 then
  some (.inr v2)
  else
  some (.inl (v2 + 1)))))
noncomputable def mo_whoLies_L2 (v0 : Option Nat) (v1 : Int32) (v2 : Int32) (h : PH) : Option (Int32) :=
  iter (fun s : Int32 => mo_whoLies_b2 v0 v1 s h) v2
theorem mo_whoLies_b2_ok (X : CT) (v0 : Option Nat) (v1 : Int32) (v2 : Int32) (h : PH) : Im X (cX6_whoLies, 3, RX6, "whoLies", (some .int), 2) 2 [some (.inr v0), some (.inl v1), some (.inl v2)] [] h (mo_whoLies_b2 v0 v1 v2 h) (ez (fun s : Int32 => h) (szP h)) (ek X 2 (fun s : Int32 => [some (.inr v0), some (.inl v1), some (.inl s)]) (fun s : Int32 => h) (kP X h)) := by
  unfold mo_whoLies_b2
  refine im_iload_n (pc := 2) dX6_whoLies_2 rfl rfl ?_
  refine im_bipush (pc := 3) (v := 16) dX6_whoLies_3 (by decide) ?_
  refine im_icmp_ge (pc := 5) (tgt := 37) dX6_whoLies_5 (by decide) ?_ ?_
  · refine im_bipush (pc := 37) (v := (-2)) dX6_whoLies_37 (by decide) ?_
    exact Im.outS (im_iretP (pc := 39) dX6_whoLies_39)
  · refine im_aload_n (pc := 8) dX6_whoLies_8 rfl rfl ?_
    refine im_iload_n (pc := 9) dX6_whoLies_9 rfl rfl ?_
    refine cl_X6_112 mo_isLaid_im (pc := 10) (by decide) dX6_whoLies_10 (Nat.le_of_ble_eq_true rfl) fun x51 => ?_
    refine im_if_eq (pc := 13) (tgt := 31) dX6_whoLies_13 (by decide) ?_ ?_
    · refine im_iinc (pc := 31) (v := (v2 + 1)) (lv' := [some (.inr v0), some (.inl v1), some (.inl (v2 + 1))]) dX6_whoLies_31 rfl rfl (by decide) rfl ?_
      refine im_goto (pc := 34) (tgt := 2) dX6_whoLies_34 (by decide) ?_
      exact Im.back [true, true, true] rfl rfl
    · refine im_aload_n (pc := 16) dX6_whoLies_16 rfl rfl ?_
      refine im_gr (pc := 17) fl_X6_7 dX6_whoLies_17 fun r52 => ?_
      refine im_bipush (pc := 20) (v := 48) dX6_whoLies_20 (by decide) ?_
      refine im_iload_n (pc := 22) dX6_whoLies_22 rfl rfl ?_
      refine im_iadd (pc := 23) dX6_whoLies_23 ?_
      refine im_iald (pc := 24) dX6_whoLies_24 fun x53 => ?_
      refine im_iload_n (pc := 25) dX6_whoLies_25 rfl rfl ?_
      refine im_icmp_ne (pc := 26) (tgt := 31) dX6_whoLies_26 (by decide) ?_ ?_
      · refine im_iinc (pc := 31) (v := (v2 + 1)) (lv' := [some (.inr v0), some (.inl v1), some (.inl (v2 + 1))]) dX6_whoLies_31 rfl rfl (by decide) rfl ?_
        refine im_goto (pc := 34) (tgt := 2) dX6_whoLies_34 (by decide) ?_
        exact Im.back [true, true, true] rfl rfl
      · refine im_iload_n (pc := 29) dX6_whoLies_29 rfl rfl ?_
        exact Im.outS (im_iretP (pc := 30) dX6_whoLies_30)
theorem mo_whoLies_L2_ok (X : CT) (v0 : Option Nat) (v1 : Int32) (v2 : Int32) (h : PH) : Im X (cX6_whoLies, 3, RX6, "whoLies", (some .int), 2) 2 [some (.inr v0), some (.inl v1), some (.inl v2)] [] h (mo_whoLies_L2 v0 v1 v2 h) (szP h) (kP X h) := by
  unfold mo_whoLies_L2
  exact Im.iter (lv := (fun s : Int32 => [some (.inr v0), some (.inl v1), some (.inl s)])) (hp := (fun s : Int32 => h)) (fun s => mo_whoLies_b2_ok X v0 v1 s h) _ rfl rfl
noncomputable def mo_whoLies_0 (v0 : Option Nat) (v1 : Int32) (h : PH) : Option (Int32) :=
  mo_whoLies_L2 v0 v1 0 h
theorem mo_whoLies_0_ok (X : CT) (v0 : Option Nat) (v1 : Int32) (h : PH) : Im X (cX6_whoLies, 3, RX6, "whoLies", (some .int), 2) 0 [some (.inr v0), some (.inl v1), none] [] h (mo_whoLies_0 v0 v1 h) (szP h) (kP X h) := by
  unfold mo_whoLies_0
  refine im_iconst (pc := 0) (v := 0) dX6_whoLies_0 (by decide) ?_
  refine im_istore_n (pc := 1) (lv' := [some (.inr v0), some (.inl v1), some (.inl 0)]) dX6_whoLies_1 rfl (by decide) rfl ?_
  exact Im.drop [true, true, true] rfl (mo_whoLies_L2_ok X v0 v1 0 h)
noncomputable def mo_whoLies (a0 : Option Nat) (a1 : Int32) (h : PH) : Option (Int32) := grd (isC [5] a0 h) (mo_whoLies_0 a0 a1 h)
theorem mo_whoLies_im : IM_X6_whoLies mo_whoLies 2 := by
  intro a0 a1 h r e
  obtain ⟨e1, e2⟩ := grd_some e
  exact ⟨e1, SpI.ofP (k := 1) (plainFor_of_name (by decide)) rfl (fun X => Im.drop [true, true, false] rfl (mo_whoLies_0_ok X a0 a1 h)) e2⟩
theorem cl_X6_247 {X : CT} {cc : ByteArray} {nL : Nat} {mn : String} {ret : Option FieldType} {d d0 : Nat} {τ : Type} {pc : Nat} {lv : List (Option PV)} {st : List PV} {h : PH} {sz : τ → Nat × Nat} {K : τ → Prop} {f : Option Nat → Int32 → PH → Option (Int32)} (HR : IM_X6_whoLies f d0) {a0 : Option Nat} {a1 : Int32} {g : Int32 → Option τ} (hd : d0 + 1 ≤ d) (hdg : decode cc pc = .ok (.invokevirtual 247, 3)) (hst : st.length ≤ 8) (kk : ∀ r, Im X (cc, nL, RX6, mn, ret, d) (pc + 3) lv (.inl r :: st) h (g r) sz K) : Im X (cc, nL, RX6, mn, ret, d) pc lv (.inl a1 :: .inr a0 :: st) h ((f a0 a1 h).bind g) sz K := by
  refine im_cP (y := yX6_whoLies) (cY := cX6_whoLies) (nY := 3) (rY := (some .int)) (d' := d0) (av := [.inr a0, .inl a1]) (fun r e hX => ?_) (fun r e => (HR _ _ _ _ e).2) hd (by decide) hst rfl kk
  obtain ⟨a, c, fs, rfl, ec, hm⟩ := isC_some (HR _ _ _ _ e).1
  cases List.mem_singleton.mp hm
  exact cal_V (n := 1) hX (lw_V q1454 q1456 qs68 q112 q1457) (by decide +kernel) rfl rfl ec hdg

def IM_X6_readsPlot (f : Option Nat → Int32 → PH → Option (Int32 × PH)) (d : Nat) : Prop := ∀ (a0 : Option Nat) (a1 : Int32) (h : PH) (r : Int32) (h' : PH), f a0 a1 h = some (r, h') → isC [5] a0 h = true ∧ SpI yX6_readsPlot cX6_readsPlot 6 (some .boolean) d [.inr a0, .inl a1] h r h'
noncomputable def mo_readsPlot_138 (v0 : Option Nat) (v1 : Int32) (v3 : Int32) (v4 : Int32) (h : PH) : Option (Int32 × PH) :=
  (gfr [5] 0 v0 h).bind fun r51 =>
  (ast 0 r51 (48 + v1) ((10 * v4) + v3) h).bind fun h52 =>
  some ((1, h52))
theorem mo_readsPlot_138_ok (X : CT) (v0 : Option Nat) (v1 : Int32) (v3 : Int32) (v4 : Int32) (h : PH) : Im X (cX6_readsPlot, 6, RX6, "readsPlot", (some .boolean), 3) 138 [some (.inr v0), some (.inl v1), none, some (.inl v3), some (.inl v4), none] [] h (mo_readsPlot_138 v0 v1 v3 v4 h) szI (kI X) := by
  unfold mo_readsPlot_138
  refine im_aload_n (pc := 138) dX6_readsPlot_138 rfl rfl ?_
  refine im_gr (pc := 139) fl_X6_7 dX6_readsPlot_139 fun r51 => ?_
  refine im_bipush (pc := 142) (v := 48) dX6_readsPlot_142 (by decide) ?_
  refine im_iload_n (pc := 144) dX6_readsPlot_144 rfl rfl ?_
  refine im_iadd (pc := 145) dX6_readsPlot_145 ?_
  refine im_bipush (pc := 146) (v := 10) dX6_readsPlot_146 (by decide) ?_
  refine im_iload (pc := 148) dX6_readsPlot_148 rfl ?_
  refine im_imul (pc := 150) dX6_readsPlot_150 ?_
  refine im_iload_n (pc := 151) dX6_readsPlot_151 rfl rfl ?_
  refine im_iadd (pc := 152) dX6_readsPlot_152 ?_
  refine im_iast (pc := 153) dX6_readsPlot_153 fun h52 => ?_
  refine im_iconst (pc := 154) (v := 1) dX6_readsPlot_154 (by decide) ?_
  exact im_zretT (pc := 155) (nar_z (Or.inr rfl)) dX6_readsPlot_155
noncomputable def mo_readsPlot_0 (v0 : Option Nat) (v1 : Int32) (h : PH) : Option (Int32 × PH) :=
  (gfi [5] 5 v0 h).bind fun x51 =>
  (mo_isDigit v0 h).bind fun x52 =>
  (if x52 = 0 then
  (gfi [5] 5 v0 h).bind fun x74 =>
  bd2 (mo_wrongAt v0 1 x74 h) fun x76 h75 =>
  (zok x76).bind fun x77 => some ((x77, h75))
  else
  (mo_here v0 h).bind fun x53 =>
  (gfi [5] 5 v0 h).bind fun x54 =>
  (pf [5] 5 v0 (.inl (x54 + 1)) h).bind fun h55 =>
  bd2 (mo_takes v0 44 h55) fun x57 h56 =>
  (if x57 = 0 then
  some ((0, h56))
  else
  (mo_isDigit v0 h56).bind fun x58 =>
  (if x58 = 0 then
  (gfi [5] 5 v0 h56).bind fun x70 =>
  bd2 (mo_wrongAt v0 1 x70 h56) fun x72 h71 =>
  (zok x72).bind fun x73 => some ((x73, h71))
  else
  (mo_here v0 h56).bind fun x59 =>
  (if (x59 - 48) < 6 then
  (gfi [5] 5 v0 h56).bind fun x60 =>
  (pf [5] 5 v0 (.inl (x60 + 1)) h56).bind fun h61 =>
  (mo_whoLies v0 ((10 * (x59 - 48)) + (x53 - 48)) h61).bind fun x62 =>
  (if x62 = (-2) then
  mo_readsPlot_138 v0 v1 (x53 - 48) (x59 - 48) h61
  else
  (if x62 = v1 then
  mo_readsPlot_138 v0 v1 (x53 - 48) (x59 - 48) h61
  else
  bd2 (mo_wrongAt v0 8 x51 h61) fun x64 h63 =>
  (zok x64).bind fun x65 => some ((x65, h63))))
  else
  (gfi [5] 5 v0 h56).bind fun x66 =>
  bd2 (mo_wrongAt v0 3 x66 h56) fun x68 h67 =>
  (zok x68).bind fun x69 => some ((x69, h67))))))
theorem mo_readsPlot_0_ok (X : CT) (v0 : Option Nat) (v1 : Int32) (h : PH) : Im X (cX6_readsPlot, 6, RX6, "readsPlot", (some .boolean), 3) 0 [some (.inr v0), some (.inl v1), none, none, none, none] [] h (mo_readsPlot_0 v0 v1 h) szI (kI X) := by
  unfold mo_readsPlot_0
  refine im_aload_n (pc := 0) dX6_readsPlot_0 rfl rfl ?_
  refine im_gi (pc := 1) fl_X6_142 dX6_readsPlot_1 fun x51 => ?_
  refine im_istore_n (pc := 4) (lv' := [some (.inr v0), some (.inl v1), some (.inl x51), none, none, none]) dX6_readsPlot_4 rfl (by decide) rfl ?_
  refine im_aload_n (pc := 5) dX6_readsPlot_5 rfl rfl ?_
  refine cl_X6_161 mo_isDigit_im (pc := 6) (by decide) dX6_readsPlot_6 (Nat.le_of_ble_eq_true rfl) fun x52 => ?_
  refine im_if_ne (pc := 9) (tgt := 22) dX6_readsPlot_9 (by decide) ?_ ?_
  · refine im_aload_n (pc := 22) dX6_readsPlot_22 rfl rfl ?_
    refine cl_X6_148 mo_here_im (pc := 23) (by decide) dX6_readsPlot_23 (Nat.le_of_ble_eq_true rfl) fun x53 => ?_
    refine im_bipush (pc := 26) (v := 48) dX6_readsPlot_26 (by decide) ?_
    refine im_isub (pc := 28) dX6_readsPlot_28 ?_
    refine im_istore_n (pc := 29) (lv' := [some (.inr v0), some (.inl v1), some (.inl x51), some (.inl (x53 - 48)), none, none]) dX6_readsPlot_29 rfl (by decide) rfl ?_
    refine im_aload_n (pc := 30) dX6_readsPlot_30 rfl rfl ?_
    refine im_aload_n (pc := 31) dX6_readsPlot_31 rfl rfl ?_
    refine im_gi (pc := 32) fl_X6_142 dX6_readsPlot_32 fun x54 => ?_
    refine im_iconst (pc := 35) (v := 1) dX6_readsPlot_35 (by decide) ?_
    refine im_iadd (pc := 36) dX6_readsPlot_36 ?_
    refine im_pf (pc := 37) fp_X6_142 (okT_i _) dX6_readsPlot_37 fun h55 => ?_
    refine im_aload_n (pc := 40) dX6_readsPlot_40 rfl rfl ?_
    refine im_bipush (pc := 41) (v := 44) dX6_readsPlot_41 (by decide) ?_
    refine cl_X6_231 mo_takes_im (pc := 43) (by decide) dX6_readsPlot_43 (Nat.le_of_ble_eq_true rfl) fun x57 h56 => ?_
    refine im_if_ne (pc := 46) (tgt := 51) dX6_readsPlot_46 (by decide) ?_ ?_
    · refine im_aload_n (pc := 51) dX6_readsPlot_51 rfl rfl ?_
      refine cl_X6_161 mo_isDigit_im (pc := 52) (by decide) dX6_readsPlot_52 (Nat.le_of_ble_eq_true rfl) fun x58 => ?_
      refine im_if_ne (pc := 55) (tgt := 68) dX6_readsPlot_55 (by decide) ?_ ?_
      · refine im_aload_n (pc := 68) dX6_readsPlot_68 rfl rfl ?_
        refine cl_X6_148 mo_here_im (pc := 69) (by decide) dX6_readsPlot_69 (Nat.le_of_ble_eq_true rfl) fun x59 => ?_
        refine im_bipush (pc := 72) (v := 48) dX6_readsPlot_72 (by decide) ?_
        refine im_isub (pc := 74) dX6_readsPlot_74 ?_
        refine im_istore (pc := 75) (lv' := [some (.inr v0), some (.inl v1), some (.inl x51), some (.inl (x53 - 48)), some (.inl (x59 - 48)), none]) dX6_readsPlot_75 (by decide) rfl ?_
        refine im_iload (pc := 77) dX6_readsPlot_77 rfl ?_
        refine im_bipush (pc := 79) (v := 6) dX6_readsPlot_79 (by decide) ?_
        refine im_icmp_lt (pc := 81) (tgt := 94) dX6_readsPlot_81 (by decide) ?_ ?_
        · refine im_aload_n (pc := 94) dX6_readsPlot_94 rfl rfl ?_
          refine im_aload_n (pc := 95) dX6_readsPlot_95 rfl rfl ?_
          refine im_gi (pc := 96) fl_X6_142 dX6_readsPlot_96 fun x60 => ?_
          refine im_iconst (pc := 99) (v := 1) dX6_readsPlot_99 (by decide) ?_
          refine im_iadd (pc := 100) dX6_readsPlot_100 ?_
          refine im_pf (pc := 101) fp_X6_142 (okT_i _) dX6_readsPlot_101 fun h61 => ?_
          refine im_aload_n (pc := 104) dX6_readsPlot_104 rfl rfl ?_
          refine im_bipush (pc := 105) (v := 10) dX6_readsPlot_105 (by decide) ?_
          refine im_iload (pc := 107) dX6_readsPlot_107 rfl ?_
          refine im_imul (pc := 109) dX6_readsPlot_109 ?_
          refine im_iload_n (pc := 110) dX6_readsPlot_110 rfl rfl ?_
          refine im_iadd (pc := 111) dX6_readsPlot_111 ?_
          refine cl_X6_247 mo_whoLies_im (pc := 112) (by decide) dX6_readsPlot_112 (Nat.le_of_ble_eq_true rfl) fun x62 => ?_
          refine im_istore (pc := 115) (lv' := [some (.inr v0), some (.inl v1), some (.inl x51), some (.inl (x53 - 48)), some (.inl (x59 - 48)), some (.inl x62)]) dX6_readsPlot_115 (by decide) rfl ?_
          refine im_iload (pc := 117) dX6_readsPlot_117 rfl ?_
          refine im_bipush (pc := 119) (v := (-2)) dX6_readsPlot_119 (by decide) ?_
          refine im_icmp_eq (pc := 121) (tgt := 138) dX6_readsPlot_121 (by decide) ?_ ?_
          · exact Im.drop [true, true, false, true, true, false] rfl (mo_readsPlot_138_ok X v0 v1 (x53 - 48) (x59 - 48) h61)
          · refine im_iload (pc := 124) dX6_readsPlot_124 rfl ?_
            refine im_iload_n (pc := 126) dX6_readsPlot_126 rfl rfl ?_
            refine im_icmp_eq (pc := 127) (tgt := 138) dX6_readsPlot_127 (by decide) ?_ ?_
            · exact Im.drop [true, true, false, true, true, false] rfl (mo_readsPlot_138_ok X v0 v1 (x53 - 48) (x59 - 48) h61)
            · refine im_aload_n (pc := 130) dX6_readsPlot_130 rfl rfl ?_
              refine im_bipush (pc := 131) (v := 8) dX6_readsPlot_131 (by decide) ?_
              refine im_iload_n (pc := 133) dX6_readsPlot_133 rfl rfl ?_
              refine cl_X6_155 mo_wrongAt_im (pc := 134) (by decide) dX6_readsPlot_134 (Nat.le_of_ble_eq_true rfl) fun x64 h63 => ?_
              refine im_zok fun x65 hz => ?_
              exact im_zretT (pc := 137) (nar_z hz) dX6_readsPlot_137
        · refine im_aload_n (pc := 84) dX6_readsPlot_84 rfl rfl ?_
          refine im_iconst (pc := 85) (v := 3) dX6_readsPlot_85 (by decide) ?_
          refine im_aload_n (pc := 86) dX6_readsPlot_86 rfl rfl ?_
          refine im_gi (pc := 87) fl_X6_142 dX6_readsPlot_87 fun x66 => ?_
          refine cl_X6_155 mo_wrongAt_im (pc := 90) (by decide) dX6_readsPlot_90 (Nat.le_of_ble_eq_true rfl) fun x68 h67 => ?_
          refine im_zok fun x69 hz => ?_
          exact im_zretT (pc := 93) (nar_z hz) dX6_readsPlot_93
      · refine im_aload_n (pc := 58) dX6_readsPlot_58 rfl rfl ?_
        refine im_iconst (pc := 59) (v := 1) dX6_readsPlot_59 (by decide) ?_
        refine im_aload_n (pc := 60) dX6_readsPlot_60 rfl rfl ?_
        refine im_gi (pc := 61) fl_X6_142 dX6_readsPlot_61 fun x70 => ?_
        refine cl_X6_155 mo_wrongAt_im (pc := 64) (by decide) dX6_readsPlot_64 (Nat.le_of_ble_eq_true rfl) fun x72 h71 => ?_
        refine im_zok fun x73 hz => ?_
        exact im_zretT (pc := 67) (nar_z hz) dX6_readsPlot_67
    · refine im_iconst (pc := 49) (v := 0) dX6_readsPlot_49 (by decide) ?_
      exact im_zretT (pc := 50) (nar_z (Or.inl rfl)) dX6_readsPlot_50
  · refine im_aload_n (pc := 12) dX6_readsPlot_12 rfl rfl ?_
    refine im_iconst (pc := 13) (v := 1) dX6_readsPlot_13 (by decide) ?_
    refine im_aload_n (pc := 14) dX6_readsPlot_14 rfl rfl ?_
    refine im_gi (pc := 15) fl_X6_142 dX6_readsPlot_15 fun x74 => ?_
    refine cl_X6_155 mo_wrongAt_im (pc := 18) (by decide) dX6_readsPlot_18 (Nat.le_of_ble_eq_true rfl) fun x76 h75 => ?_
    refine im_zok fun x77 hz => ?_
    exact im_zretT (pc := 21) (nar_z hz) dX6_readsPlot_21
noncomputable def mo_readsPlot (a0 : Option Nat) (a1 : Int32) (h : PH) : Option (Int32 × PH) := grd (isC [5] a0 h) (mo_readsPlot_0 a0 a1 h)
theorem mo_readsPlot_im : IM_X6_readsPlot mo_readsPlot 3 := by
  intro a0 a1 h r h' e
  obtain ⟨e1, e2⟩ := grd_some e
  exact ⟨e1, SpI.of (k := 4) (plainFor_of_name (by decide)) rfl (fun X => Im.drop [true, true, false, false, false, false] rfl (mo_readsPlot_0_ok X a0 a1 h)) e2⟩
theorem cl_X6_250 {X : CT} {cc : ByteArray} {nL : Nat} {mn : String} {ret : Option FieldType} {d d0 : Nat} {τ : Type} {pc : Nat} {lv : List (Option PV)} {st : List PV} {h : PH} {sz : τ → Nat × Nat} {K : τ → Prop} {f : Option Nat → PH → Option (Int32)} (HR : IM_X6_isLetter f d0) {a0 : Option Nat} {g : Int32 → Option τ} (hd : d0 + 1 ≤ d) (hdg : decode cc pc = .ok (.invokevirtual 250, 3)) (hst : st.length ≤ 8) (kk : ∀ r, Im X (cc, nL, RX6, mn, ret, d) (pc + 3) lv (.inl r :: st) h (g r) sz K) : Im X (cc, nL, RX6, mn, ret, d) pc lv (.inr a0 :: st) h ((f a0 h).bind g) sz K := by
  refine im_cP (y := yX6_isLetter) (cY := cX6_isLetter) (nY := 1) (rY := (some .boolean)) (d' := d0) (av := [.inr a0]) (fun r e hX => ?_) (fun r e => (HR _ _ _ e).2) hd (by decide) hst rfl kk
  obtain ⟨a, c, fs, rfl, ec, hm⟩ := isC_some (HR _ _ _ e).1
  cases List.mem_singleton.mp hm
  exact cal_V (n := 0) hX (lw_V q1442 q1444 qs65 q112 q1445) (by decide +kernel) rfl rfl ec hdg

theorem cl_X6_108 {X : CT} {cc : ByteArray} {nL : Nat} {mn : String} {ret : Option FieldType} {d d0 : Nat} {τ : Type} {pc : Nat} {lv : List (Option PV)} {st : List PV} {h : PH} {sz : τ → Nat × Nat} {K : τ → Prop} {f : Option Nat → Int32 → PH → Option (Int32)} (HR : IM_X6_isTold f d0) {a0 : Option Nat} {a1 : Int32} {g : Int32 → Option τ} (hd : d0 + 1 ≤ d) (hdg : decode cc pc = .ok (.invokevirtual 108, 3)) (hst : st.length ≤ 8) (kk : ∀ r, Im X (cc, nL, RX6, mn, ret, d) (pc + 3) lv (.inl r :: st) h (g r) sz K) : Im X (cc, nL, RX6, mn, ret, d) pc lv (.inl a1 :: .inr a0 :: st) h ((f a0 a1 h).bind g) sz K := by
  refine im_cP (y := yX6_isTold) (cY := cX6_isTold) (nY := 2) (rY := (some .boolean)) (d' := d0) (av := [.inr a0, .inl a1]) (fun r e hX => ?_) (fun r e => (HR _ _ _ _ e).2) hd (by decide) hst rfl kk
  obtain ⟨a, c, fs, rfl, ec, hm⟩ := isC_some (HR _ _ _ _ e).1
  cases List.mem_singleton.mp hm
  exact cal_V (n := 1) hX (lw_V q1446 q1448 qs66 q112 q1449) (by decide +kernel) rfl rfl ec hdg

def IM_X6_readsOther (f : Option Nat → Int32 → PH → Option (Int32 × PH)) (d : Nat) : Prop := ∀ (a0 : Option Nat) (a1 : Int32) (h : PH) (r : Int32) (h' : PH), f a0 a1 h = some (r, h') → isC [5] a0 h = true ∧ SpI yX6_readsOther cX6_readsOther 4 (some .boolean) d [.inr a0, .inl a1] h r h'
noncomputable def mo_readsOther_0 (v0 : Option Nat) (v1 : Int32) (h : PH) : Option (Int32 × PH) :=
  (mo_isLetter v0 h).bind fun x51 =>
  (if x51 = 0 then
  (gfi [5] 5 v0 h).bind fun x68 =>
  bd2 (mo_wrongAt v0 1 x68 h) fun x70 h69 =>
  (zok x70).bind fun x71 => some ((x71, h69))
  else
  (mo_here v0 h).bind fun x52 =>
  (mo_isTold v0 (x52 - 97) h).bind fun x53 =>
  (if x53 = 0 then
  (gfi [5] 5 v0 h).bind fun x64 =>
  bd2 (mo_wrongAt v0 7 x64 h) fun x66 h65 =>
  (zok x66).bind fun x67 => some ((x67, h65))
  else
  (gfi [5] 5 v0 h).bind fun x54 =>
  (pf [5] 5 v0 (.inl (x54 + 1)) h).bind fun h55 =>
  (gfr [5] 0 v0 h55).bind fun r56 =>
  (ald 0 r56 (48 + v1) h55).bind fun x57 =>
  (gfr [5] 0 v0 h55).bind fun r58 =>
  (gfr [5] 0 v0 h55).bind fun r59 =>
  (ald 0 r59 (48 + (x52 - 97)) h55).bind fun x60 =>
  (ast 0 r58 (48 + v1) x60 h55).bind fun h61 =>
  (gfr [5] 0 v0 h61).bind fun r62 =>
  (ast 0 r62 (48 + (x52 - 97)) x57 h61).bind fun h63 =>
  some ((1, h63))))
theorem mo_readsOther_0_ok (X : CT) (v0 : Option Nat) (v1 : Int32) (h : PH) : Im X (cX6_readsOther, 4, RX6, "readsOther", (some .boolean), 3) 0 [some (.inr v0), some (.inl v1), none, none] [] h (mo_readsOther_0 v0 v1 h) szI (kI X) := by
  unfold mo_readsOther_0
  refine im_aload_n (pc := 0) dX6_readsOther_0 rfl rfl ?_
  refine cl_X6_250 mo_isLetter_im (pc := 1) (by decide) dX6_readsOther_1 (Nat.le_of_ble_eq_true rfl) fun x51 => ?_
  refine im_if_ne (pc := 4) (tgt := 17) dX6_readsOther_4 (by decide) ?_ ?_
  · refine im_aload_n (pc := 17) dX6_readsOther_17 rfl rfl ?_
    refine cl_X6_148 mo_here_im (pc := 18) (by decide) dX6_readsOther_18 (Nat.le_of_ble_eq_true rfl) fun x52 => ?_
    refine im_bipush (pc := 21) (v := 97) dX6_readsOther_21 (by decide) ?_
    refine im_isub (pc := 23) dX6_readsOther_23 ?_
    refine im_istore_n (pc := 24) (lv' := [some (.inr v0), some (.inl v1), some (.inl (x52 - 97)), none]) dX6_readsOther_24 rfl (by decide) rfl ?_
    refine im_aload_n (pc := 25) dX6_readsOther_25 rfl rfl ?_
    refine im_iload_n (pc := 26) dX6_readsOther_26 rfl rfl ?_
    refine cl_X6_108 mo_isTold_im (pc := 27) (by decide) dX6_readsOther_27 (Nat.le_of_ble_eq_true rfl) fun x53 => ?_
    refine im_if_ne (pc := 30) (tgt := 44) dX6_readsOther_30 (by decide) ?_ ?_
    · refine im_aload_n (pc := 44) dX6_readsOther_44 rfl rfl ?_
      refine im_aload_n (pc := 45) dX6_readsOther_45 rfl rfl ?_
      refine im_gi (pc := 46) fl_X6_142 dX6_readsOther_46 fun x54 => ?_
      refine im_iconst (pc := 49) (v := 1) dX6_readsOther_49 (by decide) ?_
      refine im_iadd (pc := 50) dX6_readsOther_50 ?_
      refine im_pf (pc := 51) fp_X6_142 (okT_i _) dX6_readsOther_51 fun h55 => ?_
      refine im_aload_n (pc := 54) dX6_readsOther_54 rfl rfl ?_
      refine im_gr (pc := 55) fl_X6_7 dX6_readsOther_55 fun r56 => ?_
      refine im_bipush (pc := 58) (v := 48) dX6_readsOther_58 (by decide) ?_
      refine im_iload_n (pc := 60) dX6_readsOther_60 rfl rfl ?_
      refine im_iadd (pc := 61) dX6_readsOther_61 ?_
      refine im_iald (pc := 62) dX6_readsOther_62 fun x57 => ?_
      refine im_istore_n (pc := 63) (lv' := [some (.inr v0), some (.inl v1), some (.inl (x52 - 97)), some (.inl x57)]) dX6_readsOther_63 rfl (by decide) rfl ?_
      refine im_aload_n (pc := 64) dX6_readsOther_64 rfl rfl ?_
      refine im_gr (pc := 65) fl_X6_7 dX6_readsOther_65 fun r58 => ?_
      refine im_bipush (pc := 68) (v := 48) dX6_readsOther_68 (by decide) ?_
      refine im_iload_n (pc := 70) dX6_readsOther_70 rfl rfl ?_
      refine im_iadd (pc := 71) dX6_readsOther_71 ?_
      refine im_aload_n (pc := 72) dX6_readsOther_72 rfl rfl ?_
      refine im_gr (pc := 73) fl_X6_7 dX6_readsOther_73 fun r59 => ?_
      refine im_bipush (pc := 76) (v := 48) dX6_readsOther_76 (by decide) ?_
      refine im_iload_n (pc := 78) dX6_readsOther_78 rfl rfl ?_
      refine im_iadd (pc := 79) dX6_readsOther_79 ?_
      refine im_iald (pc := 80) dX6_readsOther_80 fun x60 => ?_
      refine im_iast (pc := 81) dX6_readsOther_81 fun h61 => ?_
      refine im_aload_n (pc := 82) dX6_readsOther_82 rfl rfl ?_
      refine im_gr (pc := 83) fl_X6_7 dX6_readsOther_83 fun r62 => ?_
      refine im_bipush (pc := 86) (v := 48) dX6_readsOther_86 (by decide) ?_
      refine im_iload_n (pc := 88) dX6_readsOther_88 rfl rfl ?_
      refine im_iadd (pc := 89) dX6_readsOther_89 ?_
      refine im_iload_n (pc := 90) dX6_readsOther_90 rfl rfl ?_
      refine im_iast (pc := 91) dX6_readsOther_91 fun h63 => ?_
      refine im_iconst (pc := 92) (v := 1) dX6_readsOther_92 (by decide) ?_
      exact im_zretT (pc := 93) (nar_z (Or.inr rfl)) dX6_readsOther_93
    · refine im_aload_n (pc := 33) dX6_readsOther_33 rfl rfl ?_
      refine im_bipush (pc := 34) (v := 7) dX6_readsOther_34 (by decide) ?_
      refine im_aload_n (pc := 36) dX6_readsOther_36 rfl rfl ?_
      refine im_gi (pc := 37) fl_X6_142 dX6_readsOther_37 fun x64 => ?_
      refine cl_X6_155 mo_wrongAt_im (pc := 40) (by decide) dX6_readsOther_40 (Nat.le_of_ble_eq_true rfl) fun x66 h65 => ?_
      refine im_zok fun x67 hz => ?_
      exact im_zretT (pc := 43) (nar_z hz) dX6_readsOther_43
  · refine im_aload_n (pc := 7) dX6_readsOther_7 rfl rfl ?_
    refine im_iconst (pc := 8) (v := 1) dX6_readsOther_8 (by decide) ?_
    refine im_aload_n (pc := 9) dX6_readsOther_9 rfl rfl ?_
    refine im_gi (pc := 10) fl_X6_142 dX6_readsOther_10 fun x68 => ?_
    refine cl_X6_155 mo_wrongAt_im (pc := 13) (by decide) dX6_readsOther_13 (Nat.le_of_ble_eq_true rfl) fun x70 h69 => ?_
    refine im_zok fun x71 hz => ?_
    exact im_zretT (pc := 16) (nar_z hz) dX6_readsOther_16
noncomputable def mo_readsOther (a0 : Option Nat) (a1 : Int32) (h : PH) : Option (Int32 × PH) := grd (isC [5] a0 h) (mo_readsOther_0 a0 a1 h)
theorem mo_readsOther_im : IM_X6_readsOther mo_readsOther 3 := by
  intro a0 a1 h r h' e
  obtain ⟨e1, e2⟩ := grd_some e
  exact ⟨e1, SpI.of (k := 2) (plainFor_of_name (by decide)) rfl (fun X => Im.drop [true, true, false, false] rfl (mo_readsOther_0_ok X a0 a1 h)) e2⟩
def IM_X6_readsTopic (f : Option Nat → Int32 → Int32 → PH → Option (Int32 × PH)) (d : Nat) : Prop := ∀ (a0 : Option Nat) (a1 : Int32) (a2 : Int32) (h : PH) (r : Int32) (h' : PH), f a0 a1 a2 h = some (r, h') → isC [5] a0 h = true ∧ SpI yX6_readsTopic cX6_readsTopic 4 (some .boolean) d [.inr a0, .inl a1, .inl a2] h r h'
noncomputable def mo_readsTopic_81 (s0 : Int32) (s1 : Int32) (s2 : Option Nat) (h : PH) : Option (Int32 × PH) :=
  (ast 0 s2 s1 s0 h).bind fun h51 =>
  some ((1, h51))
theorem mo_readsTopic_81_ok (X : CT) (s0 : Int32) (s1 : Int32) (s2 : Option Nat) (h : PH) : Im X (cX6_readsTopic, 4, RX6, "readsTopic", (some .boolean), 2) 81 [none, none, none, none] [.inl s0, .inl s1, .inr s2] h (mo_readsTopic_81 s0 s1 s2 h) szI (kI X) := by
  unfold mo_readsTopic_81
  refine im_iast (pc := 81) dX6_readsTopic_81 fun h51 => ?_
  refine im_iconst (pc := 82) (v := 1) dX6_readsTopic_82 (by decide) ?_
  exact im_zretT (pc := 83) (nar_z (Or.inr rfl)) dX6_readsTopic_83
noncomputable def mo_readsTopic_0 (v0 : Option Nat) (v1 : Int32) (v2 : Int32) (h : PH) : Option (Int32 × PH) :=
  (mo_here v0 h).bind fun x51 =>
  (mo_in (x51 - 65) 0 15 h).bind fun x52 =>
  (if x52 = 0 then
  (gfi [5] 5 v0 h).bind fun x60 =>
  bd2 (mo_wrongAt v0 1 x60 h) fun x62 h61 =>
  (zok x62).bind fun x63 => some ((x63, h61))
  else
  (gfi [5] 5 v0 h).bind fun x53 =>
  (pf [5] 5 v0 (.inl (x53 + 1)) h).bind fun h54 =>
  (gfr [5] 0 v0 h54).bind fun r55 =>
  (if v2 = 0 then
  (gfr [5] 0 v0 h54).bind fun r56 =>
  (ald 0 r56 (16 + v1) h54).bind fun x57 =>
  mo_readsTopic_81 (x57 &&& (((1 : Int32) <<< ((x51 - 65) &&& 31)) ^^^ (-1))) (16 + v1) r55 h54
  else
  (gfr [5] 0 v0 h54).bind fun r58 =>
  (ald 0 r58 (16 + v1) h54).bind fun x59 =>
  mo_readsTopic_81 (x59 ||| ((1 : Int32) <<< ((x51 - 65) &&& 31))) (16 + v1) r55 h54))
theorem mo_readsTopic_0_ok (X : CT) (v0 : Option Nat) (v1 : Int32) (v2 : Int32) (h : PH) : Im X (cX6_readsTopic, 4, RX6, "readsTopic", (some .boolean), 2) 0 [some (.inr v0), some (.inl v1), some (.inl v2), none] [] h (mo_readsTopic_0 v0 v1 v2 h) szI (kI X) := by
  unfold mo_readsTopic_0
  refine im_aload_n (pc := 0) dX6_readsTopic_0 rfl rfl ?_
  refine cl_X6_148 mo_here_im (pc := 1) (by decide) dX6_readsTopic_1 (Nat.le_of_ble_eq_true rfl) fun x51 => ?_
  refine im_bipush (pc := 4) (v := 65) dX6_readsTopic_4 (by decide) ?_
  refine im_isub (pc := 6) dX6_readsTopic_6 ?_
  refine im_istore_n (pc := 7) (lv' := [some (.inr v0), some (.inl v1), some (.inl v2), some (.inl (x51 - 65))]) dX6_readsTopic_7 rfl (by decide) rfl ?_
  refine im_iload_n (pc := 8) dX6_readsTopic_8 rfl rfl ?_
  refine im_iconst (pc := 9) (v := 0) dX6_readsTopic_9 (by decide) ?_
  refine im_bipush (pc := 10) (v := 15) dX6_readsTopic_10 (by decide) ?_
  refine cl_X6_104 mo_in_im (pc := 12) (by decide) dX6_readsTopic_12 (Nat.le_of_ble_eq_true rfl) fun x52 => ?_
  refine im_if_ne (pc := 15) (tgt := 28) dX6_readsTopic_15 (by decide) ?_ ?_
  · refine im_aload_n (pc := 28) dX6_readsTopic_28 rfl rfl ?_
    refine im_aload_n (pc := 29) dX6_readsTopic_29 rfl rfl ?_
    refine im_gi (pc := 30) fl_X6_142 dX6_readsTopic_30 fun x53 => ?_
    refine im_iconst (pc := 33) (v := 1) dX6_readsTopic_33 (by decide) ?_
    refine im_iadd (pc := 34) dX6_readsTopic_34 ?_
    refine im_pf (pc := 35) fp_X6_142 (okT_i _) dX6_readsTopic_35 fun h54 => ?_
    refine im_aload_n (pc := 38) dX6_readsTopic_38 rfl rfl ?_
    refine im_gr (pc := 39) fl_X6_7 dX6_readsTopic_39 fun r55 => ?_
    refine im_bipush (pc := 42) (v := 16) dX6_readsTopic_42 (by decide) ?_
    refine im_iload_n (pc := 44) dX6_readsTopic_44 rfl rfl ?_
    refine im_iadd (pc := 45) dX6_readsTopic_45 ?_
    refine im_iload_n (pc := 46) dX6_readsTopic_46 rfl rfl ?_
    refine im_if_eq (pc := 47) (tgt := 66) dX6_readsTopic_47 (by decide) ?_ ?_
    · refine im_aload_n (pc := 66) dX6_readsTopic_66 rfl rfl ?_
      refine im_gr (pc := 67) fl_X6_7 dX6_readsTopic_67 fun r56 => ?_
      refine im_bipush (pc := 70) (v := 16) dX6_readsTopic_70 (by decide) ?_
      refine im_iload_n (pc := 72) dX6_readsTopic_72 rfl rfl ?_
      refine im_iadd (pc := 73) dX6_readsTopic_73 ?_
      refine im_iald (pc := 74) dX6_readsTopic_74 fun x57 => ?_
      refine im_iconst (pc := 75) (v := 1) dX6_readsTopic_75 (by decide) ?_
      refine im_iload_n (pc := 76) dX6_readsTopic_76 rfl rfl ?_
      refine im_ishl (pc := 77) dX6_readsTopic_77 ?_
      refine im_iconst (pc := 78) (v := (-1)) dX6_readsTopic_78 (by decide) ?_
      refine im_ixor (pc := 79) dX6_readsTopic_79 ?_
      refine im_iand (pc := 80) dX6_readsTopic_80 ?_
      exact Im.drop [false, false, false, false] rfl (mo_readsTopic_81_ok X (x57 &&& (((1 : Int32) <<< ((x51 - 65) &&& 31)) ^^^ (-1))) (16 + v1) r55 h54)
    · refine im_aload_n (pc := 50) dX6_readsTopic_50 rfl rfl ?_
      refine im_gr (pc := 51) fl_X6_7 dX6_readsTopic_51 fun r58 => ?_
      refine im_bipush (pc := 54) (v := 16) dX6_readsTopic_54 (by decide) ?_
      refine im_iload_n (pc := 56) dX6_readsTopic_56 rfl rfl ?_
      refine im_iadd (pc := 57) dX6_readsTopic_57 ?_
      refine im_iald (pc := 58) dX6_readsTopic_58 fun x59 => ?_
      refine im_iconst (pc := 59) (v := 1) dX6_readsTopic_59 (by decide) ?_
      refine im_iload_n (pc := 60) dX6_readsTopic_60 rfl rfl ?_
      refine im_ishl (pc := 61) dX6_readsTopic_61 ?_
      refine im_ior (pc := 62) dX6_readsTopic_62 ?_
      refine im_goto (pc := 63) (tgt := 81) dX6_readsTopic_63 (by decide) ?_
      exact Im.drop [false, false, false, false] rfl (mo_readsTopic_81_ok X (x59 ||| ((1 : Int32) <<< ((x51 - 65) &&& 31))) (16 + v1) r55 h54)
  · refine im_aload_n (pc := 18) dX6_readsTopic_18 rfl rfl ?_
    refine im_iconst (pc := 19) (v := 1) dX6_readsTopic_19 (by decide) ?_
    refine im_aload_n (pc := 20) dX6_readsTopic_20 rfl rfl ?_
    refine im_gi (pc := 21) fl_X6_142 dX6_readsTopic_21 fun x60 => ?_
    refine cl_X6_155 mo_wrongAt_im (pc := 24) (by decide) dX6_readsTopic_24 (Nat.le_of_ble_eq_true rfl) fun x62 h61 => ?_
    refine im_zok fun x63 hz => ?_
    exact im_zretT (pc := 27) (nar_z hz) dX6_readsTopic_27
noncomputable def mo_readsTopic (a0 : Option Nat) (a1 : Int32) (a2 : Int32) (h : PH) : Option (Int32 × PH) := grd (isC [5] a0 h) (mo_readsTopic_0 a0 a1 a2 h)
theorem mo_readsTopic_im : IM_X6_readsTopic mo_readsTopic 2 := by
  intro a0 a1 a2 h r h' e
  obtain ⟨e1, e2⟩ := grd_some e
  exact ⟨e1, SpI.of (k := 1) (plainFor_of_name (by decide)) rfl (fun X => Im.drop [true, true, true, false] rfl (mo_readsTopic_0_ok X a0 a1 a2 h)) e2⟩
theorem fl_X6_253 : ∀ c ∈ [5], FL RX6 253 c 27 := List.forall_mem_cons.mpr ⟨⟨RX6, TX6, 50, rfl, in_X6, by decide, Or.inl q1204⟩, fun _ h => absurd h List.not_mem_nil⟩
theorem fp_X6_253 : ∀ c ∈ [5], FP RX6 253 c 27 .int := List.forall_mem_cons.mpr ⟨⟨RX6, TX6, 50, rfl, in_X6, by decide, apt_X6, rfl, by decide +kernel, Or.inl q1204⟩, fun _ h => absurd h List.not_mem_nil⟩
theorem cl_X6_259 {X : CT} {cc : ByteArray} {nL : Nat} {mn : String} {ret : Option FieldType} {d d0 : Nat} {τ : Type} {pc : Nat} {lv : List (Option PV)} {st : List PV} {h : PH} {sz : τ → Nat × Nat} {K : τ → Prop} {f : Option Nat → Int32 → PH → Option (Int32 × PH)} (HR : IM_X6_readsOther f d0) {a0 : Option Nat} {a1 : Int32} {g : Int32 → PH → Option τ} (hd : d0 + 1 ≤ d) (hdg : decode cc pc = .ok (.invokevirtual 259, 3)) (hst : st.length ≤ 8) (kk : ∀ r h', Im X (cc, nL, RX6, mn, ret, d) (pc + 3) lv (.inl r :: st) h' (g r h') sz K) : Im X (cc, nL, RX6, mn, ret, d) pc lv (.inl a1 :: .inr a0 :: st) h (bd2 (f a0 a1 h) g) sz K := by
  refine im_cI (y := yX6_readsOther) (cY := cX6_readsOther) (nY := 4) (rY := (some .boolean)) (d' := d0) (av := [.inr a0, .inl a1]) (fun r h' e hX => ?_) (fun r h' e => (HR _ _ _ _ _ e).2) hd (by decide) hst rfl kk
  obtain ⟨a, c, fs, rfl, ec, hm⟩ := isC_some (HR _ _ _ _ _ e).1
  cases List.mem_singleton.mp hm
  exact cal_V (n := 1) hX (lw_V q1462 q1464 qs70 q112 q1465) (by decide +kernel) rfl rfl ec hdg

theorem cl_X6_256 {X : CT} {cc : ByteArray} {nL : Nat} {mn : String} {ret : Option FieldType} {d d0 : Nat} {τ : Type} {pc : Nat} {lv : List (Option PV)} {st : List PV} {h : PH} {sz : τ → Nat × Nat} {K : τ → Prop} {f : Option Nat → Int32 → PH → Option (Int32 × PH)} (HR : IM_X6_readsPlot f d0) {a0 : Option Nat} {a1 : Int32} {g : Int32 → PH → Option τ} (hd : d0 + 1 ≤ d) (hdg : decode cc pc = .ok (.invokevirtual 256, 3)) (hst : st.length ≤ 8) (kk : ∀ r h', Im X (cc, nL, RX6, mn, ret, d) (pc + 3) lv (.inl r :: st) h' (g r h') sz K) : Im X (cc, nL, RX6, mn, ret, d) pc lv (.inl a1 :: .inr a0 :: st) h (bd2 (f a0 a1 h) g) sz K := by
  refine im_cI (y := yX6_readsPlot) (cY := cX6_readsPlot) (nY := 6) (rY := (some .boolean)) (d' := d0) (av := [.inr a0, .inl a1]) (fun r h' e hX => ?_) (fun r h' e => (HR _ _ _ _ _ e).2) hd (by decide) hst rfl kk
  obtain ⟨a, c, fs, rfl, ec, hm⟩ := isC_some (HR _ _ _ _ _ e).1
  cases List.mem_singleton.mp hm
  exact cal_V (n := 1) hX (lw_V q1450 q1452 qs67 q112 q1453) (by decide +kernel) rfl rfl ec hdg

theorem cl_X6_262 {X : CT} {cc : ByteArray} {nL : Nat} {mn : String} {ret : Option FieldType} {d d0 : Nat} {τ : Type} {pc : Nat} {lv : List (Option PV)} {st : List PV} {h : PH} {sz : τ → Nat × Nat} {K : τ → Prop} {f : Option Nat → Int32 → Int32 → PH → Option (Int32 × PH)} (HR : IM_X6_readsTopic f d0) {a0 : Option Nat} {a1 : Int32} {a2 : Int32} {g : Int32 → PH → Option τ} (hd : d0 + 1 ≤ d) (hdg : decode cc pc = .ok (.invokevirtual 262, 3)) (hst : st.length ≤ 8) (kk : ∀ r h', Im X (cc, nL, RX6, mn, ret, d) (pc + 3) lv (.inl r :: st) h' (g r h') sz K) : Im X (cc, nL, RX6, mn, ret, d) pc lv (.inl a2 :: .inl a1 :: .inr a0 :: st) h (bd2 (f a0 a1 a2 h) g) sz K := by
  refine im_cI (y := yX6_readsTopic) (cY := cX6_readsTopic) (nY := 4) (rY := (some .boolean)) (d' := d0) (av := [.inr a0, .inl a1, .inl a2]) (fun r h' e hX => ?_) (fun r h' e => (HR _ _ _ _ _ _ e).2) hd (by decide) hst rfl kk
  obtain ⟨a, c, fs, rfl, ec, hm⟩ := isC_some (HR _ _ _ _ _ _ e).1
  cases List.mem_singleton.mp hm
  exact cal_V (n := 2) hX (lw_V q1466 q1468 qs71 q112 q1469) (by decide +kernel) rfl rfl ec hdg

def IM_X6_readsLine (f : Option Nat → PH → Option (Int32 × PH)) (d : Nat) : Prop := ∀ (a0 : Option Nat) (h : PH) (r : Int32) (h' : PH), f a0 h = some (r, h') → isC [5] a0 h = true ∧ SpI yX6_readsLine cX6_readsLine 3 (some .boolean) d [.inr a0] h r h'
noncomputable def mo_readsLine_181 (s0 : Int32) (s1 : Int32) (s2 : Option Nat) (h : PH) : Option (Int32 × PH) :=
  bd2 (mo_readsTopic s2 s1 s0 h) fun x52 h51 =>
  (zok x52).bind fun x53 => some ((x53, h51))
theorem mo_readsLine_181_ok (X : CT) (s0 : Int32) (s1 : Int32) (s2 : Option Nat) (h : PH) : Im X (cX6_readsLine, 3, RX6, "readsLine", (some .boolean), 4) 181 [none, none, none] [.inl s0, .inl s1, .inr s2] h (mo_readsLine_181 s0 s1 s2 h) szI (kI X) := by
  unfold mo_readsLine_181
  refine cl_X6_262 mo_readsTopic_im (pc := 181) (by decide) dX6_readsLine_181 (Nat.le_of_ble_eq_true rfl) fun x52 h51 => ?_
  refine im_zok fun x53 hz => ?_
  exact im_zretT (pc := 184) (nar_z hz) dX6_readsLine_184
noncomputable def mo_readsLine_128 (v0 : Option Nat) (v1 : Int32) (v2 : Int32) (h : PH) : Option (Int32 × PH) :=
  (gfi [5] 5 v0 h).bind fun x51 =>
  (pf [5] 5 v0 (.inl (x51 + 1)) h).bind fun h52 =>
  (if v2 = 64 then
  bd2 (mo_readsPlot v0 v1 h52) fun x59 h58 =>
  (zok x59).bind fun x60 => some ((x60, h58))
  else
  (if v2 = 61 then
  bd2 (mo_readsOther v0 v1 h52) fun x56 h55 =>
  (zok x56).bind fun x57 => some ((x57, h55))
  else
  (if v2 = 33 then
  (gfr [5] 0 v0 h52).bind fun r53 =>
  (ast 0 r53 (48 + v1) (-2) h52).bind fun h54 =>
  some ((1, h54))
  else
  (if v2 = 43 then
  mo_readsLine_181 1 v1 v0 h52
  else
  mo_readsLine_181 0 v1 v0 h52))))
theorem mo_readsLine_128_ok (X : CT) (v0 : Option Nat) (v1 : Int32) (v2 : Int32) (h : PH) : Im X (cX6_readsLine, 3, RX6, "readsLine", (some .boolean), 4) 128 [some (.inr v0), some (.inl v1), some (.inl v2)] [] h (mo_readsLine_128 v0 v1 v2 h) szI (kI X) := by
  unfold mo_readsLine_128
  refine im_aload_n (pc := 128) dX6_readsLine_128 rfl rfl ?_
  refine im_aload_n (pc := 129) dX6_readsLine_129 rfl rfl ?_
  refine im_gi (pc := 130) fl_X6_142 dX6_readsLine_130 fun x51 => ?_
  refine im_iconst (pc := 133) (v := 1) dX6_readsLine_133 (by decide) ?_
  refine im_iadd (pc := 134) dX6_readsLine_134 ?_
  refine im_pf (pc := 135) fp_X6_142 (okT_i _) dX6_readsLine_135 fun h52 => ?_
  refine im_iload_n (pc := 138) dX6_readsLine_138 rfl rfl ?_
  refine im_bipush (pc := 139) (v := 64) dX6_readsLine_139 (by decide) ?_
  refine im_icmp_ne (pc := 141) (tgt := 150) dX6_readsLine_141 (by decide) ?_ ?_
  · refine im_iload_n (pc := 150) dX6_readsLine_150 rfl rfl ?_
    refine im_bipush (pc := 151) (v := 61) dX6_readsLine_151 (by decide) ?_
    refine im_icmp_ne (pc := 153) (tgt := 162) dX6_readsLine_153 (by decide) ?_ ?_
    · refine im_iload_n (pc := 162) dX6_readsLine_162 rfl rfl ?_
      refine im_bipush (pc := 163) (v := 33) dX6_readsLine_163 (by decide) ?_
      refine im_icmp_eq (pc := 165) (tgt := 185) dX6_readsLine_165 (by decide) ?_ ?_
      · refine im_aload_n (pc := 185) dX6_readsLine_185 rfl rfl ?_
        refine im_gr (pc := 186) fl_X6_7 dX6_readsLine_186 fun r53 => ?_
        refine im_bipush (pc := 189) (v := 48) dX6_readsLine_189 (by decide) ?_
        refine im_iload_n (pc := 191) dX6_readsLine_191 rfl rfl ?_
        refine im_iadd (pc := 192) dX6_readsLine_192 ?_
        refine im_bipush (pc := 193) (v := (-2)) dX6_readsLine_193 (by decide) ?_
        refine im_iast (pc := 195) dX6_readsLine_195 fun h54 => ?_
        refine im_iconst (pc := 196) (v := 1) dX6_readsLine_196 (by decide) ?_
        exact im_zretT (pc := 197) (nar_z (Or.inr rfl)) dX6_readsLine_197
      · refine im_aload_n (pc := 168) dX6_readsLine_168 rfl rfl ?_
        refine im_iload_n (pc := 169) dX6_readsLine_169 rfl rfl ?_
        refine im_iload_n (pc := 170) dX6_readsLine_170 rfl rfl ?_
        refine im_bipush (pc := 171) (v := 43) dX6_readsLine_171 (by decide) ?_
        refine im_icmp_ne (pc := 173) (tgt := 180) dX6_readsLine_173 (by decide) ?_ ?_
        · refine im_iconst (pc := 180) (v := 0) dX6_readsLine_180 (by decide) ?_
          exact Im.drop [false, false, false] rfl (mo_readsLine_181_ok X 0 v1 v0 h52)
        · refine im_iconst (pc := 176) (v := 1) dX6_readsLine_176 (by decide) ?_
          refine im_goto (pc := 177) (tgt := 181) dX6_readsLine_177 (by decide) ?_
          exact Im.drop [false, false, false] rfl (mo_readsLine_181_ok X 1 v1 v0 h52)
    · refine im_aload_n (pc := 156) dX6_readsLine_156 rfl rfl ?_
      refine im_iload_n (pc := 157) dX6_readsLine_157 rfl rfl ?_
      refine cl_X6_259 mo_readsOther_im (pc := 158) (by decide) dX6_readsLine_158 (Nat.le_of_ble_eq_true rfl) fun x56 h55 => ?_
      refine im_zok fun x57 hz => ?_
      exact im_zretT (pc := 161) (nar_z hz) dX6_readsLine_161
  · refine im_aload_n (pc := 144) dX6_readsLine_144 rfl rfl ?_
    refine im_iload_n (pc := 145) dX6_readsLine_145 rfl rfl ?_
    refine cl_X6_256 mo_readsPlot_im (pc := 146) (by decide) dX6_readsLine_146 (Nat.le_of_ble_eq_true rfl) fun x59 h58 => ?_
    refine im_zok fun x60 hz => ?_
    exact im_zretT (pc := 149) (nar_z hz) dX6_readsLine_149
noncomputable def mo_readsLine_0 (v0 : Option Nat) (h : PH) : Option (Int32 × PH) :=
  (mo_isLetter v0 h).bind fun x51 =>
  (if x51 = 0 then
  (gfi [5] 5 v0 h).bind fun x72 =>
  bd2 (mo_wrongAt v0 1 x72 h) fun x74 h73 =>
  (zok x74).bind fun x75 => some ((x75, h73))
  else
  (gfi [5] 27 v0 h).bind fun x52 =>
  (if x52 = 20 then
  (gfi [5] 5 v0 h).bind fun x68 =>
  bd2 (mo_wrongAt v0 4 x68 h) fun x70 h69 =>
  (zok x70).bind fun x71 => some ((x71, h69))
  else
  (gfi [5] 27 v0 h).bind fun x53 =>
  (pf [5] 27 v0 (.inl (x53 + 1)) h).bind fun h54 =>
  (mo_here v0 h54).bind fun x55 =>
  (mo_isTold v0 (x55 - 97) h54).bind fun x56 =>
  (if x56 = 0 then
  (gfi [5] 5 v0 h54).bind fun x64 =>
  bd2 (mo_wrongAt v0 7 x64 h54) fun x66 h65 =>
  (zok x66).bind fun x67 => some ((x67, h65))
  else
  (gfi [5] 5 v0 h54).bind fun x57 =>
  (pf [5] 5 v0 (.inl (x57 + 1)) h54).bind fun h58 =>
  (mo_here v0 h58).bind fun x59 =>
  (if x59 = 64 then
  mo_readsLine_128 v0 (x55 - 97) x59 h58
  else
  (if x59 = 33 then
  mo_readsLine_128 v0 (x55 - 97) x59 h58
  else
  (if x59 = 61 then
  mo_readsLine_128 v0 (x55 - 97) x59 h58
  else
  (if x59 = 43 then
  mo_readsLine_128 v0 (x55 - 97) x59 h58
  else
  (if x59 = 45 then
  mo_readsLine_128 v0 (x55 - 97) x59 h58
  else
  (gfi [5] 5 v0 h58).bind fun x60 =>
  bd2 (mo_wrongAt v0 1 x60 h58) fun x62 h61 =>
  (zok x62).bind fun x63 => some ((x63, h61))))))))))
theorem mo_readsLine_0_ok (X : CT) (v0 : Option Nat) (h : PH) : Im X (cX6_readsLine, 3, RX6, "readsLine", (some .boolean), 4) 0 [some (.inr v0), none, none] [] h (mo_readsLine_0 v0 h) szI (kI X) := by
  unfold mo_readsLine_0
  refine im_aload_n (pc := 0) dX6_readsLine_0 rfl rfl ?_
  refine cl_X6_250 mo_isLetter_im (pc := 1) (by decide) dX6_readsLine_1 (Nat.le_of_ble_eq_true rfl) fun x51 => ?_
  refine im_if_ne (pc := 4) (tgt := 17) dX6_readsLine_4 (by decide) ?_ ?_
  · refine im_aload_n (pc := 17) dX6_readsLine_17 rfl rfl ?_
    refine im_gi (pc := 18) fl_X6_253 dX6_readsLine_18 fun x52 => ?_
    refine im_bipush (pc := 21) (v := 20) dX6_readsLine_21 (by decide) ?_
    refine im_icmp_ne (pc := 23) (tgt := 36) dX6_readsLine_23 (by decide) ?_ ?_
    · refine im_aload_n (pc := 36) dX6_readsLine_36 rfl rfl ?_
      refine im_aload_n (pc := 37) dX6_readsLine_37 rfl rfl ?_
      refine im_gi (pc := 38) fl_X6_253 dX6_readsLine_38 fun x53 => ?_
      refine im_iconst (pc := 41) (v := 1) dX6_readsLine_41 (by decide) ?_
      refine im_iadd (pc := 42) dX6_readsLine_42 ?_
      refine im_pf (pc := 43) fp_X6_253 (okT_i _) dX6_readsLine_43 fun h54 => ?_
      refine im_aload_n (pc := 46) dX6_readsLine_46 rfl rfl ?_
      refine cl_X6_148 mo_here_im (pc := 47) (by decide) dX6_readsLine_47 (Nat.le_of_ble_eq_true rfl) fun x55 => ?_
      refine im_bipush (pc := 50) (v := 97) dX6_readsLine_50 (by decide) ?_
      refine im_isub (pc := 52) dX6_readsLine_52 ?_
      refine im_istore_n (pc := 53) (lv' := [some (.inr v0), some (.inl (x55 - 97)), none]) dX6_readsLine_53 rfl (by decide) rfl ?_
      refine im_aload_n (pc := 54) dX6_readsLine_54 rfl rfl ?_
      refine im_iload_n (pc := 55) dX6_readsLine_55 rfl rfl ?_
      refine cl_X6_108 mo_isTold_im (pc := 56) (by decide) dX6_readsLine_56 (Nat.le_of_ble_eq_true rfl) fun x56 => ?_
      refine im_if_ne (pc := 59) (tgt := 73) dX6_readsLine_59 (by decide) ?_ ?_
      · refine im_aload_n (pc := 73) dX6_readsLine_73 rfl rfl ?_
        refine im_aload_n (pc := 74) dX6_readsLine_74 rfl rfl ?_
        refine im_gi (pc := 75) fl_X6_142 dX6_readsLine_75 fun x57 => ?_
        refine im_iconst (pc := 78) (v := 1) dX6_readsLine_78 (by decide) ?_
        refine im_iadd (pc := 79) dX6_readsLine_79 ?_
        refine im_pf (pc := 80) fp_X6_142 (okT_i _) dX6_readsLine_80 fun h58 => ?_
        refine im_aload_n (pc := 83) dX6_readsLine_83 rfl rfl ?_
        refine cl_X6_148 mo_here_im (pc := 84) (by decide) dX6_readsLine_84 (Nat.le_of_ble_eq_true rfl) fun x59 => ?_
        refine im_istore_n (pc := 87) (lv' := [some (.inr v0), some (.inl (x55 - 97)), some (.inl x59)]) dX6_readsLine_87 rfl (by decide) rfl ?_
        refine im_iload_n (pc := 88) dX6_readsLine_88 rfl rfl ?_
        refine im_bipush (pc := 89) (v := 64) dX6_readsLine_89 (by decide) ?_
        refine im_icmp_eq (pc := 91) (tgt := 128) dX6_readsLine_91 (by decide) ?_ ?_
        · exact Im.drop [true, true, true] rfl (mo_readsLine_128_ok X v0 (x55 - 97) x59 h58)
        · refine im_iload_n (pc := 94) dX6_readsLine_94 rfl rfl ?_
          refine im_bipush (pc := 95) (v := 33) dX6_readsLine_95 (by decide) ?_
          refine im_icmp_eq (pc := 97) (tgt := 128) dX6_readsLine_97 (by decide) ?_ ?_
          · exact Im.drop [true, true, true] rfl (mo_readsLine_128_ok X v0 (x55 - 97) x59 h58)
          · refine im_iload_n (pc := 100) dX6_readsLine_100 rfl rfl ?_
            refine im_bipush (pc := 101) (v := 61) dX6_readsLine_101 (by decide) ?_
            refine im_icmp_eq (pc := 103) (tgt := 128) dX6_readsLine_103 (by decide) ?_ ?_
            · exact Im.drop [true, true, true] rfl (mo_readsLine_128_ok X v0 (x55 - 97) x59 h58)
            · refine im_iload_n (pc := 106) dX6_readsLine_106 rfl rfl ?_
              refine im_bipush (pc := 107) (v := 43) dX6_readsLine_107 (by decide) ?_
              refine im_icmp_eq (pc := 109) (tgt := 128) dX6_readsLine_109 (by decide) ?_ ?_
              · exact Im.drop [true, true, true] rfl (mo_readsLine_128_ok X v0 (x55 - 97) x59 h58)
              · refine im_iload_n (pc := 112) dX6_readsLine_112 rfl rfl ?_
                refine im_bipush (pc := 113) (v := 45) dX6_readsLine_113 (by decide) ?_
                refine im_icmp_eq (pc := 115) (tgt := 128) dX6_readsLine_115 (by decide) ?_ ?_
                · exact Im.drop [true, true, true] rfl (mo_readsLine_128_ok X v0 (x55 - 97) x59 h58)
                · refine im_aload_n (pc := 118) dX6_readsLine_118 rfl rfl ?_
                  refine im_iconst (pc := 119) (v := 1) dX6_readsLine_119 (by decide) ?_
                  refine im_aload_n (pc := 120) dX6_readsLine_120 rfl rfl ?_
                  refine im_gi (pc := 121) fl_X6_142 dX6_readsLine_121 fun x60 => ?_
                  refine cl_X6_155 mo_wrongAt_im (pc := 124) (by decide) dX6_readsLine_124 (Nat.le_of_ble_eq_true rfl) fun x62 h61 => ?_
                  refine im_zok fun x63 hz => ?_
                  exact im_zretT (pc := 127) (nar_z hz) dX6_readsLine_127
      · refine im_aload_n (pc := 62) dX6_readsLine_62 rfl rfl ?_
        refine im_bipush (pc := 63) (v := 7) dX6_readsLine_63 (by decide) ?_
        refine im_aload_n (pc := 65) dX6_readsLine_65 rfl rfl ?_
        refine im_gi (pc := 66) fl_X6_142 dX6_readsLine_66 fun x64 => ?_
        refine cl_X6_155 mo_wrongAt_im (pc := 69) (by decide) dX6_readsLine_69 (Nat.le_of_ble_eq_true rfl) fun x66 h65 => ?_
        refine im_zok fun x67 hz => ?_
        exact im_zretT (pc := 72) (nar_z hz) dX6_readsLine_72
    · refine im_aload_n (pc := 26) dX6_readsLine_26 rfl rfl ?_
      refine im_iconst (pc := 27) (v := 4) dX6_readsLine_27 (by decide) ?_
      refine im_aload_n (pc := 28) dX6_readsLine_28 rfl rfl ?_
      refine im_gi (pc := 29) fl_X6_142 dX6_readsLine_29 fun x68 => ?_
      refine cl_X6_155 mo_wrongAt_im (pc := 32) (by decide) dX6_readsLine_32 (Nat.le_of_ble_eq_true rfl) fun x70 h69 => ?_
      refine im_zok fun x71 hz => ?_
      exact im_zretT (pc := 35) (nar_z hz) dX6_readsLine_35
  · refine im_aload_n (pc := 7) dX6_readsLine_7 rfl rfl ?_
    refine im_iconst (pc := 8) (v := 1) dX6_readsLine_8 (by decide) ?_
    refine im_aload_n (pc := 9) dX6_readsLine_9 rfl rfl ?_
    refine im_gi (pc := 10) fl_X6_142 dX6_readsLine_10 fun x72 => ?_
    refine cl_X6_155 mo_wrongAt_im (pc := 13) (by decide) dX6_readsLine_13 (Nat.le_of_ble_eq_true rfl) fun x74 h73 => ?_
    refine im_zok fun x75 hz => ?_
    exact im_zretT (pc := 16) (nar_z hz) dX6_readsLine_16
noncomputable def mo_readsLine (a0 : Option Nat) (h : PH) : Option (Int32 × PH) := grd (isC [5] a0 h) (mo_readsLine_0 a0 h)
theorem mo_readsLine_im : IM_X6_readsLine mo_readsLine 4 := by
  intro a0 h r h' e
  obtain ⟨e1, e2⟩ := grd_some e
  exact ⟨e1, SpI.of (k := 2) (plainFor_of_name (by decide)) rfl (fun X => Im.drop [true, false, false] rfl (mo_readsLine_0_ok X a0 h)) e2⟩
theorem fl_X6_13 : ∀ c ∈ [5], FL RX6 13 c 1 := List.forall_mem_cons.mpr ⟨⟨RX6, TX6, 50, rfl, in_X6, by decide, Or.inl q1178⟩, fun _ h => absurd h List.not_mem_nil⟩
theorem cl_X6_266 {X : CT} {cc : ByteArray} {nL : Nat} {mn : String} {ret : Option FieldType} {d d0 : Nat} {τ : Type} {pc : Nat} {lv : List (Option PV)} {st : List PV} {h : PH} {sz : τ → Nat × Nat} {K : τ → Prop} {f : Option Nat → Option Nat → PH → Option (PH)} (HR : IM_X6_copies f d0) {a0 : Option Nat} {a1 : Option Nat} {g : PH → Option τ} (hd : d0 + 1 ≤ d) (hdg : decode cc pc = .ok (.invokestatic 266, 3)) (hst : st.length ≤ 8) (kk : ∀ h', Im X (cc, nL, RX6, mn, ret, d) (pc + 3) lv st h' (g h') sz K) : Im X (cc, nL, RX6, mn, ret, d) pc lv (.inr a1 :: .inr a0 :: st) h ((f a0 a1 h).bind g) sz K := by
  refine im_cV (y := yX6_copies) (cY := cX6_copies) (nY := 3) (rY := none) (d' := d0) (av := [.inr a0, .inr a1]) (fun h' e hX => ?_) (fun h' e => HR _ _ _ _ e) hd (by decide) hst rfl kk
  exact cal_S (n := 2) hX (lw_S q1435 q1436 q112 q1437) (by decide +kernel) rfl hdg

theorem cl_X6_270 {X : CT} {cc : ByteArray} {nL : Nat} {mn : String} {ret : Option FieldType} {d d0 : Nat} {τ : Type} {pc : Nat} {lv : List (Option PV)} {st : List PV} {h : PH} {sz : τ → Nat × Nat} {K : τ → Prop} {f : Option Nat → PH → Option (Int32 × PH)} (HR : IM_X6_readsLine f d0) {a0 : Option Nat} {g : Int32 → PH → Option τ} (hd : d0 + 1 ≤ d) (hdg : decode cc pc = .ok (.invokevirtual 270, 3)) (hst : st.length ≤ 8) (kk : ∀ r h', Im X (cc, nL, RX6, mn, ret, d) (pc + 3) lv (.inl r :: st) h' (g r h') sz K) : Im X (cc, nL, RX6, mn, ret, d) pc lv (.inr a0 :: st) h (bd2 (f a0 h) g) sz K := by
  refine im_cI (y := yX6_readsLine) (cY := cX6_readsLine) (nY := 3) (rY := (some .boolean)) (d' := d0) (av := [.inr a0]) (fun r h' e hX => ?_) (fun r h' e => (HR _ _ _ _ e).2) hd (by decide) hst rfl kk
  obtain ⟨a, c, fs, rfl, ec, hm⟩ := isC_some (HR _ _ _ _ e).1
  cases List.mem_singleton.mp hm
  exact cal_V (n := 0) hX (lw_V q1438 q1440 qs64 q112 q1441) (by decide +kernel) rfl rfl ec hdg

def IM_X6_burials (f : Option Nat → Int32 → PH → Option (Int32 × PH)) (d : Nat) : Prop := ∀ (a0 : Option Nat) (a1 : Int32) (h : PH) (r : Int32) (h' : PH), f a0 a1 h = some (r, h') → isC [5] a0 h = true ∧ SpI yX6_burials cX6_burials 3 (some .int) d [.inr a0, .inl a1] h r h'
noncomputable def mo_burials_86 (v0 : Option Nat) (v2 : Int32) (h : PH) : Option (Int32 × PH) :=
  (pf [5] 4 v0 (.inl 0) h).bind fun h51 =>
  (if v2 = 0 then
  (gfr [5] 1 v0 h51).bind fun r52 =>
  (gfr [5] 0 v0 h51).bind fun r53 =>
  (mo_copies r52 r53 h51).bind fun h54 =>
  (gfi [5] 7 v0 h54).bind fun x55 =>
  some ((x55, h54))
  else
  (gfi [5] 27 v0 h51).bind fun x56 =>
  some ((x56, h51)))
theorem mo_burials_86_ok (X : CT) (v0 : Option Nat) (v2 : Int32) (h : PH) : Im X (cX6_burials, 3, RX6, "burials", (some .int), 5) 86 [some (.inr v0), none, some (.inl v2)] [] h (mo_burials_86 v0 v2 h) szI (kI X) := by
  unfold mo_burials_86
  refine im_aload_n (pc := 86) dX6_burials_86 rfl rfl ?_
  refine im_iconst (pc := 87) (v := 0) dX6_burials_87 (by decide) ?_
  refine im_pf (pc := 88) fp_X6_134 (okT_i _) dX6_burials_88 fun h51 => ?_
  refine im_iload_n (pc := 91) dX6_burials_91 rfl rfl ?_
  refine im_if_eq (pc := 92) (tgt := 100) dX6_burials_92 (by decide) ?_ ?_
  · refine im_aload_n (pc := 100) dX6_burials_100 rfl rfl ?_
    refine im_gr (pc := 101) fl_X6_13 dX6_burials_101 fun r52 => ?_
    refine im_aload_n (pc := 104) dX6_burials_104 rfl rfl ?_
    refine im_gr (pc := 105) fl_X6_7 dX6_burials_105 fun r53 => ?_
    refine cl_X6_266 mo_copies_im (pc := 108) (by decide) dX6_burials_108 (Nat.le_of_ble_eq_true rfl) fun h54 => ?_
    refine im_aload_n (pc := 111) dX6_burials_111 rfl rfl ?_
    refine im_gi (pc := 112) fl_X6_152 dX6_burials_112 fun x55 => ?_
    exact im_iret (pc := 115) dX6_burials_115
  · refine im_aload_n (pc := 95) dX6_burials_95 rfl rfl ?_
    refine im_gi (pc := 96) fl_X6_253 dX6_burials_96 fun x56 => ?_
    exact im_iret (pc := 99) dX6_burials_99
noncomputable def mo_burials_b46 (v0 : Option Nat) (v2 : Int32) (h : PH) : Option ((Int32 × PH) ⊕ (Int32 × PH)) :=
  (if v2 = 0 then
  (mo_burials_86 v0 v2 h).map .inr
  else
  (gfi [5] 5 v0 h).bind fun x51 =>
  (gfi [5] 6 v0 h).bind fun x52 =>
  (if x52 ≤ x51 then
  (mo_burials_86 v0 v2 h).map .inr
  else
  bd2 (mo_takes v0 59 h) fun x54 h53 =>
  (if x54 = 0 then
  some (.inl (0, h53))
  else
  bd2 (mo_readsLine v0 h53) fun x56 h55 =>
  (if x56 = 0 then
  some (.inl (0, h55))
  else
  some (.inl (1, h55))))))
noncomputable def mo_burials_L46 (v0 : Option Nat) (v2 : Int32) (h : PH) : Option (Int32 × PH) :=
  iter (fun s : Int32 × PH => mo_burials_b46 v0 s.1 s.2) (v2, h)
theorem mo_burials_b46_ok (X : CT) (v0 : Option Nat) (v2 : Int32) (h : PH) : Im X (cX6_burials, 3, RX6, "burials", (some .int), 5) 46 [some (.inr v0), none, some (.inl v2)] [] h (mo_burials_b46 v0 v2 h) (ez (fun s : Int32 × PH => s.2) szI) (ek X 46 (fun s : Int32 × PH => [some (.inr v0), none, some (.inl s.1)]) (fun s : Int32 × PH => s.2) (kI X)) := by
  unfold mo_burials_b46
  refine im_iload_n (pc := 46) dX6_burials_46 rfl rfl ?_
  refine im_if_eq (pc := 47) (tgt := 86) dX6_burials_47 (by decide) ?_ ?_
  · exact Im.out (Im.drop [true, false, true] rfl (mo_burials_86_ok X v0 v2 h))
  · refine im_aload_n (pc := 50) dX6_burials_50 rfl rfl ?_
    refine im_gi (pc := 51) fl_X6_142 dX6_burials_51 fun x51 => ?_
    refine im_aload_n (pc := 54) dX6_burials_54 rfl rfl ?_
    refine im_gi (pc := 55) fl_X6_145 dX6_burials_55 fun x52 => ?_
    refine im_icmp_ge (pc := 58) (tgt := 86) dX6_burials_58 (by decide) ?_ ?_
    · exact Im.out (Im.drop [true, false, true] rfl (mo_burials_86_ok X v0 v2 h))
    · refine im_aload_n (pc := 61) dX6_burials_61 rfl rfl ?_
      refine im_bipush (pc := 62) (v := 59) dX6_burials_62 (by decide) ?_
      refine cl_X6_231 mo_takes_im (pc := 64) (by decide) dX6_burials_64 (Nat.le_of_ble_eq_true rfl) fun x54 h53 => ?_
      refine im_if_eq (pc := 67) (tgt := 81) dX6_burials_67 (by decide) ?_ ?_
      · refine im_iconst (pc := 81) (v := 0) dX6_burials_81 (by decide) ?_
        refine im_istore_n (pc := 82) (lv' := [some (.inr v0), none, some (.inl 0)]) dX6_burials_82 rfl (by decide) rfl ?_
        refine im_goto (pc := 83) (tgt := 46) dX6_burials_83 (by decide) ?_
        exact Im.back [true, false, true] rfl rfl
      · refine im_aload_n (pc := 70) dX6_burials_70 rfl rfl ?_
        refine cl_X6_270 mo_readsLine_im (pc := 71) (by decide) dX6_burials_71 (Nat.le_of_ble_eq_true rfl) fun x56 h55 => ?_
        refine im_if_eq (pc := 74) (tgt := 81) dX6_burials_74 (by decide) ?_ ?_
        · refine im_iconst (pc := 81) (v := 0) dX6_burials_81 (by decide) ?_
          refine im_istore_n (pc := 82) (lv' := [some (.inr v0), none, some (.inl 0)]) dX6_burials_82 rfl (by decide) rfl ?_
          refine im_goto (pc := 83) (tgt := 46) dX6_burials_83 (by decide) ?_
          exact Im.back [true, false, true] rfl rfl
        · refine im_iconst (pc := 77) (v := 1) dX6_burials_77 (by decide) ?_
          refine im_goto (pc := 78) (tgt := 82) dX6_burials_78 (by decide) ?_
          refine im_istore_n (pc := 82) (lv' := [some (.inr v0), none, some (.inl 1)]) dX6_burials_82 rfl (by decide) rfl ?_
          refine im_goto (pc := 83) (tgt := 46) dX6_burials_83 (by decide) ?_
          exact Im.back [true, false, true] rfl rfl
theorem mo_burials_L46_ok (X : CT) (v0 : Option Nat) (v2 : Int32) (h : PH) : Im X (cX6_burials, 3, RX6, "burials", (some .int), 5) 46 [some (.inr v0), none, some (.inl v2)] [] h (mo_burials_L46 v0 v2 h) szI (kI X) := by
  unfold mo_burials_L46
  exact Im.iter (lv := (fun s : Int32 × PH => [some (.inr v0), none, some (.inl s.1)])) (hp := (fun s : Int32 × PH => s.2)) (fun s => mo_burials_b46_ok X v0 s.1 s.2) _ rfl rfl
noncomputable def mo_burials_0 (v0 : Option Nat) (v1 : Int32) (h : PH) : Option (Int32 × PH) :=
  (mo_in v1 1 120 h).bind fun x51 =>
  (if x51 = 0 then
  some (((-1), h))
  else
  (gfi [5] 4 v0 h).bind fun x52 =>
  (if v1 ≤ x52 then
  (mo_beginsText v0 v1 h).bind fun h53 =>
  (pf [5] 27 v0 (.inl 0) h53).bind fun h54 =>
  (gfr [5] 0 v0 h54).bind fun r55 =>
  (gfr [5] 1 v0 h54).bind fun r56 =>
  (mo_copies r55 r56 h54).bind fun h57 =>
  bd2 (mo_readsLine v0 h57) fun x59 h58 =>
  mo_burials_L46 v0 x59 h58
  else
  some (((-1), h))))
theorem mo_burials_0_ok (X : CT) (v0 : Option Nat) (v1 : Int32) (h : PH) : Im X (cX6_burials, 3, RX6, "burials", (some .int), 5) 0 [some (.inr v0), some (.inl v1), none] [] h (mo_burials_0 v0 v1 h) szI (kI X) := by
  unfold mo_burials_0
  refine im_iload_n (pc := 0) dX6_burials_0 rfl rfl ?_
  refine im_iconst (pc := 1) (v := 1) dX6_burials_1 (by decide) ?_
  refine im_bipush (pc := 2) (v := 120) dX6_burials_2 (by decide) ?_
  refine cl_X6_104 mo_in_im (pc := 4) (by decide) dX6_burials_4 (Nat.le_of_ble_eq_true rfl) fun x51 => ?_
  refine im_if_eq (pc := 7) (tgt := 18) dX6_burials_7 (by decide) ?_ ?_
  · refine im_iconst (pc := 18) (v := (-1)) dX6_burials_18 (by decide) ?_
    exact im_iret (pc := 19) dX6_burials_19
  · refine im_iload_n (pc := 10) dX6_burials_10 rfl rfl ?_
    refine im_aload_n (pc := 11) dX6_burials_11 rfl rfl ?_
    refine im_gi (pc := 12) fl_X6_134 dX6_burials_12 fun x52 => ?_
    refine im_icmp_le (pc := 15) (tgt := 20) dX6_burials_15 (by decide) ?_ ?_
    · refine im_aload_n (pc := 20) dX6_burials_20 rfl rfl ?_
      refine im_iload_n (pc := 21) dX6_burials_21 rfl rfl ?_
      refine cl_X6_225 mo_beginsText_im (pc := 22) (by decide) dX6_burials_22 (Nat.le_of_ble_eq_true rfl) fun h53 => ?_
      refine im_aload_n (pc := 25) dX6_burials_25 rfl rfl ?_
      refine im_iconst (pc := 26) (v := 0) dX6_burials_26 (by decide) ?_
      refine im_pf (pc := 27) fp_X6_253 (okT_i _) dX6_burials_27 fun h54 => ?_
      refine im_aload_n (pc := 30) dX6_burials_30 rfl rfl ?_
      refine im_gr (pc := 31) fl_X6_7 dX6_burials_31 fun r55 => ?_
      refine im_aload_n (pc := 34) dX6_burials_34 rfl rfl ?_
      refine im_gr (pc := 35) fl_X6_13 dX6_burials_35 fun r56 => ?_
      refine cl_X6_266 mo_copies_im (pc := 38) (by decide) dX6_burials_38 (Nat.le_of_ble_eq_true rfl) fun h57 => ?_
      refine im_aload_n (pc := 41) dX6_burials_41 rfl rfl ?_
      refine cl_X6_270 mo_readsLine_im (pc := 42) (by decide) dX6_burials_42 (Nat.le_of_ble_eq_true rfl) fun x59 h58 => ?_
      refine im_istore_n (pc := 45) (lv' := [some (.inr v0), some (.inl v1), some (.inl x59)]) dX6_burials_45 rfl (by decide) rfl ?_
      exact Im.drop [true, false, true] rfl (mo_burials_L46_ok X v0 x59 h58)
    · refine im_iconst (pc := 18) (v := (-1)) dX6_burials_18 (by decide) ?_
      exact im_iret (pc := 19) dX6_burials_19
noncomputable def mo_burials (a0 : Option Nat) (a1 : Int32) (h : PH) : Option (Int32 × PH) := grd (isC [5] a0 h) (mo_burials_0 a0 a1 h)
theorem mo_burials_im : IM_X6_burials mo_burials 5 := by
  intro a0 a1 h r h' e
  obtain ⟨e1, e2⟩ := grd_some e
  exact ⟨e1, SpI.of (k := 1) (plainFor_of_name (by decide)) rfl (fun X => Im.drop [true, true, false] rfl (mo_burials_0_ok X a0 a1 h)) e2⟩
