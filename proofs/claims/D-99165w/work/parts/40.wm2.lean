set_option maxRecDepth 100000
theorem fl_X6_273 : ∀ c ∈ [5], FL RX6 273 c 35 := List.forall_mem_cons.mpr ⟨⟨RX6, TX6, 50, rfl, in_X6, by decide, Or.inl q1212⟩, fun _ h => absurd h List.not_mem_nil⟩
theorem fl_X6_71 : ∀ c ∈ [5], FL RX6 71 c 31 := List.forall_mem_cons.mpr ⟨⟨RX6, TX6, 50, rfl, in_X6, by decide, Or.inl q1208⟩, fun _ h => absurd h List.not_mem_nil⟩
theorem fl_X6_74 : ∀ c ∈ [5], FL RX6 74 c 32 := List.forall_mem_cons.mpr ⟨⟨RX6, TX6, 50, rfl, in_X6, by decide, Or.inl q1209⟩, fun _ h => absurd h List.not_mem_nil⟩
theorem fl_X6_77 : ∀ c ∈ [5], FL RX6 77 c 33 := List.forall_mem_cons.mpr ⟨⟨RX6, TX6, 50, rfl, in_X6, by decide, Or.inl q1210⟩, fun _ h => absurd h List.not_mem_nil⟩
theorem fp_X6_273 : ∀ c ∈ [5], FP RX6 273 c 35 .int := List.forall_mem_cons.mpr ⟨⟨RX6, TX6, 50, rfl, in_X6, by decide, apt_X6, rfl, by decide +kernel, Or.inl q1212⟩, fun _ h => absurd h List.not_mem_nil⟩
def IM_X6_readsWish (f : Option Nat → PH → Option (Int32 × PH)) (d : Nat) : Prop := ∀ (a0 : Option Nat) (h : PH) (r : Int32) (h' : PH), f a0 h = some (r, h') → isC [5] a0 h = true ∧ SpI yX6_readsWish cX6_readsWish 4 (some .boolean) d [.inr a0] h r h'
noncomputable def mo_readsWish_168 (v0 : Option Nat) (v1 : Int32) (v2 : Int32) (v3 : Int32) (h : PH) : Option (Int32 × PH) :=
  (gfr [5] 31 v0 h).bind fun r51 =>
  (gfi [5] 35 v0 h).bind fun x52 =>
  (ast 0 r51 x52 v1 h).bind fun h53 =>
  (gfr [5] 32 v0 h53).bind fun r54 =>
  (gfi [5] 35 v0 h53).bind fun x55 =>
  (ast 0 r54 x55 v3 h53).bind fun h56 =>
  (gfr [5] 33 v0 h56).bind fun r57 =>
  (gfi [5] 35 v0 h56).bind fun x58 =>
  (ast 0 r57 x58 v2 h56).bind fun h59 =>
  (gfi [5] 35 v0 h59).bind fun x60 =>
  (pf [5] 35 v0 (.inl (x60 + 1)) h59).bind fun h61 =>
  some ((1, h61))
theorem mo_readsWish_168_ok (X : CT) (v0 : Option Nat) (v1 : Int32) (v2 : Int32) (v3 : Int32) (h : PH) : Im X (cX6_readsWish, 4, RX6, "readsWish", (some .boolean), 3) 168 [some (.inr v0), some (.inl v1), some (.inl v2), some (.inl v3)] [] h (mo_readsWish_168 v0 v1 v2 v3 h) szI (kI X) := by
  unfold mo_readsWish_168
  refine im_aload_n (pc := 168) dX6_readsWish_168 rfl rfl ?_
  refine im_gr (pc := 169) fl_X6_71 dX6_readsWish_169 fun r51 => ?_
  refine im_aload_n (pc := 172) dX6_readsWish_172 rfl rfl ?_
  refine im_gi (pc := 173) fl_X6_273 dX6_readsWish_173 fun x52 => ?_
  refine im_iload_n (pc := 176) dX6_readsWish_176 rfl rfl ?_
  refine im_iast (pc := 177) dX6_readsWish_177 fun h53 => ?_
  refine im_aload_n (pc := 178) dX6_readsWish_178 rfl rfl ?_
  refine im_gr (pc := 179) fl_X6_74 dX6_readsWish_179 fun r54 => ?_
  refine im_aload_n (pc := 182) dX6_readsWish_182 rfl rfl ?_
  refine im_gi (pc := 183) fl_X6_273 dX6_readsWish_183 fun x55 => ?_
  refine im_iload_n (pc := 186) dX6_readsWish_186 rfl rfl ?_
  refine im_iast (pc := 187) dX6_readsWish_187 fun h56 => ?_
  refine im_aload_n (pc := 188) dX6_readsWish_188 rfl rfl ?_
  refine im_gr (pc := 189) fl_X6_77 dX6_readsWish_189 fun r57 => ?_
  refine im_aload_n (pc := 192) dX6_readsWish_192 rfl rfl ?_
  refine im_gi (pc := 193) fl_X6_273 dX6_readsWish_193 fun x58 => ?_
  refine im_iload_n (pc := 196) dX6_readsWish_196 rfl rfl ?_
  refine im_iast (pc := 197) dX6_readsWish_197 fun h59 => ?_
  refine im_aload_n (pc := 198) dX6_readsWish_198 rfl rfl ?_
  refine im_aload_n (pc := 199) dX6_readsWish_199 rfl rfl ?_
  refine im_gi (pc := 200) fl_X6_273 dX6_readsWish_200 fun x60 => ?_
  refine im_iconst (pc := 203) (v := 1) dX6_readsWish_203 (by decide) ?_
  refine im_iadd (pc := 204) dX6_readsWish_204 ?_
  refine im_pf (pc := 205) fp_X6_273 (okT_i _) dX6_readsWish_205 fun h61 => ?_
  refine im_iconst (pc := 208) (v := 1) dX6_readsWish_208 (by decide) ?_
  exact im_zretT (pc := 209) (nar_z (Or.inr rfl)) dX6_readsWish_209
noncomputable def mo_readsWish_117 (v0 : Option Nat) (v1 : Int32) (v3 : Int32) (h : PH) : Option (Int32 × PH) :=
  (mo_isLetter v0 h).bind fun x51 =>
  (if x51 = 0 then
  (gfi [5] 5 v0 h).bind fun x59 =>
  bd2 (mo_wrongAt v0 1 x59 h) fun x61 h60 =>
  (zok x61).bind fun x62 => some ((x62, h60))
  else
  (mo_here v0 h).bind fun x52 =>
  (if (x52 - 97) = v1 then
  (gfi [5] 5 v0 h).bind fun x55 =>
  bd2 (mo_wrongAt v0 6 x55 h) fun x57 h56 =>
  (zok x57).bind fun x58 => some ((x58, h56))
  else
  (gfi [5] 5 v0 h).bind fun x53 =>
  (pf [5] 5 v0 (.inl (x53 + 1)) h).bind fun h54 =>
  mo_readsWish_168 v0 v1 (x52 - 97) v3 h54))
theorem mo_readsWish_117_ok (X : CT) (v0 : Option Nat) (v1 : Int32) (v3 : Int32) (h : PH) : Im X (cX6_readsWish, 4, RX6, "readsWish", (some .boolean), 3) 117 [some (.inr v0), some (.inl v1), none, some (.inl v3)] [] h (mo_readsWish_117 v0 v1 v3 h) szI (kI X) := by
  unfold mo_readsWish_117
  refine im_aload_n (pc := 117) dX6_readsWish_117 rfl rfl ?_
  refine cl_X6_250 mo_isLetter_im (pc := 118) (by decide) dX6_readsWish_118 (Nat.le_of_ble_eq_true rfl) fun x51 => ?_
  refine im_if_ne (pc := 121) (tgt := 134) dX6_readsWish_121 (by decide) ?_ ?_
  · refine im_aload_n (pc := 134) dX6_readsWish_134 rfl rfl ?_
    refine cl_X6_148 mo_here_im (pc := 135) (by decide) dX6_readsWish_135 (Nat.le_of_ble_eq_true rfl) fun x52 => ?_
    refine im_bipush (pc := 138) (v := 97) dX6_readsWish_138 (by decide) ?_
    refine im_isub (pc := 140) dX6_readsWish_140 ?_
    refine im_istore_n (pc := 141) (lv' := [some (.inr v0), some (.inl v1), some (.inl (x52 - 97)), some (.inl v3)]) dX6_readsWish_141 rfl (by decide) rfl ?_
    refine im_iload_n (pc := 142) dX6_readsWish_142 rfl rfl ?_
    refine im_iload_n (pc := 143) dX6_readsWish_143 rfl rfl ?_
    refine im_icmp_ne (pc := 144) (tgt := 158) dX6_readsWish_144 (by decide) ?_ ?_
    · refine im_aload_n (pc := 158) dX6_readsWish_158 rfl rfl ?_
      refine im_aload_n (pc := 159) dX6_readsWish_159 rfl rfl ?_
      refine im_gi (pc := 160) fl_X6_142 dX6_readsWish_160 fun x53 => ?_
      refine im_iconst (pc := 163) (v := 1) dX6_readsWish_163 (by decide) ?_
      refine im_iadd (pc := 164) dX6_readsWish_164 ?_
      refine im_pf (pc := 165) fp_X6_142 (okT_i _) dX6_readsWish_165 fun h54 => ?_
      exact Im.drop [true, true, true, true] rfl (mo_readsWish_168_ok X v0 v1 (x52 - 97) v3 h54)
    · refine im_aload_n (pc := 147) dX6_readsWish_147 rfl rfl ?_
      refine im_bipush (pc := 148) (v := 6) dX6_readsWish_148 (by decide) ?_
      refine im_aload_n (pc := 150) dX6_readsWish_150 rfl rfl ?_
      refine im_gi (pc := 151) fl_X6_142 dX6_readsWish_151 fun x55 => ?_
      refine cl_X6_155 mo_wrongAt_im (pc := 154) (by decide) dX6_readsWish_154 (Nat.le_of_ble_eq_true rfl) fun x57 h56 => ?_
      refine im_zok fun x58 hz => ?_
      exact im_zretT (pc := 157) (nar_z hz) dX6_readsWish_157
  · refine im_aload_n (pc := 124) dX6_readsWish_124 rfl rfl ?_
    refine im_iconst (pc := 125) (v := 1) dX6_readsWish_125 (by decide) ?_
    refine im_aload_n (pc := 126) dX6_readsWish_126 rfl rfl ?_
    refine im_gi (pc := 127) fl_X6_142 dX6_readsWish_127 fun x59 => ?_
    refine cl_X6_155 mo_wrongAt_im (pc := 130) (by decide) dX6_readsWish_130 (Nat.le_of_ble_eq_true rfl) fun x61 h60 => ?_
    refine im_zok fun x62 hz => ?_
    exact im_zretT (pc := 133) (nar_z hz) dX6_readsWish_133
noncomputable def mo_readsWish_95 (v0 : Option Nat) (v1 : Int32) (v2 : Int32) (v3 : Int32) (h : PH) : Option (Int32 × PH) :=
  (gfi [5] 5 v0 h).bind fun x51 =>
  (pf [5] 5 v0 (.inl (x51 + 1)) h).bind fun h52 =>
  (if v3 = 43 then
  mo_readsWish_117 v0 v1 v3 h52
  else
  (if v3 = 45 then
  mo_readsWish_117 v0 v1 v3 h52
  else
  mo_readsWish_168 v0 v1 v2 v3 h52))
theorem mo_readsWish_95_ok (X : CT) (v0 : Option Nat) (v1 : Int32) (v2 : Int32) (v3 : Int32) (h : PH) : Im X (cX6_readsWish, 4, RX6, "readsWish", (some .boolean), 3) 95 [some (.inr v0), some (.inl v1), some (.inl v2), some (.inl v3)] [] h (mo_readsWish_95 v0 v1 v2 v3 h) szI (kI X) := by
  unfold mo_readsWish_95
  refine im_aload_n (pc := 95) dX6_readsWish_95 rfl rfl ?_
  refine im_aload_n (pc := 96) dX6_readsWish_96 rfl rfl ?_
  refine im_gi (pc := 97) fl_X6_142 dX6_readsWish_97 fun x51 => ?_
  refine im_iconst (pc := 100) (v := 1) dX6_readsWish_100 (by decide) ?_
  refine im_iadd (pc := 101) dX6_readsWish_101 ?_
  refine im_pf (pc := 102) fp_X6_142 (okT_i _) dX6_readsWish_102 fun h52 => ?_
  refine im_iload_n (pc := 105) dX6_readsWish_105 rfl rfl ?_
  refine im_bipush (pc := 106) (v := 43) dX6_readsWish_106 (by decide) ?_
  refine im_icmp_eq (pc := 108) (tgt := 117) dX6_readsWish_108 (by decide) ?_ ?_
  · exact Im.drop [true, true, false, true] rfl (mo_readsWish_117_ok X v0 v1 v3 h52)
  · refine im_iload_n (pc := 111) dX6_readsWish_111 rfl rfl ?_
    refine im_bipush (pc := 112) (v := 45) dX6_readsWish_112 (by decide) ?_
    refine im_icmp_ne (pc := 114) (tgt := 168) dX6_readsWish_114 (by decide) ?_ ?_
    · exact Im.drop [true, true, true, true] rfl (mo_readsWish_168_ok X v0 v1 v2 v3 h52)
    · exact Im.drop [true, true, false, true] rfl (mo_readsWish_117_ok X v0 v1 v3 h52)
noncomputable def mo_readsWish_0 (v0 : Option Nat) (h : PH) : Option (Int32 × PH) :=
  (mo_isLetter v0 h).bind fun x51 =>
  (if x51 = 0 then
  (gfi [5] 5 v0 h).bind fun x65 =>
  bd2 (mo_wrongAt v0 1 x65 h) fun x67 h66 =>
  (zok x67).bind fun x68 => some ((x68, h66))
  else
  (gfi [5] 35 v0 h).bind fun x52 =>
  (if x52 = 24 then
  (gfi [5] 5 v0 h).bind fun x61 =>
  bd2 (mo_wrongAt v0 4 x61 h) fun x63 h62 =>
  (zok x63).bind fun x64 => some ((x64, h62))
  else
  (mo_here v0 h).bind fun x53 =>
  (gfi [5] 5 v0 h).bind fun x54 =>
  (pf [5] 5 v0 (.inl (x54 + 1)) h).bind fun h55 =>
  (mo_here v0 h55).bind fun x56 =>
  (if x56 = 43 then
  mo_readsWish_95 v0 (x53 - 97) (-1) x56 h55
  else
  (if x56 = 45 then
  mo_readsWish_95 v0 (x53 - 97) (-1) x56 h55
  else
  (if x56 = 35 then
  mo_readsWish_95 v0 (x53 - 97) (-1) x56 h55
  else
  (if x56 = 46 then
  mo_readsWish_95 v0 (x53 - 97) (-1) x56 h55
  else
  (gfi [5] 5 v0 h55).bind fun x57 =>
  bd2 (mo_wrongAt v0 1 x57 h55) fun x59 h58 =>
  (zok x59).bind fun x60 => some ((x60, h58))))))))
theorem mo_readsWish_0_ok (X : CT) (v0 : Option Nat) (h : PH) : Im X (cX6_readsWish, 4, RX6, "readsWish", (some .boolean), 3) 0 [some (.inr v0), none, none, none] [] h (mo_readsWish_0 v0 h) szI (kI X) := by
  unfold mo_readsWish_0
  refine im_aload_n (pc := 0) dX6_readsWish_0 rfl rfl ?_
  refine cl_X6_250 mo_isLetter_im (pc := 1) (by decide) dX6_readsWish_1 (Nat.le_of_ble_eq_true rfl) fun x51 => ?_
  refine im_if_ne (pc := 4) (tgt := 17) dX6_readsWish_4 (by decide) ?_ ?_
  · refine im_aload_n (pc := 17) dX6_readsWish_17 rfl rfl ?_
    refine im_gi (pc := 18) fl_X6_273 dX6_readsWish_18 fun x52 => ?_
    refine im_bipush (pc := 21) (v := 24) dX6_readsWish_21 (by decide) ?_
    refine im_icmp_ne (pc := 23) (tgt := 36) dX6_readsWish_23 (by decide) ?_ ?_
    · refine im_aload_n (pc := 36) dX6_readsWish_36 rfl rfl ?_
      refine cl_X6_148 mo_here_im (pc := 37) (by decide) dX6_readsWish_37 (Nat.le_of_ble_eq_true rfl) fun x53 => ?_
      refine im_bipush (pc := 40) (v := 97) dX6_readsWish_40 (by decide) ?_
      refine im_isub (pc := 42) dX6_readsWish_42 ?_
      refine im_istore_n (pc := 43) (lv' := [some (.inr v0), some (.inl (x53 - 97)), none, none]) dX6_readsWish_43 rfl (by decide) rfl ?_
      refine im_iconst (pc := 44) (v := (-1)) dX6_readsWish_44 (by decide) ?_
      refine im_istore_n (pc := 45) (lv' := [some (.inr v0), some (.inl (x53 - 97)), some (.inl (-1)), none]) dX6_readsWish_45 rfl (by decide) rfl ?_
      refine im_aload_n (pc := 46) dX6_readsWish_46 rfl rfl ?_
      refine im_aload_n (pc := 47) dX6_readsWish_47 rfl rfl ?_
      refine im_gi (pc := 48) fl_X6_142 dX6_readsWish_48 fun x54 => ?_
      refine im_iconst (pc := 51) (v := 1) dX6_readsWish_51 (by decide) ?_
      refine im_iadd (pc := 52) dX6_readsWish_52 ?_
      refine im_pf (pc := 53) fp_X6_142 (okT_i _) dX6_readsWish_53 fun h55 => ?_
      refine im_aload_n (pc := 56) dX6_readsWish_56 rfl rfl ?_
      refine cl_X6_148 mo_here_im (pc := 57) (by decide) dX6_readsWish_57 (Nat.le_of_ble_eq_true rfl) fun x56 => ?_
      refine im_istore_n (pc := 60) (lv' := [some (.inr v0), some (.inl (x53 - 97)), some (.inl (-1)), some (.inl x56)]) dX6_readsWish_60 rfl (by decide) rfl ?_
      refine im_iload_n (pc := 61) dX6_readsWish_61 rfl rfl ?_
      refine im_bipush (pc := 62) (v := 43) dX6_readsWish_62 (by decide) ?_
      refine im_icmp_eq (pc := 64) (tgt := 95) dX6_readsWish_64 (by decide) ?_ ?_
      · exact Im.drop [true, true, true, true] rfl (mo_readsWish_95_ok X v0 (x53 - 97) (-1) x56 h55)
      · refine im_iload_n (pc := 67) dX6_readsWish_67 rfl rfl ?_
        refine im_bipush (pc := 68) (v := 45) dX6_readsWish_68 (by decide) ?_
        refine im_icmp_eq (pc := 70) (tgt := 95) dX6_readsWish_70 (by decide) ?_ ?_
        · exact Im.drop [true, true, true, true] rfl (mo_readsWish_95_ok X v0 (x53 - 97) (-1) x56 h55)
        · refine im_iload_n (pc := 73) dX6_readsWish_73 rfl rfl ?_
          refine im_bipush (pc := 74) (v := 35) dX6_readsWish_74 (by decide) ?_
          refine im_icmp_eq (pc := 76) (tgt := 95) dX6_readsWish_76 (by decide) ?_ ?_
          · exact Im.drop [true, true, true, true] rfl (mo_readsWish_95_ok X v0 (x53 - 97) (-1) x56 h55)
          · refine im_iload_n (pc := 79) dX6_readsWish_79 rfl rfl ?_
            refine im_bipush (pc := 80) (v := 46) dX6_readsWish_80 (by decide) ?_
            refine im_icmp_eq (pc := 82) (tgt := 95) dX6_readsWish_82 (by decide) ?_ ?_
            · exact Im.drop [true, true, true, true] rfl (mo_readsWish_95_ok X v0 (x53 - 97) (-1) x56 h55)
            · refine im_aload_n (pc := 85) dX6_readsWish_85 rfl rfl ?_
              refine im_iconst (pc := 86) (v := 1) dX6_readsWish_86 (by decide) ?_
              refine im_aload_n (pc := 87) dX6_readsWish_87 rfl rfl ?_
              refine im_gi (pc := 88) fl_X6_142 dX6_readsWish_88 fun x57 => ?_
              refine cl_X6_155 mo_wrongAt_im (pc := 91) (by decide) dX6_readsWish_91 (Nat.le_of_ble_eq_true rfl) fun x59 h58 => ?_
              refine im_zok fun x60 hz => ?_
              exact im_zretT (pc := 94) (nar_z hz) dX6_readsWish_94
    · refine im_aload_n (pc := 26) dX6_readsWish_26 rfl rfl ?_
      refine im_iconst (pc := 27) (v := 4) dX6_readsWish_27 (by decide) ?_
      refine im_aload_n (pc := 28) dX6_readsWish_28 rfl rfl ?_
      refine im_gi (pc := 29) fl_X6_142 dX6_readsWish_29 fun x61 => ?_
      refine cl_X6_155 mo_wrongAt_im (pc := 32) (by decide) dX6_readsWish_32 (Nat.le_of_ble_eq_true rfl) fun x63 h62 => ?_
      refine im_zok fun x64 hz => ?_
      exact im_zretT (pc := 35) (nar_z hz) dX6_readsWish_35
  · refine im_aload_n (pc := 7) dX6_readsWish_7 rfl rfl ?_
    refine im_iconst (pc := 8) (v := 1) dX6_readsWish_8 (by decide) ?_
    refine im_aload_n (pc := 9) dX6_readsWish_9 rfl rfl ?_
    refine im_gi (pc := 10) fl_X6_142 dX6_readsWish_10 fun x65 => ?_
    refine cl_X6_155 mo_wrongAt_im (pc := 13) (by decide) dX6_readsWish_13 (Nat.le_of_ble_eq_true rfl) fun x67 h66 => ?_
    refine im_zok fun x68 hz => ?_
    exact im_zretT (pc := 16) (nar_z hz) dX6_readsWish_16
noncomputable def mo_readsWish (a0 : Option Nat) (h : PH) : Option (Int32 × PH) := grd (isC [5] a0 h) (mo_readsWish_0 a0 h)
theorem mo_readsWish_im : IM_X6_readsWish mo_readsWish 3 := by
  intro a0 h r h' e
  obtain ⟨e1, e2⟩ := grd_some e
  exact ⟨e1, SpI.of (k := 3) (plainFor_of_name (by decide)) rfl (fun X => Im.drop [true, false, false, false] rfl (mo_readsWish_0_ok X a0 h)) e2⟩
theorem cl_X6_276 {X : CT} {cc : ByteArray} {nL : Nat} {mn : String} {ret : Option FieldType} {d d0 : Nat} {τ : Type} {pc : Nat} {lv : List (Option PV)} {st : List PV} {h : PH} {sz : τ → Nat × Nat} {K : τ → Prop} {f : Option Nat → PH → Option (Int32 × PH)} (HR : IM_X6_readsWish f d0) {a0 : Option Nat} {g : Int32 → PH → Option τ} (hd : d0 + 1 ≤ d) (hdg : decode cc pc = .ok (.invokevirtual 276, 3)) (hst : st.length ≤ 8) (kk : ∀ r h', Im X (cc, nL, RX6, mn, ret, d) (pc + 3) lv (.inl r :: st) h' (g r h') sz K) : Im X (cc, nL, RX6, mn, ret, d) pc lv (.inr a0 :: st) h (bd2 (f a0 h) g) sz K := by
  refine im_cI (y := yX6_readsWish) (cY := cX6_readsWish) (nY := 4) (rY := (some .boolean)) (d' := d0) (av := [.inr a0]) (fun r h' e hX => ?_) (fun r h' e => (HR _ _ _ _ e).2) hd (by decide) hst rfl kk
  obtain ⟨a, c, fs, rfl, ec, hm⟩ := isC_some (HR _ _ _ _ e).1
  cases List.mem_singleton.mp hm
  exact cal_V (n := 0) hX (lw_V q1474 q1476 qs72 q112 q1477) (by decide +kernel) rfl rfl ec hdg

theorem fp_X6_279 : ∀ c ∈ [5], FP RX6 279 c 34 .int := List.forall_mem_cons.mpr ⟨⟨RX6, TX6, 50, rfl, in_X6, by decide, apt_X6, rfl, by decide +kernel, Or.inl q1211⟩, fun _ h => absurd h List.not_mem_nil⟩
theorem fl_X6_62 : ∀ c ∈ [5], FL RX6 62 c 28 := List.forall_mem_cons.mpr ⟨⟨RX6, TX6, 50, rfl, in_X6, by decide, Or.inl q1205⟩, fun _ h => absurd h List.not_mem_nil⟩
theorem fl_X6_65 : ∀ c ∈ [5], FL RX6 65 c 29 := List.forall_mem_cons.mpr ⟨⟨RX6, TX6, 50, rfl, in_X6, by decide, Or.inl q1206⟩, fun _ h => absurd h List.not_mem_nil⟩
theorem fl_X6_68 : ∀ c ∈ [5], FL RX6 68 c 30 := List.forall_mem_cons.mpr ⟨⟨RX6, TX6, 50, rfl, in_X6, by decide, Or.inl q1207⟩, fun _ h => absurd h List.not_mem_nil⟩
def IM_X6_wishes (f : Option Nat → Int32 → PH → Option (Int32 × PH)) (d : Nat) : Prop := ∀ (a0 : Option Nat) (a1 : Int32) (h : PH) (r : Int32) (h' : PH), f a0 a1 h = some (r, h') → isC [5] a0 h = true ∧ SpI yX6_wishes cX6_wishes 4 (some .int) d [.inr a0, .inl a1] h r h'
noncomputable def mo_wishes_b99 (v0 : Option Nat) (v3 : Int32) (h : PH) : Option ((Int32 × PH) ⊕ (Int32 × PH)) :=
  (gfi [5] 35 v0 h).bind fun x51 =>
  (if x51 ≤ v3 then
  (gfi [5] 35 v0 h).bind fun x52 =>
  some (.inr ((x52, h)))
  else
  (gfr [5] 28 v0 h).bind fun r53 =>
  (gfr [5] 31 v0 h).bind fun r54 =>
  (ald 0 r54 v3 h).bind fun x55 =>
  (ast 0 r53 v3 x55 h).bind fun h56 =>
  (gfr [5] 29 v0 h56).bind fun r57 =>
  (gfr [5] 32 v0 h56).bind fun r58 =>
  (ald 0 r58 v3 h56).bind fun x59 =>
  (ast 0 r57 v3 x59 h56).bind fun h60 =>
  (gfr [5] 30 v0 h60).bind fun r61 =>
  (gfr [5] 33 v0 h60).bind fun r62 =>
  (ald 0 r62 v3 h60).bind fun x63 =>
  (ast 0 r61 v3 x63 h60).bind fun h64 =>
  some (.inl ((v3 + 1), h64)))
noncomputable def mo_wishes_L99 (v0 : Option Nat) (v3 : Int32) (h : PH) : Option (Int32 × PH) :=
  iter (fun s : Int32 × PH => mo_wishes_b99 v0 s.1 s.2) (v3, h)
theorem mo_wishes_b99_ok (X : CT) (v0 : Option Nat) (v3 : Int32) (h : PH) : Im X (cX6_wishes, 4, RX6, "wishes", (some .int), 4) 99 [some (.inr v0), none, none, some (.inl v3)] [] h (mo_wishes_b99 v0 v3 h) (ez (fun s : Int32 × PH => s.2) szI) (ek X 99 (fun s : Int32 × PH => [some (.inr v0), none, none, some (.inl s.1)]) (fun s : Int32 × PH => s.2) (kI X)) := by
  unfold mo_wishes_b99
  refine im_iload_n (pc := 99) dX6_wishes_99 rfl rfl ?_
  refine im_aload_n (pc := 100) dX6_wishes_100 rfl rfl ?_
  refine im_gi (pc := 101) fl_X6_273 dX6_wishes_101 fun x51 => ?_
  refine im_icmp_ge (pc := 104) (tgt := 149) dX6_wishes_104 (by decide) ?_ ?_
  · refine im_aload_n (pc := 149) dX6_wishes_149 rfl rfl ?_
    refine im_gi (pc := 150) fl_X6_273 dX6_wishes_150 fun x52 => ?_
    exact Im.outS (im_iret (pc := 153) dX6_wishes_153)
  · refine im_aload_n (pc := 107) dX6_wishes_107 rfl rfl ?_
    refine im_gr (pc := 108) fl_X6_62 dX6_wishes_108 fun r53 => ?_
    refine im_iload_n (pc := 111) dX6_wishes_111 rfl rfl ?_
    refine im_aload_n (pc := 112) dX6_wishes_112 rfl rfl ?_
    refine im_gr (pc := 113) fl_X6_71 dX6_wishes_113 fun r54 => ?_
    refine im_iload_n (pc := 116) dX6_wishes_116 rfl rfl ?_
    refine im_iald (pc := 117) dX6_wishes_117 fun x55 => ?_
    refine im_iast (pc := 118) dX6_wishes_118 fun h56 => ?_
    refine im_aload_n (pc := 119) dX6_wishes_119 rfl rfl ?_
    refine im_gr (pc := 120) fl_X6_65 dX6_wishes_120 fun r57 => ?_
    refine im_iload_n (pc := 123) dX6_wishes_123 rfl rfl ?_
    refine im_aload_n (pc := 124) dX6_wishes_124 rfl rfl ?_
    refine im_gr (pc := 125) fl_X6_74 dX6_wishes_125 fun r58 => ?_
    refine im_iload_n (pc := 128) dX6_wishes_128 rfl rfl ?_
    refine im_iald (pc := 129) dX6_wishes_129 fun x59 => ?_
    refine im_iast (pc := 130) dX6_wishes_130 fun h60 => ?_
    refine im_aload_n (pc := 131) dX6_wishes_131 rfl rfl ?_
    refine im_gr (pc := 132) fl_X6_68 dX6_wishes_132 fun r61 => ?_
    refine im_iload_n (pc := 135) dX6_wishes_135 rfl rfl ?_
    refine im_aload_n (pc := 136) dX6_wishes_136 rfl rfl ?_
    refine im_gr (pc := 137) fl_X6_77 dX6_wishes_137 fun r62 => ?_
    refine im_iload_n (pc := 140) dX6_wishes_140 rfl rfl ?_
    refine im_iald (pc := 141) dX6_wishes_141 fun x63 => ?_
    refine im_iast (pc := 142) dX6_wishes_142 fun h64 => ?_
    refine im_iinc (pc := 143) (v := (v3 + 1)) (lv' := [some (.inr v0), none, none, some (.inl (v3 + 1))]) dX6_wishes_143 rfl rfl (by decide) rfl ?_
    refine im_goto (pc := 146) (tgt := 99) dX6_wishes_146 (by decide) ?_
    exact Im.back [true, false, false, true] rfl rfl
theorem mo_wishes_L99_ok (X : CT) (v0 : Option Nat) (v3 : Int32) (h : PH) : Im X (cX6_wishes, 4, RX6, "wishes", (some .int), 4) 99 [some (.inr v0), none, none, some (.inl v3)] [] h (mo_wishes_L99 v0 v3 h) szI (kI X) := by
  unfold mo_wishes_L99
  exact Im.iter (lv := (fun s : Int32 × PH => [some (.inr v0), none, none, some (.inl s.1)])) (hp := (fun s : Int32 × PH => s.2)) (fun s => mo_wishes_b99_ok X v0 s.1 s.2) _ rfl rfl
noncomputable def mo_wishes_75 (v0 : Option Nat) (v2 : Int32) (h : PH) : Option (Int32 × PH) :=
  (pf [5] 4 v0 (.inl 0) h).bind fun h51 =>
  (if v2 = 0 then
  (gfi [5] 7 v0 h51).bind fun x54 =>
  some ((x54, h51))
  else
  (gfi [5] 35 v0 h51).bind fun x52 =>
  (pf [5] 34 v0 (.inl x52) h51).bind fun h53 =>
  mo_wishes_L99 v0 0 h53)
theorem mo_wishes_75_ok (X : CT) (v0 : Option Nat) (v2 : Int32) (h : PH) : Im X (cX6_wishes, 4, RX6, "wishes", (some .int), 4) 75 [some (.inr v0), none, some (.inl v2), none] [] h (mo_wishes_75 v0 v2 h) szI (kI X) := by
  unfold mo_wishes_75
  refine im_aload_n (pc := 75) dX6_wishes_75 rfl rfl ?_
  refine im_iconst (pc := 76) (v := 0) dX6_wishes_76 (by decide) ?_
  refine im_pf (pc := 77) fp_X6_134 (okT_i _) dX6_wishes_77 fun h51 => ?_
  refine im_iload_n (pc := 80) dX6_wishes_80 rfl rfl ?_
  refine im_if_ne (pc := 81) (tgt := 89) dX6_wishes_81 (by decide) ?_ ?_
  · refine im_aload_n (pc := 89) dX6_wishes_89 rfl rfl ?_
    refine im_aload_n (pc := 90) dX6_wishes_90 rfl rfl ?_
    refine im_gi (pc := 91) fl_X6_273 dX6_wishes_91 fun x52 => ?_
    refine im_pf (pc := 94) fp_X6_279 (okT_i _) dX6_wishes_94 fun h53 => ?_
    refine im_iconst (pc := 97) (v := 0) dX6_wishes_97 (by decide) ?_
    refine im_istore_n (pc := 98) (lv' := [some (.inr v0), none, some (.inl v2), some (.inl 0)]) dX6_wishes_98 rfl (by decide) rfl ?_
    exact Im.drop [true, false, false, true] rfl (mo_wishes_L99_ok X v0 0 h53)
  · refine im_aload_n (pc := 84) dX6_wishes_84 rfl rfl ?_
    refine im_gi (pc := 85) fl_X6_152 dX6_wishes_85 fun x54 => ?_
    exact im_iret (pc := 88) dX6_wishes_88
noncomputable def mo_wishes_b35 (v0 : Option Nat) (v2 : Int32) (h : PH) : Option ((Int32 × PH) ⊕ (Int32 × PH)) :=
  (if v2 = 0 then
  (mo_wishes_75 v0 v2 h).map .inr
  else
  (gfi [5] 5 v0 h).bind fun x51 =>
  (gfi [5] 6 v0 h).bind fun x52 =>
  (if x52 ≤ x51 then
  (mo_wishes_75 v0 v2 h).map .inr
  else
  bd2 (mo_takes v0 59 h) fun x54 h53 =>
  (if x54 = 0 then
  some (.inl (0, h53))
  else
  bd2 (mo_readsWish v0 h53) fun x56 h55 =>
  (if x56 = 0 then
  some (.inl (0, h55))
  else
  some (.inl (1, h55))))))
noncomputable def mo_wishes_L35 (v0 : Option Nat) (v2 : Int32) (h : PH) : Option (Int32 × PH) :=
  iter (fun s : Int32 × PH => mo_wishes_b35 v0 s.1 s.2) (v2, h)
theorem mo_wishes_b35_ok (X : CT) (v0 : Option Nat) (v2 : Int32) (h : PH) : Im X (cX6_wishes, 4, RX6, "wishes", (some .int), 4) 35 [some (.inr v0), none, some (.inl v2), none] [] h (mo_wishes_b35 v0 v2 h) (ez (fun s : Int32 × PH => s.2) szI) (ek X 35 (fun s : Int32 × PH => [some (.inr v0), none, some (.inl s.1), none]) (fun s : Int32 × PH => s.2) (kI X)) := by
  unfold mo_wishes_b35
  refine im_iload_n (pc := 35) dX6_wishes_35 rfl rfl ?_
  refine im_if_eq (pc := 36) (tgt := 75) dX6_wishes_36 (by decide) ?_ ?_
  · exact Im.out (Im.drop [true, false, true, false] rfl (mo_wishes_75_ok X v0 v2 h))
  · refine im_aload_n (pc := 39) dX6_wishes_39 rfl rfl ?_
    refine im_gi (pc := 40) fl_X6_142 dX6_wishes_40 fun x51 => ?_
    refine im_aload_n (pc := 43) dX6_wishes_43 rfl rfl ?_
    refine im_gi (pc := 44) fl_X6_145 dX6_wishes_44 fun x52 => ?_
    refine im_icmp_ge (pc := 47) (tgt := 75) dX6_wishes_47 (by decide) ?_ ?_
    · exact Im.out (Im.drop [true, false, true, false] rfl (mo_wishes_75_ok X v0 v2 h))
    · refine im_aload_n (pc := 50) dX6_wishes_50 rfl rfl ?_
      refine im_bipush (pc := 51) (v := 59) dX6_wishes_51 (by decide) ?_
      refine cl_X6_231 mo_takes_im (pc := 53) (by decide) dX6_wishes_53 (Nat.le_of_ble_eq_true rfl) fun x54 h53 => ?_
      refine im_if_eq (pc := 56) (tgt := 70) dX6_wishes_56 (by decide) ?_ ?_
      · refine im_iconst (pc := 70) (v := 0) dX6_wishes_70 (by decide) ?_
        refine im_istore_n (pc := 71) (lv' := [some (.inr v0), none, some (.inl 0), none]) dX6_wishes_71 rfl (by decide) rfl ?_
        refine im_goto (pc := 72) (tgt := 35) dX6_wishes_72 (by decide) ?_
        exact Im.back [true, false, true, false] rfl rfl
      · refine im_aload_n (pc := 59) dX6_wishes_59 rfl rfl ?_
        refine cl_X6_276 mo_readsWish_im (pc := 60) (by decide) dX6_wishes_60 (Nat.le_of_ble_eq_true rfl) fun x56 h55 => ?_
        refine im_if_eq (pc := 63) (tgt := 70) dX6_wishes_63 (by decide) ?_ ?_
        · refine im_iconst (pc := 70) (v := 0) dX6_wishes_70 (by decide) ?_
          refine im_istore_n (pc := 71) (lv' := [some (.inr v0), none, some (.inl 0), none]) dX6_wishes_71 rfl (by decide) rfl ?_
          refine im_goto (pc := 72) (tgt := 35) dX6_wishes_72 (by decide) ?_
          exact Im.back [true, false, true, false] rfl rfl
        · refine im_iconst (pc := 66) (v := 1) dX6_wishes_66 (by decide) ?_
          refine im_goto (pc := 67) (tgt := 71) dX6_wishes_67 (by decide) ?_
          refine im_istore_n (pc := 71) (lv' := [some (.inr v0), none, some (.inl 1), none]) dX6_wishes_71 rfl (by decide) rfl ?_
          refine im_goto (pc := 72) (tgt := 35) dX6_wishes_72 (by decide) ?_
          exact Im.back [true, false, true, false] rfl rfl
theorem mo_wishes_L35_ok (X : CT) (v0 : Option Nat) (v2 : Int32) (h : PH) : Im X (cX6_wishes, 4, RX6, "wishes", (some .int), 4) 35 [some (.inr v0), none, some (.inl v2), none] [] h (mo_wishes_L35 v0 v2 h) szI (kI X) := by
  unfold mo_wishes_L35
  exact Im.iter (lv := (fun s : Int32 × PH => [some (.inr v0), none, some (.inl s.1), none])) (hp := (fun s : Int32 × PH => s.2)) (fun s => mo_wishes_b35_ok X v0 s.1 s.2) _ rfl rfl
noncomputable def mo_wishes_0 (v0 : Option Nat) (v1 : Int32) (h : PH) : Option (Int32 × PH) :=
  (mo_in v1 1 120 h).bind fun x51 =>
  (if x51 = 0 then
  some (((-1), h))
  else
  (gfi [5] 4 v0 h).bind fun x52 =>
  (if v1 ≤ x52 then
  (mo_beginsText v0 v1 h).bind fun h53 =>
  (pf [5] 35 v0 (.inl 0) h53).bind fun h54 =>
  bd2 (mo_readsWish v0 h54) fun x56 h55 =>
  mo_wishes_L35 v0 x56 h55
  else
  some (((-1), h))))
theorem mo_wishes_0_ok (X : CT) (v0 : Option Nat) (v1 : Int32) (h : PH) : Im X (cX6_wishes, 4, RX6, "wishes", (some .int), 4) 0 [some (.inr v0), some (.inl v1), none, none] [] h (mo_wishes_0 v0 v1 h) szI (kI X) := by
  unfold mo_wishes_0
  refine im_iload_n (pc := 0) dX6_wishes_0 rfl rfl ?_
  refine im_iconst (pc := 1) (v := 1) dX6_wishes_1 (by decide) ?_
  refine im_bipush (pc := 2) (v := 120) dX6_wishes_2 (by decide) ?_
  refine cl_X6_104 mo_in_im (pc := 4) (by decide) dX6_wishes_4 (Nat.le_of_ble_eq_true rfl) fun x51 => ?_
  refine im_if_eq (pc := 7) (tgt := 18) dX6_wishes_7 (by decide) ?_ ?_
  · refine im_iconst (pc := 18) (v := (-1)) dX6_wishes_18 (by decide) ?_
    exact im_iret (pc := 19) dX6_wishes_19
  · refine im_iload_n (pc := 10) dX6_wishes_10 rfl rfl ?_
    refine im_aload_n (pc := 11) dX6_wishes_11 rfl rfl ?_
    refine im_gi (pc := 12) fl_X6_134 dX6_wishes_12 fun x52 => ?_
    refine im_icmp_le (pc := 15) (tgt := 20) dX6_wishes_15 (by decide) ?_ ?_
    · refine im_aload_n (pc := 20) dX6_wishes_20 rfl rfl ?_
      refine im_iload_n (pc := 21) dX6_wishes_21 rfl rfl ?_
      refine cl_X6_225 mo_beginsText_im (pc := 22) (by decide) dX6_wishes_22 (Nat.le_of_ble_eq_true rfl) fun h53 => ?_
      refine im_aload_n (pc := 25) dX6_wishes_25 rfl rfl ?_
      refine im_iconst (pc := 26) (v := 0) dX6_wishes_26 (by decide) ?_
      refine im_pf (pc := 27) fp_X6_273 (okT_i _) dX6_wishes_27 fun h54 => ?_
      refine im_aload_n (pc := 30) dX6_wishes_30 rfl rfl ?_
      refine cl_X6_276 mo_readsWish_im (pc := 31) (by decide) dX6_wishes_31 (Nat.le_of_ble_eq_true rfl) fun x56 h55 => ?_
      refine im_istore_n (pc := 34) (lv' := [some (.inr v0), some (.inl v1), some (.inl x56), none]) dX6_wishes_34 rfl (by decide) rfl ?_
      exact Im.drop [true, false, true, false] rfl (mo_wishes_L35_ok X v0 x56 h55)
    · refine im_iconst (pc := 18) (v := (-1)) dX6_wishes_18 (by decide) ?_
      exact im_iret (pc := 19) dX6_wishes_19
noncomputable def mo_wishes (a0 : Option Nat) (a1 : Int32) (h : PH) : Option (Int32 × PH) := grd (isC [5] a0 h) (mo_wishes_0 a0 a1 h)
theorem mo_wishes_im : IM_X6_wishes mo_wishes 4 := by
  intro a0 a1 h r h' e
  obtain ⟨e1, e2⟩ := grd_some e
  exact ⟨e1, SpI.of (k := 2) (plainFor_of_name (by decide)) rfl (fun X => Im.drop [true, true, false, false] rfl (mo_wishes_0_ok X a0 a1 h)) e2⟩
def IM_X6_bits (f : Int32 → PH → Option (Int32)) (d : Nat) : Prop := ∀ (a0 : Int32) (h : PH) (r : Int32), f a0 h = some r → SpI yX6_bits cX6_bits 3 (some .int) d [.inl a0] h r h
noncomputable def mo_bits_b4 (v0 : Int32) (v1 : Int32) (v2 : Int32) (h : PH) : Option ((Int32 × Int32) ⊕ (Int32)) :=
  (if 16 ≤ v2 then
  some (.inr v1)
  else
  some (.inl ((v1 + ((v0 >>> (v2 &&& 31)) &&& 1)), (v2 + 1))))
noncomputable def mo_bits_L4 (v0 : Int32) (v1 : Int32) (v2 : Int32) (h : PH) : Option (Int32) :=
  iter (fun s : Int32 × Int32 => mo_bits_b4 v0 s.1 s.2 h) (v1, v2)
theorem mo_bits_b4_ok (X : CT) (v0 : Int32) (v1 : Int32) (v2 : Int32) (h : PH) : Im X (cX6_bits, 3, RX6, "bits", (some .int), 1) 4 [some (.inl v0), some (.inl v1), some (.inl v2)] [] h (mo_bits_b4 v0 v1 v2 h) (ez (fun s : Int32 × Int32 => h) (szP h)) (ek X 4 (fun s : Int32 × Int32 => [some (.inl v0), some (.inl s.1), some (.inl s.2)]) (fun s : Int32 × Int32 => h) (kP X h)) := by
  unfold mo_bits_b4
  refine im_iload_n (pc := 4) dX6_bits_4 rfl rfl ?_
  refine im_bipush (pc := 5) (v := 16) dX6_bits_5 (by decide) ?_
  refine im_icmp_ge (pc := 7) (tgt := 24) dX6_bits_7 (by decide) ?_ ?_
  · refine im_iload_n (pc := 24) dX6_bits_24 rfl rfl ?_
    exact Im.outS (im_iretP (pc := 25) dX6_bits_25)
  · refine im_iload_n (pc := 10) dX6_bits_10 rfl rfl ?_
    refine im_iload_n (pc := 11) dX6_bits_11 rfl rfl ?_
    refine im_iload_n (pc := 12) dX6_bits_12 rfl rfl ?_
    refine im_ishr (pc := 13) dX6_bits_13 ?_
    refine im_iconst (pc := 14) (v := 1) dX6_bits_14 (by decide) ?_
    refine im_iand (pc := 15) dX6_bits_15 ?_
    refine im_iadd (pc := 16) dX6_bits_16 ?_
    refine im_istore_n (pc := 17) (lv' := [some (.inl v0), some (.inl (v1 + ((v0 >>> (v2 &&& 31)) &&& 1))), some (.inl v2)]) dX6_bits_17 rfl (by decide) rfl ?_
    refine im_iinc (pc := 18) (v := (v2 + 1)) (lv' := [some (.inl v0), some (.inl (v1 + ((v0 >>> (v2 &&& 31)) &&& 1))), some (.inl (v2 + 1))]) dX6_bits_18 rfl rfl (by decide) rfl ?_
    refine im_goto (pc := 21) (tgt := 4) dX6_bits_21 (by decide) ?_
    exact Im.back [true, true, true] rfl rfl
theorem mo_bits_L4_ok (X : CT) (v0 : Int32) (v1 : Int32) (v2 : Int32) (h : PH) : Im X (cX6_bits, 3, RX6, "bits", (some .int), 1) 4 [some (.inl v0), some (.inl v1), some (.inl v2)] [] h (mo_bits_L4 v0 v1 v2 h) (szP h) (kP X h) := by
  unfold mo_bits_L4
  exact Im.iter (lv := (fun s : Int32 × Int32 => [some (.inl v0), some (.inl s.1), some (.inl s.2)])) (hp := (fun s : Int32 × Int32 => h)) (fun s => mo_bits_b4_ok X v0 s.1 s.2 h) _ rfl rfl
noncomputable def mo_bits_0 (v0 : Int32) (h : PH) : Option (Int32) :=
  mo_bits_L4 v0 0 0 h
theorem mo_bits_0_ok (X : CT) (v0 : Int32) (h : PH) : Im X (cX6_bits, 3, RX6, "bits", (some .int), 1) 0 [some (.inl v0), none, none] [] h (mo_bits_0 v0 h) (szP h) (kP X h) := by
  unfold mo_bits_0
  refine im_iconst (pc := 0) (v := 0) dX6_bits_0 (by decide) ?_
  refine im_istore_n (pc := 1) (lv' := [some (.inl v0), some (.inl 0), none]) dX6_bits_1 rfl (by decide) rfl ?_
  refine im_iconst (pc := 2) (v := 0) dX6_bits_2 (by decide) ?_
  refine im_istore_n (pc := 3) (lv' := [some (.inl v0), some (.inl 0), some (.inl 0)]) dX6_bits_3 rfl (by decide) rfl ?_
  exact Im.drop [true, true, true] rfl (mo_bits_L4_ok X v0 0 0 h)
noncomputable def mo_bits (a0 : Int32) (h : PH) : Option (Int32) := mo_bits_0 a0 h
theorem mo_bits_im : IM_X6_bits mo_bits 1 := by
  intro a0 h r e
  exact SpI.ofP (k := 2) (plainFor_of_name (by decide)) rfl (fun X => Im.drop [true, false, false] rfl (mo_bits_0_ok X a0 h)) e
theorem cl_X6_126 {X : CT} {cc : ByteArray} {nL : Nat} {mn : String} {ret : Option FieldType} {d d0 : Nat} {τ : Type} {pc : Nat} {lv : List (Option PV)} {st : List PV} {h : PH} {sz : τ → Nat × Nat} {K : τ → Prop} {f : Int32 → PH → Option (Int32)} (HR : IM_X6_bits f d0) {a0 : Int32} {g : Int32 → Option τ} (hd : d0 + 1 ≤ d) (hdg : decode cc pc = .ok (.invokestatic 126, 3)) (hst : st.length ≤ 8) (kk : ∀ r, Im X (cc, nL, RX6, mn, ret, d) (pc + 3) lv (.inl r :: st) h (g r) sz K) : Im X (cc, nL, RX6, mn, ret, d) pc lv (.inl a0 :: st) h ((f a0 h).bind g) sz K := by
  refine im_cP (y := yX6_bits) (cY := cX6_bits) (nY := 3) (rY := (some .int)) (d' := d0) (av := [.inl a0]) (fun r e hX => ?_) (fun r e => HR _ _ _ e) hd (by decide) hst rfl kk
  exact cal_S (n := 1) hX (lw_S q1498 q1499 q112 q1500) (by decide +kernel) rfl hdg

def IM_X6_shared (f : Option Nat → Int32 → Int32 → PH → Option (Int32)) (d : Nat) : Prop := ∀ (a0 : Option Nat) (a1 : Int32) (a2 : Int32) (h : PH) (r : Int32), f a0 a1 a2 h = some r → isC [5] a0 h = true ∧ SpI yX6_shared cX6_shared 3 (some .int) d [.inr a0, .inl a1, .inl a2] h r h
noncomputable def mo_shared_0 (v0 : Option Nat) (v1 : Int32) (v2 : Int32) (h : PH) : Option (Int32) :=
  (gfr [5] 0 v0 h).bind fun r51 =>
  (ald 0 r51 (16 + v1) h).bind fun x52 =>
  (gfr [5] 0 v0 h).bind fun r53 =>
  (ald 0 r53 (16 + v2) h).bind fun x54 =>
  (mo_bits (x52 &&& x54) h).bind fun x55 =>
  some (x55)
theorem mo_shared_0_ok (X : CT) (v0 : Option Nat) (v1 : Int32) (v2 : Int32) (h : PH) : Im X (cX6_shared, 3, RX6, "shared", (some .int), 2) 0 [some (.inr v0), some (.inl v1), some (.inl v2)] [] h (mo_shared_0 v0 v1 v2 h) (szP h) (kP X h) := by
  unfold mo_shared_0
  refine im_aload_n (pc := 0) dX6_shared_0 rfl rfl ?_
  refine im_gr (pc := 1) fl_X6_7 dX6_shared_1 fun r51 => ?_
  refine im_bipush (pc := 4) (v := 16) dX6_shared_4 (by decide) ?_
  refine im_iload_n (pc := 6) dX6_shared_6 rfl rfl ?_
  refine im_iadd (pc := 7) dX6_shared_7 ?_
  refine im_iald (pc := 8) dX6_shared_8 fun x52 => ?_
  refine im_aload_n (pc := 9) dX6_shared_9 rfl rfl ?_
  refine im_gr (pc := 10) fl_X6_7 dX6_shared_10 fun r53 => ?_
  refine im_bipush (pc := 13) (v := 16) dX6_shared_13 (by decide) ?_
  refine im_iload_n (pc := 15) dX6_shared_15 rfl rfl ?_
  refine im_iadd (pc := 16) dX6_shared_16 ?_
  refine im_iald (pc := 17) dX6_shared_17 fun x54 => ?_
  refine im_iand (pc := 18) dX6_shared_18 ?_
  refine cl_X6_126 mo_bits_im (pc := 19) (by decide) dX6_shared_19 (Nat.le_of_ble_eq_true rfl) fun x55 => ?_
  exact im_iretP (pc := 22) dX6_shared_22
noncomputable def mo_shared (a0 : Option Nat) (a1 : Int32) (a2 : Int32) (h : PH) : Option (Int32) := grd (isC [5] a0 h) (mo_shared_0 a0 a1 a2 h)
theorem mo_shared_im : IM_X6_shared mo_shared 2 := by
  intro a0 a1 a2 h r e
  obtain ⟨e1, e2⟩ := grd_some e
  exact ⟨e1, SpI.ofP (k := 0) (plainFor_of_name (by decide)) rfl (fun X => Im.drop [true, true, true] rfl (mo_shared_0_ok X a0 a1 a2 h)) e2⟩
def IM_X6_size (f : Int32 → PH → Option (Int32)) (d : Nat) : Prop := ∀ (a0 : Int32) (h : PH) (r : Int32), f a0 h = some r → SpI yX6_size cX6_size 1 (some .int) d [.inl a0] h r h
noncomputable def mo_size_0 (v0 : Int32) (h : PH) : Option (Int32) :=
  (if 0 ≤ v0 then
  some (v0)
  else
  some ((-v0)))
theorem mo_size_0_ok (X : CT) (v0 : Int32) (h : PH) : Im X (cX6_size, 1, RX6, "size", (some .int), 1) 0 [some (.inl v0)] [] h (mo_size_0 v0 h) (szP h) (kP X h) := by
  unfold mo_size_0
  refine im_iload_n (pc := 0) dX6_size_0 rfl rfl ?_
  refine im_if_ge (pc := 1) (tgt := 9) dX6_size_1 (by decide) ?_ ?_
  · refine im_iload_n (pc := 9) dX6_size_9 rfl rfl ?_
    exact im_iretP (pc := 10) dX6_size_10
  · refine im_iload_n (pc := 4) dX6_size_4 rfl rfl ?_
    refine im_ineg (pc := 5) dX6_size_5 ?_
    refine im_goto (pc := 6) (tgt := 10) dX6_size_6 (by decide) ?_
    exact im_iretP (pc := 10) dX6_size_10
noncomputable def mo_size (a0 : Int32) (h : PH) : Option (Int32) := mo_size_0 a0 h
theorem mo_size_im : IM_X6_size mo_size 1 := by
  intro a0 h r e
  exact SpI.ofP (k := 0) (plainFor_of_name (by decide)) rfl (fun X => Im.drop [true] rfl (mo_size_0_ok X a0 h)) e
theorem cl_X6_115 {X : CT} {cc : ByteArray} {nL : Nat} {mn : String} {ret : Option FieldType} {d d0 : Nat} {τ : Type} {pc : Nat} {lv : List (Option PV)} {st : List PV} {h : PH} {sz : τ → Nat × Nat} {K : τ → Prop} {f : Int32 → PH → Option (Int32)} (HR : IM_X6_size f d0) {a0 : Int32} {g : Int32 → Option τ} (hd : d0 + 1 ≤ d) (hdg : decode cc pc = .ok (.invokestatic 115, 3)) (hst : st.length ≤ 8) (kk : ∀ r, Im X (cc, nL, RX6, mn, ret, d) (pc + 3) lv (.inl r :: st) h (g r) sz K) : Im X (cc, nL, RX6, mn, ret, d) pc lv (.inl a0 :: st) h ((f a0 h).bind g) sz K := by
  refine im_cP (y := yX6_size) (cY := cX6_size) (nY := 1) (rY := (some .int)) (d' := d0) (av := [.inl a0]) (fun r e hX => ?_) (fun r e => HR _ _ _ e) hd (by decide) hst rfl kk
  exact cal_S (n := 1) hX (lw_S q1512 q1513 q112 q1514) (by decide +kernel) rfl hdg

def IM_X6_areNext (f : Int32 → Int32 → PH → Option (Int32)) (d : Nat) : Prop := ∀ (a0 : Int32) (a1 : Int32) (h : PH) (r : Int32), f a0 a1 h = some r → SpI yX6_areNext cX6_areNext 2 (some .boolean) d [.inl a0, .inl a1] h r h
noncomputable def mo_areNext_0 (v0 : Int32) (v1 : Int32) (h : PH) : Option (Int32) :=
  (mo_size ((irm v0 10) - (irm v1 10)) h).bind fun x51 =>
  (mo_size ((v0 / 10) - (v1 / 10)) h).bind fun x52 =>
  (if (x51 + x52) = 1 then
  some (1)
  else
  some (0))
theorem mo_areNext_0_ok (X : CT) (v0 : Int32) (v1 : Int32) (h : PH) : Im X (cX6_areNext, 2, RX6, "areNext", (some .boolean), 2) 0 [some (.inl v0), some (.inl v1)] [] h (mo_areNext_0 v0 v1 h) (szP h) (kP X h) := by
  unfold mo_areNext_0
  refine im_iload_n (pc := 0) dX6_areNext_0 rfl rfl ?_
  refine im_bipush (pc := 1) (v := 10) dX6_areNext_1 (by decide) ?_
  refine im_iremC (pc := 3) (by decide) dX6_areNext_3 ?_
  refine im_iload_n (pc := 4) dX6_areNext_4 rfl rfl ?_
  refine im_bipush (pc := 5) (v := 10) dX6_areNext_5 (by decide) ?_
  refine im_iremC (pc := 7) (by decide) dX6_areNext_7 ?_
  refine im_isub (pc := 8) dX6_areNext_8 ?_
  refine cl_X6_115 mo_size_im (pc := 9) (by decide) dX6_areNext_9 (Nat.le_of_ble_eq_true rfl) fun x51 => ?_
  refine im_iload_n (pc := 12) dX6_areNext_12 rfl rfl ?_
  refine im_bipush (pc := 13) (v := 10) dX6_areNext_13 (by decide) ?_
  refine im_idivC (pc := 15) (by decide) dX6_areNext_15 ?_
  refine im_iload_n (pc := 16) dX6_areNext_16 rfl rfl ?_
  refine im_bipush (pc := 17) (v := 10) dX6_areNext_17 (by decide) ?_
  refine im_idivC (pc := 19) (by decide) dX6_areNext_19 ?_
  refine im_isub (pc := 20) dX6_areNext_20 ?_
  refine cl_X6_115 mo_size_im (pc := 21) (by decide) dX6_areNext_21 (Nat.le_of_ble_eq_true rfl) fun x52 => ?_
  refine im_iadd (pc := 24) dX6_areNext_24 ?_
  refine im_iconst (pc := 25) (v := 1) dX6_areNext_25 (by decide) ?_
  refine im_icmp_ne (pc := 26) (tgt := 33) dX6_areNext_26 (by decide) ?_ ?_
  · refine im_iconst (pc := 33) (v := 0) dX6_areNext_33 (by decide) ?_
    exact im_zretTP (pc := 34) (nar_z (Or.inl rfl)) dX6_areNext_34
  · refine im_iconst (pc := 29) (v := 1) dX6_areNext_29 (by decide) ?_
    refine im_goto (pc := 30) (tgt := 34) dX6_areNext_30 (by decide) ?_
    exact im_zretTP (pc := 34) (nar_z (Or.inr rfl)) dX6_areNext_34
noncomputable def mo_areNext (a0 : Int32) (a1 : Int32) (h : PH) : Option (Int32) := mo_areNext_0 a0 a1 h
theorem mo_areNext_im : IM_X6_areNext mo_areNext 2 := by
  intro a0 a1 h r e
  exact SpI.ofP (k := 0) (plainFor_of_name (by decide)) rfl (fun X => Im.drop [true, true] rfl (mo_areNext_0_ok X a0 a1 h)) e
theorem cl_X6_119 {X : CT} {cc : ByteArray} {nL : Nat} {mn : String} {ret : Option FieldType} {d d0 : Nat} {τ : Type} {pc : Nat} {lv : List (Option PV)} {st : List PV} {h : PH} {sz : τ → Nat × Nat} {K : τ → Prop} {f : Int32 → Int32 → PH → Option (Int32)} (HR : IM_X6_areNext f d0) {a0 : Int32} {a1 : Int32} {g : Int32 → Option τ} (hd : d0 + 1 ≤ d) (hdg : decode cc pc = .ok (.invokestatic 119, 3)) (hst : st.length ≤ 8) (kk : ∀ r, Im X (cc, nL, RX6, mn, ret, d) (pc + 3) lv (.inl r :: st) h (g r) sz K) : Im X (cc, nL, RX6, mn, ret, d) pc lv (.inl a1 :: .inl a0 :: st) h ((f a0 a1 h).bind g) sz K := by
  refine im_cP (y := yX6_areNext) (cY := cX6_areNext) (nY := 2) (rY := (some .boolean)) (d' := d0) (av := [.inl a0, .inl a1]) (fun r e hX => ?_) (fun r e => HR _ _ _ _ e) hd (by decide) hst rfl kk
  exact cal_S (n := 2) hX (lw_S q1509 q1510 q112 q1511) (by decide +kernel) rfl hdg

def IM_X6_areBeside (f : Option Nat → Int32 → Int32 → PH → Option (Int32)) (d : Nat) : Prop := ∀ (a0 : Option Nat) (a1 : Int32) (a2 : Int32) (h : PH) (r : Int32), f a0 a1 a2 h = some r → isC [5] a0 h = true ∧ SpI yX6_areBeside cX6_areBeside 3 (some .boolean) d [.inr a0, .inl a1, .inl a2] h r h
noncomputable def mo_areBeside_0 (v0 : Option Nat) (v1 : Int32) (v2 : Int32) (h : PH) : Option (Int32) :=
  (mo_isLaid v0 v1 h).bind fun x51 =>
  (if x51 = 0 then
  some (0)
  else
  (mo_isLaid v0 v2 h).bind fun x52 =>
  (if x52 = 0 then
  some (0)
  else
  (gfr [5] 0 v0 h).bind fun r53 =>
  (ald 0 r53 (48 + v1) h).bind fun x54 =>
  (gfr [5] 0 v0 h).bind fun r55 =>
  (ald 0 r55 (48 + v2) h).bind fun x56 =>
  (mo_areNext x54 x56 h).bind fun x57 =>
  (if x57 = 0 then
  some (0)
  else
  some (1))))
theorem mo_areBeside_0_ok (X : CT) (v0 : Option Nat) (v1 : Int32) (v2 : Int32) (h : PH) : Im X (cX6_areBeside, 3, RX6, "areBeside", (some .boolean), 3) 0 [some (.inr v0), some (.inl v1), some (.inl v2)] [] h (mo_areBeside_0 v0 v1 v2 h) (szP h) (kP X h) := by
  unfold mo_areBeside_0
  refine im_aload_n (pc := 0) dX6_areBeside_0 rfl rfl ?_
  refine im_iload_n (pc := 1) dX6_areBeside_1 rfl rfl ?_
  refine cl_X6_112 mo_isLaid_im (pc := 2) (by decide) dX6_areBeside_2 (Nat.le_of_ble_eq_true rfl) fun x51 => ?_
  refine im_if_eq (pc := 5) (tgt := 44) dX6_areBeside_5 (by decide) ?_ ?_
  · refine im_iconst (pc := 44) (v := 0) dX6_areBeside_44 (by decide) ?_
    exact im_zretTP (pc := 45) (nar_z (Or.inl rfl)) dX6_areBeside_45
  · refine im_aload_n (pc := 8) dX6_areBeside_8 rfl rfl ?_
    refine im_iload_n (pc := 9) dX6_areBeside_9 rfl rfl ?_
    refine cl_X6_112 mo_isLaid_im (pc := 10) (by decide) dX6_areBeside_10 (Nat.le_of_ble_eq_true rfl) fun x52 => ?_
    refine im_if_eq (pc := 13) (tgt := 44) dX6_areBeside_13 (by decide) ?_ ?_
    · refine im_iconst (pc := 44) (v := 0) dX6_areBeside_44 (by decide) ?_
      exact im_zretTP (pc := 45) (nar_z (Or.inl rfl)) dX6_areBeside_45
    · refine im_aload_n (pc := 16) dX6_areBeside_16 rfl rfl ?_
      refine im_gr (pc := 17) fl_X6_7 dX6_areBeside_17 fun r53 => ?_
      refine im_bipush (pc := 20) (v := 48) dX6_areBeside_20 (by decide) ?_
      refine im_iload_n (pc := 22) dX6_areBeside_22 rfl rfl ?_
      refine im_iadd (pc := 23) dX6_areBeside_23 ?_
      refine im_iald (pc := 24) dX6_areBeside_24 fun x54 => ?_
      refine im_aload_n (pc := 25) dX6_areBeside_25 rfl rfl ?_
      refine im_gr (pc := 26) fl_X6_7 dX6_areBeside_26 fun r55 => ?_
      refine im_bipush (pc := 29) (v := 48) dX6_areBeside_29 (by decide) ?_
      refine im_iload_n (pc := 31) dX6_areBeside_31 rfl rfl ?_
      refine im_iadd (pc := 32) dX6_areBeside_32 ?_
      refine im_iald (pc := 33) dX6_areBeside_33 fun x56 => ?_
      refine cl_X6_119 mo_areNext_im (pc := 34) (by decide) dX6_areBeside_34 (Nat.le_of_ble_eq_true rfl) fun x57 => ?_
      refine im_if_eq (pc := 37) (tgt := 44) dX6_areBeside_37 (by decide) ?_ ?_
      · refine im_iconst (pc := 44) (v := 0) dX6_areBeside_44 (by decide) ?_
        exact im_zretTP (pc := 45) (nar_z (Or.inl rfl)) dX6_areBeside_45
      · refine im_iconst (pc := 40) (v := 1) dX6_areBeside_40 (by decide) ?_
        refine im_goto (pc := 41) (tgt := 45) dX6_areBeside_41 (by decide) ?_
        exact im_zretTP (pc := 45) (nar_z (Or.inr rfl)) dX6_areBeside_45
noncomputable def mo_areBeside (a0 : Option Nat) (a1 : Int32) (a2 : Int32) (h : PH) : Option (Int32) := grd (isC [5] a0 h) (mo_areBeside_0 a0 a1 a2 h)
theorem mo_areBeside_im : IM_X6_areBeside mo_areBeside 3 := by
  intro a0 a1 a2 h r e
  obtain ⟨e1, e2⟩ := grd_some e
  exact ⟨e1, SpI.ofP (k := 0) (plainFor_of_name (by decide)) rfl (fun X => Im.drop [true, true, true] rfl (mo_areBeside_0_ok X a0 a1 a2 h)) e2⟩
theorem cl_X6_123 {X : CT} {cc : ByteArray} {nL : Nat} {mn : String} {ret : Option FieldType} {d d0 : Nat} {τ : Type} {pc : Nat} {lv : List (Option PV)} {st : List PV} {h : PH} {sz : τ → Nat × Nat} {K : τ → Prop} {f : Option Nat → Int32 → Int32 → PH → Option (Int32)} (HR : IM_X6_areBeside f d0) {a0 : Option Nat} {a1 : Int32} {a2 : Int32} {g : Int32 → Option τ} (hd : d0 + 1 ≤ d) (hdg : decode cc pc = .ok (.invokevirtual 123, 3)) (hst : st.length ≤ 8) (kk : ∀ r, Im X (cc, nL, RX6, mn, ret, d) (pc + 3) lv (.inl r :: st) h (g r) sz K) : Im X (cc, nL, RX6, mn, ret, d) pc lv (.inl a2 :: .inl a1 :: .inr a0 :: st) h ((f a0 a1 a2 h).bind g) sz K := by
  refine im_cP (y := yX6_areBeside) (cY := cX6_areBeside) (nY := 3) (rY := (some .boolean)) (d' := d0) (av := [.inr a0, .inl a1, .inl a2]) (fun r e hX => ?_) (fun r e => (HR _ _ _ _ _ e).2) hd (by decide) hst rfl kk
  obtain ⟨a, c, fs, rfl, ec, hm⟩ := isC_some (HR _ _ _ _ _ e).1
  cases List.mem_singleton.mp hm
  exact cal_V (n := 2) hX (lw_V q1505 q1507 qs78 q112 q1508) (by decide +kernel) rfl rfl ec hdg

def IM_X6_besideSet (f : Option Nat → Int32 → PH → Option (Int32)) (d : Nat) : Prop := ∀ (a0 : Option Nat) (a1 : Int32) (h : PH) (r : Int32), f a0 a1 h = some r → isC [5] a0 h = true ∧ SpI yX6_besideSet cX6_besideSet 4 (some .int) d [.inr a0, .inl a1] h r h
noncomputable def mo_besideSet_b4 (v0 : Option Nat) (v1 : Int32) (v2 : Int32) (v3 : Int32) (h : PH) : Option ((Int32 × Int32) ⊕ (Int32)) :=
  (if 16 ≤ v3 then
  some (.inr v2)
  else
  (mo_areBeside v0 v1 v3 h).bind fun x51 =>
  (if x51 = 0 then
  some (.inl (v2, (v3 + 1)))
  else
  some (.inl ((v2 ||| ((1 : Int32) <<< (v3 &&& 31))), (v3 + 1)))))
noncomputable def mo_besideSet_L4 (v0 : Option Nat) (v1 : Int32) (v2 : Int32) (v3 : Int32) (h : PH) : Option (Int32) :=
  iter (fun s : Int32 × Int32 => mo_besideSet_b4 v0 v1 s.1 s.2 h) (v2, v3)
theorem mo_besideSet_b4_ok (X : CT) (v0 : Option Nat) (v1 : Int32) (v2 : Int32) (v3 : Int32) (h : PH) : Im X (cX6_besideSet, 4, RX6, "besideSet", (some .int), 4) 4 [some (.inr v0), some (.inl v1), some (.inl v2), some (.inl v3)] [] h (mo_besideSet_b4 v0 v1 v2 v3 h) (ez (fun s : Int32 × Int32 => h) (szP h)) (ek X 4 (fun s : Int32 × Int32 => [some (.inr v0), some (.inl v1), some (.inl s.1), some (.inl s.2)]) (fun s : Int32 × Int32 => h) (kP X h)) := by
  unfold mo_besideSet_b4
  refine im_iload_n (pc := 4) dX6_besideSet_4 rfl rfl ?_
  refine im_bipush (pc := 5) (v := 16) dX6_besideSet_5 (by decide) ?_
  refine im_icmp_ge (pc := 7) (tgt := 31) dX6_besideSet_7 (by decide) ?_ ?_
  · refine im_iload_n (pc := 31) dX6_besideSet_31 rfl rfl ?_
    exact Im.outS (im_iretP (pc := 32) dX6_besideSet_32)
  · refine im_aload_n (pc := 10) dX6_besideSet_10 rfl rfl ?_
    refine im_iload_n (pc := 11) dX6_besideSet_11 rfl rfl ?_
    refine im_iload_n (pc := 12) dX6_besideSet_12 rfl rfl ?_
    refine cl_X6_123 mo_areBeside_im (pc := 13) (by decide) dX6_besideSet_13 (Nat.le_of_ble_eq_true rfl) fun x51 => ?_
    refine im_if_eq (pc := 16) (tgt := 25) dX6_besideSet_16 (by decide) ?_ ?_
    · refine im_iinc (pc := 25) (v := (v3 + 1)) (lv' := [some (.inr v0), some (.inl v1), some (.inl v2), some (.inl (v3 + 1))]) dX6_besideSet_25 rfl rfl (by decide) rfl ?_
      refine im_goto (pc := 28) (tgt := 4) dX6_besideSet_28 (by decide) ?_
      exact Im.back [true, true, true, true] rfl rfl
    · refine im_iload_n (pc := 19) dX6_besideSet_19 rfl rfl ?_
      refine im_iconst (pc := 20) (v := 1) dX6_besideSet_20 (by decide) ?_
      refine im_iload_n (pc := 21) dX6_besideSet_21 rfl rfl ?_
      refine im_ishl (pc := 22) dX6_besideSet_22 ?_
      refine im_ior (pc := 23) dX6_besideSet_23 ?_
      refine im_istore_n (pc := 24) (lv' := [some (.inr v0), some (.inl v1), some (.inl (v2 ||| ((1 : Int32) <<< (v3 &&& 31)))), some (.inl v3)]) dX6_besideSet_24 rfl (by decide) rfl ?_
      refine im_iinc (pc := 25) (v := (v3 + 1)) (lv' := [some (.inr v0), some (.inl v1), some (.inl (v2 ||| ((1 : Int32) <<< (v3 &&& 31)))), some (.inl (v3 + 1))]) dX6_besideSet_25 rfl rfl (by decide) rfl ?_
      refine im_goto (pc := 28) (tgt := 4) dX6_besideSet_28 (by decide) ?_
      exact Im.back [true, true, true, true] rfl rfl
theorem mo_besideSet_L4_ok (X : CT) (v0 : Option Nat) (v1 : Int32) (v2 : Int32) (v3 : Int32) (h : PH) : Im X (cX6_besideSet, 4, RX6, "besideSet", (some .int), 4) 4 [some (.inr v0), some (.inl v1), some (.inl v2), some (.inl v3)] [] h (mo_besideSet_L4 v0 v1 v2 v3 h) (szP h) (kP X h) := by
  unfold mo_besideSet_L4
  exact Im.iter (lv := (fun s : Int32 × Int32 => [some (.inr v0), some (.inl v1), some (.inl s.1), some (.inl s.2)])) (hp := (fun s : Int32 × Int32 => h)) (fun s => mo_besideSet_b4_ok X v0 v1 s.1 s.2 h) _ rfl rfl
noncomputable def mo_besideSet_0 (v0 : Option Nat) (v1 : Int32) (h : PH) : Option (Int32) :=
  mo_besideSet_L4 v0 v1 0 0 h
theorem mo_besideSet_0_ok (X : CT) (v0 : Option Nat) (v1 : Int32) (h : PH) : Im X (cX6_besideSet, 4, RX6, "besideSet", (some .int), 4) 0 [some (.inr v0), some (.inl v1), none, none] [] h (mo_besideSet_0 v0 v1 h) (szP h) (kP X h) := by
  unfold mo_besideSet_0
  refine im_iconst (pc := 0) (v := 0) dX6_besideSet_0 (by decide) ?_
  refine im_istore_n (pc := 1) (lv' := [some (.inr v0), some (.inl v1), some (.inl 0), none]) dX6_besideSet_1 rfl (by decide) rfl ?_
  refine im_iconst (pc := 2) (v := 0) dX6_besideSet_2 (by decide) ?_
  refine im_istore_n (pc := 3) (lv' := [some (.inr v0), some (.inl v1), some (.inl 0), some (.inl 0)]) dX6_besideSet_3 rfl (by decide) rfl ?_
  exact Im.drop [true, true, true, true] rfl (mo_besideSet_L4_ok X v0 v1 0 0 h)
noncomputable def mo_besideSet (a0 : Option Nat) (a1 : Int32) (h : PH) : Option (Int32) := grd (isC [5] a0 h) (mo_besideSet_0 a0 a1 h)
theorem mo_besideSet_im : IM_X6_besideSet mo_besideSet 4 := by
  intro a0 a1 h r e
  obtain ⟨e1, e2⟩ := grd_some e
  exact ⟨e1, SpI.ofP (k := 2) (plainFor_of_name (by decide)) rfl (fun X => Im.drop [true, true, false, false] rfl (mo_besideSet_0_ok X a0 a1 h)) e2⟩
theorem fl_X6_59 : ∀ c ∈ [5], FL RX6 59 c 26 := List.forall_mem_cons.mpr ⟨⟨RX6, TX6, 50, rfl, in_X6, by decide, Or.inl q1203⟩, fun _ h => absurd h List.not_mem_nil⟩
theorem cl_X6_129 {X : CT} {cc : ByteArray} {nL : Nat} {mn : String} {ret : Option FieldType} {d d0 : Nat} {τ : Type} {pc : Nat} {lv : List (Option PV)} {st : List PV} {h : PH} {sz : τ → Nat × Nat} {K : τ → Prop} {f : Option Nat → Int32 → Int32 → PH → Option (Int32)} (HR : IM_X6_shared f d0) {a0 : Option Nat} {a1 : Int32} {a2 : Int32} {g : Int32 → Option τ} (hd : d0 + 1 ≤ d) (hdg : decode cc pc = .ok (.invokevirtual 129, 3)) (hst : st.length ≤ 8) (kk : ∀ r, Im X (cc, nL, RX6, mn, ret, d) (pc + 3) lv (.inl r :: st) h (g r) sz K) : Im X (cc, nL, RX6, mn, ret, d) pc lv (.inl a2 :: .inl a1 :: .inr a0 :: st) h ((f a0 a1 a2 h).bind g) sz K := by
  refine im_cP (y := yX6_shared) (cY := cX6_shared) (nY := 3) (rY := (some .int)) (d' := d0) (av := [.inr a0, .inl a1, .inl a2]) (fun r e hX => ?_) (fun r e => (HR _ _ _ _ _ e).2) hd (by decide) hst rfl kk
  obtain ⟨a, c, fs, rfl, ec, hm⟩ := isC_some (HR _ _ _ _ _ e).1
  cases List.mem_singleton.mp hm
  exact cal_V (n := 2) hX (lw_V q1494 q1496 qs76 q112 q1497) (by decide +kernel) rfl rfl ec hdg

theorem cl_X6_244 {X : CT} {cc : ByteArray} {nL : Nat} {mn : String} {ret : Option FieldType} {d d0 : Nat} {τ : Type} {pc : Nat} {lv : List (Option PV)} {st : List PV} {h : PH} {sz : τ → Nat × Nat} {K : τ → Prop} {f : Option Nat → Int32 → PH → Option (Int32)} (HR : IM_X6_besideSet f d0) {a0 : Option Nat} {a1 : Int32} {g : Int32 → Option τ} (hd : d0 + 1 ≤ d) (hdg : decode cc pc = .ok (.invokevirtual 244, 3)) (hst : st.length ≤ 8) (kk : ∀ r, Im X (cc, nL, RX6, mn, ret, d) (pc + 3) lv (.inl r :: st) h (g r) sz K) : Im X (cc, nL, RX6, mn, ret, d) pc lv (.inl a1 :: .inr a0 :: st) h ((f a0 a1 h).bind g) sz K := by
  refine im_cP (y := yX6_besideSet) (cY := cX6_besideSet) (nY := 4) (rY := (some .int)) (d' := d0) (av := [.inr a0, .inl a1]) (fun r e hX => ?_) (fun r e => (HR _ _ _ _ e).2) hd (by decide) hst rfl kk
  obtain ⟨a, c, fs, rfl, ec, hm⟩ := isC_some (HR _ _ _ _ e).1
  cases List.mem_singleton.mp hm
  exact cal_V (n := 1) hX (lw_V q1501 q1503 qs77 q112 q1504) (by decide +kernel) rfl rfl ec hdg

def IM_X6_feels (f : Option Nat → Int32 → Int32 → PH → Option (PH)) (d : Nat) : Prop := ∀ (a0 : Option Nat) (a1 : Int32) (a2 : Int32) (h : PH) (h' : PH), f a0 a1 a2 h = some h' → isC [5] a0 h = true ∧ SpV yX6_feels cX6_feels 4 none d [.inr a0, .inl a1, .inl a2] h h'
noncomputable def mo_feels_128 (v0 : Option Nat) (v1 : Int32) (s0 : Int32) (s1 : Int32) (s2 : Option Nat) (h : PH) : Option (PH) :=
  (ast 0 s2 s1 s0 h).bind fun h51 =>
  (gfr [5] 26 v0 h51).bind fun r52 =>
  (mo_besideSet v0 v1 h51).bind fun x53 =>
  (mo_bits x53 h51).bind fun x54 =>
  (ast 0 r52 6 x54 h51).bind fun h55 =>
  (gfr [5] 26 v0 h55).bind fun r56 =>
  (gfr [5] 0 v0 h55).bind fun r57 =>
  (ald 0 r57 64 h55).bind fun x58 =>
  (ast 0 r56 7 (irm x58 100) h55).bind fun h59 =>
  some (h59)
theorem mo_feels_128_ok (X : CT) (v0 : Option Nat) (v1 : Int32) (s0 : Int32) (s1 : Int32) (s2 : Option Nat) (h : PH) : Im X (cX6_feels, 4, RX6, "feels", none, 5) 128 [some (.inr v0), some (.inl v1), none, none] [.inl s0, .inl s1, .inr s2] h (mo_feels_128 v0 v1 s0 s1 s2 h) szV (kV X) := by
  unfold mo_feels_128
  refine im_iast (pc := 128) dX6_feels_128 fun h51 => ?_
  refine im_aload_n (pc := 129) dX6_feels_129 rfl rfl ?_
  refine im_gr (pc := 130) fl_X6_59 dX6_feels_130 fun r52 => ?_
  refine im_bipush (pc := 133) (v := 6) dX6_feels_133 (by decide) ?_
  refine im_aload_n (pc := 135) dX6_feels_135 rfl rfl ?_
  refine im_iload_n (pc := 136) dX6_feels_136 rfl rfl ?_
  refine cl_X6_244 mo_besideSet_im (pc := 137) (by decide) dX6_feels_137 (Nat.le_of_ble_eq_true rfl) fun x53 => ?_
  refine cl_X6_126 mo_bits_im (pc := 140) (by decide) dX6_feels_140 (Nat.le_of_ble_eq_true rfl) fun x54 => ?_
  refine im_iast (pc := 143) dX6_feels_143 fun h55 => ?_
  refine im_aload_n (pc := 144) dX6_feels_144 rfl rfl ?_
  refine im_gr (pc := 145) fl_X6_59 dX6_feels_145 fun r56 => ?_
  refine im_bipush (pc := 148) (v := 7) dX6_feels_148 (by decide) ?_
  refine im_aload_n (pc := 150) dX6_feels_150 rfl rfl ?_
  refine im_gr (pc := 151) fl_X6_7 dX6_feels_151 fun r57 => ?_
  refine im_bipush (pc := 154) (v := 64) dX6_feels_154 (by decide) ?_
  refine im_iald (pc := 156) dX6_feels_156 fun x58 => ?_
  refine im_bipush (pc := 157) (v := 100) dX6_feels_157 (by decide) ?_
  refine im_iremC (pc := 159) (by decide) dX6_feels_159 ?_
  refine im_iast (pc := 160) dX6_feels_160 fun h59 => ?_
  exact im_vret (pc := 161) dX6_feels_161
noncomputable def mo_feels_90 (v0 : Option Nat) (v1 : Int32) (v2 : Int32) (v3 : Int32) (s0 : Int32) (s1 : Int32) (s2 : Option Nat) (h : PH) : Option (PH) :=
  (ast 0 s2 s1 s0 h).bind fun h51 =>
  (gfr [5] 26 v0 h51).bind fun r52 =>
  (gfr [5] 0 v0 h51).bind fun r53 =>
  (ald 0 r53 (32 + v1) h51).bind fun x54 =>
  (ast 0 r52 4 x54 h51).bind fun h55 =>
  (gfr [5] 26 v0 h55).bind fun r56 =>
  (if v3 = 0 then
  mo_feels_128 v0 v1 0 5 r56 h55
  else
  (gfr [5] 0 v0 h55).bind fun r57 =>
  (ald 0 r57 (32 + v2) h55).bind fun x58 =>
  mo_feels_128 v0 v1 x58 5 r56 h55)
theorem mo_feels_90_ok (X : CT) (v0 : Option Nat) (v1 : Int32) (v2 : Int32) (v3 : Int32) (s0 : Int32) (s1 : Int32) (s2 : Option Nat) (h : PH) : Im X (cX6_feels, 4, RX6, "feels", none, 5) 90 [some (.inr v0), some (.inl v1), some (.inl v2), some (.inl v3)] [.inl s0, .inl s1, .inr s2] h (mo_feels_90 v0 v1 v2 v3 s0 s1 s2 h) szV (kV X) := by
  unfold mo_feels_90
  refine im_iast (pc := 90) dX6_feels_90 fun h51 => ?_
  refine im_aload_n (pc := 91) dX6_feels_91 rfl rfl ?_
  refine im_gr (pc := 92) fl_X6_59 dX6_feels_92 fun r52 => ?_
  refine im_iconst (pc := 95) (v := 4) dX6_feels_95 (by decide) ?_
  refine im_aload_n (pc := 96) dX6_feels_96 rfl rfl ?_
  refine im_gr (pc := 97) fl_X6_7 dX6_feels_97 fun r53 => ?_
  refine im_bipush (pc := 100) (v := 32) dX6_feels_100 (by decide) ?_
  refine im_iload_n (pc := 102) dX6_feels_102 rfl rfl ?_
  refine im_iadd (pc := 103) dX6_feels_103 ?_
  refine im_iald (pc := 104) dX6_feels_104 fun x54 => ?_
  refine im_iast (pc := 105) dX6_feels_105 fun h55 => ?_
  refine im_aload_n (pc := 106) dX6_feels_106 rfl rfl ?_
  refine im_gr (pc := 107) fl_X6_59 dX6_feels_107 fun r56 => ?_
  refine im_iconst (pc := 110) (v := 5) dX6_feels_110 (by decide) ?_
  refine im_iload_n (pc := 111) dX6_feels_111 rfl rfl ?_
  refine im_if_eq (pc := 112) (tgt := 127) dX6_feels_112 (by decide) ?_ ?_
  · refine im_iconst (pc := 127) (v := 0) dX6_feels_127 (by decide) ?_
    exact Im.drop [true, true, false, false] rfl (mo_feels_128_ok X v0 v1 0 5 r56 h55)
  · refine im_aload_n (pc := 115) dX6_feels_115 rfl rfl ?_
    refine im_gr (pc := 116) fl_X6_7 dX6_feels_116 fun r57 => ?_
    refine im_bipush (pc := 119) (v := 32) dX6_feels_119 (by decide) ?_
    refine im_iload_n (pc := 121) dX6_feels_121 rfl rfl ?_
    refine im_iadd (pc := 122) dX6_feels_122 ?_
    refine im_iald (pc := 123) dX6_feels_123 fun x58 => ?_
    refine im_goto (pc := 124) (tgt := 128) dX6_feels_124 (by decide) ?_
    exact Im.drop [true, true, false, false] rfl (mo_feels_128_ok X v0 v1 x58 5 r56 h55)
noncomputable def mo_feels_52 (v0 : Option Nat) (v1 : Int32) (v2 : Int32) (v3 : Int32) (s0 : Int32) (s1 : Int32) (s2 : Option Nat) (h : PH) : Option (PH) :=
  (ast 0 s2 s1 s0 h).bind fun h51 =>
  (gfr [5] 26 v0 h51).bind fun r52 =>
  (if v3 = 0 then
  mo_feels_90 v0 v1 v2 v3 0 3 r52 h51
  else
  (gfr [5] 0 v0 h51).bind fun r53 =>
  (ald 0 r53 (16 + v2) h51).bind fun x54 =>
  (gfr [5] 0 v0 h51).bind fun r55 =>
  (ald 0 r55 (16 + v1) h51).bind fun x56 =>
  (mo_bits (x54 &&& (x56 ^^^ (-1))) h51).bind fun x57 =>
  mo_feels_90 v0 v1 v2 v3 x57 3 r52 h51)
theorem mo_feels_52_ok (X : CT) (v0 : Option Nat) (v1 : Int32) (v2 : Int32) (v3 : Int32) (s0 : Int32) (s1 : Int32) (s2 : Option Nat) (h : PH) : Im X (cX6_feels, 4, RX6, "feels", none, 5) 52 [some (.inr v0), some (.inl v1), some (.inl v2), some (.inl v3)] [.inl s0, .inl s1, .inr s2] h (mo_feels_52 v0 v1 v2 v3 s0 s1 s2 h) szV (kV X) := by
  unfold mo_feels_52
  refine im_iast (pc := 52) dX6_feels_52 fun h51 => ?_
  refine im_aload_n (pc := 53) dX6_feels_53 rfl rfl ?_
  refine im_gr (pc := 54) fl_X6_59 dX6_feels_54 fun r52 => ?_
  refine im_iconst (pc := 57) (v := 3) dX6_feels_57 (by decide) ?_
  refine im_iload_n (pc := 58) dX6_feels_58 rfl rfl ?_
  refine im_if_eq (pc := 59) (tgt := 89) dX6_feels_59 (by decide) ?_ ?_
  · refine im_iconst (pc := 89) (v := 0) dX6_feels_89 (by decide) ?_
    exact Im.drop [true, true, true, true] rfl (mo_feels_90_ok X v0 v1 v2 v3 0 3 r52 h51)
  · refine im_aload_n (pc := 62) dX6_feels_62 rfl rfl ?_
    refine im_gr (pc := 63) fl_X6_7 dX6_feels_63 fun r53 => ?_
    refine im_bipush (pc := 66) (v := 16) dX6_feels_66 (by decide) ?_
    refine im_iload_n (pc := 68) dX6_feels_68 rfl rfl ?_
    refine im_iadd (pc := 69) dX6_feels_69 ?_
    refine im_iald (pc := 70) dX6_feels_70 fun x54 => ?_
    refine im_aload_n (pc := 71) dX6_feels_71 rfl rfl ?_
    refine im_gr (pc := 72) fl_X6_7 dX6_feels_72 fun r55 => ?_
    refine im_bipush (pc := 75) (v := 16) dX6_feels_75 (by decide) ?_
    refine im_iload_n (pc := 77) dX6_feels_77 rfl rfl ?_
    refine im_iadd (pc := 78) dX6_feels_78 ?_
    refine im_iald (pc := 79) dX6_feels_79 fun x56 => ?_
    refine im_iconst (pc := 80) (v := (-1)) dX6_feels_80 (by decide) ?_
    refine im_ixor (pc := 81) dX6_feels_81 ?_
    refine im_iand (pc := 82) dX6_feels_82 ?_
    refine cl_X6_126 mo_bits_im (pc := 83) (by decide) dX6_feels_83 (Nat.le_of_ble_eq_true rfl) fun x57 => ?_
    refine im_goto (pc := 86) (tgt := 90) dX6_feels_86 (by decide) ?_
    exact Im.drop [true, true, true, true] rfl (mo_feels_90_ok X v0 v1 v2 v3 x57 3 r52 h51)
noncomputable def mo_feels_32 (v0 : Option Nat) (v1 : Int32) (v2 : Int32) (v3 : Int32) (s0 : Int32) (s1 : Int32) (s2 : Option Nat) (h : PH) : Option (PH) :=
  (ast 0 s2 s1 s0 h).bind fun h51 =>
  (gfr [5] 26 v0 h51).bind fun r52 =>
  (if v3 = 0 then
  mo_feels_52 v0 v1 v2 v3 0 2 r52 h51
  else
  (mo_shared v0 v1 v2 h51).bind fun x53 =>
  mo_feels_52 v0 v1 v2 v3 x53 2 r52 h51)
theorem mo_feels_32_ok (X : CT) (v0 : Option Nat) (v1 : Int32) (v2 : Int32) (v3 : Int32) (s0 : Int32) (s1 : Int32) (s2 : Option Nat) (h : PH) : Im X (cX6_feels, 4, RX6, "feels", none, 5) 32 [some (.inr v0), some (.inl v1), some (.inl v2), some (.inl v3)] [.inl s0, .inl s1, .inr s2] h (mo_feels_32 v0 v1 v2 v3 s0 s1 s2 h) szV (kV X) := by
  unfold mo_feels_32
  refine im_iast (pc := 32) dX6_feels_32 fun h51 => ?_
  refine im_aload_n (pc := 33) dX6_feels_33 rfl rfl ?_
  refine im_gr (pc := 34) fl_X6_59 dX6_feels_34 fun r52 => ?_
  refine im_iconst (pc := 37) (v := 2) dX6_feels_37 (by decide) ?_
  refine im_iload_n (pc := 38) dX6_feels_38 rfl rfl ?_
  refine im_if_eq (pc := 39) (tgt := 51) dX6_feels_39 (by decide) ?_ ?_
  · refine im_iconst (pc := 51) (v := 0) dX6_feels_51 (by decide) ?_
    exact Im.drop [true, true, true, true] rfl (mo_feels_52_ok X v0 v1 v2 v3 0 2 r52 h51)
  · refine im_aload_n (pc := 42) dX6_feels_42 rfl rfl ?_
    refine im_iload_n (pc := 43) dX6_feels_43 rfl rfl ?_
    refine im_iload_n (pc := 44) dX6_feels_44 rfl rfl ?_
    refine cl_X6_129 mo_shared_im (pc := 45) (by decide) dX6_feels_45 (Nat.le_of_ble_eq_true rfl) fun x53 => ?_
    refine im_goto (pc := 48) (tgt := 52) dX6_feels_48 (by decide) ?_
    exact Im.drop [true, true, true, true] rfl (mo_feels_52_ok X v0 v1 v2 v3 x53 2 r52 h51)
noncomputable def mo_feels_10 (v0 : Option Nat) (v1 : Int32) (v2 : Int32) (s0 : Int32) (h : PH) : Option (PH) :=
  (gfr [5] 26 v0 h).bind fun r51 =>
  (ast 0 r51 0 v1 h).bind fun h52 =>
  (gfr [5] 26 v0 h52).bind fun r53 =>
  (if s0 = 0 then
  mo_feels_32 v0 v1 v2 s0 0 1 r53 h52
  else
  mo_feels_32 v0 v1 v2 s0 v2 1 r53 h52)
theorem mo_feels_10_ok (X : CT) (v0 : Option Nat) (v1 : Int32) (v2 : Int32) (s0 : Int32) (h : PH) : Im X (cX6_feels, 4, RX6, "feels", none, 5) 10 [some (.inr v0), some (.inl v1), some (.inl v2), none] [.inl s0] h (mo_feels_10 v0 v1 v2 s0 h) szV (kV X) := by
  unfold mo_feels_10
  refine im_istore_n (pc := 10) (lv' := [some (.inr v0), some (.inl v1), some (.inl v2), some (.inl s0)]) dX6_feels_10 rfl (by decide) rfl ?_
  refine im_aload_n (pc := 11) dX6_feels_11 rfl rfl ?_
  refine im_gr (pc := 12) fl_X6_59 dX6_feels_12 fun r51 => ?_
  refine im_iconst (pc := 15) (v := 0) dX6_feels_15 (by decide) ?_
  refine im_iload_n (pc := 16) dX6_feels_16 rfl rfl ?_
  refine im_iast (pc := 17) dX6_feels_17 fun h52 => ?_
  refine im_aload_n (pc := 18) dX6_feels_18 rfl rfl ?_
  refine im_gr (pc := 19) fl_X6_59 dX6_feels_19 fun r53 => ?_
  refine im_iconst (pc := 22) (v := 1) dX6_feels_22 (by decide) ?_
  refine im_iload_n (pc := 23) dX6_feels_23 rfl rfl ?_
  refine im_if_eq (pc := 24) (tgt := 31) dX6_feels_24 (by decide) ?_ ?_
  · refine im_iconst (pc := 31) (v := 0) dX6_feels_31 (by decide) ?_
    exact Im.drop [true, true, true, true] rfl (mo_feels_32_ok X v0 v1 v2 s0 0 1 r53 h52)
  · refine im_iload_n (pc := 27) dX6_feels_27 rfl rfl ?_
    refine im_goto (pc := 28) (tgt := 32) dX6_feels_28 (by decide) ?_
    exact Im.drop [true, true, true, true] rfl (mo_feels_32_ok X v0 v1 v2 s0 v2 1 r53 h52)
noncomputable def mo_feels_0 (v0 : Option Nat) (v1 : Int32) (v2 : Int32) (h : PH) : Option (PH) :=
  (if v2 = (-1) then
  mo_feels_10 v0 v1 v2 0 h
  else
  mo_feels_10 v0 v1 v2 1 h)
theorem mo_feels_0_ok (X : CT) (v0 : Option Nat) (v1 : Int32) (v2 : Int32) (h : PH) : Im X (cX6_feels, 4, RX6, "feels", none, 5) 0 [some (.inr v0), some (.inl v1), some (.inl v2), none] [] h (mo_feels_0 v0 v1 v2 h) szV (kV X) := by
  unfold mo_feels_0
  refine im_iload_n (pc := 0) dX6_feels_0 rfl rfl ?_
  refine im_iconst (pc := 1) (v := (-1)) dX6_feels_1 (by decide) ?_
  refine im_icmp_eq (pc := 2) (tgt := 9) dX6_feels_2 (by decide) ?_ ?_
  · refine im_iconst (pc := 9) (v := 0) dX6_feels_9 (by decide) ?_
    exact Im.drop [true, true, true, false] rfl (mo_feels_10_ok X v0 v1 v2 0 h)
  · refine im_iconst (pc := 5) (v := 1) dX6_feels_5 (by decide) ?_
    refine im_goto (pc := 6) (tgt := 10) dX6_feels_6 (by decide) ?_
    exact Im.drop [true, true, true, false] rfl (mo_feels_10_ok X v0 v1 v2 1 h)
noncomputable def mo_feels (a0 : Option Nat) (a1 : Int32) (a2 : Int32) (h : PH) : Option (PH) := grd (isC [5] a0 h) (mo_feels_0 a0 a1 a2 h)
theorem mo_feels_im : IM_X6_feels mo_feels 5 := by
  intro a0 a1 a2 h h' e
  obtain ⟨e1, e2⟩ := grd_some e
  exact ⟨e1, SpV.of (k := 1) (plainFor_of_name (by decide)) rfl (fun X => Im.drop [true, true, true, false] rfl (mo_feels_0_ok X a0 a1 a2 h)) e2⟩
def IM_X6_reckon (f : Int32 → Int32 → Int32 → PH → Option (Int32)) (d : Nat) : Prop := ∀ (a0 : Int32) (a1 : Int32) (a2 : Int32) (h : PH) (r : Int32), f a0 a1 a2 h = some r → SpI yX6_reckon cX6_reckon 3 (some .int) d [.inl a0, .inl a1, .inl a2] h r h
noncomputable def mo_reckon_0 (v0 : Int32) (v1 : Int32) (v2 : Int32) (h : PH) : Option (Int32) :=
  (if v0 = 2 then
  some ((v1 + v2))
  else
  (if v0 = 3 then
  some ((v1 - v2))
  else
  (if v0 = 4 then
  some ((v1 * v2))
  else
  (if v0 = 5 then
  if v2 = 0 then none else
  some ((v1 / v2))
  else
  (if v0 = 6 then
  if v2 = 0 then none else
  some ((irm v1 v2))
  else
  (if v0 = 7 then
  (if v2 ≤ v1 then
  some (0)
  else
  some (1))
  else
  (if v0 = 8 then
  (if v1 ≤ v2 then
  some (0)
  else
  some (1))
  else
  (if v1 = v2 then
  some (1)
  else
  some (0)))))))))
theorem mo_reckon_0_ok (X : CT) (v0 : Int32) (v1 : Int32) (v2 : Int32) (h : PH) : Im X (cX6_reckon, 3, RX6, "reckon", (some .int), 1) 0 [some (.inl v0), some (.inl v1), some (.inl v2)] [] h (mo_reckon_0 v0 v1 v2 h) (szP h) (kP X h) := by
  unfold mo_reckon_0
  refine im_iload_n (pc := 0) dX6_reckon_0 rfl rfl ?_
  refine im_tsw (pc := 1) (dt := 86) [(2, 44), (3, 48), (4, 52), (5, 56), (6, 60), (7, 64), (8, 75)] dX6_reckon_1 (by decide) ⟨_, _, rfl, ?_, ⟨_, _, rfl, ?_, ⟨_, _, rfl, ?_, ⟨_, _, rfl, ?_, ⟨_, _, rfl, ?_, ⟨_, _, rfl, ?_, ⟨_, _, rfl, ?_, ?_⟩⟩⟩⟩⟩⟩⟩
  · refine im_iload_n (pc := 44) dX6_reckon_44 rfl rfl ?_
    refine im_iload_n (pc := 45) dX6_reckon_45 rfl rfl ?_
    refine im_iadd (pc := 46) dX6_reckon_46 ?_
    exact im_iretP (pc := 47) dX6_reckon_47
  · refine im_iload_n (pc := 48) dX6_reckon_48 rfl rfl ?_
    refine im_iload_n (pc := 49) dX6_reckon_49 rfl rfl ?_
    refine im_isub (pc := 50) dX6_reckon_50 ?_
    exact im_iretP (pc := 51) dX6_reckon_51
  · refine im_iload_n (pc := 52) dX6_reckon_52 rfl rfl ?_
    refine im_iload_n (pc := 53) dX6_reckon_53 rfl rfl ?_
    refine im_imul (pc := 54) dX6_reckon_54 ?_
    exact im_iretP (pc := 55) dX6_reckon_55
  · refine im_iload_n (pc := 56) dX6_reckon_56 rfl rfl ?_
    refine im_iload_n (pc := 57) dX6_reckon_57 rfl rfl ?_
    refine im_idiv (pc := 58) dX6_reckon_58 ?_
    exact im_iretP (pc := 59) dX6_reckon_59
  · refine im_iload_n (pc := 60) dX6_reckon_60 rfl rfl ?_
    refine im_iload_n (pc := 61) dX6_reckon_61 rfl rfl ?_
    refine im_irem (pc := 62) dX6_reckon_62 ?_
    exact im_iretP (pc := 63) dX6_reckon_63
  · refine im_iload_n (pc := 64) dX6_reckon_64 rfl rfl ?_
    refine im_iload_n (pc := 65) dX6_reckon_65 rfl rfl ?_
    refine im_icmp_ge (pc := 66) (tgt := 73) dX6_reckon_66 (by decide) ?_ ?_
    · refine im_iconst (pc := 73) (v := 0) dX6_reckon_73 (by decide) ?_
      exact im_iretP (pc := 74) dX6_reckon_74
    · refine im_iconst (pc := 69) (v := 1) dX6_reckon_69 (by decide) ?_
      refine im_goto (pc := 70) (tgt := 74) dX6_reckon_70 (by decide) ?_
      exact im_iretP (pc := 74) dX6_reckon_74
  · refine im_iload_n (pc := 75) dX6_reckon_75 rfl rfl ?_
    refine im_iload_n (pc := 76) dX6_reckon_76 rfl rfl ?_
    refine im_icmp_le (pc := 77) (tgt := 84) dX6_reckon_77 (by decide) ?_ ?_
    · refine im_iconst (pc := 84) (v := 0) dX6_reckon_84 (by decide) ?_
      exact im_iretP (pc := 85) dX6_reckon_85
    · refine im_iconst (pc := 80) (v := 1) dX6_reckon_80 (by decide) ?_
      refine im_goto (pc := 81) (tgt := 85) dX6_reckon_81 (by decide) ?_
      exact im_iretP (pc := 85) dX6_reckon_85
  · refine im_iload_n (pc := 86) dX6_reckon_86 rfl rfl ?_
    refine im_iload_n (pc := 87) dX6_reckon_87 rfl rfl ?_
    refine im_icmp_ne (pc := 88) (tgt := 95) dX6_reckon_88 (by decide) ?_ ?_
    · refine im_iconst (pc := 95) (v := 0) dX6_reckon_95 (by decide) ?_
      exact im_iretP (pc := 96) dX6_reckon_96
    · refine im_iconst (pc := 91) (v := 1) dX6_reckon_91 (by decide) ?_
      refine im_goto (pc := 92) (tgt := 96) dX6_reckon_92 (by decide) ?_
      exact im_iretP (pc := 96) dX6_reckon_96
noncomputable def mo_reckon (a0 : Int32) (a1 : Int32) (a2 : Int32) (h : PH) : Option (Int32) := mo_reckon_0 a0 a1 a2 h
theorem mo_reckon_im : IM_X6_reckon mo_reckon 1 := by
  intro a0 a1 a2 h r e
  exact SpI.ofP (k := 0) (plainFor_of_name (by decide)) rfl (fun X => Im.drop [true, true, true] rfl (mo_reckon_0_ok X a0 a1 a2 h)) e
theorem fl_X6_56 : ∀ c ∈ [5], FL RX6 56 c 25 := List.forall_mem_cons.mpr ⟨⟨RX6, TX6, 50, rfl, in_X6, by decide, Or.inl q1202⟩, fun _ h => absurd h List.not_mem_nil⟩
theorem cl_X6_237 {X : CT} {cc : ByteArray} {nL : Nat} {mn : String} {ret : Option FieldType} {d d0 : Nat} {τ : Type} {pc : Nat} {lv : List (Option PV)} {st : List PV} {h : PH} {sz : τ → Nat × Nat} {K : τ → Prop} {f : Int32 → Int32 → Int32 → PH → Option (Int32)} (HR : IM_X6_reckon f d0) {a0 : Int32} {a1 : Int32} {a2 : Int32} {g : Int32 → Option τ} (hd : d0 + 1 ≤ d) (hdg : decode cc pc = .ok (.invokestatic 237, 3)) (hst : st.length ≤ 8) (kk : ∀ r, Im X (cc, nL, RX6, mn, ret, d) (pc + 3) lv (.inl r :: st) h (g r) sz K) : Im X (cc, nL, RX6, mn, ret, d) pc lv (.inl a2 :: .inl a1 :: .inl a0 :: st) h ((f a0 a1 a2 h).bind g) sz K := by
  refine im_cP (y := yX6_reckon) (cY := cX6_reckon) (nY := 3) (rY := (some .int)) (d' := d0) (av := [.inl a0, .inl a1, .inl a2]) (fun r e hX => ?_) (fun r e => HR _ _ _ _ _ e) hd (by decide) hst rfl kk
  exact cal_S (n := 3) hX (lw_S q1523 q1524 q112 q1525) (by decide +kernel) rfl hdg

def IM_X6_comesTo (f : Option Nat → Int32 → Int32 → PH → Option (Int32 × PH)) (d : Nat) : Prop := ∀ (a0 : Option Nat) (a1 : Int32) (a2 : Int32) (h : PH) (r : Int32) (h' : PH), f a0 a1 a2 h = some (r, h') → isC [5] a0 h = true ∧ SpI yX6_comesTo cX6_comesTo 8 (some .int) d [.inr a0, .inl a1, .inl a2] h r h'
noncomputable def mo_comesTo_85 (v0 : Option Nat) (v2 : Int32) (v3 : Int32) (v4 : Int32) (v5 : Int32) (s0 : Int32) (s1 : Int32) (s2 : Option Nat) (h : PH) : Option ((Int32 × Int32 × PH) ⊕ (Int32 × PH)) :=
  (ast 0 s2 s1 s0 h).bind fun h51 =>
  some (.inl ((v3 + 1), v5, h51))
theorem mo_comesTo_85_ok (X : CT) (v0 : Option Nat) (v2 : Int32) (v3 : Int32) (v4 : Int32) (v5 : Int32) (s0 : Int32) (s1 : Int32) (s2 : Option Nat) (h : PH) : Im X (cX6_comesTo, 8, RX6, "comesTo", (some .int), 2) 85 [some (.inr v0), none, some (.inl v2), some (.inl v3), some (.inl v4), some (.inl v5), none, none] [.inl s0, .inl s1, .inr s2] h (mo_comesTo_85 v0 v2 v3 v4 v5 s0 s1 s2 h) (ez (fun s : Int32 × Int32 × PH => s.2.2) szI) (ek X 16 (fun s : Int32 × Int32 × PH => [some (.inr v0), none, some (.inl v2), some (.inl s.1), some (.inl v4), some (.inl s.2.1), none, none]) (fun s : Int32 × Int32 × PH => s.2.2) (kI X)) := by
  unfold mo_comesTo_85
  refine im_iast (pc := 85) dX6_comesTo_85 fun h51 => ?_
  refine im_iload_n (pc := 86) dX6_comesTo_86 rfl rfl ?_
  refine im_iconst (pc := 87) (v := 1) dX6_comesTo_87 (by decide) ?_
  refine im_iadd (pc := 88) dX6_comesTo_88 ?_
  refine im_istore_n (pc := 89) (lv' := [some (.inr v0), none, some (.inl v2), some (.inl (v3 + 1)), some (.inl v4), some (.inl v5), none, none]) dX6_comesTo_89 rfl (by decide) rfl ?_
  refine im_goto (pc := 90) (tgt := 230) dX6_comesTo_90 (by decide) ?_
  refine im_goto (pc := 230) (tgt := 16) dX6_comesTo_230 (by decide) ?_
  exact Im.back [true, false, true, true, true, true, false, false] rfl rfl
noncomputable def mo_comesTo_63 (v0 : Option Nat) (v2 : Int32) (v3 : Int32) (v4 : Int32) (v5 : Int32) (v6 : Int32) (v7 : Int32) (h : PH) : Option ((Int32 × Int32 × PH) ⊕ (Int32 × PH)) :=
  (gfr [5] 25 v0 h).bind fun r51 =>
  (if v6 = 0 then
  mo_comesTo_85 v0 v2 v3 v4 v5 v7 v3 r51 h
  else
  (gfr [5] 26 v0 h).bind fun r52 =>
  (ald 0 r52 v7 h).bind fun x53 =>
  mo_comesTo_85 v0 v2 v3 v4 v5 x53 v3 r51 h)
theorem mo_comesTo_63_ok (X : CT) (v0 : Option Nat) (v2 : Int32) (v3 : Int32) (v4 : Int32) (v5 : Int32) (v6 : Int32) (v7 : Int32) (h : PH) : Im X (cX6_comesTo, 8, RX6, "comesTo", (some .int), 2) 63 [some (.inr v0), none, some (.inl v2), some (.inl v3), some (.inl v4), some (.inl v5), some (.inl v6), some (.inl v7)] [] h (mo_comesTo_63 v0 v2 v3 v4 v5 v6 v7 h) (ez (fun s : Int32 × Int32 × PH => s.2.2) szI) (ek X 16 (fun s : Int32 × Int32 × PH => [some (.inr v0), none, some (.inl v2), some (.inl s.1), some (.inl v4), some (.inl s.2.1), none, none]) (fun s : Int32 × Int32 × PH => s.2.2) (kI X)) := by
  unfold mo_comesTo_63
  refine im_aload_n (pc := 63) dX6_comesTo_63 rfl rfl ?_
  refine im_gr (pc := 64) fl_X6_56 dX6_comesTo_64 fun r51 => ?_
  refine im_iload_n (pc := 67) dX6_comesTo_67 rfl rfl ?_
  refine im_iload (pc := 68) dX6_comesTo_68 rfl ?_
  refine im_if_ne (pc := 70) (tgt := 78) dX6_comesTo_70 (by decide) ?_ ?_
  · refine im_aload_n (pc := 78) dX6_comesTo_78 rfl rfl ?_
    refine im_gr (pc := 79) fl_X6_59 dX6_comesTo_79 fun r52 => ?_
    refine im_iload (pc := 82) dX6_comesTo_82 rfl ?_
    refine im_iald (pc := 84) dX6_comesTo_84 fun x53 => ?_
    exact Im.drop [true, false, true, true, true, true, false, false] rfl (mo_comesTo_85_ok X v0 v2 v3 v4 v5 x53 v3 r51 h)
  · refine im_iload (pc := 73) dX6_comesTo_73 rfl ?_
    refine im_goto (pc := 75) (tgt := 85) dX6_comesTo_75 (by decide) ?_
    exact Im.drop [true, false, true, true, true, true, false, false] rfl (mo_comesTo_85_ok X v0 v2 v3 v4 v5 v7 v3 r51 h)
noncomputable def mo_comesTo_155 (v0 : Option Nat) (v2 : Int32) (v3 : Int32) (v4 : Int32) (v5 : Int32) (v7 : Int32) (s0 : Int32) (s1 : Int32) (h : PH) : Option ((Int32 × Int32 × PH) ⊕ (Int32 × PH)) :=
  (if s1 = s0 then
  some (.inl (v3, (v4 + v7), h))
  else
  some (.inl ((v3 - 1), v5, h)))
theorem mo_comesTo_155_ok (X : CT) (v0 : Option Nat) (v2 : Int32) (v3 : Int32) (v4 : Int32) (v5 : Int32) (v7 : Int32) (s0 : Int32) (s1 : Int32) (h : PH) : Im X (cX6_comesTo, 8, RX6, "comesTo", (some .int), 2) 155 [some (.inr v0), none, some (.inl v2), some (.inl v3), some (.inl v4), some (.inl v5), none, some (.inl v7)] [.inl s0, .inl s1] h (mo_comesTo_155 v0 v2 v3 v4 v5 v7 s0 s1 h) (ez (fun s : Int32 × Int32 × PH => s.2.2) szI) (ek X 16 (fun s : Int32 × Int32 × PH => [some (.inr v0), none, some (.inl v2), some (.inl s.1), some (.inl v4), some (.inl s.2.1), none, none]) (fun s : Int32 × Int32 × PH => s.2.2) (kI X)) := by
  unfold mo_comesTo_155
  refine im_icmp_ne (pc := 155) (tgt := 168) dX6_comesTo_155 (by decide) ?_ ?_
  · refine im_iload_n (pc := 168) dX6_comesTo_168 rfl rfl ?_
    refine im_iconst (pc := 169) (v := 1) dX6_comesTo_169 (by decide) ?_
    refine im_isub (pc := 170) dX6_comesTo_170 ?_
    refine im_istore_n (pc := 171) (lv' := [some (.inr v0), none, some (.inl v2), some (.inl (v3 - 1)), some (.inl v4), some (.inl v5), none, some (.inl v7)]) dX6_comesTo_171 rfl (by decide) rfl ?_
    refine im_goto (pc := 172) (tgt := 230) dX6_comesTo_172 (by decide) ?_
    refine im_goto (pc := 230) (tgt := 16) dX6_comesTo_230 (by decide) ?_
    exact Im.back [true, false, true, true, true, true, false, false] rfl rfl
  · refine im_iload (pc := 158) dX6_comesTo_158 rfl ?_
    refine im_iload (pc := 160) dX6_comesTo_160 rfl ?_
    refine im_iadd (pc := 162) dX6_comesTo_162 ?_
    refine im_istore (pc := 163) (lv' := [some (.inr v0), none, some (.inl v2), some (.inl v3), some (.inl v4), some (.inl (v4 + v7)), none, some (.inl v7)]) dX6_comesTo_163 (by decide) rfl ?_
    refine im_goto (pc := 165) (tgt := 230) dX6_comesTo_165 (by decide) ?_
    refine im_goto (pc := 230) (tgt := 16) dX6_comesTo_230 (by decide) ?_
    exact Im.back [true, false, true, true, true, true, false, false] rfl rfl
noncomputable def mo_comesTo_135 (v0 : Option Nat) (v2 : Int32) (v3 : Int32) (v4 : Int32) (v5 : Int32) (v6 : Int32) (v7 : Int32) (h : PH) : Option ((Int32 × Int32 × PH) ⊕ (Int32 × PH)) :=
  (gfr [5] 25 v0 h).bind fun r51 =>
  (ald 0 r51 (v3 - 1) h).bind fun x52 =>
  (if v6 = 12 then
  mo_comesTo_155 v0 v2 v3 v4 v5 v7 1 x52 h
  else
  mo_comesTo_155 v0 v2 v3 v4 v5 v7 0 x52 h)
theorem mo_comesTo_135_ok (X : CT) (v0 : Option Nat) (v2 : Int32) (v3 : Int32) (v4 : Int32) (v5 : Int32) (v6 : Int32) (v7 : Int32) (h : PH) : Im X (cX6_comesTo, 8, RX6, "comesTo", (some .int), 2) 135 [some (.inr v0), none, some (.inl v2), some (.inl v3), some (.inl v4), some (.inl v5), some (.inl v6), some (.inl v7)] [] h (mo_comesTo_135 v0 v2 v3 v4 v5 v6 v7 h) (ez (fun s : Int32 × Int32 × PH => s.2.2) szI) (ek X 16 (fun s : Int32 × Int32 × PH => [some (.inr v0), none, some (.inl v2), some (.inl s.1), some (.inl v4), some (.inl s.2.1), none, none]) (fun s : Int32 × Int32 × PH => s.2.2) (kI X)) := by
  unfold mo_comesTo_135
  refine im_aload_n (pc := 135) dX6_comesTo_135 rfl rfl ?_
  refine im_gr (pc := 136) fl_X6_56 dX6_comesTo_136 fun r51 => ?_
  refine im_iload_n (pc := 139) dX6_comesTo_139 rfl rfl ?_
  refine im_iconst (pc := 140) (v := 1) dX6_comesTo_140 (by decide) ?_
  refine im_isub (pc := 141) dX6_comesTo_141 ?_
  refine im_iald (pc := 142) dX6_comesTo_142 fun x52 => ?_
  refine im_iload (pc := 143) dX6_comesTo_143 rfl ?_
  refine im_bipush (pc := 145) (v := 12) dX6_comesTo_145 (by decide) ?_
  refine im_icmp_ne (pc := 147) (tgt := 154) dX6_comesTo_147 (by decide) ?_ ?_
  · refine im_iconst (pc := 154) (v := 0) dX6_comesTo_154 (by decide) ?_
    exact Im.drop [true, false, true, true, true, true, false, true] rfl (mo_comesTo_155_ok X v0 v2 v3 v4 v5 v7 0 x52 h)
  · refine im_iconst (pc := 150) (v := 1) dX6_comesTo_150 (by decide) ?_
    refine im_goto (pc := 151) (tgt := 155) dX6_comesTo_151 (by decide) ?_
    exact Im.drop [true, false, true, true, true, true, false, true] rfl (mo_comesTo_155_ok X v0 v2 v3 v4 v5 v7 1 x52 h)
noncomputable def mo_comesTo_203 (v0 : Option Nat) (v2 : Int32) (v3 : Int32) (v4 : Int32) (v5 : Int32) (v6 : Int32) (h : PH) : Option ((Int32 × Int32 × PH) ⊕ (Int32 × PH)) :=
  (gfr [5] 25 v0 h).bind fun r51 =>
  (gfr [5] 25 v0 h).bind fun r52 =>
  (ald 0 r52 (v3 - 1) h).bind fun x53 =>
  (gfr [5] 25 v0 h).bind fun r54 =>
  (ald 0 r54 v3 h).bind fun x55 =>
  (mo_reckon v6 x53 x55 h).bind fun x56 =>
  (ast 0 r51 (v3 - 1) x56 h).bind fun h57 =>
  some (.inl (v3, v5, h57))
theorem mo_comesTo_203_ok (X : CT) (v0 : Option Nat) (v2 : Int32) (v3 : Int32) (v4 : Int32) (v5 : Int32) (v6 : Int32) (h : PH) : Im X (cX6_comesTo, 8, RX6, "comesTo", (some .int), 2) 203 [some (.inr v0), none, some (.inl v2), some (.inl v3), some (.inl v4), some (.inl v5), some (.inl v6), none] [] h (mo_comesTo_203 v0 v2 v3 v4 v5 v6 h) (ez (fun s : Int32 × Int32 × PH => s.2.2) szI) (ek X 16 (fun s : Int32 × Int32 × PH => [some (.inr v0), none, some (.inl v2), some (.inl s.1), some (.inl v4), some (.inl s.2.1), none, none]) (fun s : Int32 × Int32 × PH => s.2.2) (kI X)) := by
  unfold mo_comesTo_203
  refine im_aload_n (pc := 203) dX6_comesTo_203 rfl rfl ?_
  refine im_gr (pc := 204) fl_X6_56 dX6_comesTo_204 fun r51 => ?_
  refine im_iload_n (pc := 207) dX6_comesTo_207 rfl rfl ?_
  refine im_iconst (pc := 208) (v := 1) dX6_comesTo_208 (by decide) ?_
  refine im_isub (pc := 209) dX6_comesTo_209 ?_
  refine im_iload (pc := 210) dX6_comesTo_210 rfl ?_
  refine im_aload_n (pc := 212) dX6_comesTo_212 rfl rfl ?_
  refine im_gr (pc := 213) fl_X6_56 dX6_comesTo_213 fun r52 => ?_
  refine im_iload_n (pc := 216) dX6_comesTo_216 rfl rfl ?_
  refine im_iconst (pc := 217) (v := 1) dX6_comesTo_217 (by decide) ?_
  refine im_isub (pc := 218) dX6_comesTo_218 ?_
  refine im_iald (pc := 219) dX6_comesTo_219 fun x53 => ?_
  refine im_aload_n (pc := 220) dX6_comesTo_220 rfl rfl ?_
  refine im_gr (pc := 221) fl_X6_56 dX6_comesTo_221 fun r54 => ?_
  refine im_iload_n (pc := 224) dX6_comesTo_224 rfl rfl ?_
  refine im_iald (pc := 225) dX6_comesTo_225 fun x55 => ?_
  refine cl_X6_237 mo_reckon_im (pc := 226) (by decide) dX6_comesTo_226 (Nat.le_of_ble_eq_true rfl) fun x56 => ?_
  refine im_iast (pc := 229) dX6_comesTo_229 fun h57 => ?_
  refine im_goto (pc := 230) (tgt := 16) dX6_comesTo_230 (by decide) ?_
  exact Im.back [true, false, true, true, true, true, false, false] rfl rfl
noncomputable def mo_comesTo_192 (v0 : Option Nat) (v2 : Int32) (v3 : Int32) (v4 : Int32) (v5 : Int32) (v6 : Int32) (h : PH) : Option ((Int32 × Int32 × PH) ⊕ (Int32 × PH)) :=
  (gfr [5] 25 v0 h).bind fun r51 =>
  (ald 0 r51 v3 h).bind fun x52 =>
  (if x52 = 0 then
  some (.inr ((0, h)))
  else
  mo_comesTo_203 v0 v2 v3 v4 v5 v6 h)
theorem mo_comesTo_192_ok (X : CT) (v0 : Option Nat) (v2 : Int32) (v3 : Int32) (v4 : Int32) (v5 : Int32) (v6 : Int32) (h : PH) : Im X (cX6_comesTo, 8, RX6, "comesTo", (some .int), 2) 192 [some (.inr v0), none, some (.inl v2), some (.inl v3), some (.inl v4), some (.inl v5), some (.inl v6), none] [] h (mo_comesTo_192 v0 v2 v3 v4 v5 v6 h) (ez (fun s : Int32 × Int32 × PH => s.2.2) szI) (ek X 16 (fun s : Int32 × Int32 × PH => [some (.inr v0), none, some (.inl v2), some (.inl s.1), some (.inl v4), some (.inl s.2.1), none, none]) (fun s : Int32 × Int32 × PH => s.2.2) (kI X)) := by
  unfold mo_comesTo_192
  refine im_aload_n (pc := 192) dX6_comesTo_192 rfl rfl ?_
  refine im_gr (pc := 193) fl_X6_56 dX6_comesTo_193 fun r51 => ?_
  refine im_iload_n (pc := 196) dX6_comesTo_196 rfl rfl ?_
  refine im_iald (pc := 197) dX6_comesTo_197 fun x52 => ?_
  refine im_if_ne (pc := 198) (tgt := 203) dX6_comesTo_198 (by decide) ?_ ?_
  · exact Im.drop [true, false, true, true, true, true, true, false] rfl (mo_comesTo_203_ok X v0 v2 v3 v4 v5 v6 h)
  · refine im_iconst (pc := 201) (v := 0) dX6_comesTo_201 (by decide) ?_
    exact Im.outS (im_iret (pc := 202) dX6_comesTo_202)
noncomputable def mo_comesTo_b16 (v0 : Option Nat) (v2 : Int32) (v3 : Int32) (v4 : Int32) (v5 : Int32) (h : PH) : Option ((Int32 × Int32 × PH) ⊕ (Int32 × PH)) :=
  (if v2 ≤ v5 then
  (gfr [5] 25 v0 h).bind fun r51 =>
  (ald 0 r51 0 h).bind fun x52 =>
  some (.inr ((x52, h)))
  else
  (gfr [5] 20 v0 h).bind fun r53 =>
  (ald 0 r53 v5 h).bind fun x54 =>
  (gfr [5] 20 v0 h).bind fun r55 =>
  (ald 0 r55 v5 h).bind fun x56 =>
  (if (x54 / 1048576) = 0 then
  mo_comesTo_63 v0 v2 v3 v4 (v5 + 1) (x54 / 1048576) (irm x56 1048576) h
  else
  (if (x54 / 1048576) = 1 then
  mo_comesTo_63 v0 v2 v3 v4 (v5 + 1) (x54 / 1048576) (irm x56 1048576) h
  else
  (if (x54 / 1048576) = 10 then
  (gfr [5] 25 v0 h).bind fun r57 =>
  (gfr [5] 25 v0 h).bind fun r58 =>
  (ald 0 r58 (v3 - 1) h).bind fun x59 =>
  (ast 0 r57 (v3 - 1) (1 - x59) h).bind fun h60 =>
  some (.inl (v3, (v5 + 1), h60))
  else
  (if (x54 / 1048576) = 11 then
  mo_comesTo_135 v0 v2 v3 v4 (v5 + 1) (x54 / 1048576) (irm x56 1048576) h
  else
  (if (x54 / 1048576) = 12 then
  mo_comesTo_135 v0 v2 v3 v4 (v5 + 1) (x54 / 1048576) (irm x56 1048576) h
  else
  (if (x54 / 1048576) = 5 then
  mo_comesTo_192 v0 v2 (v3 - 1) v4 (v5 + 1) (x54 / 1048576) h
  else
  (if (x54 / 1048576) = 6 then
  mo_comesTo_192 v0 v2 (v3 - 1) v4 (v5 + 1) (x54 / 1048576) h
  else
  mo_comesTo_203 v0 v2 (v3 - 1) v4 (v5 + 1) (x54 / 1048576) h))))))))
noncomputable def mo_comesTo_L16 (v0 : Option Nat) (v2 : Int32) (v3 : Int32) (v4 : Int32) (v5 : Int32) (h : PH) : Option (Int32 × PH) :=
  iter (fun s : Int32 × Int32 × PH => mo_comesTo_b16 v0 v2 s.1 v4 s.2.1 s.2.2) (v3, v5, h)
theorem mo_comesTo_b16_ok (X : CT) (v0 : Option Nat) (v2 : Int32) (v3 : Int32) (v4 : Int32) (v5 : Int32) (h : PH) : Im X (cX6_comesTo, 8, RX6, "comesTo", (some .int), 2) 16 [some (.inr v0), none, some (.inl v2), some (.inl v3), some (.inl v4), some (.inl v5), none, none] [] h (mo_comesTo_b16 v0 v2 v3 v4 v5 h) (ez (fun s : Int32 × Int32 × PH => s.2.2) szI) (ek X 16 (fun s : Int32 × Int32 × PH => [some (.inr v0), none, some (.inl v2), some (.inl s.1), some (.inl v4), some (.inl s.2.1), none, none]) (fun s : Int32 × Int32 × PH => s.2.2) (kI X)) := by
  unfold mo_comesTo_b16
  refine im_iload (pc := 16) dX6_comesTo_16 rfl ?_
  refine im_iload_n (pc := 18) dX6_comesTo_18 rfl rfl ?_
  refine im_icmp_ge (pc := 19) (tgt := 233) dX6_comesTo_19 (by decide) ?_ ?_
  · refine im_aload_n (pc := 233) dX6_comesTo_233 rfl rfl ?_
    refine im_gr (pc := 234) fl_X6_56 dX6_comesTo_234 fun r51 => ?_
    refine im_iconst (pc := 237) (v := 0) dX6_comesTo_237 (by decide) ?_
    refine im_iald (pc := 238) dX6_comesTo_238 fun x52 => ?_
    exact Im.outS (im_iret (pc := 239) dX6_comesTo_239)
  · refine im_aload_n (pc := 22) dX6_comesTo_22 rfl rfl ?_
    refine im_gr (pc := 23) fl_X6_41 dX6_comesTo_23 fun r53 => ?_
    refine im_iload (pc := 26) dX6_comesTo_26 rfl ?_
    refine im_iald (pc := 28) dX6_comesTo_28 fun x54 => ?_
    refine im_ldc (pc := 29) q1376 dX6_comesTo_29 ?_
    refine im_idivC (pc := 31) (by decide) dX6_comesTo_31 ?_
    refine im_istore (pc := 32) (lv' := [some (.inr v0), none, some (.inl v2), some (.inl v3), some (.inl v4), some (.inl v5), some (.inl (x54 / 1048576)), none]) dX6_comesTo_32 (by decide) rfl ?_
    refine im_aload_n (pc := 34) dX6_comesTo_34 rfl rfl ?_
    refine im_gr (pc := 35) fl_X6_41 dX6_comesTo_35 fun r55 => ?_
    refine im_iload (pc := 38) dX6_comesTo_38 rfl ?_
    refine im_iald (pc := 40) dX6_comesTo_40 fun x56 => ?_
    refine im_ldc (pc := 41) q1376 dX6_comesTo_41 ?_
    refine im_iremC (pc := 43) (by decide) dX6_comesTo_43 ?_
    refine im_istore (pc := 44) (lv' := [some (.inr v0), none, some (.inl v2), some (.inl v3), some (.inl v4), some (.inl v5), some (.inl (x54 / 1048576)), some (.inl (irm x56 1048576))]) dX6_comesTo_44 (by decide) rfl ?_
    refine im_iload (pc := 46) dX6_comesTo_46 rfl ?_
    refine im_iconst (pc := 48) (v := 1) dX6_comesTo_48 (by decide) ?_
    refine im_iadd (pc := 49) dX6_comesTo_49 ?_
    refine im_istore (pc := 50) (lv' := [some (.inr v0), none, some (.inl v2), some (.inl v3), some (.inl v4), some (.inl (v5 + 1)), some (.inl (x54 / 1048576)), some (.inl (irm x56 1048576))]) dX6_comesTo_50 (by decide) rfl ?_
    refine im_iload (pc := 52) dX6_comesTo_52 rfl ?_
    refine im_if_eq (pc := 54) (tgt := 63) dX6_comesTo_54 (by decide) ?_ ?_
    · exact Im.drop [true, false, true, true, true, true, true, true] rfl (mo_comesTo_63_ok X v0 v2 v3 v4 (v5 + 1) (x54 / 1048576) (irm x56 1048576) h)
    · refine im_iload (pc := 57) dX6_comesTo_57 rfl ?_
      refine im_iconst (pc := 59) (v := 1) dX6_comesTo_59 (by decide) ?_
      refine im_icmp_ne (pc := 60) (tgt := 93) dX6_comesTo_60 (by decide) ?_ ?_
      · refine im_iload (pc := 93) dX6_comesTo_93 rfl ?_
        refine im_bipush (pc := 95) (v := 10) dX6_comesTo_95 (by decide) ?_
        refine im_icmp_ne (pc := 97) (tgt := 121) dX6_comesTo_97 (by decide) ?_ ?_
        · refine im_iload (pc := 121) dX6_comesTo_121 rfl ?_
          refine im_bipush (pc := 123) (v := 11) dX6_comesTo_123 (by decide) ?_
          refine im_icmp_eq (pc := 125) (tgt := 135) dX6_comesTo_125 (by decide) ?_ ?_
          · exact Im.drop [true, false, true, true, true, true, true, true] rfl (mo_comesTo_135_ok X v0 v2 v3 v4 (v5 + 1) (x54 / 1048576) (irm x56 1048576) h)
          · refine im_iload (pc := 128) dX6_comesTo_128 rfl ?_
            refine im_bipush (pc := 130) (v := 12) dX6_comesTo_130 (by decide) ?_
            refine im_icmp_ne (pc := 132) (tgt := 175) dX6_comesTo_132 (by decide) ?_ ?_
            · refine im_iload_n (pc := 175) dX6_comesTo_175 rfl rfl ?_
              refine im_iconst (pc := 176) (v := 1) dX6_comesTo_176 (by decide) ?_
              refine im_isub (pc := 177) dX6_comesTo_177 ?_
              refine im_istore_n (pc := 178) (lv' := [some (.inr v0), none, some (.inl v2), some (.inl (v3 - 1)), some (.inl v4), some (.inl (v5 + 1)), some (.inl (x54 / 1048576)), some (.inl (irm x56 1048576))]) dX6_comesTo_178 rfl (by decide) rfl ?_
              refine im_iload (pc := 179) dX6_comesTo_179 rfl ?_
              refine im_iconst (pc := 181) (v := 5) dX6_comesTo_181 (by decide) ?_
              refine im_icmp_eq (pc := 182) (tgt := 192) dX6_comesTo_182 (by decide) ?_ ?_
              · exact Im.drop [true, false, true, true, true, true, true, false] rfl (mo_comesTo_192_ok X v0 v2 (v3 - 1) v4 (v5 + 1) (x54 / 1048576) h)
              · refine im_iload (pc := 185) dX6_comesTo_185 rfl ?_
                refine im_bipush (pc := 187) (v := 6) dX6_comesTo_187 (by decide) ?_
                refine im_icmp_ne (pc := 189) (tgt := 203) dX6_comesTo_189 (by decide) ?_ ?_
                · exact Im.drop [true, false, true, true, true, true, true, false] rfl (mo_comesTo_203_ok X v0 v2 (v3 - 1) v4 (v5 + 1) (x54 / 1048576) h)
                · exact Im.drop [true, false, true, true, true, true, true, false] rfl (mo_comesTo_192_ok X v0 v2 (v3 - 1) v4 (v5 + 1) (x54 / 1048576) h)
            · exact Im.drop [true, false, true, true, true, true, true, true] rfl (mo_comesTo_135_ok X v0 v2 v3 v4 (v5 + 1) (x54 / 1048576) (irm x56 1048576) h)
        · refine im_aload_n (pc := 100) dX6_comesTo_100 rfl rfl ?_
          refine im_gr (pc := 101) fl_X6_56 dX6_comesTo_101 fun r57 => ?_
          refine im_iload_n (pc := 104) dX6_comesTo_104 rfl rfl ?_
          refine im_iconst (pc := 105) (v := 1) dX6_comesTo_105 (by decide) ?_
          refine im_isub (pc := 106) dX6_comesTo_106 ?_
          refine im_iconst (pc := 107) (v := 1) dX6_comesTo_107 (by decide) ?_
          refine im_aload_n (pc := 108) dX6_comesTo_108 rfl rfl ?_
          refine im_gr (pc := 109) fl_X6_56 dX6_comesTo_109 fun r58 => ?_
          refine im_iload_n (pc := 112) dX6_comesTo_112 rfl rfl ?_
          refine im_iconst (pc := 113) (v := 1) dX6_comesTo_113 (by decide) ?_
          refine im_isub (pc := 114) dX6_comesTo_114 ?_
          refine im_iald (pc := 115) dX6_comesTo_115 fun x59 => ?_
          refine im_isub (pc := 116) dX6_comesTo_116 ?_
          refine im_iast (pc := 117) dX6_comesTo_117 fun h60 => ?_
          refine im_goto (pc := 118) (tgt := 230) dX6_comesTo_118 (by decide) ?_
          refine im_goto (pc := 230) (tgt := 16) dX6_comesTo_230 (by decide) ?_
          exact Im.back [true, false, true, true, true, true, false, false] rfl rfl
      · exact Im.drop [true, false, true, true, true, true, true, true] rfl (mo_comesTo_63_ok X v0 v2 v3 v4 (v5 + 1) (x54 / 1048576) (irm x56 1048576) h)
theorem mo_comesTo_L16_ok (X : CT) (v0 : Option Nat) (v2 : Int32) (v3 : Int32) (v4 : Int32) (v5 : Int32) (h : PH) : Im X (cX6_comesTo, 8, RX6, "comesTo", (some .int), 2) 16 [some (.inr v0), none, some (.inl v2), some (.inl v3), some (.inl v4), some (.inl v5), none, none] [] h (mo_comesTo_L16 v0 v2 v3 v4 v5 h) szI (kI X) := by
  unfold mo_comesTo_L16
  exact Im.iter (lv := (fun s : Int32 × Int32 × PH => [some (.inr v0), none, some (.inl v2), some (.inl s.1), some (.inl v4), some (.inl s.2.1), none, none])) (hp := (fun s : Int32 × Int32 × PH => s.2.2)) (fun s => mo_comesTo_b16_ok X v0 v2 s.1 v4 s.2.1 s.2.2) _ rfl rfl
noncomputable def mo_comesTo_0 (v0 : Option Nat) (v1 : Int32) (v2 : Int32) (h : PH) : Option (Int32 × PH) :=
  mo_comesTo_L16 v0 v2 0 (260 * (v1 / 260)) v1 h
theorem mo_comesTo_0_ok (X : CT) (v0 : Option Nat) (v1 : Int32) (v2 : Int32) (h : PH) : Im X (cX6_comesTo, 8, RX6, "comesTo", (some .int), 2) 0 [some (.inr v0), some (.inl v1), some (.inl v2), none, none, none, none, none] [] h (mo_comesTo_0 v0 v1 v2 h) szI (kI X) := by
  unfold mo_comesTo_0
  refine im_iconst (pc := 0) (v := 0) dX6_comesTo_0 (by decide) ?_
  refine im_istore_n (pc := 1) (lv' := [some (.inr v0), some (.inl v1), some (.inl v2), some (.inl 0), none, none, none, none]) dX6_comesTo_1 rfl (by decide) rfl ?_
  refine im_sipush (pc := 2) (v := 260) dX6_comesTo_2 (by decide) ?_
  refine im_iload_n (pc := 5) dX6_comesTo_5 rfl rfl ?_
  refine im_sipush (pc := 6) (v := 260) dX6_comesTo_6 (by decide) ?_
  refine im_idivC (pc := 9) (by decide) dX6_comesTo_9 ?_
  refine im_imul (pc := 10) dX6_comesTo_10 ?_
  refine im_istore (pc := 11) (lv' := [some (.inr v0), some (.inl v1), some (.inl v2), some (.inl 0), some (.inl (260 * (v1 / 260))), none, none, none]) dX6_comesTo_11 (by decide) rfl ?_
  refine im_iload_n (pc := 13) dX6_comesTo_13 rfl rfl ?_
  refine im_istore (pc := 14) (lv' := [some (.inr v0), some (.inl v1), some (.inl v2), some (.inl 0), some (.inl (260 * (v1 / 260))), some (.inl v1), none, none]) dX6_comesTo_14 (by decide) rfl ?_
  exact Im.drop [true, false, true, true, true, true, false, false] rfl (mo_comesTo_L16_ok X v0 v2 0 (260 * (v1 / 260)) v1 h)
noncomputable def mo_comesTo (a0 : Option Nat) (a1 : Int32) (a2 : Int32) (h : PH) : Option (Int32 × PH) := grd (isC [5] a0 h) (mo_comesTo_0 a0 a1 a2 h)
theorem mo_comesTo_im : IM_X6_comesTo mo_comesTo 2 := by
  intro a0 a1 a2 h r h' e
  obtain ⟨e1, e2⟩ := grd_some e
  exact ⟨e1, SpI.of (k := 5) (plainFor_of_name (by decide)) rfl (fun X => Im.drop [true, true, true, false, false, false, false, false] rfl (mo_comesTo_0_ok X a0 a1 a2 h)) e2⟩
theorem fl_X6_234 : ∀ c ∈ [5], FL RX6 234 c 13 := List.forall_mem_cons.mpr ⟨⟨RX6, TX6, 50, rfl, in_X6, by decide, Or.inl q1190⟩, fun _ h => absurd h List.not_mem_nil⟩
theorem cl_X6_241 {X : CT} {cc : ByteArray} {nL : Nat} {mn : String} {ret : Option FieldType} {d d0 : Nat} {τ : Type} {pc : Nat} {lv : List (Option PV)} {st : List PV} {h : PH} {sz : τ → Nat × Nat} {K : τ → Prop} {f : Option Nat → Int32 → Int32 → PH → Option (Int32 × PH)} (HR : IM_X6_comesTo f d0) {a0 : Option Nat} {a1 : Int32} {a2 : Int32} {g : Int32 → PH → Option τ} (hd : d0 + 1 ≤ d) (hdg : decode cc pc = .ok (.invokevirtual 241, 3)) (hst : st.length ≤ 8) (kk : ∀ r h', Im X (cc, nL, RX6, mn, ret, d) (pc + 3) lv (.inl r :: st) h' (g r h') sz K) : Im X (cc, nL, RX6, mn, ret, d) pc lv (.inl a2 :: .inl a1 :: .inr a0 :: st) h (bd2 (f a0 a1 a2 h) g) sz K := by
  refine im_cI (y := yX6_comesTo) (cY := cX6_comesTo) (nY := 8) (rY := (some .int)) (d' := d0) (av := [.inr a0, .inl a1, .inl a2]) (fun r h' e hX => ?_) (fun r h' e => (HR _ _ _ _ _ _ e).2) hd (by decide) hst rfl kk
  obtain ⟨a, c, fs, rfl, ec, hm⟩ := isC_some (HR _ _ _ _ _ _ e).1
  cases List.mem_singleton.mp hm
  exact cal_V (n := 2) hX (lw_V q1519 q1521 qs80 q112 q1522) (by decide +kernel) rfl rfl ec hdg

def IM_X6_holdsAny (f : Option Nat → Int32 → PH → Option (Int32 × PH)) (d : Nat) : Prop := ∀ (a0 : Option Nat) (a1 : Int32) (h : PH) (r : Int32) (h' : PH), f a0 a1 h = some (r, h') → isC [5] a0 h = true ∧ SpI yX6_holdsAny cX6_holdsAny 3 (some .boolean) d [.inr a0, .inl a1] h r h'
noncomputable def mo_holdsAny_b2 (v0 : Option Nat) (v1 : Int32) (v2 : Int32) (h : PH) : Option ((Int32 × PH) ⊕ (Int32 × PH)) :=
  (gfi [5] 13 v0 h).bind fun x51 =>
  (if x51 ≤ v2 then
  some (.inr ((0, h)))
  else
  (gfr [5] 21 v0 h).bind fun r52 =>
  (ald 0 r52 v2 h).bind fun x53 =>
  (if x53 = v1 then
  (gfr [5] 23 v0 h).bind fun r54 =>
  (ald 0 r54 v2 h).bind fun x55 =>
  (gfr [5] 24 v0 h).bind fun r56 =>
  (ald 0 r56 v2 h).bind fun x57 =>
  bd2 (mo_comesTo v0 x55 x57 h) fun x59 h58 =>
  (if x59 = 1 then
  some (.inr ((1, h58)))
  else
  some (.inl ((v2 + 1), h58)))
  else
  some (.inl ((v2 + 1), h))))
noncomputable def mo_holdsAny_L2 (v0 : Option Nat) (v1 : Int32) (v2 : Int32) (h : PH) : Option (Int32 × PH) :=
  iter (fun s : Int32 × PH => mo_holdsAny_b2 v0 v1 s.1 s.2) (v2, h)
theorem mo_holdsAny_b2_ok (X : CT) (v0 : Option Nat) (v1 : Int32) (v2 : Int32) (h : PH) : Im X (cX6_holdsAny, 3, RX6, "holdsAny", (some .boolean), 3) 2 [some (.inr v0), some (.inl v1), some (.inl v2)] [] h (mo_holdsAny_b2 v0 v1 v2 h) (ez (fun s : Int32 × PH => s.2) szI) (ek X 2 (fun s : Int32 × PH => [some (.inr v0), some (.inl v1), some (.inl s.1)]) (fun s : Int32 × PH => s.2) (kI X)) := by
  unfold mo_holdsAny_b2
  refine im_iload_n (pc := 2) dX6_holdsAny_2 rfl rfl ?_
  refine im_aload_n (pc := 3) dX6_holdsAny_3 rfl rfl ?_
  refine im_gi (pc := 4) fl_X6_234 dX6_holdsAny_4 fun x51 => ?_
  refine im_icmp_ge (pc := 7) (tgt := 48) dX6_holdsAny_7 (by decide) ?_ ?_
  · refine im_iconst (pc := 48) (v := 0) dX6_holdsAny_48 (by decide) ?_
    exact Im.outS (im_zretT (pc := 49) (nar_z (Or.inl rfl)) dX6_holdsAny_49)
  · refine im_aload_n (pc := 10) dX6_holdsAny_10 rfl rfl ?_
    refine im_gr (pc := 11) fl_X6_44 dX6_holdsAny_11 fun r52 => ?_
    refine im_iload_n (pc := 14) dX6_holdsAny_14 rfl rfl ?_
    refine im_iald (pc := 15) dX6_holdsAny_15 fun x53 => ?_
    refine im_iload_n (pc := 16) dX6_holdsAny_16 rfl rfl ?_
    refine im_icmp_ne (pc := 17) (tgt := 42) dX6_holdsAny_17 (by decide) ?_ ?_
    · refine im_iinc (pc := 42) (v := (v2 + 1)) (lv' := [some (.inr v0), some (.inl v1), some (.inl (v2 + 1))]) dX6_holdsAny_42 rfl rfl (by decide) rfl ?_
      refine im_goto (pc := 45) (tgt := 2) dX6_holdsAny_45 (by decide) ?_
      exact Im.back [true, true, true] rfl rfl
    · refine im_aload_n (pc := 20) dX6_holdsAny_20 rfl rfl ?_
      refine im_aload_n (pc := 21) dX6_holdsAny_21 rfl rfl ?_
      refine im_gr (pc := 22) fl_X6_50 dX6_holdsAny_22 fun r54 => ?_
      refine im_iload_n (pc := 25) dX6_holdsAny_25 rfl rfl ?_
      refine im_iald (pc := 26) dX6_holdsAny_26 fun x55 => ?_
      refine im_aload_n (pc := 27) dX6_holdsAny_27 rfl rfl ?_
      refine im_gr (pc := 28) fl_X6_53 dX6_holdsAny_28 fun r56 => ?_
      refine im_iload_n (pc := 31) dX6_holdsAny_31 rfl rfl ?_
      refine im_iald (pc := 32) dX6_holdsAny_32 fun x57 => ?_
      refine cl_X6_241 mo_comesTo_im (pc := 33) (by decide) dX6_holdsAny_33 (Nat.le_of_ble_eq_true rfl) fun x59 h58 => ?_
      refine im_iconst (pc := 36) (v := 1) dX6_holdsAny_36 (by decide) ?_
      refine im_icmp_ne (pc := 37) (tgt := 42) dX6_holdsAny_37 (by decide) ?_ ?_
      · refine im_iinc (pc := 42) (v := (v2 + 1)) (lv' := [some (.inr v0), some (.inl v1), some (.inl (v2 + 1))]) dX6_holdsAny_42 rfl rfl (by decide) rfl ?_
        refine im_goto (pc := 45) (tgt := 2) dX6_holdsAny_45 (by decide) ?_
        exact Im.back [true, true, true] rfl rfl
      · refine im_iconst (pc := 40) (v := 1) dX6_holdsAny_40 (by decide) ?_
        exact Im.outS (im_zretT (pc := 41) (nar_z (Or.inr rfl)) dX6_holdsAny_41)
theorem mo_holdsAny_L2_ok (X : CT) (v0 : Option Nat) (v1 : Int32) (v2 : Int32) (h : PH) : Im X (cX6_holdsAny, 3, RX6, "holdsAny", (some .boolean), 3) 2 [some (.inr v0), some (.inl v1), some (.inl v2)] [] h (mo_holdsAny_L2 v0 v1 v2 h) szI (kI X) := by
  unfold mo_holdsAny_L2
  exact Im.iter (lv := (fun s : Int32 × PH => [some (.inr v0), some (.inl v1), some (.inl s.1)])) (hp := (fun s : Int32 × PH => s.2)) (fun s => mo_holdsAny_b2_ok X v0 v1 s.1 s.2) _ rfl rfl
noncomputable def mo_holdsAny_0 (v0 : Option Nat) (v1 : Int32) (h : PH) : Option (Int32 × PH) :=
  mo_holdsAny_L2 v0 v1 0 h
theorem mo_holdsAny_0_ok (X : CT) (v0 : Option Nat) (v1 : Int32) (h : PH) : Im X (cX6_holdsAny, 3, RX6, "holdsAny", (some .boolean), 3) 0 [some (.inr v0), some (.inl v1), none] [] h (mo_holdsAny_0 v0 v1 h) szI (kI X) := by
  unfold mo_holdsAny_0
  refine im_iconst (pc := 0) (v := 0) dX6_holdsAny_0 (by decide) ?_
  refine im_istore_n (pc := 1) (lv' := [some (.inr v0), some (.inl v1), some (.inl 0)]) dX6_holdsAny_1 rfl (by decide) rfl ?_
  exact Im.drop [true, true, true] rfl (mo_holdsAny_L2_ok X v0 v1 0 h)
noncomputable def mo_holdsAny (a0 : Option Nat) (a1 : Int32) (h : PH) : Option (Int32 × PH) := grd (isC [5] a0 h) (mo_holdsAny_0 a0 a1 h)
theorem mo_holdsAny_im : IM_X6_holdsAny mo_holdsAny 3 := by
  intro a0 a1 h r h' e
  obtain ⟨e1, e2⟩ := grd_some e
  exact ⟨e1, SpI.of (k := 1) (plainFor_of_name (by decide)) rfl (fun X => Im.drop [true, true, false] rfl (mo_holdsAny_0_ok X a0 a1 h)) e2⟩
def IM_X6_byLaw (f : Option Nat → Int32 → Int32 → PH → Option (Int32 × PH)) (d : Nat) : Prop := ∀ (a0 : Option Nat) (a1 : Int32) (a2 : Int32) (h : PH) (r : Int32) (h' : PH), f a0 a1 a2 h = some (r, h') → isC [5] a0 h = true ∧ SpI yX6_byLaw cX6_byLaw 5 (some .int) d [.inr a0, .inl a1, .inl a2] h r h'
noncomputable def mo_byLaw_b2 (v0 : Option Nat) (v1 : Int32) (v2 : Int32) (v3 : Int32) (h : PH) : Option ((Int32 × PH) ⊕ (Int32 × PH)) :=
  (gfi [5] 13 v0 h).bind fun x51 =>
  (if x51 ≤ v3 then
  some (.inr ((0, h)))
  else
  (gfr [5] 21 v0 h).bind fun r52 =>
  (ald 0 r52 v3 h).bind fun x53 =>
  (if x53 = v1 then
  (gfr [5] 23 v0 h).bind fun r54 =>
  (ald 0 r54 v3 h).bind fun x55 =>
  (gfr [5] 24 v0 h).bind fun r56 =>
  (ald 0 r56 v3 h).bind fun x57 =>
  bd2 (mo_comesTo v0 x55 x57 h) fun x59 h58 =>
  (if x59 = 1 then
  (gfr [5] 22 v0 h58).bind fun r60 =>
  (ald 0 r60 v3 h58).bind fun x61 =>
  (gfr [5] 23 v0 h58).bind fun r62 =>
  (ald 0 r62 v3 h58).bind fun x63 =>
  bd2 (mo_comesTo v0 x61 x63 h58) fun x65 h64 =>
  (if 0 ≤ x65 then
  (if x65 ≤ v2 then
  some (.inr ((x65, h64)))
  else
  some (.inr ((v2, h64))))
  else
  some (.inr ((0, h64))))
  else
  some (.inl ((v3 + 1), h58)))
  else
  some (.inl ((v3 + 1), h))))
noncomputable def mo_byLaw_L2 (v0 : Option Nat) (v1 : Int32) (v2 : Int32) (v3 : Int32) (h : PH) : Option (Int32 × PH) :=
  iter (fun s : Int32 × PH => mo_byLaw_b2 v0 v1 v2 s.1 s.2) (v3, h)
theorem mo_byLaw_b2_ok (X : CT) (v0 : Option Nat) (v1 : Int32) (v2 : Int32) (v3 : Int32) (h : PH) : Im X (cX6_byLaw, 5, RX6, "byLaw", (some .int), 3) 2 [some (.inr v0), some (.inl v1), some (.inl v2), some (.inl v3), none] [] h (mo_byLaw_b2 v0 v1 v2 v3 h) (ez (fun s : Int32 × PH => s.2) szI) (ek X 2 (fun s : Int32 × PH => [some (.inr v0), some (.inl v1), some (.inl v2), some (.inl s.1), none]) (fun s : Int32 × PH => s.2) (kI X)) := by
  unfold mo_byLaw_b2
  refine im_iload_n (pc := 2) dX6_byLaw_2 rfl rfl ?_
  refine im_aload_n (pc := 3) dX6_byLaw_3 rfl rfl ?_
  refine im_gi (pc := 4) fl_X6_234 dX6_byLaw_4 fun x51 => ?_
  refine im_icmp_ge (pc := 7) (tgt := 89) dX6_byLaw_7 (by decide) ?_ ?_
  · refine im_iconst (pc := 89) (v := 0) dX6_byLaw_89 (by decide) ?_
    exact Im.outS (im_iret (pc := 90) dX6_byLaw_90)
  · refine im_aload_n (pc := 10) dX6_byLaw_10 rfl rfl ?_
    refine im_gr (pc := 11) fl_X6_44 dX6_byLaw_11 fun r52 => ?_
    refine im_iload_n (pc := 14) dX6_byLaw_14 rfl rfl ?_
    refine im_iald (pc := 15) dX6_byLaw_15 fun x53 => ?_
    refine im_iload_n (pc := 16) dX6_byLaw_16 rfl rfl ?_
    refine im_icmp_ne (pc := 17) (tgt := 83) dX6_byLaw_17 (by decide) ?_ ?_
    · refine im_iinc (pc := 83) (v := (v3 + 1)) (lv' := [some (.inr v0), some (.inl v1), some (.inl v2), some (.inl (v3 + 1)), none]) dX6_byLaw_83 rfl rfl (by decide) rfl ?_
      refine im_goto (pc := 86) (tgt := 2) dX6_byLaw_86 (by decide) ?_
      exact Im.back [true, true, true, true, false] rfl rfl
    · refine im_aload_n (pc := 20) dX6_byLaw_20 rfl rfl ?_
      refine im_aload_n (pc := 21) dX6_byLaw_21 rfl rfl ?_
      refine im_gr (pc := 22) fl_X6_50 dX6_byLaw_22 fun r54 => ?_
      refine im_iload_n (pc := 25) dX6_byLaw_25 rfl rfl ?_
      refine im_iald (pc := 26) dX6_byLaw_26 fun x55 => ?_
      refine im_aload_n (pc := 27) dX6_byLaw_27 rfl rfl ?_
      refine im_gr (pc := 28) fl_X6_53 dX6_byLaw_28 fun r56 => ?_
      refine im_iload_n (pc := 31) dX6_byLaw_31 rfl rfl ?_
      refine im_iald (pc := 32) dX6_byLaw_32 fun x57 => ?_
      refine cl_X6_241 mo_comesTo_im (pc := 33) (by decide) dX6_byLaw_33 (Nat.le_of_ble_eq_true rfl) fun x59 h58 => ?_
      refine im_iconst (pc := 36) (v := 1) dX6_byLaw_36 (by decide) ?_
      refine im_icmp_eq (pc := 37) (tgt := 43) dX6_byLaw_37 (by decide) ?_ ?_
      · refine im_aload_n (pc := 43) dX6_byLaw_43 rfl rfl ?_
        refine im_aload_n (pc := 44) dX6_byLaw_44 rfl rfl ?_
        refine im_gr (pc := 45) fl_X6_47 dX6_byLaw_45 fun r60 => ?_
        refine im_iload_n (pc := 48) dX6_byLaw_48 rfl rfl ?_
        refine im_iald (pc := 49) dX6_byLaw_49 fun x61 => ?_
        refine im_aload_n (pc := 50) dX6_byLaw_50 rfl rfl ?_
        refine im_gr (pc := 51) fl_X6_50 dX6_byLaw_51 fun r62 => ?_
        refine im_iload_n (pc := 54) dX6_byLaw_54 rfl rfl ?_
        refine im_iald (pc := 55) dX6_byLaw_55 fun x63 => ?_
        refine cl_X6_241 mo_comesTo_im (pc := 56) (by decide) dX6_byLaw_56 (Nat.le_of_ble_eq_true rfl) fun x65 h64 => ?_
        refine im_istore (pc := 59) (lv' := [some (.inr v0), some (.inl v1), some (.inl v2), some (.inl v3), some (.inl x65)]) dX6_byLaw_59 (by decide) rfl ?_
        refine im_iload (pc := 61) dX6_byLaw_61 rfl ?_
        refine im_if_ge (pc := 63) (tgt := 70) dX6_byLaw_63 (by decide) ?_ ?_
        · refine im_iload (pc := 70) dX6_byLaw_70 rfl ?_
          refine im_iload_n (pc := 72) dX6_byLaw_72 rfl rfl ?_
          refine im_icmp_le (pc := 73) (tgt := 80) dX6_byLaw_73 (by decide) ?_ ?_
          · refine im_iload (pc := 80) dX6_byLaw_80 rfl ?_
            exact Im.outS (im_iret (pc := 82) dX6_byLaw_82)
          · refine im_iload_n (pc := 76) dX6_byLaw_76 rfl rfl ?_
            refine im_goto (pc := 77) (tgt := 82) dX6_byLaw_77 (by decide) ?_
            exact Im.outS (im_iret (pc := 82) dX6_byLaw_82)
        · refine im_iconst (pc := 66) (v := 0) dX6_byLaw_66 (by decide) ?_
          refine im_goto (pc := 67) (tgt := 82) dX6_byLaw_67 (by decide) ?_
          exact Im.outS (im_iret (pc := 82) dX6_byLaw_82)
      · refine im_goto (pc := 40) (tgt := 83) dX6_byLaw_40 (by decide) ?_
        refine im_iinc (pc := 83) (v := (v3 + 1)) (lv' := [some (.inr v0), some (.inl v1), some (.inl v2), some (.inl (v3 + 1)), none]) dX6_byLaw_83 rfl rfl (by decide) rfl ?_
        refine im_goto (pc := 86) (tgt := 2) dX6_byLaw_86 (by decide) ?_
        exact Im.back [true, true, true, true, false] rfl rfl
theorem mo_byLaw_L2_ok (X : CT) (v0 : Option Nat) (v1 : Int32) (v2 : Int32) (v3 : Int32) (h : PH) : Im X (cX6_byLaw, 5, RX6, "byLaw", (some .int), 3) 2 [some (.inr v0), some (.inl v1), some (.inl v2), some (.inl v3), none] [] h (mo_byLaw_L2 v0 v1 v2 v3 h) szI (kI X) := by
  unfold mo_byLaw_L2
  exact Im.iter (lv := (fun s : Int32 × PH => [some (.inr v0), some (.inl v1), some (.inl v2), some (.inl s.1), none])) (hp := (fun s : Int32 × PH => s.2)) (fun s => mo_byLaw_b2_ok X v0 v1 v2 s.1 s.2) _ rfl rfl
noncomputable def mo_byLaw_0 (v0 : Option Nat) (v1 : Int32) (v2 : Int32) (h : PH) : Option (Int32 × PH) :=
  mo_byLaw_L2 v0 v1 v2 0 h
theorem mo_byLaw_0_ok (X : CT) (v0 : Option Nat) (v1 : Int32) (v2 : Int32) (h : PH) : Im X (cX6_byLaw, 5, RX6, "byLaw", (some .int), 3) 0 [some (.inr v0), some (.inl v1), some (.inl v2), none, none] [] h (mo_byLaw_0 v0 v1 v2 h) szI (kI X) := by
  unfold mo_byLaw_0
  refine im_iconst (pc := 0) (v := 0) dX6_byLaw_0 (by decide) ?_
  refine im_istore_n (pc := 1) (lv' := [some (.inr v0), some (.inl v1), some (.inl v2), some (.inl 0), none]) dX6_byLaw_1 rfl (by decide) rfl ?_
  exact Im.drop [true, true, true, true, false] rfl (mo_byLaw_L2_ok X v0 v1 v2 0 h)
noncomputable def mo_byLaw (a0 : Option Nat) (a1 : Int32) (a2 : Int32) (h : PH) : Option (Int32 × PH) := grd (isC [5] a0 h) (mo_byLaw_0 a0 a1 a2 h)
theorem mo_byLaw_im : IM_X6_byLaw mo_byLaw 3 := by
  intro a0 a1 a2 h r h' e
  obtain ⟨e1, e2⟩ := grd_some e
  exact ⟨e1, SpI.of (k := 2) (plainFor_of_name (by decide)) rfl (fun X => Im.drop [true, true, true, false, false] rfl (mo_byLaw_0_ok X a0 a1 a2 h)) e2⟩
theorem cl_X6_282 {X : CT} {cc : ByteArray} {nL : Nat} {mn : String} {ret : Option FieldType} {d d0 : Nat} {τ : Type} {pc : Nat} {lv : List (Option PV)} {st : List PV} {h : PH} {sz : τ → Nat × Nat} {K : τ → Prop} {f : Option Nat → Int32 → Int32 → PH → Option (PH)} (HR : IM_X6_feels f d0) {a0 : Option Nat} {a1 : Int32} {a2 : Int32} {g : PH → Option τ} (hd : d0 + 1 ≤ d) (hdg : decode cc pc = .ok (.invokevirtual 282, 3)) (hst : st.length ≤ 8) (kk : ∀ h', Im X (cc, nL, RX6, mn, ret, d) (pc + 3) lv st h' (g h') sz K) : Im X (cc, nL, RX6, mn, ret, d) pc lv (.inl a2 :: .inl a1 :: .inr a0 :: st) h ((f a0 a1 a2 h).bind g) sz K := by
  refine im_cV (y := yX6_feels) (cY := cX6_feels) (nY := 4) (rY := none) (d' := d0) (av := [.inr a0, .inl a1, .inl a2]) (fun h' e hX => ?_) (fun h' e => (HR _ _ _ _ _ e).2) hd (by decide) hst rfl kk
  obtain ⟨a, c, fs, rfl, ec, hm⟩ := isC_some (HR _ _ _ _ _ e).1
  cases List.mem_singleton.mp hm
  exact cal_V (n := 2) hX (lw_V q1490 q1492 qs75 q112 q1493) (by decide +kernel) rfl rfl ec hdg

theorem cl_X6_285 {X : CT} {cc : ByteArray} {nL : Nat} {mn : String} {ret : Option FieldType} {d d0 : Nat} {τ : Type} {pc : Nat} {lv : List (Option PV)} {st : List PV} {h : PH} {sz : τ → Nat × Nat} {K : τ → Prop} {f : Option Nat → Int32 → Int32 → PH → Option (Int32 × PH)} (HR : IM_X6_byLaw f d0) {a0 : Option Nat} {a1 : Int32} {a2 : Int32} {g : Int32 → PH → Option τ} (hd : d0 + 1 ≤ d) (hdg : decode cc pc = .ok (.invokevirtual 285, 3)) (hst : st.length ≤ 8) (kk : ∀ r h', Im X (cc, nL, RX6, mn, ret, d) (pc + 3) lv (.inl r :: st) h' (g r h') sz K) : Im X (cc, nL, RX6, mn, ret, d) pc lv (.inl a2 :: .inl a1 :: .inr a0 :: st) h (bd2 (f a0 a1 a2 h) g) sz K := by
  refine im_cI (y := yX6_byLaw) (cY := cX6_byLaw) (nY := 5) (rY := (some .int)) (d' := d0) (av := [.inr a0, .inl a1, .inl a2]) (fun r h' e hX => ?_) (fun r h' e => (HR _ _ _ _ _ _ e).2) hd (by decide) hst rfl kk
  obtain ⟨a, c, fs, rfl, ec, hm⟩ := isC_some (HR _ _ _ _ _ _ e).1
  cases List.mem_singleton.mp hm
  exact cal_V (n := 2) hX (lw_V q1530 q1532 qs82 q112 q1533) (by decide +kernel) rfl rfl ec hdg

def IM_X6_likesMost (f : Option Nat → Int32 → PH → Option (Int32 × PH)) (d : Nat) : Prop := ∀ (a0 : Option Nat) (a1 : Int32) (h : PH) (r : Int32) (h' : PH), f a0 a1 h = some (r, h') → isC [5] a0 h = true ∧ SpI yX6_likesMost cX6_likesMost 6 (some .int) d [.inr a0, .inl a1] h r h'
noncomputable def mo_likesMost_b7 (v0 : Option Nat) (v1 : Int32) (v2 : Int32) (v3 : Int32) (v4 : Int32) (h : PH) : Option ((Int32 × Int32 × Int32 × PH) ⊕ (Int32 × PH)) :=
  (if 16 ≤ v4 then
  some (.inr ((v2, h)))
  else
  (mo_areBeside v0 v1 v4 h).bind fun x51 =>
  (if x51 = 0 then
  some (.inl (v2, v3, (v4 + 1), h))
  else
  (gfr [5] 0 v0 h).bind fun r52 =>
  (ald 0 r52 (32 + v4) h).bind fun x53 =>
  (if x53 = 0 then
  some (.inl (v2, v3, (v4 + 1), h))
  else
  (mo_feels v0 v1 v4 h).bind fun h54 =>
  bd2 (mo_byLaw v0 101 9999 h54) fun x56 h55 =>
  (if v3 < x56 then
  some (.inl (v4, x56, (v4 + 1), h55))
  else
  some (.inl (v2, v3, (v4 + 1), h55))))))
noncomputable def mo_likesMost_L7 (v0 : Option Nat) (v1 : Int32) (v2 : Int32) (v3 : Int32) (v4 : Int32) (h : PH) : Option (Int32 × PH) :=
  iter (fun s : Int32 × Int32 × Int32 × PH => mo_likesMost_b7 v0 v1 s.1 s.2.1 s.2.2.1 s.2.2.2) (v2, v3, v4, h)
theorem mo_likesMost_b7_ok (X : CT) (v0 : Option Nat) (v1 : Int32) (v2 : Int32) (v3 : Int32) (v4 : Int32) (h : PH) : Im X (cX6_likesMost, 6, RX6, "likesMost", (some .int), 6) 7 [some (.inr v0), some (.inl v1), some (.inl v2), some (.inl v3), some (.inl v4), none] [] h (mo_likesMost_b7 v0 v1 v2 v3 v4 h) (ez (fun s : Int32 × Int32 × Int32 × PH => s.2.2.2) szI) (ek X 7 (fun s : Int32 × Int32 × Int32 × PH => [some (.inr v0), some (.inl v1), some (.inl s.1), some (.inl s.2.1), some (.inl s.2.2.1), none]) (fun s : Int32 × Int32 × Int32 × PH => s.2.2.2) (kI X)) := by
  unfold mo_likesMost_b7
  refine im_iload (pc := 7) dX6_likesMost_7 rfl ?_
  refine im_bipush (pc := 9) (v := 16) dX6_likesMost_9 (by decide) ?_
  refine im_icmp_ge (pc := 11) (tgt := 79) dX6_likesMost_11 (by decide) ?_ ?_
  · refine im_iload_n (pc := 79) dX6_likesMost_79 rfl rfl ?_
    exact Im.outS (im_iret (pc := 80) dX6_likesMost_80)
  · refine im_aload_n (pc := 14) dX6_likesMost_14 rfl rfl ?_
    refine im_iload_n (pc := 15) dX6_likesMost_15 rfl rfl ?_
    refine im_iload (pc := 16) dX6_likesMost_16 rfl ?_
    refine cl_X6_123 mo_areBeside_im (pc := 18) (by decide) dX6_likesMost_18 (Nat.le_of_ble_eq_true rfl) fun x51 => ?_
    refine im_if_eq (pc := 21) (tgt := 73) dX6_likesMost_21 (by decide) ?_ ?_
    · refine im_iinc (pc := 73) (v := (v4 + 1)) (lv' := [some (.inr v0), some (.inl v1), some (.inl v2), some (.inl v3), some (.inl (v4 + 1)), none]) dX6_likesMost_73 rfl rfl (by decide) rfl ?_
      refine im_goto (pc := 76) (tgt := 7) dX6_likesMost_76 (by decide) ?_
      exact Im.back [true, true, true, true, true, false] rfl rfl
    · refine im_aload_n (pc := 24) dX6_likesMost_24 rfl rfl ?_
      refine im_gr (pc := 25) fl_X6_7 dX6_likesMost_25 fun r52 => ?_
      refine im_bipush (pc := 28) (v := 32) dX6_likesMost_28 (by decide) ?_
      refine im_iload (pc := 30) dX6_likesMost_30 rfl ?_
      refine im_iadd (pc := 32) dX6_likesMost_32 ?_
      refine im_iald (pc := 33) dX6_likesMost_33 fun x53 => ?_
      refine im_if_ne (pc := 34) (tgt := 40) dX6_likesMost_34 (by decide) ?_ ?_
      · refine im_aload_n (pc := 40) dX6_likesMost_40 rfl rfl ?_
        refine im_iload_n (pc := 41) dX6_likesMost_41 rfl rfl ?_
        refine im_iload (pc := 42) dX6_likesMost_42 rfl ?_
        refine cl_X6_282 mo_feels_im (pc := 44) (by decide) dX6_likesMost_44 (Nat.le_of_ble_eq_true rfl) fun h54 => ?_
        refine im_aload_n (pc := 47) dX6_likesMost_47 rfl rfl ?_
        refine im_bipush (pc := 48) (v := 101) dX6_likesMost_48 (by decide) ?_
        refine im_sipush (pc := 50) (v := 9999) dX6_likesMost_50 (by decide) ?_
        refine cl_X6_285 mo_byLaw_im (pc := 53) (by decide) dX6_likesMost_53 (Nat.le_of_ble_eq_true rfl) fun x56 h55 => ?_
        refine im_istore (pc := 56) (lv' := [some (.inr v0), some (.inl v1), some (.inl v2), some (.inl v3), some (.inl v4), some (.inl x56)]) dX6_likesMost_56 (by decide) rfl ?_
        refine im_iload (pc := 58) dX6_likesMost_58 rfl ?_
        refine im_iload_n (pc := 60) dX6_likesMost_60 rfl rfl ?_
        refine im_icmp_gt (pc := 61) (tgt := 67) dX6_likesMost_61 (by decide) ?_ ?_
        · refine im_iload (pc := 67) dX6_likesMost_67 rfl ?_
          refine im_istore_n (pc := 69) (lv' := [some (.inr v0), some (.inl v1), some (.inl v2), some (.inl x56), some (.inl v4), some (.inl x56)]) dX6_likesMost_69 rfl (by decide) rfl ?_
          refine im_iload (pc := 70) dX6_likesMost_70 rfl ?_
          refine im_istore_n (pc := 72) (lv' := [some (.inr v0), some (.inl v1), some (.inl v4), some (.inl x56), some (.inl v4), some (.inl x56)]) dX6_likesMost_72 rfl (by decide) rfl ?_
          refine im_iinc (pc := 73) (v := (v4 + 1)) (lv' := [some (.inr v0), some (.inl v1), some (.inl v4), some (.inl x56), some (.inl (v4 + 1)), some (.inl x56)]) dX6_likesMost_73 rfl rfl (by decide) rfl ?_
          refine im_goto (pc := 76) (tgt := 7) dX6_likesMost_76 (by decide) ?_
          exact Im.back [true, true, true, true, true, false] rfl rfl
        · refine im_goto (pc := 64) (tgt := 73) dX6_likesMost_64 (by decide) ?_
          refine im_iinc (pc := 73) (v := (v4 + 1)) (lv' := [some (.inr v0), some (.inl v1), some (.inl v2), some (.inl v3), some (.inl (v4 + 1)), some (.inl x56)]) dX6_likesMost_73 rfl rfl (by decide) rfl ?_
          refine im_goto (pc := 76) (tgt := 7) dX6_likesMost_76 (by decide) ?_
          exact Im.back [true, true, true, true, true, false] rfl rfl
      · refine im_goto (pc := 37) (tgt := 73) dX6_likesMost_37 (by decide) ?_
        refine im_iinc (pc := 73) (v := (v4 + 1)) (lv' := [some (.inr v0), some (.inl v1), some (.inl v2), some (.inl v3), some (.inl (v4 + 1)), none]) dX6_likesMost_73 rfl rfl (by decide) rfl ?_
        refine im_goto (pc := 76) (tgt := 7) dX6_likesMost_76 (by decide) ?_
        exact Im.back [true, true, true, true, true, false] rfl rfl
theorem mo_likesMost_L7_ok (X : CT) (v0 : Option Nat) (v1 : Int32) (v2 : Int32) (v3 : Int32) (v4 : Int32) (h : PH) : Im X (cX6_likesMost, 6, RX6, "likesMost", (some .int), 6) 7 [some (.inr v0), some (.inl v1), some (.inl v2), some (.inl v3), some (.inl v4), none] [] h (mo_likesMost_L7 v0 v1 v2 v3 v4 h) szI (kI X) := by
  unfold mo_likesMost_L7
  exact Im.iter (lv := (fun s : Int32 × Int32 × Int32 × PH => [some (.inr v0), some (.inl v1), some (.inl s.1), some (.inl s.2.1), some (.inl s.2.2.1), none])) (hp := (fun s : Int32 × Int32 × Int32 × PH => s.2.2.2)) (fun s => mo_likesMost_b7_ok X v0 v1 s.1 s.2.1 s.2.2.1 s.2.2.2) _ rfl rfl
noncomputable def mo_likesMost_0 (v0 : Option Nat) (v1 : Int32) (h : PH) : Option (Int32 × PH) :=
  mo_likesMost_L7 v0 v1 (-1) 0 0 h
theorem mo_likesMost_0_ok (X : CT) (v0 : Option Nat) (v1 : Int32) (h : PH) : Im X (cX6_likesMost, 6, RX6, "likesMost", (some .int), 6) 0 [some (.inr v0), some (.inl v1), none, none, none, none] [] h (mo_likesMost_0 v0 v1 h) szI (kI X) := by
  unfold mo_likesMost_0
  refine im_iconst (pc := 0) (v := (-1)) dX6_likesMost_0 (by decide) ?_
  refine im_istore_n (pc := 1) (lv' := [some (.inr v0), some (.inl v1), some (.inl (-1)), none, none, none]) dX6_likesMost_1 rfl (by decide) rfl ?_
  refine im_iconst (pc := 2) (v := 0) dX6_likesMost_2 (by decide) ?_
  refine im_istore_n (pc := 3) (lv' := [some (.inr v0), some (.inl v1), some (.inl (-1)), some (.inl 0), none, none]) dX6_likesMost_3 rfl (by decide) rfl ?_
  refine im_iconst (pc := 4) (v := 0) dX6_likesMost_4 (by decide) ?_
  refine im_istore (pc := 5) (lv' := [some (.inr v0), some (.inl v1), some (.inl (-1)), some (.inl 0), some (.inl 0), none]) dX6_likesMost_5 (by decide) rfl ?_
  exact Im.drop [true, true, true, true, true, false] rfl (mo_likesMost_L7_ok X v0 v1 (-1) 0 0 h)
noncomputable def mo_likesMost (a0 : Option Nat) (a1 : Int32) (h : PH) : Option (Int32 × PH) := grd (isC [5] a0 h) (mo_likesMost_0 a0 a1 h)
theorem mo_likesMost_im : IM_X6_likesMost mo_likesMost 6 := by
  intro a0 a1 h r h' e
  obtain ⟨e1, e2⟩ := grd_some e
  exact ⟨e1, SpI.of (k := 4) (plainFor_of_name (by decide)) rfl (fun X => Im.drop [true, true, false, false, false, false] rfl (mo_likesMost_0_ok X a0 a1 h)) e2⟩
def IM_X6_has (f : Int32 → Int32 → PH → Option (Int32)) (d : Nat) : Prop := ∀ (a0 : Int32) (a1 : Int32) (h : PH) (r : Int32), f a0 a1 h = some r → SpI yX6_has cX6_has 2 (some .boolean) d [.inl a0, .inl a1] h r h
noncomputable def mo_has_0 (v0 : Int32) (v1 : Int32) (h : PH) : Option (Int32) :=
  (if ((v0 >>> (v1 &&& 31)) &&& 1) = 1 then
  some (1)
  else
  some (0))
theorem mo_has_0_ok (X : CT) (v0 : Int32) (v1 : Int32) (h : PH) : Im X (cX6_has, 2, RX6, "has", (some .boolean), 1) 0 [some (.inl v0), some (.inl v1)] [] h (mo_has_0 v0 v1 h) (szP h) (kP X h) := by
  unfold mo_has_0
  refine im_iload_n (pc := 0) dX6_has_0 rfl rfl ?_
  refine im_iload_n (pc := 1) dX6_has_1 rfl rfl ?_
  refine im_ishr (pc := 2) dX6_has_2 ?_
  refine im_iconst (pc := 3) (v := 1) dX6_has_3 (by decide) ?_
  refine im_iand (pc := 4) dX6_has_4 ?_
  refine im_iconst (pc := 5) (v := 1) dX6_has_5 (by decide) ?_
  refine im_icmp_ne (pc := 6) (tgt := 13) dX6_has_6 (by decide) ?_ ?_
  · refine im_iconst (pc := 13) (v := 0) dX6_has_13 (by decide) ?_
    exact im_zretTP (pc := 14) (nar_z (Or.inl rfl)) dX6_has_14
  · refine im_iconst (pc := 9) (v := 1) dX6_has_9 (by decide) ?_
    refine im_goto (pc := 10) (tgt := 14) dX6_has_10 (by decide) ?_
    exact im_zretTP (pc := 14) (nar_z (Or.inr rfl)) dX6_has_14
noncomputable def mo_has (a0 : Int32) (a1 : Int32) (h : PH) : Option (Int32) := mo_has_0 a0 a1 h
theorem mo_has_im : IM_X6_has mo_has 1 := by
  intro a0 a1 h r e
  exact SpI.ofP (k := 0) (plainFor_of_name (by decide)) rfl (fun X => Im.drop [true, true] rfl (mo_has_0_ok X a0 a1 h)) e
theorem cl_X6_288 {X : CT} {cc : ByteArray} {nL : Nat} {mn : String} {ret : Option FieldType} {d d0 : Nat} {τ : Type} {pc : Nat} {lv : List (Option PV)} {st : List PV} {h : PH} {sz : τ → Nat × Nat} {K : τ → Prop} {f : Int32 → Int32 → PH → Option (Int32)} (HR : IM_X6_has f d0) {a0 : Int32} {a1 : Int32} {g : Int32 → Option τ} (hd : d0 + 1 ≤ d) (hdg : decode cc pc = .ok (.invokestatic 288, 3)) (hst : st.length ≤ 8) (kk : ∀ r, Im X (cc, nL, RX6, mn, ret, d) (pc + 3) lv (.inl r :: st) h (g r) sz K) : Im X (cc, nL, RX6, mn, ret, d) pc lv (.inl a1 :: .inl a0 :: st) h ((f a0 a1 h).bind g) sz K := by
  refine im_cP (y := yX6_has) (cY := cX6_has) (nY := 2) (rY := (some .boolean)) (d' := d0) (av := [.inl a0, .inl a1]) (fun r e hX => ?_) (fun r e => HR _ _ _ _ e) hd (by decide) hst rfl kk
  exact cal_S (n := 2) hX (lw_S q1539 q1540 q112 q1541) (by decide +kernel) rfl hdg

theorem fl_X6_291 : ∀ c ∈ [5], FL RX6 291 c 37 := List.forall_mem_cons.mpr ⟨⟨RX6, TX6, 50, rfl, in_X6, by decide, Or.inl q1214⟩, fun _ h => absurd h List.not_mem_nil⟩
theorem fp_X6_291 : ∀ c ∈ [5], FP RX6 291 c 37 .int := List.forall_mem_cons.mpr ⟨⟨RX6, TX6, 50, rfl, in_X6, by decide, apt_X6, rfl, by decide +kernel, Or.inl q1214⟩, fun _ h => absurd h List.not_mem_nil⟩
def IM_X6_learns (f : Option Nat → Int32 → Int32 → PH → Option (PH)) (d : Nat) : Prop := ∀ (a0 : Option Nat) (a1 : Int32) (a2 : Int32) (h : PH) (h' : PH), f a0 a1 a2 h = some h' → isC [5] a0 h = true ∧ SpV yX6_learns cX6_learns 4 none d [.inr a0, .inl a1, .inl a2] h h'
noncomputable def mo_learns_b2 (v0 : Option Nat) (v1 : Int32) (v2 : Int32) (v3 : Int32) (h : PH) : Option ((Int32) ⊕ (PH)) :=
  (if 16 ≤ v3 then
  some (.inr h)
  else
  (gfr [5] 0 v0 h).bind fun r51 =>
  (ald 0 r51 (16 + v2) h).bind fun x52 =>
  (mo_has x52 v3 h).bind fun x53 =>
  (if x53 = 0 then
  some (.inl (v3 + 1))
  else
  (gfr [5] 0 v0 h).bind fun r54 =>
  (ald 0 r54 (16 + v1) h).bind fun x55 =>
  (mo_has x55 v3 h).bind fun x56 =>
  (if x56 = 0 then
  (gfr [5] 0 v0 h).bind fun r57 =>
  (gfr [5] 0 v0 h).bind fun r58 =>
  (ald 0 r58 (16 + v1) h).bind fun x59 =>
  (ast 0 r57 (16 + v1) (x59 ||| ((1 : Int32) <<< (v3 &&& 31))) h).bind fun h60 =>
  (gfi [5] 37 v0 h60).bind fun x61 =>
  (pf [5] 37 v0 (.inl (x61 + 1)) h60).bind fun h62 =>
  some (.inr h62)
  else
  some (.inl (v3 + 1)))))
noncomputable def mo_learns_L2 (v0 : Option Nat) (v1 : Int32) (v2 : Int32) (v3 : Int32) (h : PH) : Option (PH) :=
  iter (fun s : Int32 => mo_learns_b2 v0 v1 v2 s h) v3
theorem mo_learns_b2_ok (X : CT) (v0 : Option Nat) (v1 : Int32) (v2 : Int32) (v3 : Int32) (h : PH) : Im X (cX6_learns, 4, RX6, "learns", none, 2) 2 [some (.inr v0), some (.inl v1), some (.inl v2), some (.inl v3)] [] h (mo_learns_b2 v0 v1 v2 v3 h) (ez (fun s : Int32 => h) szV) (ek X 2 (fun s : Int32 => [some (.inr v0), some (.inl v1), some (.inl v2), some (.inl s)]) (fun s : Int32 => h) (kV X)) := by
  unfold mo_learns_b2
  refine im_iload_n (pc := 2) dX6_learns_2 rfl rfl ?_
  refine im_bipush (pc := 3) (v := 16) dX6_learns_3 (by decide) ?_
  refine im_icmp_ge (pc := 5) (tgt := 82) dX6_learns_5 (by decide) ?_ ?_
  · exact Im.outS (im_vret (pc := 82) dX6_learns_82)
  · refine im_aload_n (pc := 8) dX6_learns_8 rfl rfl ?_
    refine im_gr (pc := 9) fl_X6_7 dX6_learns_9 fun r51 => ?_
    refine im_bipush (pc := 12) (v := 16) dX6_learns_12 (by decide) ?_
    refine im_iload_n (pc := 14) dX6_learns_14 rfl rfl ?_
    refine im_iadd (pc := 15) dX6_learns_15 ?_
    refine im_iald (pc := 16) dX6_learns_16 fun x52 => ?_
    refine im_iload_n (pc := 17) dX6_learns_17 rfl rfl ?_
    refine cl_X6_288 mo_has_im (pc := 18) (by decide) dX6_learns_18 (Nat.le_of_ble_eq_true rfl) fun x53 => ?_
    refine im_if_eq (pc := 21) (tgt := 76) dX6_learns_21 (by decide) ?_ ?_
    · refine im_iinc (pc := 76) (v := (v3 + 1)) (lv' := [some (.inr v0), some (.inl v1), some (.inl v2), some (.inl (v3 + 1))]) dX6_learns_76 rfl rfl (by decide) rfl ?_
      refine im_goto (pc := 79) (tgt := 2) dX6_learns_79 (by decide) ?_
      exact Im.back [true, true, true, true] rfl rfl
    · refine im_aload_n (pc := 24) dX6_learns_24 rfl rfl ?_
      refine im_gr (pc := 25) fl_X6_7 dX6_learns_25 fun r54 => ?_
      refine im_bipush (pc := 28) (v := 16) dX6_learns_28 (by decide) ?_
      refine im_iload_n (pc := 30) dX6_learns_30 rfl rfl ?_
      refine im_iadd (pc := 31) dX6_learns_31 ?_
      refine im_iald (pc := 32) dX6_learns_32 fun x55 => ?_
      refine im_iload_n (pc := 33) dX6_learns_33 rfl rfl ?_
      refine cl_X6_288 mo_has_im (pc := 34) (by decide) dX6_learns_34 (Nat.le_of_ble_eq_true rfl) fun x56 => ?_
      refine im_if_eq (pc := 37) (tgt := 43) dX6_learns_37 (by decide) ?_ ?_
      · refine im_aload_n (pc := 43) dX6_learns_43 rfl rfl ?_
        refine im_gr (pc := 44) fl_X6_7 dX6_learns_44 fun r57 => ?_
        refine im_bipush (pc := 47) (v := 16) dX6_learns_47 (by decide) ?_
        refine im_iload_n (pc := 49) dX6_learns_49 rfl rfl ?_
        refine im_iadd (pc := 50) dX6_learns_50 ?_
        refine im_aload_n (pc := 51) dX6_learns_51 rfl rfl ?_
        refine im_gr (pc := 52) fl_X6_7 dX6_learns_52 fun r58 => ?_
        refine im_bipush (pc := 55) (v := 16) dX6_learns_55 (by decide) ?_
        refine im_iload_n (pc := 57) dX6_learns_57 rfl rfl ?_
        refine im_iadd (pc := 58) dX6_learns_58 ?_
        refine im_iald (pc := 59) dX6_learns_59 fun x59 => ?_
        refine im_iconst (pc := 60) (v := 1) dX6_learns_60 (by decide) ?_
        refine im_iload_n (pc := 61) dX6_learns_61 rfl rfl ?_
        refine im_ishl (pc := 62) dX6_learns_62 ?_
        refine im_ior (pc := 63) dX6_learns_63 ?_
        refine im_iast (pc := 64) dX6_learns_64 fun h60 => ?_
        refine im_aload_n (pc := 65) dX6_learns_65 rfl rfl ?_
        refine im_aload_n (pc := 66) dX6_learns_66 rfl rfl ?_
        refine im_gi (pc := 67) fl_X6_291 dX6_learns_67 fun x61 => ?_
        refine im_iconst (pc := 70) (v := 1) dX6_learns_70 (by decide) ?_
        refine im_iadd (pc := 71) dX6_learns_71 ?_
        refine im_pf (pc := 72) fp_X6_291 (okT_i _) dX6_learns_72 fun h62 => ?_
        exact Im.outS (im_vret (pc := 75) dX6_learns_75)
      · refine im_goto (pc := 40) (tgt := 76) dX6_learns_40 (by decide) ?_
        refine im_iinc (pc := 76) (v := (v3 + 1)) (lv' := [some (.inr v0), some (.inl v1), some (.inl v2), some (.inl (v3 + 1))]) dX6_learns_76 rfl rfl (by decide) rfl ?_
        refine im_goto (pc := 79) (tgt := 2) dX6_learns_79 (by decide) ?_
        exact Im.back [true, true, true, true] rfl rfl
theorem mo_learns_L2_ok (X : CT) (v0 : Option Nat) (v1 : Int32) (v2 : Int32) (v3 : Int32) (h : PH) : Im X (cX6_learns, 4, RX6, "learns", none, 2) 2 [some (.inr v0), some (.inl v1), some (.inl v2), some (.inl v3)] [] h (mo_learns_L2 v0 v1 v2 v3 h) szV (kV X) := by
  unfold mo_learns_L2
  exact Im.iter (lv := (fun s : Int32 => [some (.inr v0), some (.inl v1), some (.inl v2), some (.inl s)])) (hp := (fun s : Int32 => h)) (fun s => mo_learns_b2_ok X v0 v1 v2 s h) _ rfl rfl
noncomputable def mo_learns_0 (v0 : Option Nat) (v1 : Int32) (v2 : Int32) (h : PH) : Option (PH) :=
  mo_learns_L2 v0 v1 v2 0 h
theorem mo_learns_0_ok (X : CT) (v0 : Option Nat) (v1 : Int32) (v2 : Int32) (h : PH) : Im X (cX6_learns, 4, RX6, "learns", none, 2) 0 [some (.inr v0), some (.inl v1), some (.inl v2), none] [] h (mo_learns_0 v0 v1 v2 h) szV (kV X) := by
  unfold mo_learns_0
  refine im_iconst (pc := 0) (v := 0) dX6_learns_0 (by decide) ?_
  refine im_istore_n (pc := 1) (lv' := [some (.inr v0), some (.inl v1), some (.inl v2), some (.inl 0)]) dX6_learns_1 rfl (by decide) rfl ?_
  exact Im.drop [true, true, true, true] rfl (mo_learns_L2_ok X v0 v1 v2 0 h)
noncomputable def mo_learns (a0 : Option Nat) (a1 : Int32) (a2 : Int32) (h : PH) : Option (PH) := grd (isC [5] a0 h) (mo_learns_0 a0 a1 a2 h)
theorem mo_learns_im : IM_X6_learns mo_learns 2 := by
  intro a0 a1 a2 h h' e
  obtain ⟨e1, e2⟩ := grd_some e
  exact ⟨e1, SpV.of (k := 1) (plainFor_of_name (by decide)) rfl (fun X => Im.drop [true, true, true, false] rfl (mo_learns_0_ok X a0 a1 a2 h)) e2⟩
def IM_X6_min (f : Int32 → Int32 → PH → Option (Int32)) (d : Nat) : Prop := ∀ (a0 : Int32) (a1 : Int32) (h : PH) (r : Int32), f a0 a1 h = some r → SpI yX6_min cX6_min 2 (some .int) d [.inl a0, .inl a1] h r h
noncomputable def mo_min_0 (v0 : Int32) (v1 : Int32) (h : PH) : Option (Int32) :=
  (if v1 ≤ v0 then
  some (v1)
  else
  some (v0))
theorem mo_min_0_ok (X : CT) (v0 : Int32) (v1 : Int32) (h : PH) : Im X (cX6_min, 2, RX6, "min", (some .int), 1) 0 [some (.inl v0), some (.inl v1)] [] h (mo_min_0 v0 v1 h) (szP h) (kP X h) := by
  unfold mo_min_0
  refine im_iload_n (pc := 0) dX6_min_0 rfl rfl ?_
  refine im_iload_n (pc := 1) dX6_min_1 rfl rfl ?_
  refine im_icmp_ge (pc := 2) (tgt := 9) dX6_min_2 (by decide) ?_ ?_
  · refine im_iload_n (pc := 9) dX6_min_9 rfl rfl ?_
    exact im_iretP (pc := 10) dX6_min_10
  · refine im_iload_n (pc := 5) dX6_min_5 rfl rfl ?_
    refine im_goto (pc := 6) (tgt := 10) dX6_min_6 (by decide) ?_
    exact im_iretP (pc := 10) dX6_min_10
noncomputable def mo_min (a0 : Int32) (a1 : Int32) (h : PH) : Option (Int32) := mo_min_0 a0 a1 h
theorem mo_min_im : IM_X6_min mo_min 1 := by
  intro a0 a1 h r e
  exact SpI.ofP (k := 0) (plainFor_of_name (by decide)) rfl (fun X => Im.drop [true, true] rfl (mo_min_0_ok X a0 a1 h)) e
