set_option maxRecDepth 100000
theorem nw_L_7 : NW R_law 7 0 [.inr none, .inr none, .inr none, .inr none, .inr none, .inr none, .inl 0, .inl 0, .inr none, .inr none, .inr none, .inl 0, .inr none, .inr none, .inl 0, .inl 0, .inr none, .inr none, .inr none, .inr none] := ⟨RX0, TX0, tyX0, rfl, in_X0, tyX0_ok, q132, q133, q106, fun G j hj => by
  have hj : j < 20 := hj
  match j, hj with
  | 0, _ => rfl
  | 1, _ => rfl
  | 2, _ => rfl
  | 3, _ => rfl
  | 4, _ => rfl
  | 5, _ => rfl
  | 6, _ => rfl
  | 7, _ => rfl
  | 8, _ => rfl
  | 9, _ => rfl
  | 10, _ => rfl
  | 11, _ => rfl
  | 12, _ => rfl
  | 13, _ => rfl
  | 14, _ => rfl
  | 15, _ => rfl
  | 16, _ => rfl
  | 17, _ => rfl
  | 18, _ => rfl
  | 19, _ => rfl
  | k + 20, hk => exact absurd hk (by omega)⟩
theorem cl_L_9 {X : CT} {cc : ByteArray} {nL : Nat} {mn : String} {ret : Option FieldType} {d d0 : Nat} {τ : Type} {pc : Nat} {lv : List (Option PV)} {st : List PV} {h : PH} {sz : τ → Nat × Nat} {K : τ → Prop} {f : Option Nat → PH → Option (PH)} (HR : IM_X0_init f d0) {a0 : Option Nat} {g : PH → Option τ} (hd : d0 + 1 ≤ d) (hdg : decode cc pc = .ok (.invokespecial 9, 3)) (hst : st.length ≤ 8) (kk : ∀ h', Im X (cc, nL, R_law, mn, ret, d) (pc + 3) lv st h' (g h') sz K) : Im X (cc, nL, R_law, mn, ret, d) pc lv (.inr a0 :: st) h ((f a0 h).bind g) sz K := by
  refine im_cV (y := yX0_init) (cY := cX0_init) (nY := 1) (rY := none) (d' := d0) (av := [.inr a0]) (fun h' e hX => ?_) (fun h' e => (HR _ _ _ e).2) hd (by decide) hst rfl kk
  obtain ⟨a, c, fs, rfl, ec, hm⟩ := isC_some (HR _ _ _ e).1
  exact cal_I (n := 0) hX q134 q135 q106 q136 rfl (by decide +kernel) rfl hdg

theorem nw_L_10 : NW R_law 10 5 [.inr none, .inr none, .inr none, .inr none, .inl 0, .inl 0, .inl 0, .inl 0, .inl 0, .inl 0, .inl 0, .inl 0, .inl 0, .inl 0, .inr none, .inr none, .inr none, .inr none, .inr none, .inr none, .inr none, .inr none, .inr none, .inr none, .inr none, .inr none, .inr none, .inl 0, .inr none, .inr none, .inr none, .inr none, .inr none, .inr none, .inl 0, .inl 0, .inl 0, .inl 0, .inr none, .inr none, .inr none, .inl 0, .inl 0, .inr none, .inr none, .inl 0, .inr none, .inr none, .inr none, .inl 0] := ⟨RX6, TX6, tyX6, rfl, in_X6, tyX6_ok, q1171, q1172, q112, fun G j hj => by
  have hj : j < 50 := hj
  match j, hj with
  | 0, _ => rfl
  | 1, _ => rfl
  | 2, _ => rfl
  | 3, _ => rfl
  | 4, _ => rfl
  | 5, _ => rfl
  | 6, _ => rfl
  | 7, _ => rfl
  | 8, _ => rfl
  | 9, _ => rfl
  | 10, _ => rfl
  | 11, _ => rfl
  | 12, _ => rfl
  | 13, _ => rfl
  | 14, _ => rfl
  | 15, _ => rfl
  | 16, _ => rfl
  | 17, _ => rfl
  | 18, _ => rfl
  | 19, _ => rfl
  | 20, _ => rfl
  | 21, _ => rfl
  | 22, _ => rfl
  | 23, _ => rfl
  | 24, _ => rfl
  | 25, _ => rfl
  | 26, _ => rfl
  | 27, _ => rfl
  | 28, _ => rfl
  | 29, _ => rfl
  | 30, _ => rfl
  | 31, _ => rfl
  | 32, _ => rfl
  | 33, _ => rfl
  | 34, _ => rfl
  | 35, _ => rfl
  | 36, _ => rfl
  | 37, _ => rfl
  | 38, _ => rfl
  | 39, _ => rfl
  | 40, _ => rfl
  | 41, _ => rfl
  | 42, _ => rfl
  | 43, _ => rfl
  | 44, _ => rfl
  | 45, _ => rfl
  | 46, _ => rfl
  | 47, _ => rfl
  | 48, _ => rfl
  | 49, _ => rfl
  | k + 50, hk => exact absurd hk (by omega)⟩
theorem cl_L_12 {X : CT} {cc : ByteArray} {nL : Nat} {mn : String} {ret : Option FieldType} {d d0 : Nat} {τ : Type} {pc : Nat} {lv : List (Option PV)} {st : List PV} {h : PH} {sz : τ → Nat × Nat} {K : τ → Prop} {f : Option Nat → PH → Option (PH)} (HR : IM_X6_init f d0) {a0 : Option Nat} {g : PH → Option τ} (hd : d0 + 1 ≤ d) (hdg : decode cc pc = .ok (.invokespecial 12, 3)) (hst : st.length ≤ 8) (kk : ∀ h', Im X (cc, nL, R_law, mn, ret, d) (pc + 3) lv st h' (g h') sz K) : Im X (cc, nL, R_law, mn, ret, d) pc lv (.inr a0 :: st) h ((f a0 h).bind g) sz K := by
  refine im_cV (y := yX6_init) (cY := cX6_init) (nY := 2) (rY := none) (d' := d0) (av := [.inr a0]) (fun h' e hX => ?_) (fun h' e => (HR _ _ _ e).2) hd (by decide) hst rfl kk
  obtain ⟨a, c, fs, rfl, ec, hm⟩ := isC_some (HR _ _ _ e).1
  exact cal_I (n := 0) hX q1173 q1174 q112 q1175 rfl (by decide +kernel) rfl hdg

theorem cl_L_13 {X : CT} {cc : ByteArray} {nL : Nat} {mn : String} {ret : Option FieldType} {d d0 : Nat} {τ : Type} {pc : Nat} {lv : List (Option PV)} {st : List PV} {h : PH} {sz : τ → Nat × Nat} {K : τ → Prop} {f : Option Nat → Int32 → Int32 → Int32 → PH → Option (Int32 × PH)} (HR : IM_X0_person f d0) {a0 : Option Nat} {a1 : Int32} {a2 : Int32} {a3 : Int32} {g : Int32 → PH → Option τ} (hd : d0 + 1 ≤ d) (hdg : decode cc pc = .ok (.invokevirtual 13, 3)) (hst : st.length ≤ 8) (kk : ∀ r h', Im X (cc, nL, R_law, mn, ret, d) (pc + 3) lv (.inl r :: st) h' (g r h') sz K) : Im X (cc, nL, R_law, mn, ret, d) pc lv (.inl a3 :: .inl a2 :: .inl a1 :: .inr a0 :: st) h (bd2 (f a0 a1 a2 a3 h) g) sz K := by
  refine im_cI (y := yX0_person) (cY := cX0_person) (nY := 5) (rY := (some .boolean)) (d' := d0) (av := [.inr a0, .inl a1, .inl a2, .inl a3]) (fun r h' e hX => ?_) (fun r h' e => (HR _ _ _ _ _ _ _ e).2) hd (by decide) hst rfl kk
  obtain ⟨a, c, fs, rfl, ec, hm⟩ := isC_some (HR _ _ _ _ _ _ _ e).1
  cases List.mem_singleton.mp hm
  exact cal_V (n := 3) hX (lw_V q338 q339 q340 q106 q341) (by decide +kernel) rfl rfl ec hdg

theorem cl_L_17 {X : CT} {cc : ByteArray} {nL : Nat} {mn : String} {ret : Option FieldType} {d d0 : Nat} {τ : Type} {pc : Nat} {lv : List (Option PV)} {st : List PV} {h : PH} {sz : τ → Nat × Nat} {K : τ → Prop} {f : Option Nat → Int32 → Int32 → Int32 → PH → Option (Int32 × PH)} (HR : IM_X6_person f d0) {a0 : Option Nat} {a1 : Int32} {a2 : Int32} {a3 : Int32} {g : Int32 → PH → Option τ} (hd : d0 + 1 ≤ d) (hdg : decode cc pc = .ok (.invokevirtual 17, 3)) (hst : st.length ≤ 8) (kk : ∀ r h', Im X (cc, nL, R_law, mn, ret, d) (pc + 3) lv (.inl r :: st) h' (g r h') sz K) : Im X (cc, nL, R_law, mn, ret, d) pc lv (.inl a3 :: .inl a2 :: .inl a1 :: .inr a0 :: st) h (bd2 (f a0 a1 a2 a3 h) g) sz K := by
  refine im_cI (y := yX6_person) (cY := cX6_person) (nY := 4) (rY := (some .boolean)) (d' := d0) (av := [.inr a0, .inl a1, .inl a2, .inl a3]) (fun r h' e hX => ?_) (fun r h' e => (HR _ _ _ _ _ _ _ e).2) hd (by decide) hst rfl kk
  obtain ⟨a, c, fs, rfl, ec, hm⟩ := isC_some (HR _ _ _ _ _ _ _ e).1
  cases List.mem_singleton.mp hm
  exact cal_V (n := 3) hX (lw_V q1328 q1329 q1330 q112 q1331) (by decide +kernel) rfl rfl ec hdg

theorem cl_L_18 {X : CT} {cc : ByteArray} {nL : Nat} {mn : String} {ret : Option FieldType} {d d0 : Nat} {τ : Type} {pc : Nat} {lv : List (Option PV)} {st : List PV} {h : PH} {sz : τ → Nat × Nat} {K : τ → Prop} {f : Option Nat → Int32 → Int32 → Int32 → Int32 → Int32 → PH → Option (Int32 × PH)} (HR : IM_X0_feed f d0) {a0 : Option Nat} {a1 : Int32} {a2 : Int32} {a3 : Int32} {a4 : Int32} {a5 : Int32} {g : Int32 → PH → Option τ} (hd : d0 + 1 ≤ d) (hdg : decode cc pc = .ok (.invokevirtual 18, 3)) (hst : st.length ≤ 8) (kk : ∀ r h', Im X (cc, nL, R_law, mn, ret, d) (pc + 3) lv (.inl r :: st) h' (g r h') sz K) : Im X (cc, nL, R_law, mn, ret, d) pc lv (.inl a5 :: .inl a4 :: .inl a3 :: .inl a2 :: .inl a1 :: .inr a0 :: st) h (bd2 (f a0 a1 a2 a3 a4 a5 h) g) sz K := by
  refine im_cI (y := yX0_feed) (cY := cX0_feed) (nY := 6) (rY := (some .int)) (d' := d0) (av := [.inr a0, .inl a1, .inl a2, .inl a3, .inl a4, .inl a5]) (fun r h' e hX => ?_) (fun r h' e => (HR _ _ _ _ _ _ _ _ _ e).2) hd (by decide) hst rfl kk
  obtain ⟨a, c, fs, rfl, ec, hm⟩ := isC_some (HR _ _ _ _ _ _ _ _ _ e).1
  cases List.mem_singleton.mp hm
  exact cal_V (n := 5) hX (lw_V q349 q350 q351 q106 q352) (by decide +kernel) rfl rfl ec hdg

theorem cl_L_22 {X : CT} {cc : ByteArray} {nL : Nat} {mn : String} {ret : Option FieldType} {d d0 : Nat} {τ : Type} {pc : Nat} {lv : List (Option PV)} {st : List PV} {h : PH} {sz : τ → Nat × Nat} {K : τ → Prop} {f : Option Nat → Int32 → Int32 → Int32 → Int32 → Int32 → PH → Option (Int32 × PH)} (HR : IM_X6_feed f d0) {a0 : Option Nat} {a1 : Int32} {a2 : Int32} {a3 : Int32} {a4 : Int32} {a5 : Int32} {g : Int32 → PH → Option τ} (hd : d0 + 1 ≤ d) (hdg : decode cc pc = .ok (.invokevirtual 22, 3)) (hst : st.length ≤ 8) (kk : ∀ r h', Im X (cc, nL, R_law, mn, ret, d) (pc + 3) lv (.inl r :: st) h' (g r h') sz K) : Im X (cc, nL, R_law, mn, ret, d) pc lv (.inl a5 :: .inl a4 :: .inl a3 :: .inl a2 :: .inl a1 :: .inr a0 :: st) h (bd2 (f a0 a1 a2 a3 a4 a5 h) g) sz K := by
  refine im_cI (y := yX6_feed) (cY := cX6_feed) (nY := 6) (rY := (some .int)) (d' := d0) (av := [.inr a0, .inl a1, .inl a2, .inl a3, .inl a4, .inl a5]) (fun r h' e hX => ?_) (fun r h' e => (HR _ _ _ _ _ _ _ _ _ e).2) hd (by decide) hst rfl kk
  obtain ⟨a, c, fs, rfl, ec, hm⟩ := isC_some (HR _ _ _ _ _ _ _ _ _ e).1
  cases List.mem_singleton.mp hm
  exact cal_V (n := 5) hX (lw_V q1336 q1337 q1338 q112 q1339) (by decide +kernel) rfl rfl ec hdg

theorem cl_L_23 {X : CT} {cc : ByteArray} {nL : Nat} {mn : String} {ret : Option FieldType} {d d0 : Nat} {τ : Type} {pc : Nat} {lv : List (Option PV)} {st : List PV} {h : PH} {sz : τ → Nat × Nat} {K : τ → Prop} {f : Option Nat → Int32 → PH → Option (Int32 × PH)} (HR : IM_X0_law f d0) {a0 : Option Nat} {a1 : Int32} {g : Int32 → PH → Option τ} (hd : d0 + 1 ≤ d) (hdg : decode cc pc = .ok (.invokevirtual 23, 3)) (hst : st.length ≤ 8) (kk : ∀ r h', Im X (cc, nL, R_law, mn, ret, d) (pc + 3) lv (.inl r :: st) h' (g r h') sz K) : Im X (cc, nL, R_law, mn, ret, d) pc lv (.inl a1 :: .inr a0 :: st) h (bd2 (f a0 a1 h) g) sz K := by
  refine im_cI (y := yX0_law) (cY := cX0_law) (nY := 4) (rY := (some .int)) (d' := d0) (av := [.inr a0, .inl a1]) (fun r h' e hX => ?_) (fun r h' e => (HR _ _ _ _ _ e).2) hd (by decide) hst rfl kk
  obtain ⟨a, c, fs, rfl, ec, hm⟩ := isC_some (HR _ _ _ _ _ e).1
  cases List.mem_singleton.mp hm
  exact cal_V (n := 1) hX (lw_V q357 q358 q359 q106 q360) (by decide +kernel) rfl rfl ec hdg

theorem cl_L_27 {X : CT} {cc : ByteArray} {nL : Nat} {mn : String} {ret : Option FieldType} {d d0 : Nat} {τ : Type} {pc : Nat} {lv : List (Option PV)} {st : List PV} {h : PH} {sz : τ → Nat × Nat} {K : τ → Prop} {f : Option Nat → Int32 → PH → Option (Int32 × PH)} (HR : IM_X6_law f d0) {a0 : Option Nat} {a1 : Int32} {g : Int32 → PH → Option τ} (hd : d0 + 1 ≤ d) (hdg : decode cc pc = .ok (.invokevirtual 27, 3)) (hst : st.length ≤ 8) (kk : ∀ r h', Im X (cc, nL, R_law, mn, ret, d) (pc + 3) lv (.inl r :: st) h' (g r h') sz K) : Im X (cc, nL, R_law, mn, ret, d) pc lv (.inl a1 :: .inr a0 :: st) h (bd2 (f a0 a1 h) g) sz K := by
  refine im_cI (y := yX6_law) (cY := cX6_law) (nY := 4) (rY := (some .int)) (d' := d0) (av := [.inr a0, .inl a1]) (fun r h' e hX => ?_) (fun r h' e => (HR _ _ _ _ _ e).2) hd (by decide) hst rfl kk
  obtain ⟨a, c, fs, rfl, ec, hm⟩ := isC_some (HR _ _ _ _ _ e).1
  cases List.mem_singleton.mp hm
  exact cal_V (n := 1) hX (lw_V q1344 q1345 q1346 q112 q1347) (by decide +kernel) rfl rfl ec hdg

theorem cl_L_28 {X : CT} {cc : ByteArray} {nL : Nat} {mn : String} {ret : Option FieldType} {d d0 : Nat} {τ : Type} {pc : Nat} {lv : List (Option PV)} {st : List PV} {h : PH} {sz : τ → Nat × Nat} {K : τ → Prop} {f : Option Nat → Int32 → PH → Option (Int32 × PH)} (HR : IM_X0_burials f d0) {a0 : Option Nat} {a1 : Int32} {g : Int32 → PH → Option τ} (hd : d0 + 1 ≤ d) (hdg : decode cc pc = .ok (.invokevirtual 28, 3)) (hst : st.length ≤ 8) (kk : ∀ r h', Im X (cc, nL, R_law, mn, ret, d) (pc + 3) lv (.inl r :: st) h' (g r h') sz K) : Im X (cc, nL, R_law, mn, ret, d) pc lv (.inl a1 :: .inr a0 :: st) h (bd2 (f a0 a1 h) g) sz K := by
  refine im_cI (y := yX0_burials) (cY := cX0_burials) (nY := 5) (rY := (some .int)) (d' := d0) (av := [.inr a0, .inl a1]) (fun r h' e hX => ?_) (fun r h' e => (HR _ _ _ _ _ e).2) hd (by decide) hst rfl kk
  obtain ⟨a, c, fs, rfl, ec, hm⟩ := isC_some (HR _ _ _ _ _ e).1
  cases List.mem_singleton.mp hm
  exact cal_V (n := 1) hX (lw_V q626 q627 q628 q106 q629) (by decide +kernel) rfl rfl ec hdg

theorem cl_L_31 {X : CT} {cc : ByteArray} {nL : Nat} {mn : String} {ret : Option FieldType} {d d0 : Nat} {τ : Type} {pc : Nat} {lv : List (Option PV)} {st : List PV} {h : PH} {sz : τ → Nat × Nat} {K : τ → Prop} {f : Option Nat → Int32 → PH → Option (Int32 × PH)} (HR : IM_X6_burials f d0) {a0 : Option Nat} {a1 : Int32} {g : Int32 → PH → Option τ} (hd : d0 + 1 ≤ d) (hdg : decode cc pc = .ok (.invokevirtual 31, 3)) (hst : st.length ≤ 8) (kk : ∀ r h', Im X (cc, nL, R_law, mn, ret, d) (pc + 3) lv (.inl r :: st) h' (g r h') sz K) : Im X (cc, nL, R_law, mn, ret, d) pc lv (.inl a1 :: .inr a0 :: st) h (bd2 (f a0 a1 h) g) sz K := by
  refine im_cI (y := yX6_burials) (cY := cX6_burials) (nY := 3) (rY := (some .int)) (d' := d0) (av := [.inr a0, .inl a1]) (fun r h' e hX => ?_) (fun r h' e => (HR _ _ _ _ _ e).2) hd (by decide) hst rfl kk
  obtain ⟨a, c, fs, rfl, ec, hm⟩ := isC_some (HR _ _ _ _ _ e).1
  cases List.mem_singleton.mp hm
  exact cal_V (n := 1) hX (lw_V q1431 q1432 q1433 q112 q1434) (by decide +kernel) rfl rfl ec hdg

theorem cl_L_32 {X : CT} {cc : ByteArray} {nL : Nat} {mn : String} {ret : Option FieldType} {d d0 : Nat} {τ : Type} {pc : Nat} {lv : List (Option PV)} {st : List PV} {h : PH} {sz : τ → Nat × Nat} {K : τ → Prop} {f : Option Nat → Int32 → PH → Option (Int32 × PH)} (HR : IM_X0_wishes f d0) {a0 : Option Nat} {a1 : Int32} {g : Int32 → PH → Option τ} (hd : d0 + 1 ≤ d) (hdg : decode cc pc = .ok (.invokevirtual 32, 3)) (hst : st.length ≤ 8) (kk : ∀ r h', Im X (cc, nL, R_law, mn, ret, d) (pc + 3) lv (.inl r :: st) h' (g r h') sz K) : Im X (cc, nL, R_law, mn, ret, d) pc lv (.inl a1 :: .inr a0 :: st) h (bd2 (f a0 a1 h) g) sz K := by
  refine im_cI (y := yX0_wishes) (cY := cX0_wishes) (nY := 5) (rY := (some .int)) (d' := d0) (av := [.inr a0, .inl a1]) (fun r h' e hX => ?_) (fun r h' e => (HR _ _ _ _ _ e).2) hd (by decide) hst rfl kk
  obtain ⟨a, c, fs, rfl, ec, hm⟩ := isC_some (HR _ _ _ _ _ e).1
  cases List.mem_singleton.mp hm
  exact cal_V (n := 1) hX (lw_V q781 q782 q783 q106 q784) (by decide +kernel) rfl rfl ec hdg

theorem cl_L_35 {X : CT} {cc : ByteArray} {nL : Nat} {mn : String} {ret : Option FieldType} {d d0 : Nat} {τ : Type} {pc : Nat} {lv : List (Option PV)} {st : List PV} {h : PH} {sz : τ → Nat × Nat} {K : τ → Prop} {f : Option Nat → Int32 → PH → Option (Int32 × PH)} (HR : IM_X6_wishes f d0) {a0 : Option Nat} {a1 : Int32} {g : Int32 → PH → Option τ} (hd : d0 + 1 ≤ d) (hdg : decode cc pc = .ok (.invokevirtual 35, 3)) (hst : st.length ≤ 8) (kk : ∀ r h', Im X (cc, nL, R_law, mn, ret, d) (pc + 3) lv (.inl r :: st) h' (g r h') sz K) : Im X (cc, nL, R_law, mn, ret, d) pc lv (.inl a1 :: .inr a0 :: st) h (bd2 (f a0 a1 h) g) sz K := by
  refine im_cI (y := yX6_wishes) (cY := cX6_wishes) (nY := 4) (rY := (some .int)) (d' := d0) (av := [.inr a0, .inl a1]) (fun r h' e hX => ?_) (fun r h' e => (HR _ _ _ _ _ e).2) hd (by decide) hst rfl kk
  obtain ⟨a, c, fs, rfl, ec, hm⟩ := isC_some (HR _ _ _ _ _ e).1
  cases List.mem_singleton.mp hm
  exact cal_V (n := 1) hX (lw_V q1470 q1471 q1472 q112 q1473) (by decide +kernel) rfl rfl ec hdg

theorem cl_L_36 {X : CT} {cc : ByteArray} {nL : Nat} {mn : String} {ret : Option FieldType} {d d0 : Nat} {τ : Type} {pc : Nat} {lv : List (Option PV)} {st : List PV} {h : PH} {sz : τ → Nat × Nat} {K : τ → Prop} {f : Option Nat → Int32 → PH → Option (Int32 × PH)} (HR : IM_X0_nights f d0) {a0 : Option Nat} {a1 : Int32} {g : Int32 → PH → Option τ} (hd : d0 + 1 ≤ d) (hdg : decode cc pc = .ok (.invokevirtual 36, 3)) (hst : st.length ≤ 8) (kk : ∀ r h', Im X (cc, nL, R_law, mn, ret, d) (pc + 3) lv (.inl r :: st) h' (g r h') sz K) : Im X (cc, nL, R_law, mn, ret, d) pc lv (.inl a1 :: .inr a0 :: st) h (bd2 (f a0 a1 h) g) sz K := by
  refine im_cI (y := yX0_nights) (cY := cX0_nights) (nY := 2) (rY := (some .int)) (d' := d0) (av := [.inr a0, .inl a1]) (fun r h' e hX => ?_) (fun r h' e => (HR _ _ _ _ _ e).2) hd (by decide) hst rfl kk
  obtain ⟨a, c, fs, rfl, ec, hm⟩ := isC_some (HR _ _ _ _ _ e).1
  cases List.mem_singleton.mp hm
  exact cal_V (n := 1) hX (lw_V q815 q816 q817 q106 q818) (by decide +kernel) rfl rfl ec hdg

theorem cl_L_39 {X : CT} {cc : ByteArray} {nL : Nat} {mn : String} {ret : Option FieldType} {d d0 : Nat} {τ : Type} {pc : Nat} {lv : List (Option PV)} {st : List PV} {h : PH} {sz : τ → Nat × Nat} {K : τ → Prop} {f : Option Nat → Int32 → PH → Option (Int32 × PH)} (HR : IM_X6_nights f d0) {a0 : Option Nat} {a1 : Int32} {g : Int32 → PH → Option τ} (hd : d0 + 1 ≤ d) (hdg : decode cc pc = .ok (.invokevirtual 39, 3)) (hst : st.length ≤ 8) (kk : ∀ r h', Im X (cc, nL, R_law, mn, ret, d) (pc + 3) lv (.inl r :: st) h' (g r h') sz K) : Im X (cc, nL, R_law, mn, ret, d) pc lv (.inl a1 :: .inr a0 :: st) h (bd2 (f a0 a1 h) g) sz K := by
  refine im_cI (y := yX6_nights) (cY := cX6_nights) (nY := 2) (rY := (some .int)) (d' := d0) (av := [.inr a0, .inl a1]) (fun r h' e hX => ?_) (fun r h' e => (HR _ _ _ _ _ e).2) hd (by decide) hst rfl kk
  obtain ⟨a, c, fs, rfl, ec, hm⟩ := isC_some (HR _ _ _ _ _ e).1
  cases List.mem_singleton.mp hm
  exact cal_V (n := 1) hX (lw_V q1478 q1479 q1480 q112 q1481) (by decide +kernel) rfl rfl ec hdg

theorem cl_L_40 {X : CT} {cc : ByteArray} {nL : Nat} {mn : String} {ret : Option FieldType} {d d0 : Nat} {τ : Type} {pc : Nat} {lv : List (Option PV)} {st : List PV} {h : PH} {sz : τ → Nat × Nat} {K : τ → Prop} {f : Option Nat → Int32 → Int32 → PH → Option (Int32 × PH)} (HR : IM_X0_tried f d0) {a0 : Option Nat} {a1 : Int32} {a2 : Int32} {g : Int32 → PH → Option τ} (hd : d0 + 1 ≤ d) (hdg : decode cc pc = .ok (.invokevirtual 40, 3)) (hst : st.length ≤ 8) (kk : ∀ r h', Im X (cc, nL, R_law, mn, ret, d) (pc + 3) lv (.inl r :: st) h' (g r h') sz K) : Im X (cc, nL, R_law, mn, ret, d) pc lv (.inl a2 :: .inl a1 :: .inr a0 :: st) h (bd2 (f a0 a1 a2 h) g) sz K := by
  refine im_cI (y := yX0_tried) (cY := cX0_tried) (nY := 3) (rY := (some .int)) (d' := d0) (av := [.inr a0, .inl a1, .inl a2]) (fun r h' e hX => ?_) (fun r h' e => (HR _ _ _ _ _ _ e).2) hd (by decide) hst rfl kk
  obtain ⟨a, c, fs, rfl, ec, hm⟩ := isC_some (HR _ _ _ _ _ _ e).1
  cases List.mem_singleton.mp hm
  exact cal_V (n := 2) hX (lw_V q943 q944 q945 q106 q946) (by decide +kernel) rfl rfl ec hdg

theorem cl_L_44 {X : CT} {cc : ByteArray} {nL : Nat} {mn : String} {ret : Option FieldType} {d d0 : Nat} {τ : Type} {pc : Nat} {lv : List (Option PV)} {st : List PV} {h : PH} {sz : τ → Nat × Nat} {K : τ → Prop} {f : Option Nat → Int32 → Int32 → PH → Option (Int32 × PH)} (HR : IM_X6_tried f d0) {a0 : Option Nat} {a1 : Int32} {a2 : Int32} {g : Int32 → PH → Option τ} (hd : d0 + 1 ≤ d) (hdg : decode cc pc = .ok (.invokevirtual 44, 3)) (hst : st.length ≤ 8) (kk : ∀ r h', Im X (cc, nL, R_law, mn, ret, d) (pc + 3) lv (.inl r :: st) h' (g r h') sz K) : Im X (cc, nL, R_law, mn, ret, d) pc lv (.inl a2 :: .inl a1 :: .inr a0 :: st) h (bd2 (f a0 a1 a2 h) g) sz K := by
  refine im_cI (y := yX6_tried) (cY := cX6_tried) (nY := 4) (rY := (some .int)) (d' := d0) (av := [.inr a0, .inl a1, .inl a2]) (fun r h' e hX => ?_) (fun r h' e => (HR _ _ _ _ _ _ e).2) hd (by decide) hst rfl kk
  obtain ⟨a, c, fs, rfl, ec, hm⟩ := isC_some (HR _ _ _ _ _ _ e).1
  cases List.mem_singleton.mp hm
  exact cal_V (n := 2) hX (lw_V q1548 q1549 q1550 q112 q1551) (by decide +kernel) rfl rfl ec hdg

theorem cl_L_45 {X : CT} {cc : ByteArray} {nL : Nat} {mn : String} {ret : Option FieldType} {d d0 : Nat} {τ : Type} {pc : Nat} {lv : List (Option PV)} {st : List PV} {h : PH} {sz : τ → Nat × Nat} {K : τ → Prop} {f : Option Nat → Int32 → Int32 → PH → Option (Int32)} (HR : IM_X0_personIs f d0) {a0 : Option Nat} {a1 : Int32} {a2 : Int32} {g : Int32 → Option τ} (hd : d0 + 1 ≤ d) (hdg : decode cc pc = .ok (.invokevirtual 45, 3)) (hst : st.length ≤ 8) (kk : ∀ r, Im X (cc, nL, R_law, mn, ret, d) (pc + 3) lv (.inl r :: st) h (g r) sz K) : Im X (cc, nL, R_law, mn, ret, d) pc lv (.inl a2 :: .inl a1 :: .inr a0 :: st) h ((f a0 a1 a2 h).bind g) sz K := by
  refine im_cP (y := yX0_personIs) (cY := cX0_personIs) (nY := 4) (rY := (some .int)) (d' := d0) (av := [.inr a0, .inl a1, .inl a2]) (fun r e hX => ?_) (fun r e => (HR _ _ _ _ _ e).2) hd (by decide) hst rfl kk
  obtain ⟨a, c, fs, rfl, ec, hm⟩ := isC_some (HR _ _ _ _ _ e).1
  cases List.mem_singleton.mp hm
  exact cal_V (n := 2) hX (lw_V q954 q955 q956 q106 q957) (by decide +kernel) rfl rfl ec hdg

theorem cl_L_48 {X : CT} {cc : ByteArray} {nL : Nat} {mn : String} {ret : Option FieldType} {d d0 : Nat} {τ : Type} {pc : Nat} {lv : List (Option PV)} {st : List PV} {h : PH} {sz : τ → Nat × Nat} {K : τ → Prop} {f : Option Nat → Int32 → Int32 → PH → Option (Int32)} (HR : IM_X6_personIs f d0) {a0 : Option Nat} {a1 : Int32} {a2 : Int32} {g : Int32 → Option τ} (hd : d0 + 1 ≤ d) (hdg : decode cc pc = .ok (.invokevirtual 48, 3)) (hst : st.length ≤ 8) (kk : ∀ r, Im X (cc, nL, R_law, mn, ret, d) (pc + 3) lv (.inl r :: st) h (g r) sz K) : Im X (cc, nL, R_law, mn, ret, d) pc lv (.inl a2 :: .inl a1 :: .inr a0 :: st) h ((f a0 a1 a2 h).bind g) sz K := by
  refine im_cP (y := yX6_personIs) (cY := cX6_personIs) (nY := 3) (rY := (some .int)) (d' := d0) (av := [.inr a0, .inl a1, .inl a2]) (fun r e hX => ?_) (fun r e => (HR _ _ _ _ _ e).2) hd (by decide) hst rfl kk
  obtain ⟨a, c, fs, rfl, ec, hm⟩ := isC_some (HR _ _ _ _ _ e).1
  cases List.mem_singleton.mp hm
  exact cal_V (n := 2) hX (lw_V q1556 q1557 q1558 q112 q1559) (by decide +kernel) rfl rfl ec hdg

theorem cl_L_49 {X : CT} {cc : ByteArray} {nL : Nat} {mn : String} {ret : Option FieldType} {d d0 : Nat} {τ : Type} {pc : Nat} {lv : List (Option PV)} {st : List PV} {h : PH} {sz : τ → Nat × Nat} {K : τ → Prop} {f : Option Nat → Int32 → Int32 → PH → Option (Int32)} (HR : IM_X0_talk f d0) {a0 : Option Nat} {a1 : Int32} {a2 : Int32} {g : Int32 → Option τ} (hd : d0 + 1 ≤ d) (hdg : decode cc pc = .ok (.invokevirtual 49, 3)) (hst : st.length ≤ 8) (kk : ∀ r, Im X (cc, nL, R_law, mn, ret, d) (pc + 3) lv (.inl r :: st) h (g r) sz K) : Im X (cc, nL, R_law, mn, ret, d) pc lv (.inl a2 :: .inl a1 :: .inr a0 :: st) h ((f a0 a1 a2 h).bind g) sz K := by
  refine im_cP (y := yX0_talk) (cY := cX0_talk) (nY := 3) (rY := (some .int)) (d' := d0) (av := [.inr a0, .inl a1, .inl a2]) (fun r e hX => ?_) (fun r e => (HR _ _ _ _ _ e).2) hd (by decide) hst rfl kk
  obtain ⟨a, c, fs, rfl, ec, hm⟩ := isC_some (HR _ _ _ _ _ e).1
  cases List.mem_singleton.mp hm
  exact cal_V (n := 2) hX (lw_V q963 q964 q965 q106 q966) (by decide +kernel) rfl rfl ec hdg

theorem cl_L_52 {X : CT} {cc : ByteArray} {nL : Nat} {mn : String} {ret : Option FieldType} {d d0 : Nat} {τ : Type} {pc : Nat} {lv : List (Option PV)} {st : List PV} {h : PH} {sz : τ → Nat × Nat} {K : τ → Prop} {f : Option Nat → Int32 → Int32 → PH → Option (Int32)} (HR : IM_X6_talk f d0) {a0 : Option Nat} {a1 : Int32} {a2 : Int32} {g : Int32 → Option τ} (hd : d0 + 1 ≤ d) (hdg : decode cc pc = .ok (.invokevirtual 52, 3)) (hst : st.length ≤ 8) (kk : ∀ r, Im X (cc, nL, R_law, mn, ret, d) (pc + 3) lv (.inl r :: st) h (g r) sz K) : Im X (cc, nL, R_law, mn, ret, d) pc lv (.inl a2 :: .inl a1 :: .inr a0 :: st) h ((f a0 a1 a2 h).bind g) sz K := by
  refine im_cP (y := yX6_talk) (cY := cX6_talk) (nY := 3) (rY := (some .int)) (d' := d0) (av := [.inr a0, .inl a1, .inl a2]) (fun r e hX => ?_) (fun r e => (HR _ _ _ _ _ e).2) hd (by decide) hst rfl kk
  obtain ⟨a, c, fs, rfl, ec, hm⟩ := isC_some (HR _ _ _ _ _ e).1
  cases List.mem_singleton.mp hm
  exact cal_V (n := 2) hX (lw_V q1564 q1565 q1566 q112 q1567) (by decide +kernel) rfl rfl ec hdg

theorem cl_L_53 {X : CT} {cc : ByteArray} {nL : Nat} {mn : String} {ret : Option FieldType} {d d0 : Nat} {τ : Type} {pc : Nat} {lv : List (Option PV)} {st : List PV} {h : PH} {sz : τ → Nat × Nat} {K : τ → Prop} {f : Option Nat → PH → Option (Int32)} (HR : IM_X0_yardTalk f d0) {a0 : Option Nat} {g : Int32 → Option τ} (hd : d0 + 1 ≤ d) (hdg : decode cc pc = .ok (.invokevirtual 53, 3)) (hst : st.length ≤ 8) (kk : ∀ r, Im X (cc, nL, R_law, mn, ret, d) (pc + 3) lv (.inl r :: st) h (g r) sz K) : Im X (cc, nL, R_law, mn, ret, d) pc lv (.inr a0 :: st) h ((f a0 h).bind g) sz K := by
  refine im_cP (y := yX0_yardTalk) (cY := cX0_yardTalk) (nY := 1) (rY := (some .int)) (d' := d0) (av := [.inr a0]) (fun r e hX => ?_) (fun r e => (HR _ _ _ e).2) hd (by decide) hst rfl kk
  obtain ⟨a, c, fs, rfl, ec, hm⟩ := isC_some (HR _ _ _ e).1
  cases List.mem_singleton.mp hm
  exact cal_V (n := 0) hX (lw_V q976 q977 q978 q106 q979) (by decide +kernel) rfl rfl ec hdg

theorem cl_L_57 {X : CT} {cc : ByteArray} {nL : Nat} {mn : String} {ret : Option FieldType} {d d0 : Nat} {τ : Type} {pc : Nat} {lv : List (Option PV)} {st : List PV} {h : PH} {sz : τ → Nat × Nat} {K : τ → Prop} {f : Option Nat → PH → Option (Int32)} (HR : IM_X6_yardTalk f d0) {a0 : Option Nat} {g : Int32 → Option τ} (hd : d0 + 1 ≤ d) (hdg : decode cc pc = .ok (.invokevirtual 57, 3)) (hst : st.length ≤ 8) (kk : ∀ r, Im X (cc, nL, R_law, mn, ret, d) (pc + 3) lv (.inl r :: st) h (g r) sz K) : Im X (cc, nL, R_law, mn, ret, d) pc lv (.inr a0 :: st) h ((f a0 h).bind g) sz K := by
  refine im_cP (y := yX6_yardTalk) (cY := cX6_yardTalk) (nY := 4) (rY := (some .int)) (d' := d0) (av := [.inr a0]) (fun r e hX => ?_) (fun r e => (HR _ _ _ e).2) hd (by decide) hst rfl kk
  obtain ⟨a, c, fs, rfl, ec, hm⟩ := isC_some (HR _ _ _ e).1
  cases List.mem_singleton.mp hm
  exact cal_V (n := 0) hX (lw_V q1572 q1573 q1574 q112 q1575) (by decide +kernel) rfl rfl ec hdg

theorem cl_L_58 {X : CT} {cc : ByteArray} {nL : Nat} {mn : String} {ret : Option FieldType} {d d0 : Nat} {τ : Type} {pc : Nat} {lv : List (Option PV)} {st : List PV} {h : PH} {sz : τ → Nat × Nat} {K : τ → Prop} {f : Option Nat → Int32 → Int32 → PH → Option (Int32)} (HR : IM_X0_best f d0) {a0 : Option Nat} {a1 : Int32} {a2 : Int32} {g : Int32 → Option τ} (hd : d0 + 1 ≤ d) (hdg : decode cc pc = .ok (.invokevirtual 58, 3)) (hst : st.length ≤ 8) (kk : ∀ r, Im X (cc, nL, R_law, mn, ret, d) (pc + 3) lv (.inl r :: st) h (g r) sz K) : Im X (cc, nL, R_law, mn, ret, d) pc lv (.inl a2 :: .inl a1 :: .inr a0 :: st) h ((f a0 a1 a2 h).bind g) sz K := by
  refine im_cP (y := yX0_best) (cY := cX0_best) (nY := 6) (rY := (some .int)) (d' := d0) (av := [.inr a0, .inl a1, .inl a2]) (fun r e hX => ?_) (fun r e => (HR _ _ _ _ _ e).2) hd (by decide) hst rfl kk
  obtain ⟨a, c, fs, rfl, ec, hm⟩ := isC_some (HR _ _ _ _ _ e).1
  cases List.mem_singleton.mp hm
  exact cal_V (n := 2) hX (lw_V q989 q990 q991 q106 q992) (by decide +kernel) rfl rfl ec hdg

theorem cl_L_61 {X : CT} {cc : ByteArray} {nL : Nat} {mn : String} {ret : Option FieldType} {d d0 : Nat} {τ : Type} {pc : Nat} {lv : List (Option PV)} {st : List PV} {h : PH} {sz : τ → Nat × Nat} {K : τ → Prop} {f : Option Nat → Int32 → Int32 → PH → Option (Int32)} (HR : IM_X6_best f d0) {a0 : Option Nat} {a1 : Int32} {a2 : Int32} {g : Int32 → Option τ} (hd : d0 + 1 ≤ d) (hdg : decode cc pc = .ok (.invokevirtual 61, 3)) (hst : st.length ≤ 8) (kk : ∀ r, Im X (cc, nL, R_law, mn, ret, d) (pc + 3) lv (.inl r :: st) h (g r) sz K) : Im X (cc, nL, R_law, mn, ret, d) pc lv (.inl a2 :: .inl a1 :: .inr a0 :: st) h ((f a0 a1 a2 h).bind g) sz K := by
  refine im_cP (y := yX6_best) (cY := cX6_best) (nY := 8) (rY := (some .int)) (d' := d0) (av := [.inr a0, .inl a1, .inl a2]) (fun r e hX => ?_) (fun r e => (HR _ _ _ _ _ e).2) hd (by decide) hst rfl kk
  obtain ⟨a, c, fs, rfl, ec, hm⟩ := isC_some (HR _ _ _ _ _ e).1
  cases List.mem_singleton.mp hm
  exact cal_V (n := 2) hX (lw_V q1576 q1577 q1578 q112 q1579) (by decide +kernel) rfl rfl ec hdg

theorem cl_L_62 {X : CT} {cc : ByteArray} {nL : Nat} {mn : String} {ret : Option FieldType} {d d0 : Nat} {τ : Type} {pc : Nat} {lv : List (Option PV)} {st : List PV} {h : PH} {sz : τ → Nat × Nat} {K : τ → Prop} {f : Option Nat → Int32 → PH → Option (Int32)} (HR : IM_X0_move f d0) {a0 : Option Nat} {a1 : Int32} {g : Int32 → Option τ} (hd : d0 + 1 ≤ d) (hdg : decode cc pc = .ok (.invokevirtual 62, 3)) (hst : st.length ≤ 8) (kk : ∀ r, Im X (cc, nL, R_law, mn, ret, d) (pc + 3) lv (.inl r :: st) h (g r) sz K) : Im X (cc, nL, R_law, mn, ret, d) pc lv (.inl a1 :: .inr a0 :: st) h ((f a0 a1 h).bind g) sz K := by
  refine im_cP (y := yX0_move) (cY := cX0_move) (nY := 8) (rY := (some .int)) (d' := d0) (av := [.inr a0, .inl a1]) (fun r e hX => ?_) (fun r e => (HR _ _ _ _ e).2) hd (by decide) hst rfl kk
  obtain ⟨a, c, fs, rfl, ec, hm⟩ := isC_some (HR _ _ _ _ e).1
  cases List.mem_singleton.mp hm
  exact cal_V (n := 1) hX (lw_V q1000 q1001 q1002 q106 q1003) (by decide +kernel) rfl rfl ec hdg

theorem cl_L_65 {X : CT} {cc : ByteArray} {nL : Nat} {mn : String} {ret : Option FieldType} {d d0 : Nat} {τ : Type} {pc : Nat} {lv : List (Option PV)} {st : List PV} {h : PH} {sz : τ → Nat × Nat} {K : τ → Prop} {f : Option Nat → Int32 → PH → Option (Int32)} (HR : IM_X6_move f d0) {a0 : Option Nat} {a1 : Int32} {g : Int32 → Option τ} (hd : d0 + 1 ≤ d) (hdg : decode cc pc = .ok (.invokevirtual 65, 3)) (hst : st.length ≤ 8) (kk : ∀ r, Im X (cc, nL, R_law, mn, ret, d) (pc + 3) lv (.inl r :: st) h (g r) sz K) : Im X (cc, nL, R_law, mn, ret, d) pc lv (.inl a1 :: .inr a0 :: st) h ((f a0 a1 h).bind g) sz K := by
  refine im_cP (y := yX6_move) (cY := cX6_move) (nY := 8) (rY := (some .int)) (d' := d0) (av := [.inr a0, .inl a1]) (fun r e hX => ?_) (fun r e => (HR _ _ _ _ e).2) hd (by decide) hst rfl kk
  obtain ⟨a, c, fs, rfl, ec, hm⟩ := isC_some (HR _ _ _ _ e).1
  cases List.mem_singleton.mp hm
  exact cal_V (n := 1) hX (lw_V q1584 q1585 q1586 q112 q1587) (by decide +kernel) rfl rfl ec hdg

theorem cl_L_66 {X : CT} {cc : ByteArray} {nL : Nat} {mn : String} {ret : Option FieldType} {d d0 : Nat} {τ : Type} {pc : Nat} {lv : List (Option PV)} {st : List PV} {h : PH} {sz : τ → Nat × Nat} {K : τ → Prop} {f : Option Nat → Int32 → PH → Option (Int32 × PH)} (HR : IM_X0_change f d0) {a0 : Option Nat} {a1 : Int32} {g : Int32 → PH → Option τ} (hd : d0 + 1 ≤ d) (hdg : decode cc pc = .ok (.invokevirtual 66, 3)) (hst : st.length ≤ 8) (kk : ∀ r h', Im X (cc, nL, R_law, mn, ret, d) (pc + 3) lv (.inl r :: st) h' (g r h') sz K) : Im X (cc, nL, R_law, mn, ret, d) pc lv (.inl a1 :: .inr a0 :: st) h (bd2 (f a0 a1 h) g) sz K := by
  refine im_cI (y := yX0_change) (cY := cX0_change) (nY := 11) (rY := (some .int)) (d' := d0) (av := [.inr a0, .inl a1]) (fun r h' e hX => ?_) (fun r h' e => (HR _ _ _ _ _ e).2) hd (by decide) hst rfl kk
  obtain ⟨a, c, fs, rfl, ec, hm⟩ := isC_some (HR _ _ _ _ _ e).1
  cases List.mem_singleton.mp hm
  exact cal_V (n := 1) hX (lw_V q1007 q1008 q1009 q106 q1010) (by decide +kernel) rfl rfl ec hdg

theorem cl_L_69 {X : CT} {cc : ByteArray} {nL : Nat} {mn : String} {ret : Option FieldType} {d d0 : Nat} {τ : Type} {pc : Nat} {lv : List (Option PV)} {st : List PV} {h : PH} {sz : τ → Nat × Nat} {K : τ → Prop} {f : Option Nat → Int32 → PH → Option (Int32 × PH)} (HR : IM_X6_change f d0) {a0 : Option Nat} {a1 : Int32} {g : Int32 → PH → Option τ} (hd : d0 + 1 ≤ d) (hdg : decode cc pc = .ok (.invokevirtual 69, 3)) (hst : st.length ≤ 8) (kk : ∀ r h', Im X (cc, nL, R_law, mn, ret, d) (pc + 3) lv (.inl r :: st) h' (g r h') sz K) : Im X (cc, nL, R_law, mn, ret, d) pc lv (.inl a1 :: .inr a0 :: st) h (bd2 (f a0 a1 h) g) sz K := by
  refine im_cI (y := yX6_change) (cY := cX6_change) (nY := 9) (rY := (some .int)) (d' := d0) (av := [.inr a0, .inl a1]) (fun r h' e hX => ?_) (fun r h' e => (HR _ _ _ _ _ e).2) hd (by decide) hst rfl kk
  obtain ⟨a, c, fs, rfl, ec, hm⟩ := isC_some (HR _ _ _ _ _ e).1
  cases List.mem_singleton.mp hm
  exact cal_V (n := 1) hX (lw_V q1588 q1589 q1590 q112 q1591) (by decide +kernel) rfl rfl ec hdg

theorem cl_L_70 {X : CT} {cc : ByteArray} {nL : Nat} {mn : String} {ret : Option FieldType} {d d0 : Nat} {τ : Type} {pc : Nat} {lv : List (Option PV)} {st : List PV} {h : PH} {sz : τ → Nat × Nat} {K : τ → Prop} {f : Option Nat → Int32 → PH → Option (Int32)} (HR : IM_X0_hold f d0) {a0 : Option Nat} {a1 : Int32} {g : Int32 → Option τ} (hd : d0 + 1 ≤ d) (hdg : decode cc pc = .ok (.invokevirtual 70, 3)) (hst : st.length ≤ 8) (kk : ∀ r, Im X (cc, nL, R_law, mn, ret, d) (pc + 3) lv (.inl r :: st) h (g r) sz K) : Im X (cc, nL, R_law, mn, ret, d) pc lv (.inl a1 :: .inr a0 :: st) h ((f a0 a1 h).bind g) sz K := by
  refine im_cP (y := yX0_hold) (cY := cX0_hold) (nY := 5) (rY := (some .int)) (d' := d0) (av := [.inr a0, .inl a1]) (fun r e hX => ?_) (fun r e => (HR _ _ _ _ e).2) hd (by decide) hst rfl kk
  obtain ⟨a, c, fs, rfl, ec, hm⟩ := isC_some (HR _ _ _ _ e).1
  cases List.mem_singleton.mp hm
  exact cal_V (n := 1) hX (lw_V q1015 q1016 q1017 q106 q1018) (by decide +kernel) rfl rfl ec hdg

theorem cl_L_73 {X : CT} {cc : ByteArray} {nL : Nat} {mn : String} {ret : Option FieldType} {d d0 : Nat} {τ : Type} {pc : Nat} {lv : List (Option PV)} {st : List PV} {h : PH} {sz : τ → Nat × Nat} {K : τ → Prop} {f : Option Nat → Int32 → PH → Option (Int32)} (HR : IM_X6_hold f d0) {a0 : Option Nat} {a1 : Int32} {g : Int32 → Option τ} (hd : d0 + 1 ≤ d) (hdg : decode cc pc = .ok (.invokevirtual 73, 3)) (hst : st.length ≤ 8) (kk : ∀ r, Im X (cc, nL, R_law, mn, ret, d) (pc + 3) lv (.inl r :: st) h (g r) sz K) : Im X (cc, nL, R_law, mn, ret, d) pc lv (.inl a1 :: .inr a0 :: st) h ((f a0 a1 h).bind g) sz K := by
  refine im_cP (y := yX6_hold) (cY := cX6_hold) (nY := 5) (rY := (some .int)) (d' := d0) (av := [.inr a0, .inl a1]) (fun r e hX => ?_) (fun r e => (HR _ _ _ _ e).2) hd (by decide) hst rfl kk
  obtain ⟨a, c, fs, rfl, ec, hm⟩ := isC_some (HR _ _ _ _ e).1
  cases List.mem_singleton.mp hm
  exact cal_V (n := 1) hX (lw_V q1597 q1598 q1599 q112 q1600) (by decide +kernel) rfl rfl ec hdg

theorem cl_L_74 {X : CT} {cc : ByteArray} {nL : Nat} {mn : String} {ret : Option FieldType} {d d0 : Nat} {τ : Type} {pc : Nat} {lv : List (Option PV)} {st : List PV} {h : PH} {sz : τ → Nat × Nat} {K : τ → Prop} {f : Option Nat → Int32 → Int32 → PH → Option (Int32 × PH)} (HR : IM_X0_row f d0) {a0 : Option Nat} {a1 : Int32} {a2 : Int32} {g : Int32 → PH → Option τ} (hd : d0 + 1 ≤ d) (hdg : decode cc pc = .ok (.invokevirtual 74, 3)) (hst : st.length ≤ 8) (kk : ∀ r h', Im X (cc, nL, R_law, mn, ret, d) (pc + 3) lv (.inl r :: st) h' (g r h') sz K) : Im X (cc, nL, R_law, mn, ret, d) pc lv (.inl a2 :: .inl a1 :: .inr a0 :: st) h (bd2 (f a0 a1 a2 h) g) sz K := by
  refine im_cI (y := yX0_row) (cY := cX0_row) (nY := 4) (rY := (some .int)) (d' := d0) (av := [.inr a0, .inl a1, .inl a2]) (fun r h' e hX => ?_) (fun r h' e => (HR _ _ _ _ _ _ e).2) hd (by decide) hst rfl kk
  obtain ⟨a, c, fs, rfl, ec, hm⟩ := isC_some (HR _ _ _ _ _ _ e).1
  cases List.mem_singleton.mp hm
  exact cal_V (n := 2) hX (lw_V q1027 q1028 q1029 q106 q1030) (by decide +kernel) rfl rfl ec hdg

theorem cl_L_77 {X : CT} {cc : ByteArray} {nL : Nat} {mn : String} {ret : Option FieldType} {d d0 : Nat} {τ : Type} {pc : Nat} {lv : List (Option PV)} {st : List PV} {h : PH} {sz : τ → Nat × Nat} {K : τ → Prop} {f : Option Nat → Int32 → Int32 → PH → Option (Int32 × PH)} (HR : IM_X6_row f d0) {a0 : Option Nat} {a1 : Int32} {a2 : Int32} {g : Int32 → PH → Option τ} (hd : d0 + 1 ≤ d) (hdg : decode cc pc = .ok (.invokevirtual 77, 3)) (hst : st.length ≤ 8) (kk : ∀ r h', Im X (cc, nL, R_law, mn, ret, d) (pc + 3) lv (.inl r :: st) h' (g r h') sz K) : Im X (cc, nL, R_law, mn, ret, d) pc lv (.inl a2 :: .inl a1 :: .inr a0 :: st) h (bd2 (f a0 a1 a2 h) g) sz K := by
  refine im_cI (y := yX6_row) (cY := cX6_row) (nY := 5) (rY := (some .int)) (d' := d0) (av := [.inr a0, .inl a1, .inl a2]) (fun r h' e hX => ?_) (fun r h' e => (HR _ _ _ _ _ _ e).2) hd (by decide) hst rfl kk
  obtain ⟨a, c, fs, rfl, ec, hm⟩ := isC_some (HR _ _ _ _ _ _ e).1
  cases List.mem_singleton.mp hm
  exact cal_V (n := 2) hX (lw_V q1608 q1609 q1610 q112 q1611) (by decide +kernel) rfl rfl ec hdg

theorem cl_L_78 {X : CT} {cc : ByteArray} {nL : Nat} {mn : String} {ret : Option FieldType} {d d0 : Nat} {τ : Type} {pc : Nat} {lv : List (Option PV)} {st : List PV} {h : PH} {sz : τ → Nat × Nat} {K : τ → Prop} {f : Option Nat → Int32 → Int32 → PH → Option (Int32 × PH)} (HR : IM_X0_couples f d0) {a0 : Option Nat} {a1 : Int32} {a2 : Int32} {g : Int32 → PH → Option τ} (hd : d0 + 1 ≤ d) (hdg : decode cc pc = .ok (.invokevirtual 78, 3)) (hst : st.length ≤ 8) (kk : ∀ r h', Im X (cc, nL, R_law, mn, ret, d) (pc + 3) lv (.inl r :: st) h' (g r h') sz K) : Im X (cc, nL, R_law, mn, ret, d) pc lv (.inl a2 :: .inl a1 :: .inr a0 :: st) h (bd2 (f a0 a1 a2 h) g) sz K := by
  refine im_cI (y := yX0_couples) (cY := cX0_couples) (nY := 7) (rY := (some .int)) (d' := d0) (av := [.inr a0, .inl a1, .inl a2]) (fun r h' e hX => ?_) (fun r h' e => (HR _ _ _ _ _ _ e).2) hd (by decide) hst rfl kk
  obtain ⟨a, c, fs, rfl, ec, hm⟩ := isC_some (HR _ _ _ _ _ _ e).1
  cases List.mem_singleton.mp hm
  exact cal_V (n := 2) hX (lw_V q1054 q1055 q1056 q106 q1057) (by decide +kernel) rfl rfl ec hdg

theorem cl_L_81 {X : CT} {cc : ByteArray} {nL : Nat} {mn : String} {ret : Option FieldType} {d d0 : Nat} {τ : Type} {pc : Nat} {lv : List (Option PV)} {st : List PV} {h : PH} {sz : τ → Nat × Nat} {K : τ → Prop} {f : Option Nat → Int32 → Int32 → PH → Option (Int32 × PH)} (HR : IM_X6_couples f d0) {a0 : Option Nat} {a1 : Int32} {a2 : Int32} {g : Int32 → PH → Option τ} (hd : d0 + 1 ≤ d) (hdg : decode cc pc = .ok (.invokevirtual 81, 3)) (hst : st.length ≤ 8) (kk : ∀ r h', Im X (cc, nL, R_law, mn, ret, d) (pc + 3) lv (.inl r :: st) h' (g r h') sz K) : Im X (cc, nL, R_law, mn, ret, d) pc lv (.inl a2 :: .inl a1 :: .inr a0 :: st) h (bd2 (f a0 a1 a2 h) g) sz K := by
  refine im_cI (y := yX6_couples) (cY := cX6_couples) (nY := 4) (rY := (some .int)) (d' := d0) (av := [.inr a0, .inl a1, .inl a2]) (fun r h' e hX => ?_) (fun r h' e => (HR _ _ _ _ _ _ e).2) hd (by decide) hst rfl kk
  obtain ⟨a, c, fs, rfl, ec, hm⟩ := isC_some (HR _ _ _ _ _ _ e).1
  cases List.mem_singleton.mp hm
  exact cal_V (n := 2) hX (lw_V q1633 q1634 q1635 q112 q1636) (by decide +kernel) rfl rfl ec hdg

theorem cl_L_82 {X : CT} {cc : ByteArray} {nL : Nat} {mn : String} {ret : Option FieldType} {d d0 : Nat} {τ : Type} {pc : Nat} {lv : List (Option PV)} {st : List PV} {h : PH} {sz : τ → Nat × Nat} {K : τ → Prop} {f : Option Nat → Int32 → Int32 → PH → Option (Int32)} (HR : IM_X0_heard f d0) {a0 : Option Nat} {a1 : Int32} {a2 : Int32} {g : Int32 → Option τ} (hd : d0 + 1 ≤ d) (hdg : decode cc pc = .ok (.invokevirtual 82, 3)) (hst : st.length ≤ 8) (kk : ∀ r, Im X (cc, nL, R_law, mn, ret, d) (pc + 3) lv (.inl r :: st) h (g r) sz K) : Im X (cc, nL, R_law, mn, ret, d) pc lv (.inl a2 :: .inl a1 :: .inr a0 :: st) h ((f a0 a1 a2 h).bind g) sz K := by
  refine im_cP (y := yX0_heard) (cY := cX0_heard) (nY := 5) (rY := (some .int)) (d' := d0) (av := [.inr a0, .inl a1, .inl a2]) (fun r e hX => ?_) (fun r e => (HR _ _ _ _ _ e).2) hd (by decide) hst rfl kk
  obtain ⟨a, c, fs, rfl, ec, hm⟩ := isC_some (HR _ _ _ _ _ e).1
  cases List.mem_singleton.mp hm
  exact cal_V (n := 2) hX (lw_V q1077 q1078 q1079 q106 q1080) (by decide +kernel) rfl rfl ec hdg

theorem cl_L_85 {X : CT} {cc : ByteArray} {nL : Nat} {mn : String} {ret : Option FieldType} {d d0 : Nat} {τ : Type} {pc : Nat} {lv : List (Option PV)} {st : List PV} {h : PH} {sz : τ → Nat × Nat} {K : τ → Prop} {f : Option Nat → Int32 → Int32 → PH → Option (Int32)} (HR : IM_X6_heard f d0) {a0 : Option Nat} {a1 : Int32} {a2 : Int32} {g : Int32 → Option τ} (hd : d0 + 1 ≤ d) (hdg : decode cc pc = .ok (.invokevirtual 85, 3)) (hst : st.length ≤ 8) (kk : ∀ r, Im X (cc, nL, R_law, mn, ret, d) (pc + 3) lv (.inl r :: st) h (g r) sz K) : Im X (cc, nL, R_law, mn, ret, d) pc lv (.inl a2 :: .inl a1 :: .inr a0 :: st) h ((f a0 a1 a2 h).bind g) sz K := by
  refine im_cP (y := yX6_heard) (cY := cX6_heard) (nY := 5) (rY := (some .int)) (d' := d0) (av := [.inr a0, .inl a1, .inl a2]) (fun r e hX => ?_) (fun r e => (HR _ _ _ _ _ e).2) hd (by decide) hst rfl kk
  obtain ⟨a, c, fs, rfl, ec, hm⟩ := isC_some (HR _ _ _ _ _ e).1
  cases List.mem_singleton.mp hm
  exact cal_V (n := 2) hX (lw_V q1645 q1646 q1647 q112 q1648) (by decide +kernel) rfl rfl ec hdg

theorem cl_L_86 {X : CT} {cc : ByteArray} {nL : Nat} {mn : String} {ret : Option FieldType} {d d0 : Nat} {τ : Type} {pc : Nat} {lv : List (Option PV)} {st : List PV} {h : PH} {sz : τ → Nat × Nat} {K : τ → Prop} {f : Option Nat → Int32 → PH → Option (Int32)} (HR : IM_X0_circles f d0) {a0 : Option Nat} {a1 : Int32} {g : Int32 → Option τ} (hd : d0 + 1 ≤ d) (hdg : decode cc pc = .ok (.invokevirtual 86, 3)) (hst : st.length ≤ 8) (kk : ∀ r, Im X (cc, nL, R_law, mn, ret, d) (pc + 3) lv (.inl r :: st) h (g r) sz K) : Im X (cc, nL, R_law, mn, ret, d) pc lv (.inl a1 :: .inr a0 :: st) h ((f a0 a1 h).bind g) sz K := by
  refine im_cP (y := yX0_circles) (cY := cX0_circles) (nY := 4) (rY := (some .int)) (d' := d0) (av := [.inr a0, .inl a1]) (fun r e hX => ?_) (fun r e => (HR _ _ _ _ e).2) hd (by decide) hst rfl kk
  obtain ⟨a, c, fs, rfl, ec, hm⟩ := isC_some (HR _ _ _ _ e).1
  cases List.mem_singleton.mp hm
  exact cal_V (n := 1) hX (lw_V q1085 q1086 q1087 q106 q1088) (by decide +kernel) rfl rfl ec hdg

theorem cl_L_89 {X : CT} {cc : ByteArray} {nL : Nat} {mn : String} {ret : Option FieldType} {d d0 : Nat} {τ : Type} {pc : Nat} {lv : List (Option PV)} {st : List PV} {h : PH} {sz : τ → Nat × Nat} {K : τ → Prop} {f : Option Nat → Int32 → PH → Option (Int32)} (HR : IM_X6_circles f d0) {a0 : Option Nat} {a1 : Int32} {g : Int32 → Option τ} (hd : d0 + 1 ≤ d) (hdg : decode cc pc = .ok (.invokevirtual 89, 3)) (hst : st.length ≤ 8) (kk : ∀ r, Im X (cc, nL, R_law, mn, ret, d) (pc + 3) lv (.inl r :: st) h (g r) sz K) : Im X (cc, nL, R_law, mn, ret, d) pc lv (.inl a1 :: .inr a0 :: st) h ((f a0 a1 h).bind g) sz K := by
  refine im_cP (y := yX6_circles) (cY := cX6_circles) (nY := 5) (rY := (some .int)) (d' := d0) (av := [.inr a0, .inl a1]) (fun r e hX => ?_) (fun r e => (HR _ _ _ _ e).2) hd (by decide) hst rfl kk
  obtain ⟨a, c, fs, rfl, ec, hm⟩ := isC_some (HR _ _ _ _ e).1
  cases List.mem_singleton.mp hm
  exact cal_V (n := 1) hX (lw_V q1653 q1654 q1655 q112 q1656) (by decide +kernel) rfl rfl ec hdg

theorem cl_L_90 {X : CT} {cc : ByteArray} {nL : Nat} {mn : String} {ret : Option FieldType} {d d0 : Nat} {τ : Type} {pc : Nat} {lv : List (Option PV)} {st : List PV} {h : PH} {sz : τ → Nat × Nat} {K : τ → Prop} {f : Option Nat → Int32 → Int32 → PH → Option (Int32)} (HR : IM_X0_from f d0) {a0 : Option Nat} {a1 : Int32} {a2 : Int32} {g : Int32 → Option τ} (hd : d0 + 1 ≤ d) (hdg : decode cc pc = .ok (.invokevirtual 90, 3)) (hst : st.length ≤ 8) (kk : ∀ r, Im X (cc, nL, R_law, mn, ret, d) (pc + 3) lv (.inl r :: st) h (g r) sz K) : Im X (cc, nL, R_law, mn, ret, d) pc lv (.inl a2 :: .inl a1 :: .inr a0 :: st) h ((f a0 a1 a2 h).bind g) sz K := by
  refine im_cP (y := yX0_from) (cY := cX0_from) (nY := 5) (rY := (some .int)) (d' := d0) (av := [.inr a0, .inl a1, .inl a2]) (fun r e hX => ?_) (fun r e => (HR _ _ _ _ _ e).2) hd (by decide) hst rfl kk
  obtain ⟨a, c, fs, rfl, ec, hm⟩ := isC_some (HR _ _ _ _ _ e).1
  cases List.mem_singleton.mp hm
  exact cal_V (n := 2) hX (lw_V q1093 q1094 q1095 q106 q1096) (by decide +kernel) rfl rfl ec hdg

theorem cl_L_93 {X : CT} {cc : ByteArray} {nL : Nat} {mn : String} {ret : Option FieldType} {d d0 : Nat} {τ : Type} {pc : Nat} {lv : List (Option PV)} {st : List PV} {h : PH} {sz : τ → Nat × Nat} {K : τ → Prop} {f : Option Nat → Int32 → Int32 → PH → Option (Int32)} (HR : IM_X6_from f d0) {a0 : Option Nat} {a1 : Int32} {a2 : Int32} {g : Int32 → Option τ} (hd : d0 + 1 ≤ d) (hdg : decode cc pc = .ok (.invokevirtual 93, 3)) (hst : st.length ≤ 8) (kk : ∀ r, Im X (cc, nL, R_law, mn, ret, d) (pc + 3) lv (.inl r :: st) h (g r) sz K) : Im X (cc, nL, R_law, mn, ret, d) pc lv (.inl a2 :: .inl a1 :: .inr a0 :: st) h ((f a0 a1 a2 h).bind g) sz K := by
  refine im_cP (y := yX6_from) (cY := cX6_from) (nY := 5) (rY := (some .int)) (d' := d0) (av := [.inr a0, .inl a1, .inl a2]) (fun r e hX => ?_) (fun r e => (HR _ _ _ _ _ e).2) hd (by decide) hst rfl kk
  obtain ⟨a, c, fs, rfl, ec, hm⟩ := isC_some (HR _ _ _ _ _ e).1
  cases List.mem_singleton.mp hm
  exact cal_V (n := 2) hX (lw_V q1665 q1666 q1667 q112 q1668) (by decide +kernel) rfl rfl ec hdg

theorem cl_L_94 {X : CT} {cc : ByteArray} {nL : Nat} {mn : String} {ret : Option FieldType} {d d0 : Nat} {τ : Type} {pc : Nat} {lv : List (Option PV)} {st : List PV} {h : PH} {sz : τ → Nat × Nat} {K : τ → Prop} {f : Option Nat → Int32 → Int32 → PH → Option (Int32 × PH)} (HR : IM_X0_thread f d0) {a0 : Option Nat} {a1 : Int32} {a2 : Int32} {g : Int32 → PH → Option τ} (hd : d0 + 1 ≤ d) (hdg : decode cc pc = .ok (.invokevirtual 94, 3)) (hst : st.length ≤ 8) (kk : ∀ r h', Im X (cc, nL, R_law, mn, ret, d) (pc + 3) lv (.inl r :: st) h' (g r h') sz K) : Im X (cc, nL, R_law, mn, ret, d) pc lv (.inl a2 :: .inl a1 :: .inr a0 :: st) h (bd2 (f a0 a1 a2 h) g) sz K := by
  refine im_cI (y := yX0_thread) (cY := cX0_thread) (nY := 7) (rY := (some .int)) (d' := d0) (av := [.inr a0, .inl a1, .inl a2]) (fun r h' e hX => ?_) (fun r h' e => (HR _ _ _ _ _ _ e).2) hd (by decide) hst rfl kk
  obtain ⟨a, c, fs, rfl, ec, hm⟩ := isC_some (HR _ _ _ _ _ _ e).1
  cases List.mem_singleton.mp hm
  exact cal_V (n := 2) hX (lw_V q1097 q1098 q1099 q106 q1100) (by decide +kernel) rfl rfl ec hdg

theorem cl_L_97 {X : CT} {cc : ByteArray} {nL : Nat} {mn : String} {ret : Option FieldType} {d d0 : Nat} {τ : Type} {pc : Nat} {lv : List (Option PV)} {st : List PV} {h : PH} {sz : τ → Nat × Nat} {K : τ → Prop} {f : Option Nat → Int32 → Int32 → PH → Option (Int32 × PH)} (HR : IM_X6_thread f d0) {a0 : Option Nat} {a1 : Int32} {a2 : Int32} {g : Int32 → PH → Option τ} (hd : d0 + 1 ≤ d) (hdg : decode cc pc = .ok (.invokevirtual 97, 3)) (hst : st.length ≤ 8) (kk : ∀ r h', Im X (cc, nL, R_law, mn, ret, d) (pc + 3) lv (.inl r :: st) h' (g r h') sz K) : Im X (cc, nL, R_law, mn, ret, d) pc lv (.inl a2 :: .inl a1 :: .inr a0 :: st) h (bd2 (f a0 a1 a2 h) g) sz K := by
  refine im_cI (y := yX6_thread) (cY := cX6_thread) (nY := 7) (rY := (some .int)) (d' := d0) (av := [.inr a0, .inl a1, .inl a2]) (fun r h' e hX => ?_) (fun r h' e => (HR _ _ _ _ _ _ e).2) hd (by decide) hst rfl kk
  obtain ⟨a, c, fs, rfl, ec, hm⟩ := isC_some (HR _ _ _ _ _ _ e).1
  cases List.mem_singleton.mp hm
  exact cal_V (n := 2) hX (lw_V q1669 q1670 q1671 q112 q1672) (by decide +kernel) rfl rfl ec hdg

theorem cl_L_98 {X : CT} {cc : ByteArray} {nL : Nat} {mn : String} {ret : Option FieldType} {d d0 : Nat} {τ : Type} {pc : Nat} {lv : List (Option PV)} {st : List PV} {h : PH} {sz : τ → Nat × Nat} {K : τ → Prop} {f : Option Nat → Int32 → Int32 → PH → Option (Int32)} (HR : IM_X0_good f d0) {a0 : Option Nat} {a1 : Int32} {a2 : Int32} {g : Int32 → Option τ} (hd : d0 + 1 ≤ d) (hdg : decode cc pc = .ok (.invokevirtual 98, 3)) (hst : st.length ≤ 8) (kk : ∀ r, Im X (cc, nL, R_law, mn, ret, d) (pc + 3) lv (.inl r :: st) h (g r) sz K) : Im X (cc, nL, R_law, mn, ret, d) pc lv (.inl a2 :: .inl a1 :: .inr a0 :: st) h ((f a0 a1 a2 h).bind g) sz K := by
  refine im_cP (y := yX0_good) (cY := cX0_good) (nY := 9) (rY := (some .int)) (d' := d0) (av := [.inr a0, .inl a1, .inl a2]) (fun r e hX => ?_) (fun r e => (HR _ _ _ _ _ e).2) hd (by decide) hst rfl kk
  obtain ⟨a, c, fs, rfl, ec, hm⟩ := isC_some (HR _ _ _ _ _ e).1
  cases List.mem_singleton.mp hm
  exact cal_V (n := 2) hX (lw_V q1105 q1106 q1107 q106 q1108) (by decide +kernel) rfl rfl ec hdg

theorem cl_L_101 {X : CT} {cc : ByteArray} {nL : Nat} {mn : String} {ret : Option FieldType} {d d0 : Nat} {τ : Type} {pc : Nat} {lv : List (Option PV)} {st : List PV} {h : PH} {sz : τ → Nat × Nat} {K : τ → Prop} {f : Option Nat → Int32 → Int32 → PH → Option (Int32)} (HR : IM_X6_good f d0) {a0 : Option Nat} {a1 : Int32} {a2 : Int32} {g : Int32 → Option τ} (hd : d0 + 1 ≤ d) (hdg : decode cc pc = .ok (.invokevirtual 101, 3)) (hst : st.length ≤ 8) (kk : ∀ r, Im X (cc, nL, R_law, mn, ret, d) (pc + 3) lv (.inl r :: st) h (g r) sz K) : Im X (cc, nL, R_law, mn, ret, d) pc lv (.inl a2 :: .inl a1 :: .inr a0 :: st) h ((f a0 a1 a2 h).bind g) sz K := by
  refine im_cP (y := yX6_good) (cY := cX6_good) (nY := 10) (rY := (some .int)) (d' := d0) (av := [.inr a0, .inl a1, .inl a2]) (fun r e hX => ?_) (fun r e => (HR _ _ _ _ _ e).2) hd (by decide) hst rfl kk
  obtain ⟨a, c, fs, rfl, ec, hm⟩ := isC_some (HR _ _ _ _ _ e).1
  cases List.mem_singleton.mp hm
  exact cal_V (n := 2) hX (lw_V q1681 q1682 q1683 q112 q1684) (by decide +kernel) rfl rfl ec hdg

theorem cl_L_102 {X : CT} {cc : ByteArray} {nL : Nat} {mn : String} {ret : Option FieldType} {d d0 : Nat} {τ : Type} {pc : Nat} {lv : List (Option PV)} {st : List PV} {h : PH} {sz : τ → Nat × Nat} {K : τ → Prop} {f : Option Nat → Int32 → PH → Option (Int32 × PH)} (HR : IM_X0_silent f d0) {a0 : Option Nat} {a1 : Int32} {g : Int32 → PH → Option τ} (hd : d0 + 1 ≤ d) (hdg : decode cc pc = .ok (.invokevirtual 102, 3)) (hst : st.length ≤ 8) (kk : ∀ r h', Im X (cc, nL, R_law, mn, ret, d) (pc + 3) lv (.inl r :: st) h' (g r h') sz K) : Im X (cc, nL, R_law, mn, ret, d) pc lv (.inl a1 :: .inr a0 :: st) h (bd2 (f a0 a1 h) g) sz K := by
  refine im_cI (y := yX0_silent) (cY := cX0_silent) (nY := 5) (rY := (some .int)) (d' := d0) (av := [.inr a0, .inl a1]) (fun r h' e hX => ?_) (fun r h' e => (HR _ _ _ _ _ e).2) hd (by decide) hst rfl kk
  obtain ⟨a, c, fs, rfl, ec, hm⟩ := isC_some (HR _ _ _ _ _ e).1
  cases List.mem_singleton.mp hm
  exact cal_V (n := 1) hX (lw_V q1113 q1114 q1115 q106 q1116) (by decide +kernel) rfl rfl ec hdg

theorem cl_L_105 {X : CT} {cc : ByteArray} {nL : Nat} {mn : String} {ret : Option FieldType} {d d0 : Nat} {τ : Type} {pc : Nat} {lv : List (Option PV)} {st : List PV} {h : PH} {sz : τ → Nat × Nat} {K : τ → Prop} {f : Option Nat → Int32 → PH → Option (Int32 × PH)} (HR : IM_X6_silent f d0) {a0 : Option Nat} {a1 : Int32} {g : Int32 → PH → Option τ} (hd : d0 + 1 ≤ d) (hdg : decode cc pc = .ok (.invokevirtual 105, 3)) (hst : st.length ≤ 8) (kk : ∀ r h', Im X (cc, nL, R_law, mn, ret, d) (pc + 3) lv (.inl r :: st) h' (g r h') sz K) : Im X (cc, nL, R_law, mn, ret, d) pc lv (.inl a1 :: .inr a0 :: st) h (bd2 (f a0 a1 h) g) sz K := by
  refine im_cI (y := yX6_silent) (cY := cX6_silent) (nY := 6) (rY := (some .int)) (d' := d0) (av := [.inr a0, .inl a1]) (fun r h' e hX => ?_) (fun r h' e => (HR _ _ _ _ _ e).2) hd (by decide) hst rfl kk
  obtain ⟨a, c, fs, rfl, ec, hm⟩ := isC_some (HR _ _ _ _ _ e).1
  cases List.mem_singleton.mp hm
  exact cal_V (n := 1) hX (lw_V q1685 q1686 q1687 q112 q1688) (by decide +kernel) rfl rfl ec hdg

theorem cl_L_106 {X : CT} {cc : ByteArray} {nL : Nat} {mn : String} {ret : Option FieldType} {d d0 : Nat} {τ : Type} {pc : Nat} {lv : List (Option PV)} {st : List PV} {h : PH} {sz : τ → Nat × Nat} {K : τ → Prop} {f : Option Nat → Int32 → PH → Option (Int32 × PH)} (HR : IM_X0_visit f d0) {a0 : Option Nat} {a1 : Int32} {g : Int32 → PH → Option τ} (hd : d0 + 1 ≤ d) (hdg : decode cc pc = .ok (.invokevirtual 106, 3)) (hst : st.length ≤ 8) (kk : ∀ r h', Im X (cc, nL, R_law, mn, ret, d) (pc + 3) lv (.inl r :: st) h' (g r h') sz K) : Im X (cc, nL, R_law, mn, ret, d) pc lv (.inl a1 :: .inr a0 :: st) h (bd2 (f a0 a1 h) g) sz K := by
  refine im_cI (y := yX0_visit) (cY := cX0_visit) (nY := 2) (rY := (some .int)) (d' := d0) (av := [.inr a0, .inl a1]) (fun r h' e hX => ?_) (fun r h' e => (HR _ _ _ _ _ e).2) hd (by decide) hst rfl kk
  obtain ⟨a, c, fs, rfl, ec, hm⟩ := isC_some (HR _ _ _ _ _ e).1
  cases List.mem_singleton.mp hm
  exact cal_V (n := 1) hX (lw_V q1126 q1127 q1128 q106 q1129) (by decide +kernel) rfl rfl ec hdg

theorem cl_L_109 {X : CT} {cc : ByteArray} {nL : Nat} {mn : String} {ret : Option FieldType} {d d0 : Nat} {τ : Type} {pc : Nat} {lv : List (Option PV)} {st : List PV} {h : PH} {sz : τ → Nat × Nat} {K : τ → Prop} {f : Option Nat → Int32 → PH → Option (Int32 × PH)} (HR : IM_X6_visit f d0) {a0 : Option Nat} {a1 : Int32} {g : Int32 → PH → Option τ} (hd : d0 + 1 ≤ d) (hdg : decode cc pc = .ok (.invokevirtual 109, 3)) (hst : st.length ≤ 8) (kk : ∀ r h', Im X (cc, nL, R_law, mn, ret, d) (pc + 3) lv (.inl r :: st) h' (g r h') sz K) : Im X (cc, nL, R_law, mn, ret, d) pc lv (.inl a1 :: .inr a0 :: st) h (bd2 (f a0 a1 h) g) sz K := by
  refine im_cI (y := yX6_visit) (cY := cX6_visit) (nY := 2) (rY := (some .int)) (d' := d0) (av := [.inr a0, .inl a1]) (fun r h' e hX => ?_) (fun r h' e => (HR _ _ _ _ _ e).2) hd (by decide) hst rfl kk
  obtain ⟨a, c, fs, rfl, ec, hm⟩ := isC_some (HR _ _ _ _ _ e).1
  cases List.mem_singleton.mp hm
  exact cal_V (n := 1) hX (lw_V q1697 q1698 q1699 q112 q1700) (by decide +kernel) rfl rfl ec hdg

theorem cl_L_110 {X : CT} {cc : ByteArray} {nL : Nat} {mn : String} {ret : Option FieldType} {d d0 : Nat} {τ : Type} {pc : Nat} {lv : List (Option PV)} {st : List PV} {h : PH} {sz : τ → Nat × Nat} {K : τ → Prop} {f : Option Nat → PH → Option (Int32 × PH)} (HR : IM_X0_visited f d0) {a0 : Option Nat} {g : Int32 → PH → Option τ} (hd : d0 + 1 ≤ d) (hdg : decode cc pc = .ok (.invokevirtual 110, 3)) (hst : st.length ≤ 8) (kk : ∀ r h', Im X (cc, nL, R_law, mn, ret, d) (pc + 3) lv (.inl r :: st) h' (g r h') sz K) : Im X (cc, nL, R_law, mn, ret, d) pc lv (.inr a0 :: st) h (bd2 (f a0 h) g) sz K := by
  refine im_cI (y := yX0_visited) (cY := cX0_visited) (nY := 3) (rY := (some .int)) (d' := d0) (av := [.inr a0]) (fun r h' e hX => ?_) (fun r h' e => (HR _ _ _ _ e).2) hd (by decide) hst rfl kk
  obtain ⟨a, c, fs, rfl, ec, hm⟩ := isC_some (HR _ _ _ _ e).1
  cases List.mem_singleton.mp hm
  exact cal_V (n := 0) hX (lw_V q1134 q1135 q1136 q106 q1137) (by decide +kernel) rfl rfl ec hdg

theorem cl_L_113 {X : CT} {cc : ByteArray} {nL : Nat} {mn : String} {ret : Option FieldType} {d d0 : Nat} {τ : Type} {pc : Nat} {lv : List (Option PV)} {st : List PV} {h : PH} {sz : τ → Nat × Nat} {K : τ → Prop} {f : Option Nat → PH → Option (Int32 × PH)} (HR : IM_X6_visited f d0) {a0 : Option Nat} {g : Int32 → PH → Option τ} (hd : d0 + 1 ≤ d) (hdg : decode cc pc = .ok (.invokevirtual 113, 3)) (hst : st.length ≤ 8) (kk : ∀ r h', Im X (cc, nL, R_law, mn, ret, d) (pc + 3) lv (.inl r :: st) h' (g r h') sz K) : Im X (cc, nL, R_law, mn, ret, d) pc lv (.inr a0 :: st) h (bd2 (f a0 h) g) sz K := by
  refine im_cI (y := yX6_visited) (cY := cX6_visited) (nY := 3) (rY := (some .int)) (d' := d0) (av := [.inr a0]) (fun r h' e hX => ?_) (fun r h' e => (HR _ _ _ _ e).2) hd (by decide) hst rfl kk
  obtain ⟨a, c, fs, rfl, ec, hm⟩ := isC_some (HR _ _ _ _ e).1
  cases List.mem_singleton.mp hm
  exact cal_V (n := 0) hX (lw_V q1705 q1706 q1707 q112 q1708) (by decide +kernel) rfl rfl ec hdg

theorem cl_L_114 {X : CT} {cc : ByteArray} {nL : Nat} {mn : String} {ret : Option FieldType} {d d0 : Nat} {τ : Type} {pc : Nat} {lv : List (Option PV)} {st : List PV} {h : PH} {sz : τ → Nat × Nat} {K : τ → Prop} {f : Option Nat → Int32 → Int32 → PH → Option (Int32)} (HR : IM_X0_alike f d0) {a0 : Option Nat} {a1 : Int32} {a2 : Int32} {g : Int32 → Option τ} (hd : d0 + 1 ≤ d) (hdg : decode cc pc = .ok (.invokevirtual 114, 3)) (hst : st.length ≤ 8) (kk : ∀ r, Im X (cc, nL, R_law, mn, ret, d) (pc + 3) lv (.inl r :: st) h (g r) sz K) : Im X (cc, nL, R_law, mn, ret, d) pc lv (.inl a2 :: .inl a1 :: .inr a0 :: st) h ((f a0 a1 a2 h).bind g) sz K := by
  refine im_cP (y := yX0_alike) (cY := cX0_alike) (nY := 7) (rY := (some .int)) (d' := d0) (av := [.inr a0, .inl a1, .inl a2]) (fun r e hX => ?_) (fun r e => (HR _ _ _ _ _ e).2) hd (by decide) hst rfl kk
  obtain ⟨a, c, fs, rfl, ec, hm⟩ := isC_some (HR _ _ _ _ _ e).1
  cases List.mem_singleton.mp hm
  exact cal_V (n := 2) hX (lw_V q1138 q1139 q1140 q106 q1141) (by decide +kernel) rfl rfl ec hdg

theorem cl_L_117 {X : CT} {cc : ByteArray} {nL : Nat} {mn : String} {ret : Option FieldType} {d d0 : Nat} {τ : Type} {pc : Nat} {lv : List (Option PV)} {st : List PV} {h : PH} {sz : τ → Nat × Nat} {K : τ → Prop} {f : Option Nat → Int32 → Int32 → PH → Option (Int32)} (HR : IM_X6_alike f d0) {a0 : Option Nat} {a1 : Int32} {a2 : Int32} {g : Int32 → Option τ} (hd : d0 + 1 ≤ d) (hdg : decode cc pc = .ok (.invokevirtual 117, 3)) (hst : st.length ≤ 8) (kk : ∀ r, Im X (cc, nL, R_law, mn, ret, d) (pc + 3) lv (.inl r :: st) h (g r) sz K) : Im X (cc, nL, R_law, mn, ret, d) pc lv (.inl a2 :: .inl a1 :: .inr a0 :: st) h ((f a0 a1 a2 h).bind g) sz K := by
  refine im_cP (y := yX6_alike) (cY := cX6_alike) (nY := 7) (rY := (some .int)) (d' := d0) (av := [.inr a0, .inl a1, .inl a2]) (fun r e hX => ?_) (fun r e => (HR _ _ _ _ _ e).2) hd (by decide) hst rfl kk
  obtain ⟨a, c, fs, rfl, ec, hm⟩ := isC_some (HR _ _ _ _ _ e).1
  cases List.mem_singleton.mp hm
  exact cal_V (n := 2) hX (lw_V q1709 q1710 q1711 q112 q1712) (by decide +kernel) rfl rfl ec hdg

theorem cl_L_118 {X : CT} {cc : ByteArray} {nL : Nat} {mn : String} {ret : Option FieldType} {d d0 : Nat} {τ : Type} {pc : Nat} {lv : List (Option PV)} {st : List PV} {h : PH} {sz : τ → Nat × Nat} {K : τ → Prop} {f : Option Nat → Int32 → PH → Option (Int32 × PH)} (HR : IM_X0_seed f d0) {a0 : Option Nat} {a1 : Int32} {g : Int32 → PH → Option τ} (hd : d0 + 1 ≤ d) (hdg : decode cc pc = .ok (.invokevirtual 118, 3)) (hst : st.length ≤ 8) (kk : ∀ r h', Im X (cc, nL, R_law, mn, ret, d) (pc + 3) lv (.inl r :: st) h' (g r h') sz K) : Im X (cc, nL, R_law, mn, ret, d) pc lv (.inl a1 :: .inr a0 :: st) h (bd2 (f a0 a1 h) g) sz K := by
  refine im_cI (y := yX0_seed) (cY := cX0_seed) (nY := 2) (rY := (some .boolean)) (d' := d0) (av := [.inr a0, .inl a1]) (fun r h' e hX => ?_) (fun r h' e => (HR _ _ _ _ _ e).2) hd (by decide) hst rfl kk
  obtain ⟨a, c, fs, rfl, ec, hm⟩ := isC_some (HR _ _ _ _ _ e).1
  cases List.mem_singleton.mp hm
  exact cal_V (n := 1) hX (lw_V q1143 q1144 q1145 q106 q1146) (by decide +kernel) rfl rfl ec hdg

theorem cl_L_122 {X : CT} {cc : ByteArray} {nL : Nat} {mn : String} {ret : Option FieldType} {d d0 : Nat} {τ : Type} {pc : Nat} {lv : List (Option PV)} {st : List PV} {h : PH} {sz : τ → Nat × Nat} {K : τ → Prop} {f : Option Nat → Int32 → PH → Option (Int32 × PH)} (HR : IM_X6_seed f d0) {a0 : Option Nat} {a1 : Int32} {g : Int32 → PH → Option τ} (hd : d0 + 1 ≤ d) (hdg : decode cc pc = .ok (.invokevirtual 122, 3)) (hst : st.length ≤ 8) (kk : ∀ r h', Im X (cc, nL, R_law, mn, ret, d) (pc + 3) lv (.inl r :: st) h' (g r h') sz K) : Im X (cc, nL, R_law, mn, ret, d) pc lv (.inl a1 :: .inr a0 :: st) h (bd2 (f a0 a1 h) g) sz K := by
  refine im_cI (y := yX6_seed) (cY := cX6_seed) (nY := 2) (rY := (some .boolean)) (d' := d0) (av := [.inr a0, .inl a1]) (fun r h' e hX => ?_) (fun r h' e => (HR _ _ _ _ _ e).2) hd (by decide) hst rfl kk
  obtain ⟨a, c, fs, rfl, ec, hm⟩ := isC_some (HR _ _ _ _ _ e).1
  cases List.mem_singleton.mp hm
  exact cal_V (n := 1) hX (lw_V q1713 q1714 q1715 q112 q1716) (by decide +kernel) rfl rfl ec hdg

theorem cl_L_123 {X : CT} {cc : ByteArray} {nL : Nat} {mn : String} {ret : Option FieldType} {d d0 : Nat} {τ : Type} {pc : Nat} {lv : List (Option PV)} {st : List PV} {h : PH} {sz : τ → Nat × Nat} {K : τ → Prop} {f : Option Nat → PH → Option (Int32 × PH)} (HR : IM_X0_keep f d0) {a0 : Option Nat} {g : Int32 → PH → Option τ} (hd : d0 + 1 ≤ d) (hdg : decode cc pc = .ok (.invokevirtual 123, 3)) (hst : st.length ≤ 8) (kk : ∀ r h', Im X (cc, nL, R_law, mn, ret, d) (pc + 3) lv (.inl r :: st) h' (g r h') sz K) : Im X (cc, nL, R_law, mn, ret, d) pc lv (.inr a0 :: st) h (bd2 (f a0 h) g) sz K := by
  refine im_cI (y := yX0_keep) (cY := cX0_keep) (nY := 1) (rY := (some .int)) (d' := d0) (av := [.inr a0]) (fun r h' e hX => ?_) (fun r h' e => (HR _ _ _ _ e).2) hd (by decide) hst rfl kk
  obtain ⟨a, c, fs, rfl, ec, hm⟩ := isC_some (HR _ _ _ _ e).1
  cases List.mem_singleton.mp hm
  exact cal_V (n := 0) hX (lw_V q1147 q1148 q1149 q106 q1150) (by decide +kernel) rfl rfl ec hdg

theorem cl_L_126 {X : CT} {cc : ByteArray} {nL : Nat} {mn : String} {ret : Option FieldType} {d d0 : Nat} {τ : Type} {pc : Nat} {lv : List (Option PV)} {st : List PV} {h : PH} {sz : τ → Nat × Nat} {K : τ → Prop} {f : Option Nat → PH → Option (Int32 × PH)} (HR : IM_X6_keep f d0) {a0 : Option Nat} {g : Int32 → PH → Option τ} (hd : d0 + 1 ≤ d) (hdg : decode cc pc = .ok (.invokevirtual 126, 3)) (hst : st.length ≤ 8) (kk : ∀ r h', Im X (cc, nL, R_law, mn, ret, d) (pc + 3) lv (.inl r :: st) h' (g r h') sz K) : Im X (cc, nL, R_law, mn, ret, d) pc lv (.inr a0 :: st) h (bd2 (f a0 h) g) sz K := by
  refine im_cI (y := yX6_keep) (cY := cX6_keep) (nY := 1) (rY := (some .int)) (d' := d0) (av := [.inr a0]) (fun r h' e hX => ?_) (fun r h' e => (HR _ _ _ _ e).2) hd (by decide) hst rfl kk
  obtain ⟨a, c, fs, rfl, ec, hm⟩ := isC_some (HR _ _ _ _ e).1
  cases List.mem_singleton.mp hm
  exact cal_V (n := 0) hX (lw_V q1717 q1718 q1719 q112 q1720) (by decide +kernel) rfl rfl ec hdg

theorem cl_L_127 {X : CT} {cc : ByteArray} {nL : Nat} {mn : String} {ret : Option FieldType} {d d0 : Nat} {τ : Type} {pc : Nat} {lv : List (Option PV)} {st : List PV} {h : PH} {sz : τ → Nat × Nat} {K : τ → Prop} {f : Option Nat → PH → Option (Int32 × PH)} (HR : IM_X0_undo f d0) {a0 : Option Nat} {g : Int32 → PH → Option τ} (hd : d0 + 1 ≤ d) (hdg : decode cc pc = .ok (.invokevirtual 127, 3)) (hst : st.length ≤ 8) (kk : ∀ r h', Im X (cc, nL, R_law, mn, ret, d) (pc + 3) lv (.inl r :: st) h' (g r h') sz K) : Im X (cc, nL, R_law, mn, ret, d) pc lv (.inr a0 :: st) h (bd2 (f a0 h) g) sz K := by
  refine im_cI (y := yX0_undo) (cY := cX0_undo) (nY := 1) (rY := (some .boolean)) (d' := d0) (av := [.inr a0]) (fun r h' e hX => ?_) (fun r h' e => (HR _ _ _ _ e).2) hd (by decide) hst rfl kk
  obtain ⟨a, c, fs, rfl, ec, hm⟩ := isC_some (HR _ _ _ _ e).1
  cases List.mem_singleton.mp hm
  exact cal_V (n := 0) hX (lw_V q1151 q1152 q1153 q106 q1154) (by decide +kernel) rfl rfl ec hdg

theorem cl_L_131 {X : CT} {cc : ByteArray} {nL : Nat} {mn : String} {ret : Option FieldType} {d d0 : Nat} {τ : Type} {pc : Nat} {lv : List (Option PV)} {st : List PV} {h : PH} {sz : τ → Nat × Nat} {K : τ → Prop} {f : Option Nat → PH → Option (Int32 × PH)} (HR : IM_X6_undo f d0) {a0 : Option Nat} {g : Int32 → PH → Option τ} (hd : d0 + 1 ≤ d) (hdg : decode cc pc = .ok (.invokevirtual 131, 3)) (hst : st.length ≤ 8) (kk : ∀ r h', Im X (cc, nL, R_law, mn, ret, d) (pc + 3) lv (.inl r :: st) h' (g r h') sz K) : Im X (cc, nL, R_law, mn, ret, d) pc lv (.inr a0 :: st) h (bd2 (f a0 h) g) sz K := by
  refine im_cI (y := yX6_undo) (cY := cX6_undo) (nY := 1) (rY := (some .boolean)) (d' := d0) (av := [.inr a0]) (fun r h' e hX => ?_) (fun r h' e => (HR _ _ _ _ e).2) hd (by decide) hst rfl kk
  obtain ⟨a, c, fs, rfl, ec, hm⟩ := isC_some (HR _ _ _ _ e).1
  cases List.mem_singleton.mp hm
  exact cal_V (n := 0) hX (lw_V q1721 q1722 q1723 q112 q1724) (by decide +kernel) rfl rfl ec hdg

theorem cl_L_132 {X : CT} {cc : ByteArray} {nL : Nat} {mn : String} {ret : Option FieldType} {d d0 : Nat} {τ : Type} {pc : Nat} {lv : List (Option PV)} {st : List PV} {h : PH} {sz : τ → Nat × Nat} {K : τ → Prop} {f : Option Nat → Int32 → PH → Option (Int32 × PH)} (HR : IM_X0_check f d0) {a0 : Option Nat} {a1 : Int32} {g : Int32 → PH → Option τ} (hd : d0 + 1 ≤ d) (hdg : decode cc pc = .ok (.invokevirtual 132, 3)) (hst : st.length ≤ 8) (kk : ∀ r h', Im X (cc, nL, R_law, mn, ret, d) (pc + 3) lv (.inl r :: st) h' (g r h') sz K) : Im X (cc, nL, R_law, mn, ret, d) pc lv (.inl a1 :: .inr a0 :: st) h (bd2 (f a0 a1 h) g) sz K := by
  refine im_cI (y := yX0_check) (cY := cX0_check) (nY := 3) (rY := (some .int)) (d' := d0) (av := [.inr a0, .inl a1]) (fun r h' e hX => ?_) (fun r h' e => (HR _ _ _ _ _ e).2) hd (by decide) hst rfl kk
  obtain ⟨a, c, fs, rfl, ec, hm⟩ := isC_some (HR _ _ _ _ _ e).1
  cases List.mem_singleton.mp hm
  exact cal_V (n := 1) hX (lw_V q1155 q1156 q1157 q106 q1158) (by decide +kernel) rfl rfl ec hdg

theorem cl_L_135 {X : CT} {cc : ByteArray} {nL : Nat} {mn : String} {ret : Option FieldType} {d d0 : Nat} {τ : Type} {pc : Nat} {lv : List (Option PV)} {st : List PV} {h : PH} {sz : τ → Nat × Nat} {K : τ → Prop} {f : Option Nat → Int32 → PH → Option (Int32 × PH)} (HR : IM_X6_check f d0) {a0 : Option Nat} {a1 : Int32} {g : Int32 → PH → Option τ} (hd : d0 + 1 ≤ d) (hdg : decode cc pc = .ok (.invokevirtual 135, 3)) (hst : st.length ≤ 8) (kk : ∀ r h', Im X (cc, nL, R_law, mn, ret, d) (pc + 3) lv (.inl r :: st) h' (g r h') sz K) : Im X (cc, nL, R_law, mn, ret, d) pc lv (.inl a1 :: .inr a0 :: st) h (bd2 (f a0 a1 h) g) sz K := by
  refine im_cI (y := yX6_check) (cY := cX6_check) (nY := 3) (rY := (some .int)) (d' := d0) (av := [.inr a0, .inl a1]) (fun r h' e hX => ?_) (fun r h' e => (HR _ _ _ _ _ e).2) hd (by decide) hst rfl kk
  obtain ⟨a, c, fs, rfl, ec, hm⟩ := isC_some (HR _ _ _ _ _ e).1
  cases List.mem_singleton.mp hm
  exact cal_V (n := 1) hX (lw_V q1725 q1726 q1727 q112 q1728) (by decide +kernel) rfl rfl ec hdg

theorem cl_L_136 {X : CT} {cc : ByteArray} {nL : Nat} {mn : String} {ret : Option FieldType} {d d0 : Nat} {τ : Type} {pc : Nat} {lv : List (Option PV)} {st : List PV} {h : PH} {sz : τ → Nat × Nat} {K : τ → Prop} {f : Option Nat → Int32 → PH → Option (Int32)} (HR : IM_X0_count f d0) {a0 : Option Nat} {a1 : Int32} {g : Int32 → Option τ} (hd : d0 + 1 ≤ d) (hdg : decode cc pc = .ok (.invokevirtual 136, 3)) (hst : st.length ≤ 8) (kk : ∀ r, Im X (cc, nL, R_law, mn, ret, d) (pc + 3) lv (.inl r :: st) h (g r) sz K) : Im X (cc, nL, R_law, mn, ret, d) pc lv (.inl a1 :: .inr a0 :: st) h ((f a0 a1 h).bind g) sz K := by
  refine im_cP (y := yX0_count) (cY := cX0_count) (nY := 2) (rY := (some .int)) (d' := d0) (av := [.inr a0, .inl a1]) (fun r e hX => ?_) (fun r e => (HR _ _ _ _ e).2) hd (by decide) hst rfl kk
  obtain ⟨a, c, fs, rfl, ec, hm⟩ := isC_some (HR _ _ _ _ e).1
  cases List.mem_singleton.mp hm
  exact cal_V (n := 1) hX (lw_V q1159 q1160 q1161 q106 q1162) (by decide +kernel) rfl rfl ec hdg

theorem cl_L_139 {X : CT} {cc : ByteArray} {nL : Nat} {mn : String} {ret : Option FieldType} {d d0 : Nat} {τ : Type} {pc : Nat} {lv : List (Option PV)} {st : List PV} {h : PH} {sz : τ → Nat × Nat} {K : τ → Prop} {f : Option Nat → Int32 → PH → Option (Int32)} (HR : IM_X6_count f d0) {a0 : Option Nat} {a1 : Int32} {g : Int32 → Option τ} (hd : d0 + 1 ≤ d) (hdg : decode cc pc = .ok (.invokevirtual 139, 3)) (hst : st.length ≤ 8) (kk : ∀ r, Im X (cc, nL, R_law, mn, ret, d) (pc + 3) lv (.inl r :: st) h (g r) sz K) : Im X (cc, nL, R_law, mn, ret, d) pc lv (.inl a1 :: .inr a0 :: st) h ((f a0 a1 h).bind g) sz K := by
  refine im_cP (y := yX6_count) (cY := cX6_count) (nY := 4) (rY := (some .int)) (d' := d0) (av := [.inr a0, .inl a1]) (fun r e hX => ?_) (fun r e => (HR _ _ _ _ e).2) hd (by decide) hst rfl kk
  obtain ⟨a, c, fs, rfl, ec, hm⟩ := isC_some (HR _ _ _ _ e).1
  cases List.mem_singleton.mp hm
  exact cal_V (n := 1) hX (lw_V q1729 q1730 q1731 q112 q1732) (by decide +kernel) rfl rfl ec hdg

noncomputable def lw_law_b18 (v0 : Option Nat) (v1 : Option Nat) (v2 : Option Nat) (v3 : Int32) (h : PH) : Option ((Int32 × PH) ⊕ (Int32 × PH)) :=
  (alen 0 v0 h).bind fun x51 =>
  (if (x51 - 6) < v3 then
  some (.inr ((1, h)))
  else
  (ald 0 v0 v3 h).bind fun x52 =>
  (if (x52 &&& 31) = 0 then
  (ald 0 v0 (v3 + 1) h).bind fun x53 =>
  (ald 0 v0 (v3 + 2) h).bind fun x54 =>
  (ald 0 v0 (v3 + 3) h).bind fun x55 =>
  bd2 (tp_person v1 x53 x54 x55 h) fun x57 h56 =>
  (ald 0 v0 (v3 + 1) h56).bind fun x58 =>
  (ald 0 v0 (v3 + 2) h56).bind fun x59 =>
  (ald 0 v0 (v3 + 3) h56).bind fun x60 =>
  bd2 (mo_person v2 x58 x59 x60 h56) fun x62 h61 =>
  (if x57 = x62 then
  some (.inl ((v3 + 6), h61))
  else
  some (.inr ((0, h61))))
  else
  (if (x52 &&& 31) = 1 then
  (ald 0 v0 (v3 + 1) h).bind fun x63 =>
  (ald 0 v0 (v3 + 2) h).bind fun x64 =>
  (ald 0 v0 (v3 + 3) h).bind fun x65 =>
  (ald 0 v0 (v3 + 4) h).bind fun x66 =>
  (ald 0 v0 (v3 + 5) h).bind fun x67 =>
  bd2 (tp_feed v1 x63 x64 x65 x66 x67 h) fun x69 h68 =>
  (ald 0 v0 (v3 + 1) h68).bind fun x70 =>
  (ald 0 v0 (v3 + 2) h68).bind fun x71 =>
  (ald 0 v0 (v3 + 3) h68).bind fun x72 =>
  (ald 0 v0 (v3 + 4) h68).bind fun x73 =>
  (ald 0 v0 (v3 + 5) h68).bind fun x74 =>
  bd2 (mo_feed v2 x70 x71 x72 x73 x74 h68) fun x76 h75 =>
  (if x69 = x76 then
  some (.inl ((v3 + 6), h75))
  else
  some (.inr ((0, h75))))
  else
  (if (x52 &&& 31) = 2 then
  (ald 0 v0 (v3 + 1) h).bind fun x77 =>
  bd2 (tp_law v1 x77 h) fun x79 h78 =>
  (ald 0 v0 (v3 + 1) h78).bind fun x80 =>
  bd2 (mo_law v2 x80 h78) fun x82 h81 =>
  (if x79 = x82 then
  some (.inl ((v3 + 6), h81))
  else
  some (.inr ((0, h81))))
  else
  (if (x52 &&& 31) = 3 then
  (ald 0 v0 (v3 + 1) h).bind fun x83 =>
  bd2 (tp_burials v1 x83 h) fun x85 h84 =>
  (ald 0 v0 (v3 + 1) h84).bind fun x86 =>
  bd2 (mo_burials v2 x86 h84) fun x88 h87 =>
  (if x85 = x88 then
  some (.inl ((v3 + 6), h87))
  else
  some (.inr ((0, h87))))
  else
  (if (x52 &&& 31) = 4 then
  (ald 0 v0 (v3 + 1) h).bind fun x89 =>
  bd2 (tp_wishes v1 x89 h) fun x91 h90 =>
  (ald 0 v0 (v3 + 1) h90).bind fun x92 =>
  bd2 (mo_wishes v2 x92 h90) fun x94 h93 =>
  (if x91 = x94 then
  some (.inl ((v3 + 6), h93))
  else
  some (.inr ((0, h93))))
  else
  (if (x52 &&& 31) = 5 then
  (ald 0 v0 (v3 + 1) h).bind fun x95 =>
  bd2 (tp_nights v1 x95 h) fun x97 h96 =>
  (ald 0 v0 (v3 + 1) h96).bind fun x98 =>
  bd2 (mo_nights v2 x98 h96) fun x100 h99 =>
  (if x97 = x100 then
  some (.inl ((v3 + 6), h99))
  else
  some (.inr ((0, h99))))
  else
  (if (x52 &&& 31) = 6 then
  (ald 0 v0 (v3 + 1) h).bind fun x101 =>
  (ald 0 v0 (v3 + 2) h).bind fun x102 =>
  bd2 (tp_tried v1 x101 x102 h) fun x104 h103 =>
  (ald 0 v0 (v3 + 1) h103).bind fun x105 =>
  (ald 0 v0 (v3 + 2) h103).bind fun x106 =>
  bd2 (mo_tried v2 x105 x106 h103) fun x108 h107 =>
  (if x104 = x108 then
  some (.inl ((v3 + 6), h107))
  else
  some (.inr ((0, h107))))
  else
  (if (x52 &&& 31) = 7 then
  (ald 0 v0 (v3 + 1) h).bind fun x109 =>
  (ald 0 v0 (v3 + 2) h).bind fun x110 =>
  (tp_personIs v1 x109 x110 h).bind fun x111 =>
  (ald 0 v0 (v3 + 1) h).bind fun x112 =>
  (ald 0 v0 (v3 + 2) h).bind fun x113 =>
  (mo_personIs v2 x112 x113 h).bind fun x114 =>
  (if x111 = x114 then
  some (.inl ((v3 + 6), h))
  else
  some (.inr ((0, h))))
  else
  (if (x52 &&& 31) = 8 then
  (ald 0 v0 (v3 + 1) h).bind fun x115 =>
  (ald 0 v0 (v3 + 2) h).bind fun x116 =>
  (tp_talk v1 x115 x116 h).bind fun x117 =>
  (ald 0 v0 (v3 + 1) h).bind fun x118 =>
  (ald 0 v0 (v3 + 2) h).bind fun x119 =>
  (mo_talk v2 x118 x119 h).bind fun x120 =>
  (if x117 = x120 then
  some (.inl ((v3 + 6), h))
  else
  some (.inr ((0, h))))
  else
  (if (x52 &&& 31) = 9 then
  (tp_yardTalk v1 h).bind fun x121 =>
  (mo_yardTalk v2 h).bind fun x122 =>
  (if x121 = x122 then
  some (.inl ((v3 + 6), h))
  else
  some (.inr ((0, h))))
  else
  (if (x52 &&& 31) = 10 then
  (ald 0 v0 (v3 + 1) h).bind fun x123 =>
  (ald 0 v0 (v3 + 2) h).bind fun x124 =>
  (tp_best v1 x123 x124 h).bind fun x125 =>
  (ald 0 v0 (v3 + 1) h).bind fun x126 =>
  (ald 0 v0 (v3 + 2) h).bind fun x127 =>
  (mo_best v2 x126 x127 h).bind fun x128 =>
  (if x125 = x128 then
  some (.inl ((v3 + 6), h))
  else
  some (.inr ((0, h))))
  else
  (if (x52 &&& 31) = 11 then
  (ald 0 v0 (v3 + 1) h).bind fun x129 =>
  (tp_move v1 x129 h).bind fun x130 =>
  (ald 0 v0 (v3 + 1) h).bind fun x131 =>
  (mo_move v2 x131 h).bind fun x132 =>
  (if x130 = x132 then
  some (.inl ((v3 + 6), h))
  else
  some (.inr ((0, h))))
  else
  (if (x52 &&& 31) = 12 then
  (ald 0 v0 (v3 + 1) h).bind fun x133 =>
  bd2 (tp_change v1 x133 h) fun x135 h134 =>
  (ald 0 v0 (v3 + 1) h134).bind fun x136 =>
  bd2 (mo_change v2 x136 h134) fun x138 h137 =>
  (if x135 = x138 then
  some (.inl ((v3 + 6), h137))
  else
  some (.inr ((0, h137))))
  else
  (if (x52 &&& 31) = 13 then
  (ald 0 v0 (v3 + 1) h).bind fun x139 =>
  (tp_hold v1 x139 h).bind fun x140 =>
  (ald 0 v0 (v3 + 1) h).bind fun x141 =>
  (mo_hold v2 x141 h).bind fun x142 =>
  (if x140 = x142 then
  some (.inl ((v3 + 6), h))
  else
  some (.inr ((0, h))))
  else
  (if (x52 &&& 31) = 14 then
  (ald 0 v0 (v3 + 1) h).bind fun x143 =>
  (ald 0 v0 (v3 + 2) h).bind fun x144 =>
  bd2 (tp_row v1 x143 x144 h) fun x146 h145 =>
  (ald 0 v0 (v3 + 1) h145).bind fun x147 =>
  (ald 0 v0 (v3 + 2) h145).bind fun x148 =>
  bd2 (mo_row v2 x147 x148 h145) fun x150 h149 =>
  (if x146 = x150 then
  some (.inl ((v3 + 6), h149))
  else
  some (.inr ((0, h149))))
  else
  (if (x52 &&& 31) = 15 then
  (ald 0 v0 (v3 + 1) h).bind fun x151 =>
  (ald 0 v0 (v3 + 2) h).bind fun x152 =>
  bd2 (tp_couples v1 x151 x152 h) fun x154 h153 =>
  (ald 0 v0 (v3 + 1) h153).bind fun x155 =>
  (ald 0 v0 (v3 + 2) h153).bind fun x156 =>
  bd2 (mo_couples v2 x155 x156 h153) fun x158 h157 =>
  (if x154 = x158 then
  some (.inl ((v3 + 6), h157))
  else
  some (.inr ((0, h157))))
  else
  (if (x52 &&& 31) = 16 then
  (ald 0 v0 (v3 + 1) h).bind fun x159 =>
  (ald 0 v0 (v3 + 2) h).bind fun x160 =>
  (tp_heard v1 x159 x160 h).bind fun x161 =>
  (ald 0 v0 (v3 + 1) h).bind fun x162 =>
  (ald 0 v0 (v3 + 2) h).bind fun x163 =>
  (mo_heard v2 x162 x163 h).bind fun x164 =>
  (if x161 = x164 then
  some (.inl ((v3 + 6), h))
  else
  some (.inr ((0, h))))
  else
  (if (x52 &&& 31) = 17 then
  (ald 0 v0 (v3 + 1) h).bind fun x165 =>
  (tp_circles v1 x165 h).bind fun x166 =>
  (ald 0 v0 (v3 + 1) h).bind fun x167 =>
  (mo_circles v2 x167 h).bind fun x168 =>
  (if x166 = x168 then
  some (.inl ((v3 + 6), h))
  else
  some (.inr ((0, h))))
  else
  (if (x52 &&& 31) = 18 then
  (ald 0 v0 (v3 + 1) h).bind fun x169 =>
  (ald 0 v0 (v3 + 2) h).bind fun x170 =>
  (tp_from v1 x169 x170 h).bind fun x171 =>
  (ald 0 v0 (v3 + 1) h).bind fun x172 =>
  (ald 0 v0 (v3 + 2) h).bind fun x173 =>
  (mo_from v2 x172 x173 h).bind fun x174 =>
  (if x171 = x174 then
  some (.inl ((v3 + 6), h))
  else
  some (.inr ((0, h))))
  else
  (if (x52 &&& 31) = 19 then
  (ald 0 v0 (v3 + 1) h).bind fun x175 =>
  (ald 0 v0 (v3 + 2) h).bind fun x176 =>
  bd2 (tp_thread v1 x175 x176 h) fun x178 h177 =>
  (ald 0 v0 (v3 + 1) h177).bind fun x179 =>
  (ald 0 v0 (v3 + 2) h177).bind fun x180 =>
  bd2 (mo_thread v2 x179 x180 h177) fun x182 h181 =>
  (if x178 = x182 then
  some (.inl ((v3 + 6), h181))
  else
  some (.inr ((0, h181))))
  else
  (if (x52 &&& 31) = 20 then
  (ald 0 v0 (v3 + 1) h).bind fun x183 =>
  (ald 0 v0 (v3 + 2) h).bind fun x184 =>
  (tp_good v1 x183 x184 h).bind fun x185 =>
  (ald 0 v0 (v3 + 1) h).bind fun x186 =>
  (ald 0 v0 (v3 + 2) h).bind fun x187 =>
  (mo_good v2 x186 x187 h).bind fun x188 =>
  (if x185 = x188 then
  some (.inl ((v3 + 6), h))
  else
  some (.inr ((0, h))))
  else
  (if (x52 &&& 31) = 21 then
  (ald 0 v0 (v3 + 1) h).bind fun x189 =>
  bd2 (tp_silent v1 x189 h) fun x191 h190 =>
  (ald 0 v0 (v3 + 1) h190).bind fun x192 =>
  bd2 (mo_silent v2 x192 h190) fun x194 h193 =>
  (if x191 = x194 then
  some (.inl ((v3 + 6), h193))
  else
  some (.inr ((0, h193))))
  else
  (if (x52 &&& 31) = 22 then
  (ald 0 v0 (v3 + 1) h).bind fun x195 =>
  bd2 (tp_visit v1 x195 h) fun x197 h196 =>
  (ald 0 v0 (v3 + 1) h196).bind fun x198 =>
  bd2 (mo_visit v2 x198 h196) fun x200 h199 =>
  (if x197 = x200 then
  some (.inl ((v3 + 6), h199))
  else
  some (.inr ((0, h199))))
  else
  (if (x52 &&& 31) = 23 then
  bd2 (tp_visited v1 h) fun x202 h201 =>
  bd2 (mo_visited v2 h201) fun x204 h203 =>
  (if x202 = x204 then
  some (.inl ((v3 + 6), h203))
  else
  some (.inr ((0, h203))))
  else
  (if (x52 &&& 31) = 24 then
  (ald 0 v0 (v3 + 1) h).bind fun x205 =>
  (ald 0 v0 (v3 + 2) h).bind fun x206 =>
  (tp_alike v1 x205 x206 h).bind fun x207 =>
  (ald 0 v0 (v3 + 1) h).bind fun x208 =>
  (ald 0 v0 (v3 + 2) h).bind fun x209 =>
  (mo_alike v2 x208 x209 h).bind fun x210 =>
  (if x207 = x210 then
  some (.inl ((v3 + 6), h))
  else
  some (.inr ((0, h))))
  else
  (if (x52 &&& 31) = 25 then
  (ald 0 v0 (v3 + 1) h).bind fun x211 =>
  bd2 (tp_seed v1 x211 h) fun x213 h212 =>
  (ald 0 v0 (v3 + 1) h212).bind fun x214 =>
  bd2 (mo_seed v2 x214 h212) fun x216 h215 =>
  (if x213 = x216 then
  some (.inl ((v3 + 6), h215))
  else
  some (.inr ((0, h215))))
  else
  (if (x52 &&& 31) = 26 then
  bd2 (tp_keep v1 h) fun x218 h217 =>
  bd2 (mo_keep v2 h217) fun x220 h219 =>
  (if x218 = x220 then
  some (.inl ((v3 + 6), h219))
  else
  some (.inr ((0, h219))))
  else
  (if (x52 &&& 31) = 27 then
  bd2 (tp_undo v1 h) fun x222 h221 =>
  bd2 (mo_undo v2 h221) fun x224 h223 =>
  (if x222 = x224 then
  some (.inl ((v3 + 6), h223))
  else
  some (.inr ((0, h223))))
  else
  (if (x52 &&& 31) = 28 then
  (ald 0 v0 (v3 + 1) h).bind fun x225 =>
  bd2 (tp_check v1 x225 h) fun x227 h226 =>
  (ald 0 v0 (v3 + 1) h226).bind fun x228 =>
  bd2 (mo_check v2 x228 h226) fun x230 h229 =>
  (if x227 = x230 then
  some (.inl ((v3 + 6), h229))
  else
  some (.inr ((0, h229))))
  else
  (if (x52 &&& 31) = 29 then
  (ald 0 v0 (v3 + 1) h).bind fun x231 =>
  (tp_count v1 x231 h).bind fun x232 =>
  (ald 0 v0 (v3 + 1) h).bind fun x233 =>
  (mo_count v2 x233 h).bind fun x234 =>
  (if x232 = x234 then
  some (.inl ((v3 + 6), h))
  else
  some (.inr ((0, h))))
  else
  some (.inl ((v3 + 6), h)))))))))))))))))))))))))))))))))
noncomputable def lw_law_L18 (v0 : Option Nat) (v1 : Option Nat) (v2 : Option Nat) (v3 : Int32) (h : PH) : Option (Int32 × PH) :=
  iter (fun s : Int32 × PH => lw_law_b18 v0 v1 v2 s.1 s.2) (v3, h)
theorem lw_law_b18_ok (X : CT) (mn : String) (v0 : Option Nat) (v1 : Option Nat) (v2 : Option Nat) (v3 : Int32) (h : PH) : Im X (code, 4, R_law, mn, some .boolean, 97) 18 [some (.inr v0), some (.inr v1), some (.inr v2), some (.inl v3)] [] h (lw_law_b18 v0 v1 v2 v3 h) (ez (fun s : Int32 × PH => s.2) szI) (ek X 18 (fun s : Int32 × PH => [some (.inr v0), some (.inr v1), some (.inr v2), some (.inl s.1)]) (fun s : Int32 × PH => s.2) (kL X)) := by
  unfold lw_law_b18
  refine im_iload_n (pc := 18) dL_law_18 rfl rfl ?_
  refine im_aload_n (pc := 19) dL_law_19 rfl rfl ?_
  refine im_alen (pc := 20) (t := 0) (by decide) dL_law_20 fun x51 => ?_
  refine im_bipush (pc := 21) (v := 6) dL_law_21 (by decide) ?_
  refine im_isub (pc := 23) dL_law_23 ?_
  refine im_icmp_gt (pc := 24) (tgt := 994) dL_law_24 (by decide) ?_ ?_
  · refine im_iconst (pc := 994) (v := 1) dL_law_994 (by decide) ?_
    exact Im.outS (im_lret (pc := 995) dL_law_995)
  · refine im_aload_n (pc := 27) dL_law_27 rfl rfl ?_
    refine im_iload_n (pc := 28) dL_law_28 rfl rfl ?_
    refine im_iald (pc := 29) dL_law_29 fun x52 => ?_
    refine im_bipush (pc := 30) (v := 31) dL_law_30 (by decide) ?_
    refine im_iand (pc := 32) dL_law_32 ?_
    refine im_tsw (pc := 33) (dt := 988) [(0, 168), (1, 211), (2, 274), (3, 297), (4, 320), (5, 343), (6, 366), (7, 399), (8, 432), (9, 465), (10, 478), (11, 511), (12, 534), (13, 557), (14, 580), (15, 613), (16, 646), (17, 679), (18, 702), (19, 735), (20, 768), (21, 801), (22, 824), (23, 847), (24, 860), (25, 893), (26, 916), (27, 929), (28, 942), (29, 965)] dL_law_33 (by decide) ⟨_, _, rfl, ?_, ⟨_, _, rfl, ?_, ⟨_, _, rfl, ?_, ⟨_, _, rfl, ?_, ⟨_, _, rfl, ?_, ⟨_, _, rfl, ?_, ⟨_, _, rfl, ?_, ⟨_, _, rfl, ?_, ⟨_, _, rfl, ?_, ⟨_, _, rfl, ?_, ⟨_, _, rfl, ?_, ⟨_, _, rfl, ?_, ⟨_, _, rfl, ?_, ⟨_, _, rfl, ?_, ⟨_, _, rfl, ?_, ⟨_, _, rfl, ?_, ⟨_, _, rfl, ?_, ⟨_, _, rfl, ?_, ⟨_, _, rfl, ?_, ⟨_, _, rfl, ?_, ⟨_, _, rfl, ?_, ⟨_, _, rfl, ?_, ⟨_, _, rfl, ?_, ⟨_, _, rfl, ?_, ⟨_, _, rfl, ?_, ⟨_, _, rfl, ?_, ⟨_, _, rfl, ?_, ⟨_, _, rfl, ?_, ⟨_, _, rfl, ?_, ⟨_, _, rfl, ?_, ?_⟩⟩⟩⟩⟩⟩⟩⟩⟩⟩⟩⟩⟩⟩⟩⟩⟩⟩⟩⟩⟩⟩⟩⟩⟩⟩⟩⟩⟩⟩
    · refine im_aload_n (pc := 168) dL_law_168 rfl rfl ?_
      refine im_aload_n (pc := 169) dL_law_169 rfl rfl ?_
      refine im_iload_n (pc := 170) dL_law_170 rfl rfl ?_
      refine im_iconst (pc := 171) (v := 1) dL_law_171 (by decide) ?_
      refine im_iadd (pc := 172) dL_law_172 ?_
      refine im_iald (pc := 173) dL_law_173 fun x53 => ?_
      refine im_aload_n (pc := 174) dL_law_174 rfl rfl ?_
      refine im_iload_n (pc := 175) dL_law_175 rfl rfl ?_
      refine im_iconst (pc := 176) (v := 2) dL_law_176 (by decide) ?_
      refine im_iadd (pc := 177) dL_law_177 ?_
      refine im_iald (pc := 178) dL_law_178 fun x54 => ?_
      refine im_aload_n (pc := 179) dL_law_179 rfl rfl ?_
      refine im_iload_n (pc := 180) dL_law_180 rfl rfl ?_
      refine im_iconst (pc := 181) (v := 3) dL_law_181 (by decide) ?_
      refine im_iadd (pc := 182) dL_law_182 ?_
      refine im_iald (pc := 183) dL_law_183 fun x55 => ?_
      refine cl_L_13 tp_person_im (pc := 184) (by decide) dL_law_184 (Nat.le_of_ble_eq_true rfl) fun x57 h56 => ?_
      refine im_aload_n (pc := 187) dL_law_187 rfl rfl ?_
      refine im_aload_n (pc := 188) dL_law_188 rfl rfl ?_
      refine im_iload_n (pc := 189) dL_law_189 rfl rfl ?_
      refine im_iconst (pc := 190) (v := 1) dL_law_190 (by decide) ?_
      refine im_iadd (pc := 191) dL_law_191 ?_
      refine im_iald (pc := 192) dL_law_192 fun x58 => ?_
      refine im_aload_n (pc := 193) dL_law_193 rfl rfl ?_
      refine im_iload_n (pc := 194) dL_law_194 rfl rfl ?_
      refine im_iconst (pc := 195) (v := 2) dL_law_195 (by decide) ?_
      refine im_iadd (pc := 196) dL_law_196 ?_
      refine im_iald (pc := 197) dL_law_197 fun x59 => ?_
      refine im_aload_n (pc := 198) dL_law_198 rfl rfl ?_
      refine im_iload_n (pc := 199) dL_law_199 rfl rfl ?_
      refine im_iconst (pc := 200) (v := 3) dL_law_200 (by decide) ?_
      refine im_iadd (pc := 201) dL_law_201 ?_
      refine im_iald (pc := 202) dL_law_202 fun x60 => ?_
      refine cl_L_17 mo_person_im (pc := 203) (by decide) dL_law_203 (Nat.le_of_ble_eq_true rfl) fun x62 h61 => ?_
      refine im_icmp_eq (pc := 206) (tgt := 988) dL_law_206 (by decide) ?_ ?_
      · refine im_iinc (pc := 988) (v := (v3 + 6)) (lv' := [some (.inr v0), some (.inr v1), some (.inr v2), some (.inl (v3 + 6))]) dL_law_988 rfl rfl (by decide) rfl ?_
        refine im_goto (pc := 991) (tgt := 18) dL_law_991 (by decide) ?_
        exact Im.back [true, true, true, true] rfl rfl
      · refine im_iconst (pc := 209) (v := 0) dL_law_209 (by decide) ?_
        exact Im.outS (im_lret (pc := 210) dL_law_210)
    · refine im_aload_n (pc := 211) dL_law_211 rfl rfl ?_
      refine im_aload_n (pc := 212) dL_law_212 rfl rfl ?_
      refine im_iload_n (pc := 213) dL_law_213 rfl rfl ?_
      refine im_iconst (pc := 214) (v := 1) dL_law_214 (by decide) ?_
      refine im_iadd (pc := 215) dL_law_215 ?_
      refine im_iald (pc := 216) dL_law_216 fun x63 => ?_
      refine im_aload_n (pc := 217) dL_law_217 rfl rfl ?_
      refine im_iload_n (pc := 218) dL_law_218 rfl rfl ?_
      refine im_iconst (pc := 219) (v := 2) dL_law_219 (by decide) ?_
      refine im_iadd (pc := 220) dL_law_220 ?_
      refine im_iald (pc := 221) dL_law_221 fun x64 => ?_
      refine im_aload_n (pc := 222) dL_law_222 rfl rfl ?_
      refine im_iload_n (pc := 223) dL_law_223 rfl rfl ?_
      refine im_iconst (pc := 224) (v := 3) dL_law_224 (by decide) ?_
      refine im_iadd (pc := 225) dL_law_225 ?_
      refine im_iald (pc := 226) dL_law_226 fun x65 => ?_
      refine im_aload_n (pc := 227) dL_law_227 rfl rfl ?_
      refine im_iload_n (pc := 228) dL_law_228 rfl rfl ?_
      refine im_iconst (pc := 229) (v := 4) dL_law_229 (by decide) ?_
      refine im_iadd (pc := 230) dL_law_230 ?_
      refine im_iald (pc := 231) dL_law_231 fun x66 => ?_
      refine im_aload_n (pc := 232) dL_law_232 rfl rfl ?_
      refine im_iload_n (pc := 233) dL_law_233 rfl rfl ?_
      refine im_iconst (pc := 234) (v := 5) dL_law_234 (by decide) ?_
      refine im_iadd (pc := 235) dL_law_235 ?_
      refine im_iald (pc := 236) dL_law_236 fun x67 => ?_
      refine cl_L_18 tp_feed_im (pc := 237) (by decide) dL_law_237 (Nat.le_of_ble_eq_true rfl) fun x69 h68 => ?_
      refine im_aload_n (pc := 240) dL_law_240 rfl rfl ?_
      refine im_aload_n (pc := 241) dL_law_241 rfl rfl ?_
      refine im_iload_n (pc := 242) dL_law_242 rfl rfl ?_
      refine im_iconst (pc := 243) (v := 1) dL_law_243 (by decide) ?_
      refine im_iadd (pc := 244) dL_law_244 ?_
      refine im_iald (pc := 245) dL_law_245 fun x70 => ?_
      refine im_aload_n (pc := 246) dL_law_246 rfl rfl ?_
      refine im_iload_n (pc := 247) dL_law_247 rfl rfl ?_
      refine im_iconst (pc := 248) (v := 2) dL_law_248 (by decide) ?_
      refine im_iadd (pc := 249) dL_law_249 ?_
      refine im_iald (pc := 250) dL_law_250 fun x71 => ?_
      refine im_aload_n (pc := 251) dL_law_251 rfl rfl ?_
      refine im_iload_n (pc := 252) dL_law_252 rfl rfl ?_
      refine im_iconst (pc := 253) (v := 3) dL_law_253 (by decide) ?_
      refine im_iadd (pc := 254) dL_law_254 ?_
      refine im_iald (pc := 255) dL_law_255 fun x72 => ?_
      refine im_aload_n (pc := 256) dL_law_256 rfl rfl ?_
      refine im_iload_n (pc := 257) dL_law_257 rfl rfl ?_
      refine im_iconst (pc := 258) (v := 4) dL_law_258 (by decide) ?_
      refine im_iadd (pc := 259) dL_law_259 ?_
      refine im_iald (pc := 260) dL_law_260 fun x73 => ?_
      refine im_aload_n (pc := 261) dL_law_261 rfl rfl ?_
      refine im_iload_n (pc := 262) dL_law_262 rfl rfl ?_
      refine im_iconst (pc := 263) (v := 5) dL_law_263 (by decide) ?_
      refine im_iadd (pc := 264) dL_law_264 ?_
      refine im_iald (pc := 265) dL_law_265 fun x74 => ?_
      refine cl_L_22 mo_feed_im (pc := 266) (by decide) dL_law_266 (Nat.le_of_ble_eq_true rfl) fun x76 h75 => ?_
      refine im_icmp_eq (pc := 269) (tgt := 988) dL_law_269 (by decide) ?_ ?_
      · refine im_iinc (pc := 988) (v := (v3 + 6)) (lv' := [some (.inr v0), some (.inr v1), some (.inr v2), some (.inl (v3 + 6))]) dL_law_988 rfl rfl (by decide) rfl ?_
        refine im_goto (pc := 991) (tgt := 18) dL_law_991 (by decide) ?_
        exact Im.back [true, true, true, true] rfl rfl
      · refine im_iconst (pc := 272) (v := 0) dL_law_272 (by decide) ?_
        exact Im.outS (im_lret (pc := 273) dL_law_273)
    · refine im_aload_n (pc := 274) dL_law_274 rfl rfl ?_
      refine im_aload_n (pc := 275) dL_law_275 rfl rfl ?_
      refine im_iload_n (pc := 276) dL_law_276 rfl rfl ?_
      refine im_iconst (pc := 277) (v := 1) dL_law_277 (by decide) ?_
      refine im_iadd (pc := 278) dL_law_278 ?_
      refine im_iald (pc := 279) dL_law_279 fun x77 => ?_
      refine cl_L_23 tp_law_im (pc := 280) (by decide) dL_law_280 (Nat.le_of_ble_eq_true rfl) fun x79 h78 => ?_
      refine im_aload_n (pc := 283) dL_law_283 rfl rfl ?_
      refine im_aload_n (pc := 284) dL_law_284 rfl rfl ?_
      refine im_iload_n (pc := 285) dL_law_285 rfl rfl ?_
      refine im_iconst (pc := 286) (v := 1) dL_law_286 (by decide) ?_
      refine im_iadd (pc := 287) dL_law_287 ?_
      refine im_iald (pc := 288) dL_law_288 fun x80 => ?_
      refine cl_L_27 mo_law_im (pc := 289) (by decide) dL_law_289 (Nat.le_of_ble_eq_true rfl) fun x82 h81 => ?_
      refine im_icmp_eq (pc := 292) (tgt := 988) dL_law_292 (by decide) ?_ ?_
      · refine im_iinc (pc := 988) (v := (v3 + 6)) (lv' := [some (.inr v0), some (.inr v1), some (.inr v2), some (.inl (v3 + 6))]) dL_law_988 rfl rfl (by decide) rfl ?_
        refine im_goto (pc := 991) (tgt := 18) dL_law_991 (by decide) ?_
        exact Im.back [true, true, true, true] rfl rfl
      · refine im_iconst (pc := 295) (v := 0) dL_law_295 (by decide) ?_
        exact Im.outS (im_lret (pc := 296) dL_law_296)
    · refine im_aload_n (pc := 297) dL_law_297 rfl rfl ?_
      refine im_aload_n (pc := 298) dL_law_298 rfl rfl ?_
      refine im_iload_n (pc := 299) dL_law_299 rfl rfl ?_
      refine im_iconst (pc := 300) (v := 1) dL_law_300 (by decide) ?_
      refine im_iadd (pc := 301) dL_law_301 ?_
      refine im_iald (pc := 302) dL_law_302 fun x83 => ?_
      refine cl_L_28 tp_burials_im (pc := 303) (by decide) dL_law_303 (Nat.le_of_ble_eq_true rfl) fun x85 h84 => ?_
      refine im_aload_n (pc := 306) dL_law_306 rfl rfl ?_
      refine im_aload_n (pc := 307) dL_law_307 rfl rfl ?_
      refine im_iload_n (pc := 308) dL_law_308 rfl rfl ?_
      refine im_iconst (pc := 309) (v := 1) dL_law_309 (by decide) ?_
      refine im_iadd (pc := 310) dL_law_310 ?_
      refine im_iald (pc := 311) dL_law_311 fun x86 => ?_
      refine cl_L_31 mo_burials_im (pc := 312) (by decide) dL_law_312 (Nat.le_of_ble_eq_true rfl) fun x88 h87 => ?_
      refine im_icmp_eq (pc := 315) (tgt := 988) dL_law_315 (by decide) ?_ ?_
      · refine im_iinc (pc := 988) (v := (v3 + 6)) (lv' := [some (.inr v0), some (.inr v1), some (.inr v2), some (.inl (v3 + 6))]) dL_law_988 rfl rfl (by decide) rfl ?_
        refine im_goto (pc := 991) (tgt := 18) dL_law_991 (by decide) ?_
        exact Im.back [true, true, true, true] rfl rfl
      · refine im_iconst (pc := 318) (v := 0) dL_law_318 (by decide) ?_
        exact Im.outS (im_lret (pc := 319) dL_law_319)
    · refine im_aload_n (pc := 320) dL_law_320 rfl rfl ?_
      refine im_aload_n (pc := 321) dL_law_321 rfl rfl ?_
      refine im_iload_n (pc := 322) dL_law_322 rfl rfl ?_
      refine im_iconst (pc := 323) (v := 1) dL_law_323 (by decide) ?_
      refine im_iadd (pc := 324) dL_law_324 ?_
      refine im_iald (pc := 325) dL_law_325 fun x89 => ?_
      refine cl_L_32 tp_wishes_im (pc := 326) (by decide) dL_law_326 (Nat.le_of_ble_eq_true rfl) fun x91 h90 => ?_
      refine im_aload_n (pc := 329) dL_law_329 rfl rfl ?_
      refine im_aload_n (pc := 330) dL_law_330 rfl rfl ?_
      refine im_iload_n (pc := 331) dL_law_331 rfl rfl ?_
      refine im_iconst (pc := 332) (v := 1) dL_law_332 (by decide) ?_
      refine im_iadd (pc := 333) dL_law_333 ?_
      refine im_iald (pc := 334) dL_law_334 fun x92 => ?_
      refine cl_L_35 mo_wishes_im (pc := 335) (by decide) dL_law_335 (Nat.le_of_ble_eq_true rfl) fun x94 h93 => ?_
      refine im_icmp_eq (pc := 338) (tgt := 988) dL_law_338 (by decide) ?_ ?_
      · refine im_iinc (pc := 988) (v := (v3 + 6)) (lv' := [some (.inr v0), some (.inr v1), some (.inr v2), some (.inl (v3 + 6))]) dL_law_988 rfl rfl (by decide) rfl ?_
        refine im_goto (pc := 991) (tgt := 18) dL_law_991 (by decide) ?_
        exact Im.back [true, true, true, true] rfl rfl
      · refine im_iconst (pc := 341) (v := 0) dL_law_341 (by decide) ?_
        exact Im.outS (im_lret (pc := 342) dL_law_342)
    · refine im_aload_n (pc := 343) dL_law_343 rfl rfl ?_
      refine im_aload_n (pc := 344) dL_law_344 rfl rfl ?_
      refine im_iload_n (pc := 345) dL_law_345 rfl rfl ?_
      refine im_iconst (pc := 346) (v := 1) dL_law_346 (by decide) ?_
      refine im_iadd (pc := 347) dL_law_347 ?_
      refine im_iald (pc := 348) dL_law_348 fun x95 => ?_
      refine cl_L_36 tp_nights_im (pc := 349) (by decide) dL_law_349 (Nat.le_of_ble_eq_true rfl) fun x97 h96 => ?_
      refine im_aload_n (pc := 352) dL_law_352 rfl rfl ?_
      refine im_aload_n (pc := 353) dL_law_353 rfl rfl ?_
      refine im_iload_n (pc := 354) dL_law_354 rfl rfl ?_
      refine im_iconst (pc := 355) (v := 1) dL_law_355 (by decide) ?_
      refine im_iadd (pc := 356) dL_law_356 ?_
      refine im_iald (pc := 357) dL_law_357 fun x98 => ?_
      refine cl_L_39 mo_nights_im (pc := 358) (by decide) dL_law_358 (Nat.le_of_ble_eq_true rfl) fun x100 h99 => ?_
      refine im_icmp_eq (pc := 361) (tgt := 988) dL_law_361 (by decide) ?_ ?_
      · refine im_iinc (pc := 988) (v := (v3 + 6)) (lv' := [some (.inr v0), some (.inr v1), some (.inr v2), some (.inl (v3 + 6))]) dL_law_988 rfl rfl (by decide) rfl ?_
        refine im_goto (pc := 991) (tgt := 18) dL_law_991 (by decide) ?_
        exact Im.back [true, true, true, true] rfl rfl
      · refine im_iconst (pc := 364) (v := 0) dL_law_364 (by decide) ?_
        exact Im.outS (im_lret (pc := 365) dL_law_365)
    · refine im_aload_n (pc := 366) dL_law_366 rfl rfl ?_
      refine im_aload_n (pc := 367) dL_law_367 rfl rfl ?_
      refine im_iload_n (pc := 368) dL_law_368 rfl rfl ?_
      refine im_iconst (pc := 369) (v := 1) dL_law_369 (by decide) ?_
      refine im_iadd (pc := 370) dL_law_370 ?_
      refine im_iald (pc := 371) dL_law_371 fun x101 => ?_
      refine im_aload_n (pc := 372) dL_law_372 rfl rfl ?_
      refine im_iload_n (pc := 373) dL_law_373 rfl rfl ?_
      refine im_iconst (pc := 374) (v := 2) dL_law_374 (by decide) ?_
      refine im_iadd (pc := 375) dL_law_375 ?_
      refine im_iald (pc := 376) dL_law_376 fun x102 => ?_
      refine cl_L_40 tp_tried_im (pc := 377) (by decide) dL_law_377 (Nat.le_of_ble_eq_true rfl) fun x104 h103 => ?_
      refine im_aload_n (pc := 380) dL_law_380 rfl rfl ?_
      refine im_aload_n (pc := 381) dL_law_381 rfl rfl ?_
      refine im_iload_n (pc := 382) dL_law_382 rfl rfl ?_
      refine im_iconst (pc := 383) (v := 1) dL_law_383 (by decide) ?_
      refine im_iadd (pc := 384) dL_law_384 ?_
      refine im_iald (pc := 385) dL_law_385 fun x105 => ?_
      refine im_aload_n (pc := 386) dL_law_386 rfl rfl ?_
      refine im_iload_n (pc := 387) dL_law_387 rfl rfl ?_
      refine im_iconst (pc := 388) (v := 2) dL_law_388 (by decide) ?_
      refine im_iadd (pc := 389) dL_law_389 ?_
      refine im_iald (pc := 390) dL_law_390 fun x106 => ?_
      refine cl_L_44 mo_tried_im (pc := 391) (by decide) dL_law_391 (Nat.le_of_ble_eq_true rfl) fun x108 h107 => ?_
      refine im_icmp_eq (pc := 394) (tgt := 988) dL_law_394 (by decide) ?_ ?_
      · refine im_iinc (pc := 988) (v := (v3 + 6)) (lv' := [some (.inr v0), some (.inr v1), some (.inr v2), some (.inl (v3 + 6))]) dL_law_988 rfl rfl (by decide) rfl ?_
        refine im_goto (pc := 991) (tgt := 18) dL_law_991 (by decide) ?_
        exact Im.back [true, true, true, true] rfl rfl
      · refine im_iconst (pc := 397) (v := 0) dL_law_397 (by decide) ?_
        exact Im.outS (im_lret (pc := 398) dL_law_398)
    · refine im_aload_n (pc := 399) dL_law_399 rfl rfl ?_
      refine im_aload_n (pc := 400) dL_law_400 rfl rfl ?_
      refine im_iload_n (pc := 401) dL_law_401 rfl rfl ?_
      refine im_iconst (pc := 402) (v := 1) dL_law_402 (by decide) ?_
      refine im_iadd (pc := 403) dL_law_403 ?_
      refine im_iald (pc := 404) dL_law_404 fun x109 => ?_
      refine im_aload_n (pc := 405) dL_law_405 rfl rfl ?_
      refine im_iload_n (pc := 406) dL_law_406 rfl rfl ?_
      refine im_iconst (pc := 407) (v := 2) dL_law_407 (by decide) ?_
      refine im_iadd (pc := 408) dL_law_408 ?_
      refine im_iald (pc := 409) dL_law_409 fun x110 => ?_
      refine cl_L_45 tp_personIs_im (pc := 410) (by decide) dL_law_410 (Nat.le_of_ble_eq_true rfl) fun x111 => ?_
      refine im_aload_n (pc := 413) dL_law_413 rfl rfl ?_
      refine im_aload_n (pc := 414) dL_law_414 rfl rfl ?_
      refine im_iload_n (pc := 415) dL_law_415 rfl rfl ?_
      refine im_iconst (pc := 416) (v := 1) dL_law_416 (by decide) ?_
      refine im_iadd (pc := 417) dL_law_417 ?_
      refine im_iald (pc := 418) dL_law_418 fun x112 => ?_
      refine im_aload_n (pc := 419) dL_law_419 rfl rfl ?_
      refine im_iload_n (pc := 420) dL_law_420 rfl rfl ?_
      refine im_iconst (pc := 421) (v := 2) dL_law_421 (by decide) ?_
      refine im_iadd (pc := 422) dL_law_422 ?_
      refine im_iald (pc := 423) dL_law_423 fun x113 => ?_
      refine cl_L_48 mo_personIs_im (pc := 424) (by decide) dL_law_424 (Nat.le_of_ble_eq_true rfl) fun x114 => ?_
      refine im_icmp_eq (pc := 427) (tgt := 988) dL_law_427 (by decide) ?_ ?_
      · refine im_iinc (pc := 988) (v := (v3 + 6)) (lv' := [some (.inr v0), some (.inr v1), some (.inr v2), some (.inl (v3 + 6))]) dL_law_988 rfl rfl (by decide) rfl ?_
        refine im_goto (pc := 991) (tgt := 18) dL_law_991 (by decide) ?_
        exact Im.back [true, true, true, true] rfl rfl
      · refine im_iconst (pc := 430) (v := 0) dL_law_430 (by decide) ?_
        exact Im.outS (im_lret (pc := 431) dL_law_431)
    · refine im_aload_n (pc := 432) dL_law_432 rfl rfl ?_
      refine im_aload_n (pc := 433) dL_law_433 rfl rfl ?_
      refine im_iload_n (pc := 434) dL_law_434 rfl rfl ?_
      refine im_iconst (pc := 435) (v := 1) dL_law_435 (by decide) ?_
      refine im_iadd (pc := 436) dL_law_436 ?_
      refine im_iald (pc := 437) dL_law_437 fun x115 => ?_
      refine im_aload_n (pc := 438) dL_law_438 rfl rfl ?_
      refine im_iload_n (pc := 439) dL_law_439 rfl rfl ?_
      refine im_iconst (pc := 440) (v := 2) dL_law_440 (by decide) ?_
      refine im_iadd (pc := 441) dL_law_441 ?_
      refine im_iald (pc := 442) dL_law_442 fun x116 => ?_
      refine cl_L_49 tp_talk_im (pc := 443) (by decide) dL_law_443 (Nat.le_of_ble_eq_true rfl) fun x117 => ?_
      refine im_aload_n (pc := 446) dL_law_446 rfl rfl ?_
      refine im_aload_n (pc := 447) dL_law_447 rfl rfl ?_
      refine im_iload_n (pc := 448) dL_law_448 rfl rfl ?_
      refine im_iconst (pc := 449) (v := 1) dL_law_449 (by decide) ?_
      refine im_iadd (pc := 450) dL_law_450 ?_
      refine im_iald (pc := 451) dL_law_451 fun x118 => ?_
      refine im_aload_n (pc := 452) dL_law_452 rfl rfl ?_
      refine im_iload_n (pc := 453) dL_law_453 rfl rfl ?_
      refine im_iconst (pc := 454) (v := 2) dL_law_454 (by decide) ?_
      refine im_iadd (pc := 455) dL_law_455 ?_
      refine im_iald (pc := 456) dL_law_456 fun x119 => ?_
      refine cl_L_52 mo_talk_im (pc := 457) (by decide) dL_law_457 (Nat.le_of_ble_eq_true rfl) fun x120 => ?_
      refine im_icmp_eq (pc := 460) (tgt := 988) dL_law_460 (by decide) ?_ ?_
      · refine im_iinc (pc := 988) (v := (v3 + 6)) (lv' := [some (.inr v0), some (.inr v1), some (.inr v2), some (.inl (v3 + 6))]) dL_law_988 rfl rfl (by decide) rfl ?_
        refine im_goto (pc := 991) (tgt := 18) dL_law_991 (by decide) ?_
        exact Im.back [true, true, true, true] rfl rfl
      · refine im_iconst (pc := 463) (v := 0) dL_law_463 (by decide) ?_
        exact Im.outS (im_lret (pc := 464) dL_law_464)
    · refine im_aload_n (pc := 465) dL_law_465 rfl rfl ?_
      refine cl_L_53 tp_yardTalk_im (pc := 466) (by decide) dL_law_466 (Nat.le_of_ble_eq_true rfl) fun x121 => ?_
      refine im_aload_n (pc := 469) dL_law_469 rfl rfl ?_
      refine cl_L_57 mo_yardTalk_im (pc := 470) (by decide) dL_law_470 (Nat.le_of_ble_eq_true rfl) fun x122 => ?_
      refine im_icmp_eq (pc := 473) (tgt := 988) dL_law_473 (by decide) ?_ ?_
      · refine im_iinc (pc := 988) (v := (v3 + 6)) (lv' := [some (.inr v0), some (.inr v1), some (.inr v2), some (.inl (v3 + 6))]) dL_law_988 rfl rfl (by decide) rfl ?_
        refine im_goto (pc := 991) (tgt := 18) dL_law_991 (by decide) ?_
        exact Im.back [true, true, true, true] rfl rfl
      · refine im_iconst (pc := 476) (v := 0) dL_law_476 (by decide) ?_
        exact Im.outS (im_lret (pc := 477) dL_law_477)
    · refine im_aload_n (pc := 478) dL_law_478 rfl rfl ?_
      refine im_aload_n (pc := 479) dL_law_479 rfl rfl ?_
      refine im_iload_n (pc := 480) dL_law_480 rfl rfl ?_
      refine im_iconst (pc := 481) (v := 1) dL_law_481 (by decide) ?_
      refine im_iadd (pc := 482) dL_law_482 ?_
      refine im_iald (pc := 483) dL_law_483 fun x123 => ?_
      refine im_aload_n (pc := 484) dL_law_484 rfl rfl ?_
      refine im_iload_n (pc := 485) dL_law_485 rfl rfl ?_
      refine im_iconst (pc := 486) (v := 2) dL_law_486 (by decide) ?_
      refine im_iadd (pc := 487) dL_law_487 ?_
      refine im_iald (pc := 488) dL_law_488 fun x124 => ?_
      refine cl_L_58 tp_best_im (pc := 489) (by decide) dL_law_489 (Nat.le_of_ble_eq_true rfl) fun x125 => ?_
      refine im_aload_n (pc := 492) dL_law_492 rfl rfl ?_
      refine im_aload_n (pc := 493) dL_law_493 rfl rfl ?_
      refine im_iload_n (pc := 494) dL_law_494 rfl rfl ?_
      refine im_iconst (pc := 495) (v := 1) dL_law_495 (by decide) ?_
      refine im_iadd (pc := 496) dL_law_496 ?_
      refine im_iald (pc := 497) dL_law_497 fun x126 => ?_
      refine im_aload_n (pc := 498) dL_law_498 rfl rfl ?_
      refine im_iload_n (pc := 499) dL_law_499 rfl rfl ?_
      refine im_iconst (pc := 500) (v := 2) dL_law_500 (by decide) ?_
      refine im_iadd (pc := 501) dL_law_501 ?_
      refine im_iald (pc := 502) dL_law_502 fun x127 => ?_
      refine cl_L_61 mo_best_im (pc := 503) (by decide) dL_law_503 (Nat.le_of_ble_eq_true rfl) fun x128 => ?_
      refine im_icmp_eq (pc := 506) (tgt := 988) dL_law_506 (by decide) ?_ ?_
      · refine im_iinc (pc := 988) (v := (v3 + 6)) (lv' := [some (.inr v0), some (.inr v1), some (.inr v2), some (.inl (v3 + 6))]) dL_law_988 rfl rfl (by decide) rfl ?_
        refine im_goto (pc := 991) (tgt := 18) dL_law_991 (by decide) ?_
        exact Im.back [true, true, true, true] rfl rfl
      · refine im_iconst (pc := 509) (v := 0) dL_law_509 (by decide) ?_
        exact Im.outS (im_lret (pc := 510) dL_law_510)
    · refine im_aload_n (pc := 511) dL_law_511 rfl rfl ?_
      refine im_aload_n (pc := 512) dL_law_512 rfl rfl ?_
      refine im_iload_n (pc := 513) dL_law_513 rfl rfl ?_
      refine im_iconst (pc := 514) (v := 1) dL_law_514 (by decide) ?_
      refine im_iadd (pc := 515) dL_law_515 ?_
      refine im_iald (pc := 516) dL_law_516 fun x129 => ?_
      refine cl_L_62 tp_move_im (pc := 517) (by decide) dL_law_517 (Nat.le_of_ble_eq_true rfl) fun x130 => ?_
      refine im_aload_n (pc := 520) dL_law_520 rfl rfl ?_
      refine im_aload_n (pc := 521) dL_law_521 rfl rfl ?_
      refine im_iload_n (pc := 522) dL_law_522 rfl rfl ?_
      refine im_iconst (pc := 523) (v := 1) dL_law_523 (by decide) ?_
      refine im_iadd (pc := 524) dL_law_524 ?_
      refine im_iald (pc := 525) dL_law_525 fun x131 => ?_
      refine cl_L_65 mo_move_im (pc := 526) (by decide) dL_law_526 (Nat.le_of_ble_eq_true rfl) fun x132 => ?_
      refine im_icmp_eq (pc := 529) (tgt := 988) dL_law_529 (by decide) ?_ ?_
      · refine im_iinc (pc := 988) (v := (v3 + 6)) (lv' := [some (.inr v0), some (.inr v1), some (.inr v2), some (.inl (v3 + 6))]) dL_law_988 rfl rfl (by decide) rfl ?_
        refine im_goto (pc := 991) (tgt := 18) dL_law_991 (by decide) ?_
        exact Im.back [true, true, true, true] rfl rfl
      · refine im_iconst (pc := 532) (v := 0) dL_law_532 (by decide) ?_
        exact Im.outS (im_lret (pc := 533) dL_law_533)
    · refine im_aload_n (pc := 534) dL_law_534 rfl rfl ?_
      refine im_aload_n (pc := 535) dL_law_535 rfl rfl ?_
      refine im_iload_n (pc := 536) dL_law_536 rfl rfl ?_
      refine im_iconst (pc := 537) (v := 1) dL_law_537 (by decide) ?_
      refine im_iadd (pc := 538) dL_law_538 ?_
      refine im_iald (pc := 539) dL_law_539 fun x133 => ?_
      refine cl_L_66 tp_change_im (pc := 540) (by decide) dL_law_540 (Nat.le_of_ble_eq_true rfl) fun x135 h134 => ?_
      refine im_aload_n (pc := 543) dL_law_543 rfl rfl ?_
      refine im_aload_n (pc := 544) dL_law_544 rfl rfl ?_
      refine im_iload_n (pc := 545) dL_law_545 rfl rfl ?_
      refine im_iconst (pc := 546) (v := 1) dL_law_546 (by decide) ?_
      refine im_iadd (pc := 547) dL_law_547 ?_
      refine im_iald (pc := 548) dL_law_548 fun x136 => ?_
      refine cl_L_69 mo_change_im (pc := 549) (by decide) dL_law_549 (Nat.le_of_ble_eq_true rfl) fun x138 h137 => ?_
      refine im_icmp_eq (pc := 552) (tgt := 988) dL_law_552 (by decide) ?_ ?_
      · refine im_iinc (pc := 988) (v := (v3 + 6)) (lv' := [some (.inr v0), some (.inr v1), some (.inr v2), some (.inl (v3 + 6))]) dL_law_988 rfl rfl (by decide) rfl ?_
        refine im_goto (pc := 991) (tgt := 18) dL_law_991 (by decide) ?_
        exact Im.back [true, true, true, true] rfl rfl
      · refine im_iconst (pc := 555) (v := 0) dL_law_555 (by decide) ?_
        exact Im.outS (im_lret (pc := 556) dL_law_556)
    · refine im_aload_n (pc := 557) dL_law_557 rfl rfl ?_
      refine im_aload_n (pc := 558) dL_law_558 rfl rfl ?_
      refine im_iload_n (pc := 559) dL_law_559 rfl rfl ?_
      refine im_iconst (pc := 560) (v := 1) dL_law_560 (by decide) ?_
      refine im_iadd (pc := 561) dL_law_561 ?_
      refine im_iald (pc := 562) dL_law_562 fun x139 => ?_
      refine cl_L_70 tp_hold_im (pc := 563) (by decide) dL_law_563 (Nat.le_of_ble_eq_true rfl) fun x140 => ?_
      refine im_aload_n (pc := 566) dL_law_566 rfl rfl ?_
      refine im_aload_n (pc := 567) dL_law_567 rfl rfl ?_
      refine im_iload_n (pc := 568) dL_law_568 rfl rfl ?_
      refine im_iconst (pc := 569) (v := 1) dL_law_569 (by decide) ?_
      refine im_iadd (pc := 570) dL_law_570 ?_
      refine im_iald (pc := 571) dL_law_571 fun x141 => ?_
      refine cl_L_73 mo_hold_im (pc := 572) (by decide) dL_law_572 (Nat.le_of_ble_eq_true rfl) fun x142 => ?_
      refine im_icmp_eq (pc := 575) (tgt := 988) dL_law_575 (by decide) ?_ ?_
      · refine im_iinc (pc := 988) (v := (v3 + 6)) (lv' := [some (.inr v0), some (.inr v1), some (.inr v2), some (.inl (v3 + 6))]) dL_law_988 rfl rfl (by decide) rfl ?_
        refine im_goto (pc := 991) (tgt := 18) dL_law_991 (by decide) ?_
        exact Im.back [true, true, true, true] rfl rfl
      · refine im_iconst (pc := 578) (v := 0) dL_law_578 (by decide) ?_
        exact Im.outS (im_lret (pc := 579) dL_law_579)
    · refine im_aload_n (pc := 580) dL_law_580 rfl rfl ?_
      refine im_aload_n (pc := 581) dL_law_581 rfl rfl ?_
      refine im_iload_n (pc := 582) dL_law_582 rfl rfl ?_
      refine im_iconst (pc := 583) (v := 1) dL_law_583 (by decide) ?_
      refine im_iadd (pc := 584) dL_law_584 ?_
      refine im_iald (pc := 585) dL_law_585 fun x143 => ?_
      refine im_aload_n (pc := 586) dL_law_586 rfl rfl ?_
      refine im_iload_n (pc := 587) dL_law_587 rfl rfl ?_
      refine im_iconst (pc := 588) (v := 2) dL_law_588 (by decide) ?_
      refine im_iadd (pc := 589) dL_law_589 ?_
      refine im_iald (pc := 590) dL_law_590 fun x144 => ?_
      refine cl_L_74 tp_row_im (pc := 591) (by decide) dL_law_591 (Nat.le_of_ble_eq_true rfl) fun x146 h145 => ?_
      refine im_aload_n (pc := 594) dL_law_594 rfl rfl ?_
      refine im_aload_n (pc := 595) dL_law_595 rfl rfl ?_
      refine im_iload_n (pc := 596) dL_law_596 rfl rfl ?_
      refine im_iconst (pc := 597) (v := 1) dL_law_597 (by decide) ?_
      refine im_iadd (pc := 598) dL_law_598 ?_
      refine im_iald (pc := 599) dL_law_599 fun x147 => ?_
      refine im_aload_n (pc := 600) dL_law_600 rfl rfl ?_
      refine im_iload_n (pc := 601) dL_law_601 rfl rfl ?_
      refine im_iconst (pc := 602) (v := 2) dL_law_602 (by decide) ?_
      refine im_iadd (pc := 603) dL_law_603 ?_
      refine im_iald (pc := 604) dL_law_604 fun x148 => ?_
      refine cl_L_77 mo_row_im (pc := 605) (by decide) dL_law_605 (Nat.le_of_ble_eq_true rfl) fun x150 h149 => ?_
      refine im_icmp_eq (pc := 608) (tgt := 988) dL_law_608 (by decide) ?_ ?_
      · refine im_iinc (pc := 988) (v := (v3 + 6)) (lv' := [some (.inr v0), some (.inr v1), some (.inr v2), some (.inl (v3 + 6))]) dL_law_988 rfl rfl (by decide) rfl ?_
        refine im_goto (pc := 991) (tgt := 18) dL_law_991 (by decide) ?_
        exact Im.back [true, true, true, true] rfl rfl
      · refine im_iconst (pc := 611) (v := 0) dL_law_611 (by decide) ?_
        exact Im.outS (im_lret (pc := 612) dL_law_612)
    · refine im_aload_n (pc := 613) dL_law_613 rfl rfl ?_
      refine im_aload_n (pc := 614) dL_law_614 rfl rfl ?_
      refine im_iload_n (pc := 615) dL_law_615 rfl rfl ?_
      refine im_iconst (pc := 616) (v := 1) dL_law_616 (by decide) ?_
      refine im_iadd (pc := 617) dL_law_617 ?_
      refine im_iald (pc := 618) dL_law_618 fun x151 => ?_
      refine im_aload_n (pc := 619) dL_law_619 rfl rfl ?_
      refine im_iload_n (pc := 620) dL_law_620 rfl rfl ?_
      refine im_iconst (pc := 621) (v := 2) dL_law_621 (by decide) ?_
      refine im_iadd (pc := 622) dL_law_622 ?_
      refine im_iald (pc := 623) dL_law_623 fun x152 => ?_
      refine cl_L_78 tp_couples_im (pc := 624) (by decide) dL_law_624 (Nat.le_of_ble_eq_true rfl) fun x154 h153 => ?_
      refine im_aload_n (pc := 627) dL_law_627 rfl rfl ?_
      refine im_aload_n (pc := 628) dL_law_628 rfl rfl ?_
      refine im_iload_n (pc := 629) dL_law_629 rfl rfl ?_
      refine im_iconst (pc := 630) (v := 1) dL_law_630 (by decide) ?_
      refine im_iadd (pc := 631) dL_law_631 ?_
      refine im_iald (pc := 632) dL_law_632 fun x155 => ?_
      refine im_aload_n (pc := 633) dL_law_633 rfl rfl ?_
      refine im_iload_n (pc := 634) dL_law_634 rfl rfl ?_
      refine im_iconst (pc := 635) (v := 2) dL_law_635 (by decide) ?_
      refine im_iadd (pc := 636) dL_law_636 ?_
      refine im_iald (pc := 637) dL_law_637 fun x156 => ?_
      refine cl_L_81 mo_couples_im (pc := 638) (by decide) dL_law_638 (Nat.le_of_ble_eq_true rfl) fun x158 h157 => ?_
      refine im_icmp_eq (pc := 641) (tgt := 988) dL_law_641 (by decide) ?_ ?_
      · refine im_iinc (pc := 988) (v := (v3 + 6)) (lv' := [some (.inr v0), some (.inr v1), some (.inr v2), some (.inl (v3 + 6))]) dL_law_988 rfl rfl (by decide) rfl ?_
        refine im_goto (pc := 991) (tgt := 18) dL_law_991 (by decide) ?_
        exact Im.back [true, true, true, true] rfl rfl
      · refine im_iconst (pc := 644) (v := 0) dL_law_644 (by decide) ?_
        exact Im.outS (im_lret (pc := 645) dL_law_645)
    · refine im_aload_n (pc := 646) dL_law_646 rfl rfl ?_
      refine im_aload_n (pc := 647) dL_law_647 rfl rfl ?_
      refine im_iload_n (pc := 648) dL_law_648 rfl rfl ?_
      refine im_iconst (pc := 649) (v := 1) dL_law_649 (by decide) ?_
      refine im_iadd (pc := 650) dL_law_650 ?_
      refine im_iald (pc := 651) dL_law_651 fun x159 => ?_
      refine im_aload_n (pc := 652) dL_law_652 rfl rfl ?_
      refine im_iload_n (pc := 653) dL_law_653 rfl rfl ?_
      refine im_iconst (pc := 654) (v := 2) dL_law_654 (by decide) ?_
      refine im_iadd (pc := 655) dL_law_655 ?_
      refine im_iald (pc := 656) dL_law_656 fun x160 => ?_
      refine cl_L_82 tp_heard_im (pc := 657) (by decide) dL_law_657 (Nat.le_of_ble_eq_true rfl) fun x161 => ?_
      refine im_aload_n (pc := 660) dL_law_660 rfl rfl ?_
      refine im_aload_n (pc := 661) dL_law_661 rfl rfl ?_
      refine im_iload_n (pc := 662) dL_law_662 rfl rfl ?_
      refine im_iconst (pc := 663) (v := 1) dL_law_663 (by decide) ?_
      refine im_iadd (pc := 664) dL_law_664 ?_
      refine im_iald (pc := 665) dL_law_665 fun x162 => ?_
      refine im_aload_n (pc := 666) dL_law_666 rfl rfl ?_
      refine im_iload_n (pc := 667) dL_law_667 rfl rfl ?_
      refine im_iconst (pc := 668) (v := 2) dL_law_668 (by decide) ?_
      refine im_iadd (pc := 669) dL_law_669 ?_
      refine im_iald (pc := 670) dL_law_670 fun x163 => ?_
      refine cl_L_85 mo_heard_im (pc := 671) (by decide) dL_law_671 (Nat.le_of_ble_eq_true rfl) fun x164 => ?_
      refine im_icmp_eq (pc := 674) (tgt := 988) dL_law_674 (by decide) ?_ ?_
      · refine im_iinc (pc := 988) (v := (v3 + 6)) (lv' := [some (.inr v0), some (.inr v1), some (.inr v2), some (.inl (v3 + 6))]) dL_law_988 rfl rfl (by decide) rfl ?_
        refine im_goto (pc := 991) (tgt := 18) dL_law_991 (by decide) ?_
        exact Im.back [true, true, true, true] rfl rfl
      · refine im_iconst (pc := 677) (v := 0) dL_law_677 (by decide) ?_
        exact Im.outS (im_lret (pc := 678) dL_law_678)
    · refine im_aload_n (pc := 679) dL_law_679 rfl rfl ?_
      refine im_aload_n (pc := 680) dL_law_680 rfl rfl ?_
      refine im_iload_n (pc := 681) dL_law_681 rfl rfl ?_
      refine im_iconst (pc := 682) (v := 1) dL_law_682 (by decide) ?_
      refine im_iadd (pc := 683) dL_law_683 ?_
      refine im_iald (pc := 684) dL_law_684 fun x165 => ?_
      refine cl_L_86 tp_circles_im (pc := 685) (by decide) dL_law_685 (Nat.le_of_ble_eq_true rfl) fun x166 => ?_
      refine im_aload_n (pc := 688) dL_law_688 rfl rfl ?_
      refine im_aload_n (pc := 689) dL_law_689 rfl rfl ?_
      refine im_iload_n (pc := 690) dL_law_690 rfl rfl ?_
      refine im_iconst (pc := 691) (v := 1) dL_law_691 (by decide) ?_
      refine im_iadd (pc := 692) dL_law_692 ?_
      refine im_iald (pc := 693) dL_law_693 fun x167 => ?_
      refine cl_L_89 mo_circles_im (pc := 694) (by decide) dL_law_694 (Nat.le_of_ble_eq_true rfl) fun x168 => ?_
      refine im_icmp_eq (pc := 697) (tgt := 988) dL_law_697 (by decide) ?_ ?_
      · refine im_iinc (pc := 988) (v := (v3 + 6)) (lv' := [some (.inr v0), some (.inr v1), some (.inr v2), some (.inl (v3 + 6))]) dL_law_988 rfl rfl (by decide) rfl ?_
        refine im_goto (pc := 991) (tgt := 18) dL_law_991 (by decide) ?_
        exact Im.back [true, true, true, true] rfl rfl
      · refine im_iconst (pc := 700) (v := 0) dL_law_700 (by decide) ?_
        exact Im.outS (im_lret (pc := 701) dL_law_701)
    · refine im_aload_n (pc := 702) dL_law_702 rfl rfl ?_
      refine im_aload_n (pc := 703) dL_law_703 rfl rfl ?_
      refine im_iload_n (pc := 704) dL_law_704 rfl rfl ?_
      refine im_iconst (pc := 705) (v := 1) dL_law_705 (by decide) ?_
      refine im_iadd (pc := 706) dL_law_706 ?_
      refine im_iald (pc := 707) dL_law_707 fun x169 => ?_
      refine im_aload_n (pc := 708) dL_law_708 rfl rfl ?_
      refine im_iload_n (pc := 709) dL_law_709 rfl rfl ?_
      refine im_iconst (pc := 710) (v := 2) dL_law_710 (by decide) ?_
      refine im_iadd (pc := 711) dL_law_711 ?_
      refine im_iald (pc := 712) dL_law_712 fun x170 => ?_
      refine cl_L_90 tp_from_im (pc := 713) (by decide) dL_law_713 (Nat.le_of_ble_eq_true rfl) fun x171 => ?_
      refine im_aload_n (pc := 716) dL_law_716 rfl rfl ?_
      refine im_aload_n (pc := 717) dL_law_717 rfl rfl ?_
      refine im_iload_n (pc := 718) dL_law_718 rfl rfl ?_
      refine im_iconst (pc := 719) (v := 1) dL_law_719 (by decide) ?_
      refine im_iadd (pc := 720) dL_law_720 ?_
      refine im_iald (pc := 721) dL_law_721 fun x172 => ?_
      refine im_aload_n (pc := 722) dL_law_722 rfl rfl ?_
      refine im_iload_n (pc := 723) dL_law_723 rfl rfl ?_
      refine im_iconst (pc := 724) (v := 2) dL_law_724 (by decide) ?_
      refine im_iadd (pc := 725) dL_law_725 ?_
      refine im_iald (pc := 726) dL_law_726 fun x173 => ?_
      refine cl_L_93 mo_from_im (pc := 727) (by decide) dL_law_727 (Nat.le_of_ble_eq_true rfl) fun x174 => ?_
      refine im_icmp_eq (pc := 730) (tgt := 988) dL_law_730 (by decide) ?_ ?_
      · refine im_iinc (pc := 988) (v := (v3 + 6)) (lv' := [some (.inr v0), some (.inr v1), some (.inr v2), some (.inl (v3 + 6))]) dL_law_988 rfl rfl (by decide) rfl ?_
        refine im_goto (pc := 991) (tgt := 18) dL_law_991 (by decide) ?_
        exact Im.back [true, true, true, true] rfl rfl
      · refine im_iconst (pc := 733) (v := 0) dL_law_733 (by decide) ?_
        exact Im.outS (im_lret (pc := 734) dL_law_734)
    · refine im_aload_n (pc := 735) dL_law_735 rfl rfl ?_
      refine im_aload_n (pc := 736) dL_law_736 rfl rfl ?_
      refine im_iload_n (pc := 737) dL_law_737 rfl rfl ?_
      refine im_iconst (pc := 738) (v := 1) dL_law_738 (by decide) ?_
      refine im_iadd (pc := 739) dL_law_739 ?_
      refine im_iald (pc := 740) dL_law_740 fun x175 => ?_
      refine im_aload_n (pc := 741) dL_law_741 rfl rfl ?_
      refine im_iload_n (pc := 742) dL_law_742 rfl rfl ?_
      refine im_iconst (pc := 743) (v := 2) dL_law_743 (by decide) ?_
      refine im_iadd (pc := 744) dL_law_744 ?_
      refine im_iald (pc := 745) dL_law_745 fun x176 => ?_
      refine cl_L_94 tp_thread_im (pc := 746) (by decide) dL_law_746 (Nat.le_of_ble_eq_true rfl) fun x178 h177 => ?_
      refine im_aload_n (pc := 749) dL_law_749 rfl rfl ?_
      refine im_aload_n (pc := 750) dL_law_750 rfl rfl ?_
      refine im_iload_n (pc := 751) dL_law_751 rfl rfl ?_
      refine im_iconst (pc := 752) (v := 1) dL_law_752 (by decide) ?_
      refine im_iadd (pc := 753) dL_law_753 ?_
      refine im_iald (pc := 754) dL_law_754 fun x179 => ?_
      refine im_aload_n (pc := 755) dL_law_755 rfl rfl ?_
      refine im_iload_n (pc := 756) dL_law_756 rfl rfl ?_
      refine im_iconst (pc := 757) (v := 2) dL_law_757 (by decide) ?_
      refine im_iadd (pc := 758) dL_law_758 ?_
      refine im_iald (pc := 759) dL_law_759 fun x180 => ?_
      refine cl_L_97 mo_thread_im (pc := 760) (by decide) dL_law_760 (Nat.le_of_ble_eq_true rfl) fun x182 h181 => ?_
      refine im_icmp_eq (pc := 763) (tgt := 988) dL_law_763 (by decide) ?_ ?_
      · refine im_iinc (pc := 988) (v := (v3 + 6)) (lv' := [some (.inr v0), some (.inr v1), some (.inr v2), some (.inl (v3 + 6))]) dL_law_988 rfl rfl (by decide) rfl ?_
        refine im_goto (pc := 991) (tgt := 18) dL_law_991 (by decide) ?_
        exact Im.back [true, true, true, true] rfl rfl
      · refine im_iconst (pc := 766) (v := 0) dL_law_766 (by decide) ?_
        exact Im.outS (im_lret (pc := 767) dL_law_767)
    · refine im_aload_n (pc := 768) dL_law_768 rfl rfl ?_
      refine im_aload_n (pc := 769) dL_law_769 rfl rfl ?_
      refine im_iload_n (pc := 770) dL_law_770 rfl rfl ?_
      refine im_iconst (pc := 771) (v := 1) dL_law_771 (by decide) ?_
      refine im_iadd (pc := 772) dL_law_772 ?_
      refine im_iald (pc := 773) dL_law_773 fun x183 => ?_
      refine im_aload_n (pc := 774) dL_law_774 rfl rfl ?_
      refine im_iload_n (pc := 775) dL_law_775 rfl rfl ?_
      refine im_iconst (pc := 776) (v := 2) dL_law_776 (by decide) ?_
      refine im_iadd (pc := 777) dL_law_777 ?_
      refine im_iald (pc := 778) dL_law_778 fun x184 => ?_
      refine cl_L_98 tp_good_im (pc := 779) (by decide) dL_law_779 (Nat.le_of_ble_eq_true rfl) fun x185 => ?_
      refine im_aload_n (pc := 782) dL_law_782 rfl rfl ?_
      refine im_aload_n (pc := 783) dL_law_783 rfl rfl ?_
      refine im_iload_n (pc := 784) dL_law_784 rfl rfl ?_
      refine im_iconst (pc := 785) (v := 1) dL_law_785 (by decide) ?_
      refine im_iadd (pc := 786) dL_law_786 ?_
      refine im_iald (pc := 787) dL_law_787 fun x186 => ?_
      refine im_aload_n (pc := 788) dL_law_788 rfl rfl ?_
      refine im_iload_n (pc := 789) dL_law_789 rfl rfl ?_
      refine im_iconst (pc := 790) (v := 2) dL_law_790 (by decide) ?_
      refine im_iadd (pc := 791) dL_law_791 ?_
      refine im_iald (pc := 792) dL_law_792 fun x187 => ?_
      refine cl_L_101 mo_good_im (pc := 793) (by decide) dL_law_793 (Nat.le_of_ble_eq_true rfl) fun x188 => ?_
      refine im_icmp_eq (pc := 796) (tgt := 988) dL_law_796 (by decide) ?_ ?_
      · refine im_iinc (pc := 988) (v := (v3 + 6)) (lv' := [some (.inr v0), some (.inr v1), some (.inr v2), some (.inl (v3 + 6))]) dL_law_988 rfl rfl (by decide) rfl ?_
        refine im_goto (pc := 991) (tgt := 18) dL_law_991 (by decide) ?_
        exact Im.back [true, true, true, true] rfl rfl
      · refine im_iconst (pc := 799) (v := 0) dL_law_799 (by decide) ?_
        exact Im.outS (im_lret (pc := 800) dL_law_800)
    · refine im_aload_n (pc := 801) dL_law_801 rfl rfl ?_
      refine im_aload_n (pc := 802) dL_law_802 rfl rfl ?_
      refine im_iload_n (pc := 803) dL_law_803 rfl rfl ?_
      refine im_iconst (pc := 804) (v := 1) dL_law_804 (by decide) ?_
      refine im_iadd (pc := 805) dL_law_805 ?_
      refine im_iald (pc := 806) dL_law_806 fun x189 => ?_
      refine cl_L_102 tp_silent_im (pc := 807) (by decide) dL_law_807 (Nat.le_of_ble_eq_true rfl) fun x191 h190 => ?_
      refine im_aload_n (pc := 810) dL_law_810 rfl rfl ?_
      refine im_aload_n (pc := 811) dL_law_811 rfl rfl ?_
      refine im_iload_n (pc := 812) dL_law_812 rfl rfl ?_
      refine im_iconst (pc := 813) (v := 1) dL_law_813 (by decide) ?_
      refine im_iadd (pc := 814) dL_law_814 ?_
      refine im_iald (pc := 815) dL_law_815 fun x192 => ?_
      refine cl_L_105 mo_silent_im (pc := 816) (by decide) dL_law_816 (Nat.le_of_ble_eq_true rfl) fun x194 h193 => ?_
      refine im_icmp_eq (pc := 819) (tgt := 988) dL_law_819 (by decide) ?_ ?_
      · refine im_iinc (pc := 988) (v := (v3 + 6)) (lv' := [some (.inr v0), some (.inr v1), some (.inr v2), some (.inl (v3 + 6))]) dL_law_988 rfl rfl (by decide) rfl ?_
        refine im_goto (pc := 991) (tgt := 18) dL_law_991 (by decide) ?_
        exact Im.back [true, true, true, true] rfl rfl
      · refine im_iconst (pc := 822) (v := 0) dL_law_822 (by decide) ?_
        exact Im.outS (im_lret (pc := 823) dL_law_823)
    · refine im_aload_n (pc := 824) dL_law_824 rfl rfl ?_
      refine im_aload_n (pc := 825) dL_law_825 rfl rfl ?_
      refine im_iload_n (pc := 826) dL_law_826 rfl rfl ?_
      refine im_iconst (pc := 827) (v := 1) dL_law_827 (by decide) ?_
      refine im_iadd (pc := 828) dL_law_828 ?_
      refine im_iald (pc := 829) dL_law_829 fun x195 => ?_
      refine cl_L_106 tp_visit_im (pc := 830) (by decide) dL_law_830 (Nat.le_of_ble_eq_true rfl) fun x197 h196 => ?_
      refine im_aload_n (pc := 833) dL_law_833 rfl rfl ?_
      refine im_aload_n (pc := 834) dL_law_834 rfl rfl ?_
      refine im_iload_n (pc := 835) dL_law_835 rfl rfl ?_
      refine im_iconst (pc := 836) (v := 1) dL_law_836 (by decide) ?_
      refine im_iadd (pc := 837) dL_law_837 ?_
      refine im_iald (pc := 838) dL_law_838 fun x198 => ?_
      refine cl_L_109 mo_visit_im (pc := 839) (by decide) dL_law_839 (Nat.le_of_ble_eq_true rfl) fun x200 h199 => ?_
      refine im_icmp_eq (pc := 842) (tgt := 988) dL_law_842 (by decide) ?_ ?_
      · refine im_iinc (pc := 988) (v := (v3 + 6)) (lv' := [some (.inr v0), some (.inr v1), some (.inr v2), some (.inl (v3 + 6))]) dL_law_988 rfl rfl (by decide) rfl ?_
        refine im_goto (pc := 991) (tgt := 18) dL_law_991 (by decide) ?_
        exact Im.back [true, true, true, true] rfl rfl
      · refine im_iconst (pc := 845) (v := 0) dL_law_845 (by decide) ?_
        exact Im.outS (im_lret (pc := 846) dL_law_846)
    · refine im_aload_n (pc := 847) dL_law_847 rfl rfl ?_
      refine cl_L_110 tp_visited_im (pc := 848) (by decide) dL_law_848 (Nat.le_of_ble_eq_true rfl) fun x202 h201 => ?_
      refine im_aload_n (pc := 851) dL_law_851 rfl rfl ?_
      refine cl_L_113 mo_visited_im (pc := 852) (by decide) dL_law_852 (Nat.le_of_ble_eq_true rfl) fun x204 h203 => ?_
      refine im_icmp_eq (pc := 855) (tgt := 988) dL_law_855 (by decide) ?_ ?_
      · refine im_iinc (pc := 988) (v := (v3 + 6)) (lv' := [some (.inr v0), some (.inr v1), some (.inr v2), some (.inl (v3 + 6))]) dL_law_988 rfl rfl (by decide) rfl ?_
        refine im_goto (pc := 991) (tgt := 18) dL_law_991 (by decide) ?_
        exact Im.back [true, true, true, true] rfl rfl
      · refine im_iconst (pc := 858) (v := 0) dL_law_858 (by decide) ?_
        exact Im.outS (im_lret (pc := 859) dL_law_859)
    · refine im_aload_n (pc := 860) dL_law_860 rfl rfl ?_
      refine im_aload_n (pc := 861) dL_law_861 rfl rfl ?_
      refine im_iload_n (pc := 862) dL_law_862 rfl rfl ?_
      refine im_iconst (pc := 863) (v := 1) dL_law_863 (by decide) ?_
      refine im_iadd (pc := 864) dL_law_864 ?_
      refine im_iald (pc := 865) dL_law_865 fun x205 => ?_
      refine im_aload_n (pc := 866) dL_law_866 rfl rfl ?_
      refine im_iload_n (pc := 867) dL_law_867 rfl rfl ?_
      refine im_iconst (pc := 868) (v := 2) dL_law_868 (by decide) ?_
      refine im_iadd (pc := 869) dL_law_869 ?_
      refine im_iald (pc := 870) dL_law_870 fun x206 => ?_
      refine cl_L_114 tp_alike_im (pc := 871) (by decide) dL_law_871 (Nat.le_of_ble_eq_true rfl) fun x207 => ?_
      refine im_aload_n (pc := 874) dL_law_874 rfl rfl ?_
      refine im_aload_n (pc := 875) dL_law_875 rfl rfl ?_
      refine im_iload_n (pc := 876) dL_law_876 rfl rfl ?_
      refine im_iconst (pc := 877) (v := 1) dL_law_877 (by decide) ?_
      refine im_iadd (pc := 878) dL_law_878 ?_
      refine im_iald (pc := 879) dL_law_879 fun x208 => ?_
      refine im_aload_n (pc := 880) dL_law_880 rfl rfl ?_
      refine im_iload_n (pc := 881) dL_law_881 rfl rfl ?_
      refine im_iconst (pc := 882) (v := 2) dL_law_882 (by decide) ?_
      refine im_iadd (pc := 883) dL_law_883 ?_
      refine im_iald (pc := 884) dL_law_884 fun x209 => ?_
      refine cl_L_117 mo_alike_im (pc := 885) (by decide) dL_law_885 (Nat.le_of_ble_eq_true rfl) fun x210 => ?_
      refine im_icmp_eq (pc := 888) (tgt := 988) dL_law_888 (by decide) ?_ ?_
      · refine im_iinc (pc := 988) (v := (v3 + 6)) (lv' := [some (.inr v0), some (.inr v1), some (.inr v2), some (.inl (v3 + 6))]) dL_law_988 rfl rfl (by decide) rfl ?_
        refine im_goto (pc := 991) (tgt := 18) dL_law_991 (by decide) ?_
        exact Im.back [true, true, true, true] rfl rfl
      · refine im_iconst (pc := 891) (v := 0) dL_law_891 (by decide) ?_
        exact Im.outS (im_lret (pc := 892) dL_law_892)
    · refine im_aload_n (pc := 893) dL_law_893 rfl rfl ?_
      refine im_aload_n (pc := 894) dL_law_894 rfl rfl ?_
      refine im_iload_n (pc := 895) dL_law_895 rfl rfl ?_
      refine im_iconst (pc := 896) (v := 1) dL_law_896 (by decide) ?_
      refine im_iadd (pc := 897) dL_law_897 ?_
      refine im_iald (pc := 898) dL_law_898 fun x211 => ?_
      refine cl_L_118 tp_seed_im (pc := 899) (by decide) dL_law_899 (Nat.le_of_ble_eq_true rfl) fun x213 h212 => ?_
      refine im_aload_n (pc := 902) dL_law_902 rfl rfl ?_
      refine im_aload_n (pc := 903) dL_law_903 rfl rfl ?_
      refine im_iload_n (pc := 904) dL_law_904 rfl rfl ?_
      refine im_iconst (pc := 905) (v := 1) dL_law_905 (by decide) ?_
      refine im_iadd (pc := 906) dL_law_906 ?_
      refine im_iald (pc := 907) dL_law_907 fun x214 => ?_
      refine cl_L_122 mo_seed_im (pc := 908) (by decide) dL_law_908 (Nat.le_of_ble_eq_true rfl) fun x216 h215 => ?_
      refine im_icmp_eq (pc := 911) (tgt := 988) dL_law_911 (by decide) ?_ ?_
      · refine im_iinc (pc := 988) (v := (v3 + 6)) (lv' := [some (.inr v0), some (.inr v1), some (.inr v2), some (.inl (v3 + 6))]) dL_law_988 rfl rfl (by decide) rfl ?_
        refine im_goto (pc := 991) (tgt := 18) dL_law_991 (by decide) ?_
        exact Im.back [true, true, true, true] rfl rfl
      · refine im_iconst (pc := 914) (v := 0) dL_law_914 (by decide) ?_
        exact Im.outS (im_lret (pc := 915) dL_law_915)
    · refine im_aload_n (pc := 916) dL_law_916 rfl rfl ?_
      refine cl_L_123 tp_keep_im (pc := 917) (by decide) dL_law_917 (Nat.le_of_ble_eq_true rfl) fun x218 h217 => ?_
      refine im_aload_n (pc := 920) dL_law_920 rfl rfl ?_
      refine cl_L_126 mo_keep_im (pc := 921) (by decide) dL_law_921 (Nat.le_of_ble_eq_true rfl) fun x220 h219 => ?_
      refine im_icmp_eq (pc := 924) (tgt := 988) dL_law_924 (by decide) ?_ ?_
      · refine im_iinc (pc := 988) (v := (v3 + 6)) (lv' := [some (.inr v0), some (.inr v1), some (.inr v2), some (.inl (v3 + 6))]) dL_law_988 rfl rfl (by decide) rfl ?_
        refine im_goto (pc := 991) (tgt := 18) dL_law_991 (by decide) ?_
        exact Im.back [true, true, true, true] rfl rfl
      · refine im_iconst (pc := 927) (v := 0) dL_law_927 (by decide) ?_
        exact Im.outS (im_lret (pc := 928) dL_law_928)
    · refine im_aload_n (pc := 929) dL_law_929 rfl rfl ?_
      refine cl_L_127 tp_undo_im (pc := 930) (by decide) dL_law_930 (Nat.le_of_ble_eq_true rfl) fun x222 h221 => ?_
      refine im_aload_n (pc := 933) dL_law_933 rfl rfl ?_
      refine cl_L_131 mo_undo_im (pc := 934) (by decide) dL_law_934 (Nat.le_of_ble_eq_true rfl) fun x224 h223 => ?_
      refine im_icmp_eq (pc := 937) (tgt := 988) dL_law_937 (by decide) ?_ ?_
      · refine im_iinc (pc := 988) (v := (v3 + 6)) (lv' := [some (.inr v0), some (.inr v1), some (.inr v2), some (.inl (v3 + 6))]) dL_law_988 rfl rfl (by decide) rfl ?_
        refine im_goto (pc := 991) (tgt := 18) dL_law_991 (by decide) ?_
        exact Im.back [true, true, true, true] rfl rfl
      · refine im_iconst (pc := 940) (v := 0) dL_law_940 (by decide) ?_
        exact Im.outS (im_lret (pc := 941) dL_law_941)
    · refine im_aload_n (pc := 942) dL_law_942 rfl rfl ?_
      refine im_aload_n (pc := 943) dL_law_943 rfl rfl ?_
      refine im_iload_n (pc := 944) dL_law_944 rfl rfl ?_
      refine im_iconst (pc := 945) (v := 1) dL_law_945 (by decide) ?_
      refine im_iadd (pc := 946) dL_law_946 ?_
      refine im_iald (pc := 947) dL_law_947 fun x225 => ?_
      refine cl_L_132 tp_check_im (pc := 948) (by decide) dL_law_948 (Nat.le_of_ble_eq_true rfl) fun x227 h226 => ?_
      refine im_aload_n (pc := 951) dL_law_951 rfl rfl ?_
      refine im_aload_n (pc := 952) dL_law_952 rfl rfl ?_
      refine im_iload_n (pc := 953) dL_law_953 rfl rfl ?_
      refine im_iconst (pc := 954) (v := 1) dL_law_954 (by decide) ?_
      refine im_iadd (pc := 955) dL_law_955 ?_
      refine im_iald (pc := 956) dL_law_956 fun x228 => ?_
      refine cl_L_135 mo_check_im (pc := 957) (by decide) dL_law_957 (Nat.le_of_ble_eq_true rfl) fun x230 h229 => ?_
      refine im_icmp_eq (pc := 960) (tgt := 988) dL_law_960 (by decide) ?_ ?_
      · refine im_iinc (pc := 988) (v := (v3 + 6)) (lv' := [some (.inr v0), some (.inr v1), some (.inr v2), some (.inl (v3 + 6))]) dL_law_988 rfl rfl (by decide) rfl ?_
        refine im_goto (pc := 991) (tgt := 18) dL_law_991 (by decide) ?_
        exact Im.back [true, true, true, true] rfl rfl
      · refine im_iconst (pc := 963) (v := 0) dL_law_963 (by decide) ?_
        exact Im.outS (im_lret (pc := 964) dL_law_964)
    · refine im_aload_n (pc := 965) dL_law_965 rfl rfl ?_
      refine im_aload_n (pc := 966) dL_law_966 rfl rfl ?_
      refine im_iload_n (pc := 967) dL_law_967 rfl rfl ?_
      refine im_iconst (pc := 968) (v := 1) dL_law_968 (by decide) ?_
      refine im_iadd (pc := 969) dL_law_969 ?_
      refine im_iald (pc := 970) dL_law_970 fun x231 => ?_
      refine cl_L_136 tp_count_im (pc := 971) (by decide) dL_law_971 (Nat.le_of_ble_eq_true rfl) fun x232 => ?_
      refine im_aload_n (pc := 974) dL_law_974 rfl rfl ?_
      refine im_aload_n (pc := 975) dL_law_975 rfl rfl ?_
      refine im_iload_n (pc := 976) dL_law_976 rfl rfl ?_
      refine im_iconst (pc := 977) (v := 1) dL_law_977 (by decide) ?_
      refine im_iadd (pc := 978) dL_law_978 ?_
      refine im_iald (pc := 979) dL_law_979 fun x233 => ?_
      refine cl_L_139 mo_count_im (pc := 980) (by decide) dL_law_980 (Nat.le_of_ble_eq_true rfl) fun x234 => ?_
      refine im_icmp_eq (pc := 983) (tgt := 988) dL_law_983 (by decide) ?_ ?_
      · refine im_iinc (pc := 988) (v := (v3 + 6)) (lv' := [some (.inr v0), some (.inr v1), some (.inr v2), some (.inl (v3 + 6))]) dL_law_988 rfl rfl (by decide) rfl ?_
        refine im_goto (pc := 991) (tgt := 18) dL_law_991 (by decide) ?_
        exact Im.back [true, true, true, true] rfl rfl
      · refine im_iconst (pc := 986) (v := 0) dL_law_986 (by decide) ?_
        exact Im.outS (im_lret (pc := 987) dL_law_987)
    · refine im_iinc (pc := 988) (v := (v3 + 6)) (lv' := [some (.inr v0), some (.inr v1), some (.inr v2), some (.inl (v3 + 6))]) dL_law_988 rfl rfl (by decide) rfl ?_
      refine im_goto (pc := 991) (tgt := 18) dL_law_991 (by decide) ?_
      exact Im.back [true, true, true, true] rfl rfl
theorem lw_law_L18_ok (X : CT) (mn : String) (v0 : Option Nat) (v1 : Option Nat) (v2 : Option Nat) (v3 : Int32) (h : PH) : Im X (code, 4, R_law, mn, some .boolean, 97) 18 [some (.inr v0), some (.inr v1), some (.inr v2), some (.inl v3)] [] h (lw_law_L18 v0 v1 v2 v3 h) szI (kL X) := by
  unfold lw_law_L18
  exact Im.iter (lv := (fun s : Int32 × PH => [some (.inr v0), some (.inr v1), some (.inr v2), some (.inl s.1)])) (hp := (fun s : Int32 × PH => s.2)) (fun s => lw_law_b18_ok X mn v0 v1 v2 s.1 s.2) _ rfl rfl
noncomputable def lw_law_0 (v0 : Option Nat) (h : PH) : Option (Int32 × PH) :=
  (nw 0 [.inr none, .inr none, .inr none, .inr none, .inr none, .inr none, .inl 0, .inl 0, .inr none, .inr none, .inr none, .inl 0, .inr none, .inr none, .inl 0, .inl 0, .inr none, .inr none, .inr none, .inr none] h).bind fun h51 =>
  (tp_init (some h.1) h51).bind fun h52 =>
  (nw 5 [.inr none, .inr none, .inr none, .inr none, .inl 0, .inl 0, .inl 0, .inl 0, .inl 0, .inl 0, .inl 0, .inl 0, .inl 0, .inl 0, .inr none, .inr none, .inr none, .inr none, .inr none, .inr none, .inr none, .inr none, .inr none, .inr none, .inr none, .inr none, .inr none, .inl 0, .inr none, .inr none, .inr none, .inr none, .inr none, .inr none, .inl 0, .inl 0, .inl 0, .inl 0, .inr none, .inr none, .inr none, .inl 0, .inl 0, .inr none, .inr none, .inl 0, .inr none, .inr none, .inr none, .inl 0] h52).bind fun h53 =>
  (mo_init (some h52.1) h53).bind fun h54 =>
  lw_law_L18 v0 (some h.1) (some h52.1) 0 h54
theorem lw_law_0_ok (X : CT) (mn : String) (v0 : Option Nat) (h : PH) : Im X (code, 4, R_law, mn, some .boolean, 97) 0 [some (.inr v0), none, none, none] [] h (lw_law_0 v0 h) szI (kL X) := by
  unfold lw_law_0
  refine im_new (pc := 0) nw_L_7 dL_law_0 fun h51 => ?_
  refine im_dup (pc := 3) dL_law_3 ?_
  refine cl_L_9 tp_init_im (pc := 4) (by decide) dL_law_4 (Nat.le_of_ble_eq_true rfl) fun h52 => ?_
  refine im_astore_n (pc := 7) (lv' := [some (.inr v0), some (.inr (some h.1)), none, none]) dL_law_7 rfl (by decide) rfl ?_
  refine im_new (pc := 8) nw_L_10 dL_law_8 fun h53 => ?_
  refine im_dup (pc := 11) dL_law_11 ?_
  refine cl_L_12 mo_init_im (pc := 12) (by decide) dL_law_12 (Nat.le_of_ble_eq_true rfl) fun h54 => ?_
  refine im_astore_n (pc := 15) (lv' := [some (.inr v0), some (.inr (some h.1)), some (.inr (some h52.1)), none]) dL_law_15 rfl (by decide) rfl ?_
  refine im_iconst (pc := 16) (v := 0) dL_law_16 (by decide) ?_
  refine im_istore_n (pc := 17) (lv' := [some (.inr v0), some (.inr (some h.1)), some (.inr (some h52.1)), some (.inl 0)]) dL_law_17 rfl (by decide) rfl ?_
  exact Im.drop [true, true, true, true] rfl (lw_law_L18_ok X mn v0 (some h.1) (some h52.1) 0 h54)
