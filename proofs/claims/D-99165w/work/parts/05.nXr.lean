/-! TalkingPlots$Asked -/
set_option maxRecDepth 100000
def RX1 : String := "TalkingPlots$Asked"
abbrev cX1_init : ByteArray := prog_2_method_1_code
def yX1_init : MethodName := ⟨RX1, "<init>", "()V"⟩
theorem dX1_init_0 : decode cX1_init 0 = .ok (.aload_n 0, 1) := by decide +kernel
theorem dX1_init_1 : decode cX1_init 1 = .ok (.invokespecial 1, 3) := by decide +kernel
theorem dX1_init_4 : decode cX1_init 4 = .ok (.return_, 1) := by decide +kernel
theorem q107 : (Jvm.Cond.initialized "TalkingPlots$Asked") ∈ lw_all := lw_g (lw_at lw_m1 2 rfl) rfl
theorem q146 : (Jvm.Cond.instanceMethod ({ cls := "TalkingPlots$Asked", name := "<init>", desc := "()V" } : Jvm.MethodName)) ∈ lw_all := lw_g (lw_at lw_m1 41 rfl) rfl
theorem q147 : (Jvm.Cond.code ({ cls := "TalkingPlots$Asked", name := "<init>", desc := "()V" } : Jvm.MethodName) prog_2_method_1_code (1 : Nat) (Option.none : Option Jvm.ClassFile.FieldType)) ∈ lw_all := lw_g (lw_at lw_m1 42 rfl) rfl
theorem q148 : (Jvm.Cond.methodLink "TalkingPlots$Asked" (1 : Nat) ({ cls := "java/lang/Object", name := "<init>", desc := "()V" } : Jvm.MethodName)) ∈ lw_all := lw_g (lw_at lw_m1 43 rfl) rfl
theorem q177 : (Jvm.Cond.soleField "TalkingPlots$Asked" "isRefused") ∈ lw_all := lw_g (lw_at lw_m1 72 rfl) rfl
theorem q872 : (Jvm.Cond.declares ({ cls := "TalkingPlots$Asked", name := "value", desc := "(I)I" } : Jvm.MethodName)) ∈ lw_tbl := lw_at lw_m4 47 rfl
theorem q873 : (Jvm.Cond.sameMethod "TalkingPlots$Asked" "TalkingPlots$Asked" "value" "(I)I") ∈ lw_all := lw_g (lw_at lw_m4 48 rfl) rfl
/-! TalkingPlots$Moment -/
set_option maxRecDepth 100000
def RX2 : String := "TalkingPlots$Moment"
def TX2 : u_T := fun k => match k with
  | 0 => ("TalkingPlots$Asked", "isRefused", "Z", false)
  | 1 => ("TalkingPlots$Moment", "one", "I", false)
  | 2 => ("TalkingPlots$Moment", "other", "I", false)
  | 3 => ("TalkingPlots$Moment", "shared", "I", false)
  | 4 => ("TalkingPlots$Moment", "unknown", "I", false)
  | 5 => ("TalkingPlots$Moment", "mood", "I", false)
  | 6 => ("TalkingPlots$Moment", "otherMood", "I", false)
  | 7 => ("TalkingPlots$Moment", "beside", "I", false)
  | _ => ("TalkingPlots$Moment", "night", "I", false)
def tyX2 : Nat → FieldType := fun k => match k with
  | 0 => .boolean
  | 1 => .int
  | 2 => .int
  | 3 => .int
  | 4 => .int
  | 5 => .int
  | 6 => .int
  | 7 => .int
  | _ => .int
abbrev wsX20 : List Cond := u_ws RX2 TX2 9
theorem nmX2 : ∀ a, a < 9 → ∀ b, b < 9 → a ≠ b → (TX2 a).2.1 ≠ (TX2 b).2.1 := by decide +kernel
theorem tyX2_ok : ∀ k, k < 9 → parseFieldDescriptor (TX2 k).2.2.1 = some (tyX2 k) := by decide +kernel
abbrev cX2_init : ByteArray := prog_6_method_1_code
def yX2_init : MethodName := ⟨RX2, "<init>", "()V"⟩
theorem dX2_init_0 : decode cX2_init 0 = .ok (.aload_n 0, 1) := by decide +kernel
theorem dX2_init_1 : decode cX2_init 1 = .ok (.invokespecial 3, 3) := by decide +kernel
theorem dX2_init_4 : decode cX2_init 4 = .ok (.return_, 1) := by decide +kernel
abbrev cX2_of : ByteArray := prog_6_method_2_code
def yX2_of : MethodName := ⟨RX2, "of", "(IIII)LTalkingPlots$Moment;"⟩
def dkwX2_of_1 : List UInt8 := [181, 0, 24, 42, 3, 181, 0, 27, 42, 29, 181, 0, 30, 42, 21, 4, 16, 100, 112, 181, 0, 33, 42, 176]
abbrev dktX2_of_1 : List UInt8 := dkwX2_of_1 ++ []
def dkwX2_of_0 : List UInt8 := [42, 27, 181, 0, 9, 42, 3, 181, 0, 15, 42, 3, 181, 0, 18, 42, 3, 181, 0, 21, 42, 28]
abbrev dktX2_of_0 : List UInt8 := dkwX2_of_0 ++ dktX2_of_1
theorem dksX2_of_0 : cX2_of.data.toList.drop 0 = dktX2_of_0 := by decide +kernel
theorem dksX2_of_1 : cX2_of.data.toList.drop 22 = dktX2_of_1 := dk_seg dksX2_of_0 22 rfl rfl
theorem dX2_of_0 : decode cX2_of 0 = .ok (.aload_n 0, 1) := dk_42 (dk_at dksX2_of_0 0 rfl rfl)
theorem dX2_of_1 : decode cX2_of 1 = .ok (.iload_n 1, 1) := dk_27 (dk_at dksX2_of_0 1 rfl rfl)
theorem dX2_of_2 : decode cX2_of 2 = .ok (.putfield 9, 3) := dk_181 0 9 (dk_at dksX2_of_0 2 rfl rfl)
theorem dX2_of_5 : decode cX2_of 5 = .ok (.aload_n 0, 1) := dk_42 (dk_at dksX2_of_0 5 rfl rfl)
theorem dX2_of_6 : decode cX2_of 6 = .ok (.iconst 0, 1) := dk_3 (dk_at dksX2_of_0 6 rfl rfl)
theorem dX2_of_7 : decode cX2_of 7 = .ok (.putfield 15, 3) := dk_181 0 15 (dk_at dksX2_of_0 7 rfl rfl)
theorem dX2_of_10 : decode cX2_of 10 = .ok (.aload_n 0, 1) := dk_42 (dk_at dksX2_of_0 10 rfl rfl)
theorem dX2_of_11 : decode cX2_of 11 = .ok (.iconst 0, 1) := dk_3 (dk_at dksX2_of_0 11 rfl rfl)
theorem dX2_of_12 : decode cX2_of 12 = .ok (.putfield 18, 3) := dk_181 0 18 (dk_at dksX2_of_0 12 rfl rfl)
theorem dX2_of_15 : decode cX2_of 15 = .ok (.aload_n 0, 1) := dk_42 (dk_at dksX2_of_0 15 rfl rfl)
theorem dX2_of_16 : decode cX2_of 16 = .ok (.iconst 0, 1) := dk_3 (dk_at dksX2_of_0 16 rfl rfl)
theorem dX2_of_17 : decode cX2_of 17 = .ok (.putfield 21, 3) := dk_181 0 21 (dk_at dksX2_of_0 17 rfl rfl)
theorem dX2_of_20 : decode cX2_of 20 = .ok (.aload_n 0, 1) := dk_42 (dk_at dksX2_of_0 20 rfl rfl)
theorem dX2_of_21 : decode cX2_of 21 = .ok (.iload_n 2, 1) := dk_28 (dk_at dksX2_of_0 21 rfl rfl)
theorem dX2_of_22 : decode cX2_of 22 = .ok (.putfield 24, 3) := dk_181 0 24 (dk_at dksX2_of_1 0 rfl rfl)
theorem dX2_of_25 : decode cX2_of 25 = .ok (.aload_n 0, 1) := dk_42 (dk_at dksX2_of_1 3 rfl rfl)
theorem dX2_of_26 : decode cX2_of 26 = .ok (.iconst 0, 1) := dk_3 (dk_at dksX2_of_1 4 rfl rfl)
theorem dX2_of_27 : decode cX2_of 27 = .ok (.putfield 27, 3) := dk_181 0 27 (dk_at dksX2_of_1 5 rfl rfl)
theorem dX2_of_30 : decode cX2_of 30 = .ok (.aload_n 0, 1) := dk_42 (dk_at dksX2_of_1 8 rfl rfl)
theorem dX2_of_31 : decode cX2_of 31 = .ok (.iload_n 3, 1) := dk_29 (dk_at dksX2_of_1 9 rfl rfl)
theorem dX2_of_32 : decode cX2_of 32 = .ok (.putfield 30, 3) := dk_181 0 30 (dk_at dksX2_of_1 10 rfl rfl)
theorem dX2_of_35 : decode cX2_of 35 = .ok (.aload_n 0, 1) := dk_42 (dk_at dksX2_of_1 13 rfl rfl)
theorem dX2_of_36 : decode cX2_of 36 = .ok (.iload 4, 2) := dk_21 4 (dk_at dksX2_of_1 14 rfl rfl)
theorem dX2_of_38 : decode cX2_of 38 = .ok (.bipush 100, 2) := dk_16 100 (dk_at dksX2_of_1 16 rfl rfl)
theorem dX2_of_40 : decode cX2_of 40 = .ok (.irem, 1) := dk_112 (dk_at dksX2_of_1 18 rfl rfl)
theorem dX2_of_41 : decode cX2_of 41 = .ok (.putfield 33, 3) := dk_181 0 33 (dk_at dksX2_of_1 19 rfl rfl)
theorem dX2_of_44 : decode cX2_of 44 = .ok (.aload_n 0, 1) := dk_42 (dk_at dksX2_of_1 22 rfl rfl)
theorem dX2_of_45 : decode cX2_of 45 = .ok (.areturn, 1) := dk_176 (dk_at dksX2_of_1 23 rfl rfl)
abbrev cX2_value : ByteArray := prog_6_method_4_code
def yX2_value : MethodName := ⟨RX2, "value", "(I)I"⟩
def dkwX2_value_3 : List UInt8 := [172, 42, 180, 0, 27, 172, 42, 180, 0, 30, 172, 42, 180, 0, 33, 172]
abbrev dktX2_value_3 : List UInt8 := dkwX2_value_3 ++ []
def dkwX2_value_2 : List UInt8 := [42, 180, 0, 9, 172, 42, 180, 0, 15, 172, 42, 180, 0, 18, 172, 42, 180, 0, 21, 172, 42, 180, 0, 24]
abbrev dktX2_value_2 : List UInt8 := dkwX2_value_2 ++ dktX2_value_3
def dkwX2_value_1 : List UInt8 := [170, 0, 0, 0, 0, 0, 94, 0, 0, 0, 107, 0, 0, 0, 117, 0, 0, 0, 64, 0, 0, 0, 94, 0, 0, 0, 79, 0, 0, 0, 89, 0, 0, 0, 84, 0, 0, 0, 59, 0, 0, 0, 94, 0, 0, 0, 94, 0, 0, 0, 69, 0, 0, 0, 94, 0, 0, 0, 74]
abbrev dktX2_value_1 : List UInt8 := dkwX2_value_1 ++ dktX2_value_2
def dkwX2_value_0 : List UInt8 := [27]
abbrev dktX2_value_0 : List UInt8 := dkwX2_value_0 ++ dktX2_value_1
theorem dksX2_value_0 : cX2_value.data.toList.drop 0 = dktX2_value_0 := by decide +kernel
theorem dksX2_value_1 : cX2_value.data.toList.drop 1 = dktX2_value_1 := dk_seg dksX2_value_0 1 rfl rfl
theorem dksX2_value_2 : cX2_value.data.toList.drop 60 = dktX2_value_2 := dk_seg dksX2_value_1 59 rfl rfl
theorem dksX2_value_3 : cX2_value.data.toList.drop 84 = dktX2_value_3 := dk_seg dksX2_value_2 24 rfl rfl
theorem dX2_value_0 : decode cX2_value 0 = .ok (.iload_n 1, 1) := dk_27 (dk_at dksX2_value_0 0 rfl rfl)
theorem dX2_value_1 : decode cX2_value 1 = .ok (.tableswitch 94 107 117 #[64, 94, 79, 89, 84, 59, 94, 94, 69, 94, 74], 59) := by decide +kernel
theorem dX2_value_60 : decode cX2_value 60 = .ok (.aload_n 0, 1) := dk_42 (dk_at dksX2_value_2 0 rfl rfl)
theorem dX2_value_61 : decode cX2_value 61 = .ok (.getfield 9, 3) := dk_180 0 9 (dk_at dksX2_value_2 1 rfl rfl)
theorem dX2_value_64 : decode cX2_value 64 = .ok (.ireturn, 1) := dk_172 (dk_at dksX2_value_2 4 rfl rfl)
theorem dX2_value_65 : decode cX2_value 65 = .ok (.aload_n 0, 1) := dk_42 (dk_at dksX2_value_2 5 rfl rfl)
theorem dX2_value_66 : decode cX2_value 66 = .ok (.getfield 15, 3) := dk_180 0 15 (dk_at dksX2_value_2 6 rfl rfl)
theorem dX2_value_69 : decode cX2_value 69 = .ok (.ireturn, 1) := dk_172 (dk_at dksX2_value_2 9 rfl rfl)
theorem dX2_value_70 : decode cX2_value 70 = .ok (.aload_n 0, 1) := dk_42 (dk_at dksX2_value_2 10 rfl rfl)
theorem dX2_value_71 : decode cX2_value 71 = .ok (.getfield 18, 3) := dk_180 0 18 (dk_at dksX2_value_2 11 rfl rfl)
theorem dX2_value_74 : decode cX2_value 74 = .ok (.ireturn, 1) := dk_172 (dk_at dksX2_value_2 14 rfl rfl)
theorem dX2_value_75 : decode cX2_value 75 = .ok (.aload_n 0, 1) := dk_42 (dk_at dksX2_value_2 15 rfl rfl)
theorem dX2_value_76 : decode cX2_value 76 = .ok (.getfield 21, 3) := dk_180 0 21 (dk_at dksX2_value_2 16 rfl rfl)
theorem dX2_value_79 : decode cX2_value 79 = .ok (.ireturn, 1) := dk_172 (dk_at dksX2_value_2 19 rfl rfl)
theorem dX2_value_80 : decode cX2_value 80 = .ok (.aload_n 0, 1) := dk_42 (dk_at dksX2_value_2 20 rfl rfl)
theorem dX2_value_81 : decode cX2_value 81 = .ok (.getfield 24, 3) := dk_180 0 24 (dk_at dksX2_value_2 21 rfl rfl)
theorem dX2_value_84 : decode cX2_value 84 = .ok (.ireturn, 1) := dk_172 (dk_at dksX2_value_3 0 rfl rfl)
theorem dX2_value_85 : decode cX2_value 85 = .ok (.aload_n 0, 1) := dk_42 (dk_at dksX2_value_3 1 rfl rfl)
theorem dX2_value_86 : decode cX2_value 86 = .ok (.getfield 27, 3) := dk_180 0 27 (dk_at dksX2_value_3 2 rfl rfl)
theorem dX2_value_89 : decode cX2_value 89 = .ok (.ireturn, 1) := dk_172 (dk_at dksX2_value_3 5 rfl rfl)
theorem dX2_value_90 : decode cX2_value 90 = .ok (.aload_n 0, 1) := dk_42 (dk_at dksX2_value_3 6 rfl rfl)
theorem dX2_value_91 : decode cX2_value 91 = .ok (.getfield 30, 3) := dk_180 0 30 (dk_at dksX2_value_3 7 rfl rfl)
theorem dX2_value_94 : decode cX2_value 94 = .ok (.ireturn, 1) := dk_172 (dk_at dksX2_value_3 10 rfl rfl)
theorem dX2_value_95 : decode cX2_value 95 = .ok (.aload_n 0, 1) := dk_42 (dk_at dksX2_value_3 11 rfl rfl)
theorem dX2_value_96 : decode cX2_value 96 = .ok (.getfield 33, 3) := dk_180 0 33 (dk_at dksX2_value_3 12 rfl rfl)
theorem dX2_value_99 : decode cX2_value 99 = .ok (.ireturn, 1) := dk_172 (dk_at dksX2_value_3 15 rfl rfl)
abbrev cX2_with : ByteArray := prog_6_method_3_code
def yX2_with : MethodName := ⟨RX2, "with", "(ILTalkingPlots$Person;LTalkingPlots$Person;)LTalkingPlots$Moment;"⟩
def dkwX2_with_1 : List UInt8 := [130, 126, 184, 0, 44, 181, 0, 21, 42, 45, 180, 0, 50, 181, 0, 27, 42, 176]
abbrev dktX2_with_1 : List UInt8 := dkwX2_with_1 ++ []
def dkwX2_with_0 : List UInt8 := [42, 27, 181, 0, 15, 42, 44, 45, 182, 0, 36, 181, 0, 18, 42, 45, 180, 0, 41, 44, 180, 0, 41, 2]
abbrev dktX2_with_0 : List UInt8 := dkwX2_with_0 ++ dktX2_with_1
theorem dksX2_with_0 : cX2_with.data.toList.drop 0 = dktX2_with_0 := by decide +kernel
theorem dksX2_with_1 : cX2_with.data.toList.drop 24 = dktX2_with_1 := dk_seg dksX2_with_0 24 rfl rfl
theorem dX2_with_0 : decode cX2_with 0 = .ok (.aload_n 0, 1) := dk_42 (dk_at dksX2_with_0 0 rfl rfl)
theorem dX2_with_1 : decode cX2_with 1 = .ok (.iload_n 1, 1) := dk_27 (dk_at dksX2_with_0 1 rfl rfl)
theorem dX2_with_2 : decode cX2_with 2 = .ok (.putfield 15, 3) := dk_181 0 15 (dk_at dksX2_with_0 2 rfl rfl)
theorem dX2_with_5 : decode cX2_with 5 = .ok (.aload_n 0, 1) := dk_42 (dk_at dksX2_with_0 5 rfl rfl)
theorem dX2_with_6 : decode cX2_with 6 = .ok (.aload_n 2, 1) := dk_44 (dk_at dksX2_with_0 6 rfl rfl)
theorem dX2_with_7 : decode cX2_with 7 = .ok (.aload_n 3, 1) := dk_45 (dk_at dksX2_with_0 7 rfl rfl)
theorem dX2_with_8 : decode cX2_with 8 = .ok (.invokevirtual 36, 3) := dk_182 0 36 (dk_at dksX2_with_0 8 rfl rfl)
theorem dX2_with_11 : decode cX2_with 11 = .ok (.putfield 18, 3) := dk_181 0 18 (dk_at dksX2_with_0 11 rfl rfl)
theorem dX2_with_14 : decode cX2_with 14 = .ok (.aload_n 0, 1) := dk_42 (dk_at dksX2_with_0 14 rfl rfl)
theorem dX2_with_15 : decode cX2_with 15 = .ok (.aload_n 3, 1) := dk_45 (dk_at dksX2_with_0 15 rfl rfl)
theorem dX2_with_16 : decode cX2_with 16 = .ok (.getfield 41, 3) := dk_180 0 41 (dk_at dksX2_with_0 16 rfl rfl)
theorem dX2_with_19 : decode cX2_with 19 = .ok (.aload_n 2, 1) := dk_44 (dk_at dksX2_with_0 19 rfl rfl)
theorem dX2_with_20 : decode cX2_with 20 = .ok (.getfield 41, 3) := dk_180 0 41 (dk_at dksX2_with_0 20 rfl rfl)
theorem dX2_with_23 : decode cX2_with 23 = .ok (.iconst (-1), 1) := dk_2 (dk_at dksX2_with_0 23 rfl rfl)
theorem dX2_with_24 : decode cX2_with 24 = .ok (.ixor, 1) := dk_130 (dk_at dksX2_with_1 0 rfl rfl)
theorem dX2_with_25 : decode cX2_with 25 = .ok (.iand, 1) := dk_126 (dk_at dksX2_with_1 1 rfl rfl)
theorem dX2_with_26 : decode cX2_with 26 = .ok (.invokestatic 44, 3) := dk_184 0 44 (dk_at dksX2_with_1 2 rfl rfl)
theorem dX2_with_29 : decode cX2_with 29 = .ok (.putfield 21, 3) := dk_181 0 21 (dk_at dksX2_with_1 5 rfl rfl)
theorem dX2_with_32 : decode cX2_with 32 = .ok (.aload_n 0, 1) := dk_42 (dk_at dksX2_with_1 8 rfl rfl)
theorem dX2_with_33 : decode cX2_with 33 = .ok (.aload_n 3, 1) := dk_45 (dk_at dksX2_with_1 9 rfl rfl)
theorem dX2_with_34 : decode cX2_with 34 = .ok (.getfield 50, 3) := dk_180 0 50 (dk_at dksX2_with_1 10 rfl rfl)
theorem dX2_with_37 : decode cX2_with 37 = .ok (.putfield 27, 3) := dk_181 0 27 (dk_at dksX2_with_1 13 rfl rfl)
theorem dX2_with_40 : decode cX2_with 40 = .ok (.aload_n 0, 1) := dk_42 (dk_at dksX2_with_1 16 rfl rfl)
theorem dX2_with_41 : decode cX2_with 41 = .ok (.areturn, 1) := dk_176 (dk_at dksX2_with_1 17 rfl rfl)
theorem q108 : (Jvm.Cond.initialized "TalkingPlots$Moment") ∈ lw_all := lw_g (lw_at lw_m1 3 rfl) rfl
theorem q141 : (Jvm.Cond.instantiable "TalkingPlots$Moment" (9 : Nat)) ∈ lw_all := lw_g (lw_at lw_m1 36 rfl) rfl
theorem q143 : (Jvm.Cond.instanceMethod ({ cls := "TalkingPlots$Moment", name := "<init>", desc := "()V" } : Jvm.MethodName)) ∈ lw_all := lw_g (lw_at lw_m1 38 rfl) rfl
theorem q144 : (Jvm.Cond.code ({ cls := "TalkingPlots$Moment", name := "<init>", desc := "()V" } : Jvm.MethodName) prog_6_method_1_code (1 : Nat) (Option.none : Option Jvm.ClassFile.FieldType)) ∈ lw_all := lw_g (lw_at lw_m1 39 rfl) rfl
theorem q145 : (Jvm.Cond.methodLinkNest "TalkingPlots$Moment" (3 : Nat) ({ cls := "TalkingPlots$Asked", name := "<init>", desc := "()V" } : Jvm.MethodName) "TalkingPlots") ∈ lw_tbl := lw_at lw_m1 40 rfl
theorem q149 : (Jvm.Cond.fieldLink "TalkingPlots$Moment" (9 : Nat) "TalkingPlots$Moment" "one" "I") ∈ lw_all := lw_g (lw_at lw_m1 44 rfl) rfl
theorem q150 : (Jvm.Cond.fieldLink "TalkingPlots$Moment" (15 : Nat) "TalkingPlots$Moment" "other" "I") ∈ lw_all := lw_g (lw_at lw_m1 45 rfl) rfl
theorem q151 : (Jvm.Cond.fieldLink "TalkingPlots$Moment" (18 : Nat) "TalkingPlots$Moment" "shared" "I") ∈ lw_all := lw_g (lw_at lw_m1 46 rfl) rfl
theorem q152 : (Jvm.Cond.fieldLink "TalkingPlots$Moment" (21 : Nat) "TalkingPlots$Moment" "unknown" "I") ∈ lw_all := lw_g (lw_at lw_m1 47 rfl) rfl
theorem q153 : (Jvm.Cond.fieldLink "TalkingPlots$Moment" (24 : Nat) "TalkingPlots$Moment" "mood" "I") ∈ lw_all := lw_g (lw_at lw_m1 48 rfl) rfl
theorem q154 : (Jvm.Cond.fieldLink "TalkingPlots$Moment" (27 : Nat) "TalkingPlots$Moment" "otherMood" "I") ∈ lw_all := lw_g (lw_at lw_m1 49 rfl) rfl
theorem q155 : (Jvm.Cond.fieldLink "TalkingPlots$Moment" (30 : Nat) "TalkingPlots$Moment" "beside" "I") ∈ lw_all := lw_g (lw_at lw_m1 50 rfl) rfl
theorem q156 : (Jvm.Cond.fieldLink "TalkingPlots$Moment" (33 : Nat) "TalkingPlots$Moment" "night" "I") ∈ lw_all := lw_g (lw_at lw_m1 51 rfl) rfl
theorem q160 : (Jvm.Cond.lays "TalkingPlots$Moment" "TalkingPlots$Moment" "one" "I") ∈ lw_all := lw_g (lw_at lw_m1 55 rfl) rfl
theorem q161 : (Jvm.Cond.soleField "TalkingPlots$Moment" "one") ∈ lw_all := lw_g (lw_at lw_m1 56 rfl) rfl
theorem q162 : (Jvm.Cond.lays "TalkingPlots$Moment" "TalkingPlots$Moment" "other" "I") ∈ lw_all := lw_g (lw_at lw_m1 57 rfl) rfl
theorem q163 : (Jvm.Cond.soleField "TalkingPlots$Moment" "other") ∈ lw_all := lw_g (lw_at lw_m1 58 rfl) rfl
theorem q164 : (Jvm.Cond.lays "TalkingPlots$Moment" "TalkingPlots$Moment" "shared" "I") ∈ lw_all := lw_g (lw_at lw_m1 59 rfl) rfl
theorem q165 : (Jvm.Cond.soleField "TalkingPlots$Moment" "shared") ∈ lw_all := lw_g (lw_at lw_m1 60 rfl) rfl
theorem q166 : (Jvm.Cond.lays "TalkingPlots$Moment" "TalkingPlots$Moment" "unknown" "I") ∈ lw_all := lw_g (lw_at lw_m1 61 rfl) rfl
theorem q167 : (Jvm.Cond.soleField "TalkingPlots$Moment" "unknown") ∈ lw_all := lw_g (lw_at lw_m1 62 rfl) rfl
theorem q168 : (Jvm.Cond.lays "TalkingPlots$Moment" "TalkingPlots$Moment" "mood" "I") ∈ lw_all := lw_g (lw_at lw_m1 63 rfl) rfl
theorem q169 : (Jvm.Cond.soleField "TalkingPlots$Moment" "mood") ∈ lw_all := lw_g (lw_at lw_m1 64 rfl) rfl
theorem q170 : (Jvm.Cond.lays "TalkingPlots$Moment" "TalkingPlots$Moment" "otherMood" "I") ∈ lw_all := lw_g (lw_at lw_m1 65 rfl) rfl
theorem q171 : (Jvm.Cond.soleField "TalkingPlots$Moment" "otherMood") ∈ lw_all := lw_g (lw_at lw_m1 66 rfl) rfl
theorem q172 : (Jvm.Cond.lays "TalkingPlots$Moment" "TalkingPlots$Moment" "beside" "I") ∈ lw_all := lw_g (lw_at lw_m1 67 rfl) rfl
theorem q173 : (Jvm.Cond.soleField "TalkingPlots$Moment" "beside") ∈ lw_all := lw_g (lw_at lw_m1 68 rfl) rfl
theorem q174 : (Jvm.Cond.lays "TalkingPlots$Moment" "TalkingPlots$Moment" "night" "I") ∈ lw_all := lw_g (lw_at lw_m1 69 rfl) rfl
theorem q175 : (Jvm.Cond.soleField "TalkingPlots$Moment" "night") ∈ lw_all := lw_g (lw_at lw_m1 70 rfl) rfl
theorem q176 : (Jvm.Cond.lays "TalkingPlots$Moment" "TalkingPlots$Asked" "isRefused" "Z") ∈ lw_all := lw_g (lw_at lw_m1 71 rfl) rfl
theorem q178 : (Jvm.Cond.superclass "TalkingPlots$Moment" "TalkingPlots$Asked") ∈ lw_all := lw_g (lw_at lw_m1 73 rfl) rfl
theorem q193 : (Jvm.Cond.fieldLinkNest "TalkingPlots$Moment" (41 : Nat) "TalkingPlots$Person" "topics" "I" "TalkingPlots") ∈ lw_tbl := lw_at lw_m1 88 rfl
theorem q198 : (Jvm.Cond.fieldLinkNest "TalkingPlots$Moment" (50 : Nat) "TalkingPlots$Person" "mood" "I" "TalkingPlots") ∈ lw_tbl := lw_at lw_m1 93 rfl
theorem q852 : (Jvm.Cond.instanceMethod ({ cls := "TalkingPlots$Moment", name := "of", desc := "(IIII)LTalkingPlots$Moment;" } : Jvm.MethodName)) ∈ lw_all := lw_g (lw_at lw_m4 27 rfl) rfl
theorem q853 : (Jvm.Cond.selects "TalkingPlots$Moment" ({ cls := "TalkingPlots$Moment", name := "of", desc := "(IIII)LTalkingPlots$Moment;" } : Jvm.MethodName) ({ cls := "TalkingPlots$Moment", name := "of", desc := "(IIII)LTalkingPlots$Moment;" } : Jvm.MethodName)) ∈ lw_all := lw_g (lw_at lw_m4 28 rfl) rfl
theorem q854 : (Jvm.Cond.code ({ cls := "TalkingPlots$Moment", name := "of", desc := "(IIII)LTalkingPlots$Moment;" } : Jvm.MethodName) prog_6_method_2_code (5 : Nat) (Option.some (Jvm.ClassFile.FieldType.object "TalkingPlots$Moment"))) ∈ lw_all := lw_g (lw_at lw_m4 29 rfl) rfl
theorem q874 : (Jvm.Cond.selects "TalkingPlots$Moment" ({ cls := "TalkingPlots$Asked", name := "value", desc := "(I)I" } : Jvm.MethodName) ({ cls := "TalkingPlots$Moment", name := "value", desc := "(I)I" } : Jvm.MethodName)) ∈ lw_all := lw_g (lw_at lw_m4 49 rfl) rfl
theorem q875 : (Jvm.Cond.instanceMethod ({ cls := "TalkingPlots$Moment", name := "value", desc := "(I)I" } : Jvm.MethodName)) ∈ lw_all := lw_g (lw_at lw_m4 50 rfl) rfl
theorem q876 : (Jvm.Cond.code ({ cls := "TalkingPlots$Moment", name := "value", desc := "(I)I" } : Jvm.MethodName) prog_6_method_4_code (2 : Nat) (Option.some Jvm.ClassFile.FieldType.int)) ∈ lw_all := lw_g (lw_at lw_m4 51 rfl) rfl
theorem q903 : (Jvm.Cond.instanceMethod ({ cls := "TalkingPlots$Moment", name := "with", desc := "(ILTalkingPlots$Person;LTalkingPlots$Person;)LTalkingPlots$Moment;" } : Jvm.MethodName)) ∈ lw_all := lw_g (lw_at lw_m4 78 rfl) rfl
theorem q904 : (Jvm.Cond.selects "TalkingPlots$Moment" ({ cls := "TalkingPlots$Moment", name := "with", desc := "(ILTalkingPlots$Person;LTalkingPlots$Person;)LTalkingPlots$Moment;" } : Jvm.MethodName) ({ cls := "TalkingPlots$Moment", name := "with", desc := "(ILTalkingPlots$Person;LTalkingPlots$Person;)LTalkingPlots$Moment;" } : Jvm.MethodName)) ∈ lw_all := lw_g (lw_at lw_m4 79 rfl) rfl
theorem q905 : (Jvm.Cond.code ({ cls := "TalkingPlots$Moment", name := "with", desc := "(ILTalkingPlots$Person;LTalkingPlots$Person;)LTalkingPlots$Moment;" } : Jvm.MethodName) prog_6_method_3_code (4 : Nat) (Option.some (Jvm.ClassFile.FieldType.object "TalkingPlots$Moment"))) ∈ lw_all := lw_g (lw_at lw_m4 80 rfl) rfl
theorem q906 : (Jvm.Cond.methodLink "TalkingPlots$Moment" (36 : Nat) ({ cls := "TalkingPlots$Person", name := "shared", desc := "(LTalkingPlots$Person;)I" } : Jvm.MethodName)) ∈ lw_all := lw_g (lw_at lw_m4 81 rfl) rfl
theorem q911 : (Jvm.Cond.methodLink "TalkingPlots$Moment" (44 : Nat) ({ cls := "java/lang/Integer", name := "bitCount", desc := "(I)I" } : Jvm.MethodName)) ∈ lw_all := lw_g (lw_at lw_m4 86 rfl) rfl
theorem in_X2 : ∀ w ∈ wsX20, w ∈ lw_all := lw_in wsX20 [176, 160, 162, 164, 166, 168, 170, 172, 174] (by decide +kernel) (by decide +kernel)
/-! TalkingPlots$Yard -/
set_option maxRecDepth 100000
def RX3 : String := "TalkingPlots$Yard"
def TX3 : u_T := fun k => match k with
  | 0 => ("TalkingPlots$Yard", "people", "[LTalkingPlots$Person;", true)
  | 1 => ("TalkingPlots$Yard", "night", "I", false)
  | 2 => ("TalkingPlots$Yard", "x", "I", false)
  | 3 => ("TalkingPlots$Yard", "talked", "I", false)
  | 4 => ("TalkingPlots$Yard", "learnt", "I", false)
  | _ => ("TalkingPlots$Yard", "this$0", "LTalkingPlots;", true)
def tyX3 : Nat → FieldType := fun k => match k with
  | 0 => .array (.object "TalkingPlots$Person")
  | 1 => .int
  | 2 => .int
  | 3 => .int
  | 4 => .int
  | _ => .object "TalkingPlots"
abbrev wsX30 : List Cond := u_ws RX3 TX3 6
theorem nmX3 : ∀ a, a < 6 → ∀ b, b < 6 → a ≠ b → (TX3 a).2.1 ≠ (TX3 b).2.1 := by decide +kernel
theorem tyX3_ok : ∀ k, k < 6 → parseFieldDescriptor (TX3 k).2.2.1 = some (tyX3 k) := by decide +kernel
abbrev cX3_init : ByteArray := prog_18_method_1_code
def yX3_init : MethodName := ⟨RX3, "<init>", "(LTalkingPlots;)V"⟩
def dkwX3_init_1 : List UInt8 := [162, 0, 22, 42, 180, 0, 17, 28, 187, 0, 15, 89, 183, 0, 21, 83, 132, 2, 1, 167, 255, 234, 177]
abbrev dktX3_init_1 : List UInt8 := dkwX3_init_1 ++ []
def dkwX3_init_0 : List UInt8 := [42, 43, 181, 0, 3, 42, 183, 0, 9, 42, 16, 16, 189, 0, 15, 181, 0, 17, 3, 61, 28, 16, 16]
abbrev dktX3_init_0 : List UInt8 := dkwX3_init_0 ++ dktX3_init_1
theorem dksX3_init_0 : cX3_init.data.toList.drop 0 = dktX3_init_0 := by decide +kernel
theorem dksX3_init_1 : cX3_init.data.toList.drop 23 = dktX3_init_1 := dk_seg dksX3_init_0 23 rfl rfl
theorem dX3_init_0 : decode cX3_init 0 = .ok (.aload_n 0, 1) := dk_42 (dk_at dksX3_init_0 0 rfl rfl)
theorem dX3_init_1 : decode cX3_init 1 = .ok (.aload_n 1, 1) := dk_43 (dk_at dksX3_init_0 1 rfl rfl)
theorem dX3_init_2 : decode cX3_init 2 = .ok (.putfield 3, 3) := dk_181 0 3 (dk_at dksX3_init_0 2 rfl rfl)
theorem dX3_init_5 : decode cX3_init 5 = .ok (.aload_n 0, 1) := dk_42 (dk_at dksX3_init_0 5 rfl rfl)
theorem dX3_init_6 : decode cX3_init 6 = .ok (.invokespecial 9, 3) := dk_183 0 9 (dk_at dksX3_init_0 6 rfl rfl)
theorem dX3_init_9 : decode cX3_init 9 = .ok (.aload_n 0, 1) := dk_42 (dk_at dksX3_init_0 9 rfl rfl)
theorem dX3_init_10 : decode cX3_init 10 = .ok (.bipush 16, 2) := dk_16 16 (dk_at dksX3_init_0 10 rfl rfl)
theorem dX3_init_12 : decode cX3_init 12 = .ok (.anewarray 15, 3) := dk_189 0 15 (dk_at dksX3_init_0 12 rfl rfl)
theorem dX3_init_15 : decode cX3_init 15 = .ok (.putfield 17, 3) := dk_181 0 17 (dk_at dksX3_init_0 15 rfl rfl)
theorem dX3_init_18 : decode cX3_init 18 = .ok (.iconst 0, 1) := dk_3 (dk_at dksX3_init_0 18 rfl rfl)
theorem dX3_init_19 : decode cX3_init 19 = .ok (.istore_n 2, 1) := dk_61 (dk_at dksX3_init_0 19 rfl rfl)
theorem dX3_init_20 : decode cX3_init 20 = .ok (.iload_n 2, 1) := dk_28 (dk_at dksX3_init_0 20 rfl rfl)
theorem dX3_init_21 : decode cX3_init 21 = .ok (.bipush 16, 2) := dk_16 16 (dk_at dksX3_init_0 21 rfl rfl)
theorem dX3_init_23 : decode cX3_init 23 = .ok (.if_icmp .ge 22, 3) := dk_162 0 22 (dk_at dksX3_init_1 0 rfl rfl)
theorem dX3_init_26 : decode cX3_init 26 = .ok (.aload_n 0, 1) := dk_42 (dk_at dksX3_init_1 3 rfl rfl)
theorem dX3_init_27 : decode cX3_init 27 = .ok (.getfield 17, 3) := dk_180 0 17 (dk_at dksX3_init_1 4 rfl rfl)
theorem dX3_init_30 : decode cX3_init 30 = .ok (.iload_n 2, 1) := dk_28 (dk_at dksX3_init_1 7 rfl rfl)
theorem dX3_init_31 : decode cX3_init 31 = .ok (.new 15, 3) := dk_187 0 15 (dk_at dksX3_init_1 8 rfl rfl)
theorem dX3_init_34 : decode cX3_init 34 = .ok (.dup, 1) := dk_89 (dk_at dksX3_init_1 11 rfl rfl)
theorem dX3_init_35 : decode cX3_init 35 = .ok (.invokespecial 21, 3) := dk_183 0 21 (dk_at dksX3_init_1 12 rfl rfl)
theorem dX3_init_38 : decode cX3_init 38 = .ok (.aastore, 1) := dk_83 (dk_at dksX3_init_1 15 rfl rfl)
theorem dX3_init_39 : decode cX3_init 39 = .ok (.iinc 2 1, 3) := dk_132 2 1 (dk_at dksX3_init_1 16 rfl rfl)
theorem dX3_init_42 : decode cX3_init 42 = .ok (.goto (-22), 3) := dk_167 255 234 (dk_at dksX3_init_1 19 rfl rfl)
theorem dX3_init_45 : decode cX3_init 45 = .ok (.return_, 1) := dk_177 (dk_at dksX3_init_1 22 rfl rfl)
abbrev cX3_takes : ByteArray := prog_18_method_2_code
def yX3_takes : MethodName := ⟨RX3, "takes", "(LTalkingPlots$Yard;)LTalkingPlots$Yard;"⟩
def dkwX3_takes_1 : List UInt8 := [132, 2, 1, 167, 255, 232, 42, 43, 180, 0, 26, 181, 0, 26, 42, 43, 180, 0, 30, 181, 0, 30, 42, 176]
abbrev dktX3_takes_1 : List UInt8 := dkwX3_takes_1 ++ []
def dkwX3_takes_0 : List UInt8 := [3, 61, 28, 16, 16, 162, 0, 24, 42, 180, 0, 17, 28, 50, 43, 180, 0, 17, 28, 50, 182, 0, 22]
abbrev dktX3_takes_0 : List UInt8 := dkwX3_takes_0 ++ dktX3_takes_1
theorem dksX3_takes_0 : cX3_takes.data.toList.drop 0 = dktX3_takes_0 := by decide +kernel
theorem dksX3_takes_1 : cX3_takes.data.toList.drop 23 = dktX3_takes_1 := dk_seg dksX3_takes_0 23 rfl rfl
theorem dX3_takes_0 : decode cX3_takes 0 = .ok (.iconst 0, 1) := dk_3 (dk_at dksX3_takes_0 0 rfl rfl)
theorem dX3_takes_1 : decode cX3_takes 1 = .ok (.istore_n 2, 1) := dk_61 (dk_at dksX3_takes_0 1 rfl rfl)
theorem dX3_takes_2 : decode cX3_takes 2 = .ok (.iload_n 2, 1) := dk_28 (dk_at dksX3_takes_0 2 rfl rfl)
theorem dX3_takes_3 : decode cX3_takes 3 = .ok (.bipush 16, 2) := dk_16 16 (dk_at dksX3_takes_0 3 rfl rfl)
theorem dX3_takes_5 : decode cX3_takes 5 = .ok (.if_icmp .ge 24, 3) := dk_162 0 24 (dk_at dksX3_takes_0 5 rfl rfl)
theorem dX3_takes_8 : decode cX3_takes 8 = .ok (.aload_n 0, 1) := dk_42 (dk_at dksX3_takes_0 8 rfl rfl)
theorem dX3_takes_9 : decode cX3_takes 9 = .ok (.getfield 17, 3) := dk_180 0 17 (dk_at dksX3_takes_0 9 rfl rfl)
theorem dX3_takes_12 : decode cX3_takes 12 = .ok (.iload_n 2, 1) := dk_28 (dk_at dksX3_takes_0 12 rfl rfl)
theorem dX3_takes_13 : decode cX3_takes 13 = .ok (.aaload, 1) := dk_50 (dk_at dksX3_takes_0 13 rfl rfl)
theorem dX3_takes_14 : decode cX3_takes 14 = .ok (.aload_n 1, 1) := dk_43 (dk_at dksX3_takes_0 14 rfl rfl)
theorem dX3_takes_15 : decode cX3_takes 15 = .ok (.getfield 17, 3) := dk_180 0 17 (dk_at dksX3_takes_0 15 rfl rfl)
theorem dX3_takes_18 : decode cX3_takes 18 = .ok (.iload_n 2, 1) := dk_28 (dk_at dksX3_takes_0 18 rfl rfl)
theorem dX3_takes_19 : decode cX3_takes 19 = .ok (.aaload, 1) := dk_50 (dk_at dksX3_takes_0 19 rfl rfl)
theorem dX3_takes_20 : decode cX3_takes 20 = .ok (.invokevirtual 22, 3) := dk_182 0 22 (dk_at dksX3_takes_0 20 rfl rfl)
theorem dX3_takes_23 : decode cX3_takes 23 = .ok (.iinc 2 1, 3) := dk_132 2 1 (dk_at dksX3_takes_1 0 rfl rfl)
theorem dX3_takes_26 : decode cX3_takes 26 = .ok (.goto (-24), 3) := dk_167 255 232 (dk_at dksX3_takes_1 3 rfl rfl)
theorem dX3_takes_29 : decode cX3_takes 29 = .ok (.aload_n 0, 1) := dk_42 (dk_at dksX3_takes_1 6 rfl rfl)
theorem dX3_takes_30 : decode cX3_takes 30 = .ok (.aload_n 1, 1) := dk_43 (dk_at dksX3_takes_1 7 rfl rfl)
theorem dX3_takes_31 : decode cX3_takes 31 = .ok (.getfield 26, 3) := dk_180 0 26 (dk_at dksX3_takes_1 8 rfl rfl)
theorem dX3_takes_34 : decode cX3_takes 34 = .ok (.putfield 26, 3) := dk_181 0 26 (dk_at dksX3_takes_1 11 rfl rfl)
theorem dX3_takes_37 : decode cX3_takes 37 = .ok (.aload_n 0, 1) := dk_42 (dk_at dksX3_takes_1 14 rfl rfl)
theorem dX3_takes_38 : decode cX3_takes 38 = .ok (.aload_n 1, 1) := dk_43 (dk_at dksX3_takes_1 15 rfl rfl)
theorem dX3_takes_39 : decode cX3_takes 39 = .ok (.getfield 30, 3) := dk_180 0 30 (dk_at dksX3_takes_1 16 rfl rfl)
theorem dX3_takes_42 : decode cX3_takes 42 = .ok (.putfield 30, 3) := dk_181 0 30 (dk_at dksX3_takes_1 19 rfl rfl)
theorem dX3_takes_45 : decode cX3_takes 45 = .ok (.aload_n 0, 1) := dk_42 (dk_at dksX3_takes_1 22 rfl rfl)
theorem dX3_takes_46 : decode cX3_takes 46 = .ok (.areturn, 1) := dk_176 (dk_at dksX3_takes_1 23 rfl rfl)
abbrev cX3_whoLiesAt : ByteArray := prog_18_method_3_code
def yX3_whoLiesAt : MethodName := ⟨RX3, "whoLiesAt", "(I)I"⟩
def dkwX3_whoLiesAt_1 : List UInt8 := [28, 50, 180, 0, 37, 27, 160, 0, 5, 28, 172, 132, 2, 1, 167, 255, 220, 2, 172]
abbrev dktX3_whoLiesAt_1 : List UInt8 := dkwX3_whoLiesAt_1 ++ []
def dkwX3_whoLiesAt_0 : List UInt8 := [3, 61, 28, 16, 16, 162, 0, 36, 42, 180, 0, 17, 28, 50, 182, 0, 33, 153, 0, 18, 42, 180, 0, 17]
abbrev dktX3_whoLiesAt_0 : List UInt8 := dkwX3_whoLiesAt_0 ++ dktX3_whoLiesAt_1
theorem dksX3_whoLiesAt_0 : cX3_whoLiesAt.data.toList.drop 0 = dktX3_whoLiesAt_0 := by decide +kernel
theorem dksX3_whoLiesAt_1 : cX3_whoLiesAt.data.toList.drop 24 = dktX3_whoLiesAt_1 := dk_seg dksX3_whoLiesAt_0 24 rfl rfl
theorem dX3_whoLiesAt_0 : decode cX3_whoLiesAt 0 = .ok (.iconst 0, 1) := dk_3 (dk_at dksX3_whoLiesAt_0 0 rfl rfl)
theorem dX3_whoLiesAt_1 : decode cX3_whoLiesAt 1 = .ok (.istore_n 2, 1) := dk_61 (dk_at dksX3_whoLiesAt_0 1 rfl rfl)
theorem dX3_whoLiesAt_2 : decode cX3_whoLiesAt 2 = .ok (.iload_n 2, 1) := dk_28 (dk_at dksX3_whoLiesAt_0 2 rfl rfl)
theorem dX3_whoLiesAt_3 : decode cX3_whoLiesAt 3 = .ok (.bipush 16, 2) := dk_16 16 (dk_at dksX3_whoLiesAt_0 3 rfl rfl)
theorem dX3_whoLiesAt_5 : decode cX3_whoLiesAt 5 = .ok (.if_icmp .ge 36, 3) := dk_162 0 36 (dk_at dksX3_whoLiesAt_0 5 rfl rfl)
theorem dX3_whoLiesAt_8 : decode cX3_whoLiesAt 8 = .ok (.aload_n 0, 1) := dk_42 (dk_at dksX3_whoLiesAt_0 8 rfl rfl)
theorem dX3_whoLiesAt_9 : decode cX3_whoLiesAt 9 = .ok (.getfield 17, 3) := dk_180 0 17 (dk_at dksX3_whoLiesAt_0 9 rfl rfl)
theorem dX3_whoLiesAt_12 : decode cX3_whoLiesAt 12 = .ok (.iload_n 2, 1) := dk_28 (dk_at dksX3_whoLiesAt_0 12 rfl rfl)
theorem dX3_whoLiesAt_13 : decode cX3_whoLiesAt 13 = .ok (.aaload, 1) := dk_50 (dk_at dksX3_whoLiesAt_0 13 rfl rfl)
theorem dX3_whoLiesAt_14 : decode cX3_whoLiesAt 14 = .ok (.invokevirtual 33, 3) := dk_182 0 33 (dk_at dksX3_whoLiesAt_0 14 rfl rfl)
theorem dX3_whoLiesAt_17 : decode cX3_whoLiesAt 17 = .ok (.ifCond .eq 18, 3) := dk_153 0 18 (dk_at dksX3_whoLiesAt_0 17 rfl rfl)
theorem dX3_whoLiesAt_20 : decode cX3_whoLiesAt 20 = .ok (.aload_n 0, 1) := dk_42 (dk_at dksX3_whoLiesAt_0 20 rfl rfl)
theorem dX3_whoLiesAt_21 : decode cX3_whoLiesAt 21 = .ok (.getfield 17, 3) := dk_180 0 17 (dk_at dksX3_whoLiesAt_0 21 rfl rfl)
theorem dX3_whoLiesAt_24 : decode cX3_whoLiesAt 24 = .ok (.iload_n 2, 1) := dk_28 (dk_at dksX3_whoLiesAt_1 0 rfl rfl)
theorem dX3_whoLiesAt_25 : decode cX3_whoLiesAt 25 = .ok (.aaload, 1) := dk_50 (dk_at dksX3_whoLiesAt_1 1 rfl rfl)
theorem dX3_whoLiesAt_26 : decode cX3_whoLiesAt 26 = .ok (.getfield 37, 3) := dk_180 0 37 (dk_at dksX3_whoLiesAt_1 2 rfl rfl)
theorem dX3_whoLiesAt_29 : decode cX3_whoLiesAt 29 = .ok (.iload_n 1, 1) := dk_27 (dk_at dksX3_whoLiesAt_1 5 rfl rfl)
theorem dX3_whoLiesAt_30 : decode cX3_whoLiesAt 30 = .ok (.if_icmp .ne 5, 3) := dk_160 0 5 (dk_at dksX3_whoLiesAt_1 6 rfl rfl)
theorem dX3_whoLiesAt_33 : decode cX3_whoLiesAt 33 = .ok (.iload_n 2, 1) := dk_28 (dk_at dksX3_whoLiesAt_1 9 rfl rfl)
theorem dX3_whoLiesAt_34 : decode cX3_whoLiesAt 34 = .ok (.ireturn, 1) := dk_172 (dk_at dksX3_whoLiesAt_1 10 rfl rfl)
theorem dX3_whoLiesAt_35 : decode cX3_whoLiesAt 35 = .ok (.iinc 2 1, 3) := dk_132 2 1 (dk_at dksX3_whoLiesAt_1 11 rfl rfl)
theorem dX3_whoLiesAt_38 : decode cX3_whoLiesAt 38 = .ok (.goto (-36), 3) := dk_167 255 220 (dk_at dksX3_whoLiesAt_1 14 rfl rfl)
theorem dX3_whoLiesAt_41 : decode cX3_whoLiesAt 41 = .ok (.iconst (-1), 1) := dk_2 (dk_at dksX3_whoLiesAt_1 17 rfl rfl)
theorem dX3_whoLiesAt_42 : decode cX3_whoLiesAt 42 = .ok (.ireturn, 1) := dk_172 (dk_at dksX3_whoLiesAt_1 18 rfl rfl)
abbrev cX3_goes : ByteArray := prog_18_method_14_code
def yX3_goes : MethodName := ⟨RX3, "goes", "(I)LTalkingPlots$Yard;"⟩
def dkwX3_goes_3 : List UInt8 := [180, 0, 26, 4, 96, 181, 0, 26, 132, 2, 1, 167, 255, 185, 42, 176]
abbrev dktX3_goes_3 : List UInt8 := dkwX3_goes_3 ++ []
def dkwX3_goes_2 : List UInt8 := [180, 0, 17, 29, 50, 180, 0, 67, 158, 0, 8, 42, 29, 182, 0, 125, 132, 3, 1, 167, 255, 218, 42, 89]
abbrev dktX3_goes_2 : List UInt8 := dkwX3_goes_2 ++ dktX3_goes_3
def dkwX3_goes_1 : List UInt8 := [162, 0, 62, 3, 62, 29, 16, 16, 162, 0, 38, 42, 180, 0, 17, 29, 50, 182, 0, 33, 153, 0, 20, 42]
abbrev dktX3_goes_1 : List UInt8 := dkwX3_goes_1 ++ dktX3_goes_2
def dkwX3_goes_0 : List UInt8 := [42, 3, 181, 0, 111, 42, 3, 181, 0, 86, 3, 61, 28, 27, 162, 0, 72, 42, 180, 0, 26, 17, 39, 15]
abbrev dktX3_goes_0 : List UInt8 := dkwX3_goes_0 ++ dktX3_goes_1
theorem dksX3_goes_0 : cX3_goes.data.toList.drop 0 = dktX3_goes_0 := by decide +kernel
theorem dksX3_goes_1 : cX3_goes.data.toList.drop 24 = dktX3_goes_1 := dk_seg dksX3_goes_0 24 rfl rfl
theorem dksX3_goes_2 : cX3_goes.data.toList.drop 48 = dktX3_goes_2 := dk_seg dksX3_goes_1 24 rfl rfl
theorem dksX3_goes_3 : cX3_goes.data.toList.drop 72 = dktX3_goes_3 := dk_seg dksX3_goes_2 24 rfl rfl
theorem dX3_goes_0 : decode cX3_goes 0 = .ok (.aload_n 0, 1) := dk_42 (dk_at dksX3_goes_0 0 rfl rfl)
theorem dX3_goes_1 : decode cX3_goes 1 = .ok (.iconst 0, 1) := dk_3 (dk_at dksX3_goes_0 1 rfl rfl)
theorem dX3_goes_2 : decode cX3_goes 2 = .ok (.putfield 111, 3) := dk_181 0 111 (dk_at dksX3_goes_0 2 rfl rfl)
theorem dX3_goes_5 : decode cX3_goes 5 = .ok (.aload_n 0, 1) := dk_42 (dk_at dksX3_goes_0 5 rfl rfl)
theorem dX3_goes_6 : decode cX3_goes 6 = .ok (.iconst 0, 1) := dk_3 (dk_at dksX3_goes_0 6 rfl rfl)
theorem dX3_goes_7 : decode cX3_goes 7 = .ok (.putfield 86, 3) := dk_181 0 86 (dk_at dksX3_goes_0 7 rfl rfl)
theorem dX3_goes_10 : decode cX3_goes 10 = .ok (.iconst 0, 1) := dk_3 (dk_at dksX3_goes_0 10 rfl rfl)
theorem dX3_goes_11 : decode cX3_goes 11 = .ok (.istore_n 2, 1) := dk_61 (dk_at dksX3_goes_0 11 rfl rfl)
theorem dX3_goes_12 : decode cX3_goes 12 = .ok (.iload_n 2, 1) := dk_28 (dk_at dksX3_goes_0 12 rfl rfl)
theorem dX3_goes_13 : decode cX3_goes 13 = .ok (.iload_n 1, 1) := dk_27 (dk_at dksX3_goes_0 13 rfl rfl)
theorem dX3_goes_14 : decode cX3_goes 14 = .ok (.if_icmp .ge 72, 3) := dk_162 0 72 (dk_at dksX3_goes_0 14 rfl rfl)
theorem dX3_goes_17 : decode cX3_goes 17 = .ok (.aload_n 0, 1) := dk_42 (dk_at dksX3_goes_0 17 rfl rfl)
theorem dX3_goes_18 : decode cX3_goes 18 = .ok (.getfield 26, 3) := dk_180 0 26 (dk_at dksX3_goes_0 18 rfl rfl)
theorem dX3_goes_21 : decode cX3_goes 21 = .ok (.sipush 9999, 3) := dk_17 39 15 (dk_at dksX3_goes_0 21 rfl rfl)
theorem dX3_goes_24 : decode cX3_goes 24 = .ok (.if_icmp .ge 62, 3) := dk_162 0 62 (dk_at dksX3_goes_1 0 rfl rfl)
theorem dX3_goes_27 : decode cX3_goes 27 = .ok (.iconst 0, 1) := dk_3 (dk_at dksX3_goes_1 3 rfl rfl)
theorem dX3_goes_28 : decode cX3_goes 28 = .ok (.istore_n 3, 1) := dk_62 (dk_at dksX3_goes_1 4 rfl rfl)
theorem dX3_goes_29 : decode cX3_goes 29 = .ok (.iload_n 3, 1) := dk_29 (dk_at dksX3_goes_1 5 rfl rfl)
theorem dX3_goes_30 : decode cX3_goes 30 = .ok (.bipush 16, 2) := dk_16 16 (dk_at dksX3_goes_1 6 rfl rfl)
theorem dX3_goes_32 : decode cX3_goes 32 = .ok (.if_icmp .ge 38, 3) := dk_162 0 38 (dk_at dksX3_goes_1 8 rfl rfl)
theorem dX3_goes_35 : decode cX3_goes 35 = .ok (.aload_n 0, 1) := dk_42 (dk_at dksX3_goes_1 11 rfl rfl)
theorem dX3_goes_36 : decode cX3_goes 36 = .ok (.getfield 17, 3) := dk_180 0 17 (dk_at dksX3_goes_1 12 rfl rfl)
theorem dX3_goes_39 : decode cX3_goes 39 = .ok (.iload_n 3, 1) := dk_29 (dk_at dksX3_goes_1 15 rfl rfl)
theorem dX3_goes_40 : decode cX3_goes 40 = .ok (.aaload, 1) := dk_50 (dk_at dksX3_goes_1 16 rfl rfl)
theorem dX3_goes_41 : decode cX3_goes 41 = .ok (.invokevirtual 33, 3) := dk_182 0 33 (dk_at dksX3_goes_1 17 rfl rfl)
theorem dX3_goes_44 : decode cX3_goes 44 = .ok (.ifCond .eq 20, 3) := dk_153 0 20 (dk_at dksX3_goes_1 20 rfl rfl)
theorem dX3_goes_47 : decode cX3_goes 47 = .ok (.aload_n 0, 1) := dk_42 (dk_at dksX3_goes_1 23 rfl rfl)
theorem dX3_goes_48 : decode cX3_goes 48 = .ok (.getfield 17, 3) := dk_180 0 17 (dk_at dksX3_goes_2 0 rfl rfl)
theorem dX3_goes_51 : decode cX3_goes 51 = .ok (.iload_n 3, 1) := dk_29 (dk_at dksX3_goes_2 3 rfl rfl)
theorem dX3_goes_52 : decode cX3_goes 52 = .ok (.aaload, 1) := dk_50 (dk_at dksX3_goes_2 4 rfl rfl)
theorem dX3_goes_53 : decode cX3_goes 53 = .ok (.getfield 67, 3) := dk_180 0 67 (dk_at dksX3_goes_2 5 rfl rfl)
theorem dX3_goes_56 : decode cX3_goes 56 = .ok (.ifCond .le 8, 3) := dk_158 0 8 (dk_at dksX3_goes_2 8 rfl rfl)
theorem dX3_goes_59 : decode cX3_goes 59 = .ok (.aload_n 0, 1) := dk_42 (dk_at dksX3_goes_2 11 rfl rfl)
theorem dX3_goes_60 : decode cX3_goes 60 = .ok (.iload_n 3, 1) := dk_29 (dk_at dksX3_goes_2 12 rfl rfl)
theorem dX3_goes_61 : decode cX3_goes 61 = .ok (.invokevirtual 125, 3) := dk_182 0 125 (dk_at dksX3_goes_2 13 rfl rfl)
theorem dX3_goes_64 : decode cX3_goes 64 = .ok (.iinc 3 1, 3) := dk_132 3 1 (dk_at dksX3_goes_2 16 rfl rfl)
theorem dX3_goes_67 : decode cX3_goes 67 = .ok (.goto (-38), 3) := dk_167 255 218 (dk_at dksX3_goes_2 19 rfl rfl)
theorem dX3_goes_70 : decode cX3_goes 70 = .ok (.aload_n 0, 1) := dk_42 (dk_at dksX3_goes_2 22 rfl rfl)
theorem dX3_goes_71 : decode cX3_goes 71 = .ok (.dup, 1) := dk_89 (dk_at dksX3_goes_2 23 rfl rfl)
theorem dX3_goes_72 : decode cX3_goes 72 = .ok (.getfield 26, 3) := dk_180 0 26 (dk_at dksX3_goes_3 0 rfl rfl)
theorem dX3_goes_75 : decode cX3_goes 75 = .ok (.iconst 1, 1) := dk_4 (dk_at dksX3_goes_3 3 rfl rfl)
theorem dX3_goes_76 : decode cX3_goes 76 = .ok (.iadd, 1) := dk_96 (dk_at dksX3_goes_3 4 rfl rfl)
theorem dX3_goes_77 : decode cX3_goes 77 = .ok (.putfield 26, 3) := dk_181 0 26 (dk_at dksX3_goes_3 5 rfl rfl)
theorem dX3_goes_80 : decode cX3_goes 80 = .ok (.iinc 2 1, 3) := dk_132 2 1 (dk_at dksX3_goes_3 8 rfl rfl)
theorem dX3_goes_83 : decode cX3_goes 83 = .ok (.goto (-71), 3) := dk_167 255 185 (dk_at dksX3_goes_3 11 rfl rfl)
theorem dX3_goes_86 : decode cX3_goes 86 = .ok (.aload_n 0, 1) := dk_42 (dk_at dksX3_goes_3 14 rfl rfl)
theorem dX3_goes_87 : decode cX3_goes 87 = .ok (.areturn, 1) := dk_176 (dk_at dksX3_goes_3 15 rfl rfl)
abbrev cX3_nightOf : ByteArray := prog_18_method_13_code
def yX3_nightOf : MethodName := ⟨RX3, "nightOf", "(I)V"⟩
def dkwX3_nightOf_8 : List UInt8 := [44, 44, 180, 0, 67, 21, 6, 96, 21, 7, 100, 16, 99, 184, 0, 122, 181, 0, 67, 177]
abbrev dktX3_nightOf_8 : List UInt8 := dkwX3_nightOf_8 ++ []
def dkwX3_nightOf_7 : List UInt8 := [181, 0, 111, 42, 182, 0, 114, 21, 5, 162, 0, 15, 42, 44, 42, 180, 0, 17, 21, 4, 50, 182, 0, 118]
abbrev dktX3_nightOf_7 : List UInt8 := dkwX3_nightOf_7 ++ dktX3_nightOf_8
def dkwX3_nightOf_6 : List UInt8 := [16, 98, 16, 99, 182, 0, 80, 54, 7, 21, 4, 2, 159, 0, 34, 42, 89, 180, 0, 111, 4, 96]
abbrev dktX3_nightOf_6 : List UInt8 := dkwX3_nightOf_6 ++ dktX3_nightOf_7
def dkwX3_nightOf_5 : List UInt8 := [16, 10, 182, 0, 80, 54, 5, 42, 180, 0, 3, 16, 103, 16, 99, 182, 0, 80, 54, 6, 42, 180, 0, 3]
abbrev dktX3_nightOf_5 : List UInt8 := dkwX3_nightOf_5 ++ dktX3_nightOf_6
def dkwX3_nightOf_4 : List UInt8 := [180, 0, 70, 21, 4, 44, 42, 180, 0, 17, 21, 4, 50, 182, 0, 74, 87, 42, 180, 0, 3, 16, 104]
abbrev dktX3_nightOf_4 : List UInt8 := dkwX3_nightOf_4 ++ dktX3_nightOf_5
def dkwX3_nightOf_3 : List UInt8 := [180, 0, 67, 29, 42, 180, 0, 26, 182, 0, 98, 87, 21, 4, 2, 159, 0, 24, 42, 180, 0, 3]
abbrev dktX3_nightOf_3 : List UInt8 := dkwX3_nightOf_3 ++ dktX3_nightOf_4
def dkwX3_nightOf_2 : List UInt8 := [182, 0, 102, 153, 0, 4, 177, 42, 27, 182, 0, 108, 54, 4, 42, 180, 0, 3, 180, 0, 70, 27, 44]
abbrev dktX3_nightOf_2 : List UInt8 := dkwX3_nightOf_2 ++ dktX3_nightOf_3
def dkwX3_nightOf_1 : List UInt8 := [16, 113, 42, 180, 0, 3, 180, 0, 70, 27, 44, 180, 0, 67, 29, 42, 180, 0, 26, 182, 0, 98]
abbrev dktX3_nightOf_1 : List UInt8 := dkwX3_nightOf_1 ++ dktX3_nightOf_2
def dkwX3_nightOf_0 : List UInt8 := [42, 180, 0, 17, 27, 50, 77, 42, 27, 182, 0, 59, 184, 0, 89, 62, 42, 180, 0, 3, 180, 0, 94]
abbrev dktX3_nightOf_0 : List UInt8 := dkwX3_nightOf_0 ++ dktX3_nightOf_1
theorem dksX3_nightOf_0 : cX3_nightOf.data.toList.drop 0 = dktX3_nightOf_0 := by decide +kernel
theorem dksX3_nightOf_1 : cX3_nightOf.data.toList.drop 23 = dktX3_nightOf_1 := dk_seg dksX3_nightOf_0 23 rfl rfl
theorem dksX3_nightOf_2 : cX3_nightOf.data.toList.drop 45 = dktX3_nightOf_2 := dk_seg dksX3_nightOf_1 22 rfl rfl
theorem dksX3_nightOf_3 : cX3_nightOf.data.toList.drop 68 = dktX3_nightOf_3 := dk_seg dksX3_nightOf_2 23 rfl rfl
theorem dksX3_nightOf_4 : cX3_nightOf.data.toList.drop 90 = dktX3_nightOf_4 := dk_seg dksX3_nightOf_3 22 rfl rfl
theorem dksX3_nightOf_5 : cX3_nightOf.data.toList.drop 113 = dktX3_nightOf_5 := dk_seg dksX3_nightOf_4 23 rfl rfl
theorem dksX3_nightOf_6 : cX3_nightOf.data.toList.drop 137 = dktX3_nightOf_6 := dk_seg dksX3_nightOf_5 24 rfl rfl
theorem dksX3_nightOf_7 : cX3_nightOf.data.toList.drop 159 = dktX3_nightOf_7 := dk_seg dksX3_nightOf_6 22 rfl rfl
theorem dksX3_nightOf_8 : cX3_nightOf.data.toList.drop 183 = dktX3_nightOf_8 := dk_seg dksX3_nightOf_7 24 rfl rfl
theorem dX3_nightOf_0 : decode cX3_nightOf 0 = .ok (.aload_n 0, 1) := dk_42 (dk_at dksX3_nightOf_0 0 rfl rfl)
theorem dX3_nightOf_1 : decode cX3_nightOf 1 = .ok (.getfield 17, 3) := dk_180 0 17 (dk_at dksX3_nightOf_0 1 rfl rfl)
theorem dX3_nightOf_4 : decode cX3_nightOf 4 = .ok (.iload_n 1, 1) := dk_27 (dk_at dksX3_nightOf_0 4 rfl rfl)
theorem dX3_nightOf_5 : decode cX3_nightOf 5 = .ok (.aaload, 1) := dk_50 (dk_at dksX3_nightOf_0 5 rfl rfl)
theorem dX3_nightOf_6 : decode cX3_nightOf 6 = .ok (.astore_n 2, 1) := dk_77 (dk_at dksX3_nightOf_0 6 rfl rfl)
theorem dX3_nightOf_7 : decode cX3_nightOf 7 = .ok (.aload_n 0, 1) := dk_42 (dk_at dksX3_nightOf_0 7 rfl rfl)
theorem dX3_nightOf_8 : decode cX3_nightOf 8 = .ok (.iload_n 1, 1) := dk_27 (dk_at dksX3_nightOf_0 8 rfl rfl)
theorem dX3_nightOf_9 : decode cX3_nightOf 9 = .ok (.invokevirtual 59, 3) := dk_182 0 59 (dk_at dksX3_nightOf_0 9 rfl rfl)
theorem dX3_nightOf_12 : decode cX3_nightOf 12 = .ok (.invokestatic 89, 3) := dk_184 0 89 (dk_at dksX3_nightOf_0 12 rfl rfl)
theorem dX3_nightOf_15 : decode cX3_nightOf 15 = .ok (.istore_n 3, 1) := dk_62 (dk_at dksX3_nightOf_0 15 rfl rfl)
theorem dX3_nightOf_16 : decode cX3_nightOf 16 = .ok (.aload_n 0, 1) := dk_42 (dk_at dksX3_nightOf_0 16 rfl rfl)
theorem dX3_nightOf_17 : decode cX3_nightOf 17 = .ok (.getfield 3, 3) := dk_180 0 3 (dk_at dksX3_nightOf_0 17 rfl rfl)
theorem dX3_nightOf_20 : decode cX3_nightOf 20 = .ok (.getfield 94, 3) := dk_180 0 94 (dk_at dksX3_nightOf_0 20 rfl rfl)
theorem dX3_nightOf_23 : decode cX3_nightOf 23 = .ok (.bipush 113, 2) := dk_16 113 (dk_at dksX3_nightOf_1 0 rfl rfl)
theorem dX3_nightOf_25 : decode cX3_nightOf 25 = .ok (.aload_n 0, 1) := dk_42 (dk_at dksX3_nightOf_1 2 rfl rfl)
theorem dX3_nightOf_26 : decode cX3_nightOf 26 = .ok (.getfield 3, 3) := dk_180 0 3 (dk_at dksX3_nightOf_1 3 rfl rfl)
theorem dX3_nightOf_29 : decode cX3_nightOf 29 = .ok (.getfield 70, 3) := dk_180 0 70 (dk_at dksX3_nightOf_1 6 rfl rfl)
theorem dX3_nightOf_32 : decode cX3_nightOf 32 = .ok (.iload_n 1, 1) := dk_27 (dk_at dksX3_nightOf_1 9 rfl rfl)
theorem dX3_nightOf_33 : decode cX3_nightOf 33 = .ok (.aload_n 2, 1) := dk_44 (dk_at dksX3_nightOf_1 10 rfl rfl)
theorem dX3_nightOf_34 : decode cX3_nightOf 34 = .ok (.getfield 67, 3) := dk_180 0 67 (dk_at dksX3_nightOf_1 11 rfl rfl)
theorem dX3_nightOf_37 : decode cX3_nightOf 37 = .ok (.iload_n 3, 1) := dk_29 (dk_at dksX3_nightOf_1 14 rfl rfl)
theorem dX3_nightOf_38 : decode cX3_nightOf 38 = .ok (.aload_n 0, 1) := dk_42 (dk_at dksX3_nightOf_1 15 rfl rfl)
theorem dX3_nightOf_39 : decode cX3_nightOf 39 = .ok (.getfield 26, 3) := dk_180 0 26 (dk_at dksX3_nightOf_1 16 rfl rfl)
theorem dX3_nightOf_42 : decode cX3_nightOf 42 = .ok (.invokevirtual 98, 3) := dk_182 0 98 (dk_at dksX3_nightOf_1 19 rfl rfl)
theorem dX3_nightOf_45 : decode cX3_nightOf 45 = .ok (.invokevirtual 102, 3) := dk_182 0 102 (dk_at dksX3_nightOf_2 0 rfl rfl)
theorem dX3_nightOf_48 : decode cX3_nightOf 48 = .ok (.ifCond .eq 4, 3) := dk_153 0 4 (dk_at dksX3_nightOf_2 3 rfl rfl)
theorem dX3_nightOf_51 : decode cX3_nightOf 51 = .ok (.return_, 1) := dk_177 (dk_at dksX3_nightOf_2 6 rfl rfl)
theorem dX3_nightOf_52 : decode cX3_nightOf 52 = .ok (.aload_n 0, 1) := dk_42 (dk_at dksX3_nightOf_2 7 rfl rfl)
theorem dX3_nightOf_53 : decode cX3_nightOf 53 = .ok (.iload_n 1, 1) := dk_27 (dk_at dksX3_nightOf_2 8 rfl rfl)
theorem dX3_nightOf_54 : decode cX3_nightOf 54 = .ok (.invokevirtual 108, 3) := dk_182 0 108 (dk_at dksX3_nightOf_2 9 rfl rfl)
theorem dX3_nightOf_57 : decode cX3_nightOf 57 = .ok (.istore 4, 2) := dk_54 4 (dk_at dksX3_nightOf_2 12 rfl rfl)
theorem dX3_nightOf_59 : decode cX3_nightOf 59 = .ok (.aload_n 0, 1) := dk_42 (dk_at dksX3_nightOf_2 14 rfl rfl)
theorem dX3_nightOf_60 : decode cX3_nightOf 60 = .ok (.getfield 3, 3) := dk_180 0 3 (dk_at dksX3_nightOf_2 15 rfl rfl)
theorem dX3_nightOf_63 : decode cX3_nightOf 63 = .ok (.getfield 70, 3) := dk_180 0 70 (dk_at dksX3_nightOf_2 18 rfl rfl)
theorem dX3_nightOf_66 : decode cX3_nightOf 66 = .ok (.iload_n 1, 1) := dk_27 (dk_at dksX3_nightOf_2 21 rfl rfl)
theorem dX3_nightOf_67 : decode cX3_nightOf 67 = .ok (.aload_n 2, 1) := dk_44 (dk_at dksX3_nightOf_2 22 rfl rfl)
theorem dX3_nightOf_68 : decode cX3_nightOf 68 = .ok (.getfield 67, 3) := dk_180 0 67 (dk_at dksX3_nightOf_3 0 rfl rfl)
theorem dX3_nightOf_71 : decode cX3_nightOf 71 = .ok (.iload_n 3, 1) := dk_29 (dk_at dksX3_nightOf_3 3 rfl rfl)
theorem dX3_nightOf_72 : decode cX3_nightOf 72 = .ok (.aload_n 0, 1) := dk_42 (dk_at dksX3_nightOf_3 4 rfl rfl)
theorem dX3_nightOf_73 : decode cX3_nightOf 73 = .ok (.getfield 26, 3) := dk_180 0 26 (dk_at dksX3_nightOf_3 5 rfl rfl)
theorem dX3_nightOf_76 : decode cX3_nightOf 76 = .ok (.invokevirtual 98, 3) := dk_182 0 98 (dk_at dksX3_nightOf_3 8 rfl rfl)
theorem dX3_nightOf_79 : decode cX3_nightOf 79 = .ok (.pop, 1) := dk_87 (dk_at dksX3_nightOf_3 11 rfl rfl)
theorem dX3_nightOf_80 : decode cX3_nightOf 80 = .ok (.iload 4, 2) := dk_21 4 (dk_at dksX3_nightOf_3 12 rfl rfl)
theorem dX3_nightOf_82 : decode cX3_nightOf 82 = .ok (.iconst (-1), 1) := dk_2 (dk_at dksX3_nightOf_3 14 rfl rfl)
theorem dX3_nightOf_83 : decode cX3_nightOf 83 = .ok (.if_icmp .eq 24, 3) := dk_159 0 24 (dk_at dksX3_nightOf_3 15 rfl rfl)
theorem dX3_nightOf_86 : decode cX3_nightOf 86 = .ok (.aload_n 0, 1) := dk_42 (dk_at dksX3_nightOf_3 18 rfl rfl)
theorem dX3_nightOf_87 : decode cX3_nightOf 87 = .ok (.getfield 3, 3) := dk_180 0 3 (dk_at dksX3_nightOf_3 19 rfl rfl)
theorem dX3_nightOf_90 : decode cX3_nightOf 90 = .ok (.getfield 70, 3) := dk_180 0 70 (dk_at dksX3_nightOf_4 0 rfl rfl)
theorem dX3_nightOf_93 : decode cX3_nightOf 93 = .ok (.iload 4, 2) := dk_21 4 (dk_at dksX3_nightOf_4 3 rfl rfl)
theorem dX3_nightOf_95 : decode cX3_nightOf 95 = .ok (.aload_n 2, 1) := dk_44 (dk_at dksX3_nightOf_4 5 rfl rfl)
theorem dX3_nightOf_96 : decode cX3_nightOf 96 = .ok (.aload_n 0, 1) := dk_42 (dk_at dksX3_nightOf_4 6 rfl rfl)
theorem dX3_nightOf_97 : decode cX3_nightOf 97 = .ok (.getfield 17, 3) := dk_180 0 17 (dk_at dksX3_nightOf_4 7 rfl rfl)
theorem dX3_nightOf_100 : decode cX3_nightOf 100 = .ok (.iload 4, 2) := dk_21 4 (dk_at dksX3_nightOf_4 10 rfl rfl)
theorem dX3_nightOf_102 : decode cX3_nightOf 102 = .ok (.aaload, 1) := dk_50 (dk_at dksX3_nightOf_4 12 rfl rfl)
theorem dX3_nightOf_103 : decode cX3_nightOf 103 = .ok (.invokevirtual 74, 3) := dk_182 0 74 (dk_at dksX3_nightOf_4 13 rfl rfl)
theorem dX3_nightOf_106 : decode cX3_nightOf 106 = .ok (.pop, 1) := dk_87 (dk_at dksX3_nightOf_4 16 rfl rfl)
theorem dX3_nightOf_107 : decode cX3_nightOf 107 = .ok (.aload_n 0, 1) := dk_42 (dk_at dksX3_nightOf_4 17 rfl rfl)
theorem dX3_nightOf_108 : decode cX3_nightOf 108 = .ok (.getfield 3, 3) := dk_180 0 3 (dk_at dksX3_nightOf_4 18 rfl rfl)
theorem dX3_nightOf_111 : decode cX3_nightOf 111 = .ok (.bipush 104, 2) := dk_16 104 (dk_at dksX3_nightOf_4 21 rfl rfl)
theorem dX3_nightOf_113 : decode cX3_nightOf 113 = .ok (.bipush 10, 2) := dk_16 10 (dk_at dksX3_nightOf_5 0 rfl rfl)
theorem dX3_nightOf_115 : decode cX3_nightOf 115 = .ok (.invokevirtual 80, 3) := dk_182 0 80 (dk_at dksX3_nightOf_5 2 rfl rfl)
theorem dX3_nightOf_118 : decode cX3_nightOf 118 = .ok (.istore 5, 2) := dk_54 5 (dk_at dksX3_nightOf_5 5 rfl rfl)
theorem dX3_nightOf_120 : decode cX3_nightOf 120 = .ok (.aload_n 0, 1) := dk_42 (dk_at dksX3_nightOf_5 7 rfl rfl)
theorem dX3_nightOf_121 : decode cX3_nightOf 121 = .ok (.getfield 3, 3) := dk_180 0 3 (dk_at dksX3_nightOf_5 8 rfl rfl)
theorem dX3_nightOf_124 : decode cX3_nightOf 124 = .ok (.bipush 103, 2) := dk_16 103 (dk_at dksX3_nightOf_5 11 rfl rfl)
theorem dX3_nightOf_126 : decode cX3_nightOf 126 = .ok (.bipush 99, 2) := dk_16 99 (dk_at dksX3_nightOf_5 13 rfl rfl)
theorem dX3_nightOf_128 : decode cX3_nightOf 128 = .ok (.invokevirtual 80, 3) := dk_182 0 80 (dk_at dksX3_nightOf_5 15 rfl rfl)
theorem dX3_nightOf_131 : decode cX3_nightOf 131 = .ok (.istore 6, 2) := dk_54 6 (dk_at dksX3_nightOf_5 18 rfl rfl)
theorem dX3_nightOf_133 : decode cX3_nightOf 133 = .ok (.aload_n 0, 1) := dk_42 (dk_at dksX3_nightOf_5 20 rfl rfl)
theorem dX3_nightOf_134 : decode cX3_nightOf 134 = .ok (.getfield 3, 3) := dk_180 0 3 (dk_at dksX3_nightOf_5 21 rfl rfl)
theorem dX3_nightOf_137 : decode cX3_nightOf 137 = .ok (.bipush 98, 2) := dk_16 98 (dk_at dksX3_nightOf_6 0 rfl rfl)
theorem dX3_nightOf_139 : decode cX3_nightOf 139 = .ok (.bipush 99, 2) := dk_16 99 (dk_at dksX3_nightOf_6 2 rfl rfl)
theorem dX3_nightOf_141 : decode cX3_nightOf 141 = .ok (.invokevirtual 80, 3) := dk_182 0 80 (dk_at dksX3_nightOf_6 4 rfl rfl)
theorem dX3_nightOf_144 : decode cX3_nightOf 144 = .ok (.istore 7, 2) := dk_54 7 (dk_at dksX3_nightOf_6 7 rfl rfl)
theorem dX3_nightOf_146 : decode cX3_nightOf 146 = .ok (.iload 4, 2) := dk_21 4 (dk_at dksX3_nightOf_6 9 rfl rfl)
theorem dX3_nightOf_148 : decode cX3_nightOf 148 = .ok (.iconst (-1), 1) := dk_2 (dk_at dksX3_nightOf_6 11 rfl rfl)
theorem dX3_nightOf_149 : decode cX3_nightOf 149 = .ok (.if_icmp .eq 34, 3) := dk_159 0 34 (dk_at dksX3_nightOf_6 12 rfl rfl)
theorem dX3_nightOf_152 : decode cX3_nightOf 152 = .ok (.aload_n 0, 1) := dk_42 (dk_at dksX3_nightOf_6 15 rfl rfl)
theorem dX3_nightOf_153 : decode cX3_nightOf 153 = .ok (.dup, 1) := dk_89 (dk_at dksX3_nightOf_6 16 rfl rfl)
theorem dX3_nightOf_154 : decode cX3_nightOf 154 = .ok (.getfield 111, 3) := dk_180 0 111 (dk_at dksX3_nightOf_6 17 rfl rfl)
theorem dX3_nightOf_157 : decode cX3_nightOf 157 = .ok (.iconst 1, 1) := dk_4 (dk_at dksX3_nightOf_6 20 rfl rfl)
theorem dX3_nightOf_158 : decode cX3_nightOf 158 = .ok (.iadd, 1) := dk_96 (dk_at dksX3_nightOf_6 21 rfl rfl)
theorem dX3_nightOf_159 : decode cX3_nightOf 159 = .ok (.putfield 111, 3) := dk_181 0 111 (dk_at dksX3_nightOf_7 0 rfl rfl)
theorem dX3_nightOf_162 : decode cX3_nightOf 162 = .ok (.aload_n 0, 1) := dk_42 (dk_at dksX3_nightOf_7 3 rfl rfl)
theorem dX3_nightOf_163 : decode cX3_nightOf 163 = .ok (.invokevirtual 114, 3) := dk_182 0 114 (dk_at dksX3_nightOf_7 4 rfl rfl)
theorem dX3_nightOf_166 : decode cX3_nightOf 166 = .ok (.iload 5, 2) := dk_21 5 (dk_at dksX3_nightOf_7 7 rfl rfl)
theorem dX3_nightOf_168 : decode cX3_nightOf 168 = .ok (.if_icmp .ge 15, 3) := dk_162 0 15 (dk_at dksX3_nightOf_7 9 rfl rfl)
theorem dX3_nightOf_171 : decode cX3_nightOf 171 = .ok (.aload_n 0, 1) := dk_42 (dk_at dksX3_nightOf_7 12 rfl rfl)
theorem dX3_nightOf_172 : decode cX3_nightOf 172 = .ok (.aload_n 2, 1) := dk_44 (dk_at dksX3_nightOf_7 13 rfl rfl)
theorem dX3_nightOf_173 : decode cX3_nightOf 173 = .ok (.aload_n 0, 1) := dk_42 (dk_at dksX3_nightOf_7 14 rfl rfl)
theorem dX3_nightOf_174 : decode cX3_nightOf 174 = .ok (.getfield 17, 3) := dk_180 0 17 (dk_at dksX3_nightOf_7 15 rfl rfl)
theorem dX3_nightOf_177 : decode cX3_nightOf 177 = .ok (.iload 4, 2) := dk_21 4 (dk_at dksX3_nightOf_7 18 rfl rfl)
theorem dX3_nightOf_179 : decode cX3_nightOf 179 = .ok (.aaload, 1) := dk_50 (dk_at dksX3_nightOf_7 20 rfl rfl)
theorem dX3_nightOf_180 : decode cX3_nightOf 180 = .ok (.invokevirtual 118, 3) := dk_182 0 118 (dk_at dksX3_nightOf_7 21 rfl rfl)
theorem dX3_nightOf_183 : decode cX3_nightOf 183 = .ok (.aload_n 2, 1) := dk_44 (dk_at dksX3_nightOf_8 0 rfl rfl)
theorem dX3_nightOf_184 : decode cX3_nightOf 184 = .ok (.aload_n 2, 1) := dk_44 (dk_at dksX3_nightOf_8 1 rfl rfl)
theorem dX3_nightOf_185 : decode cX3_nightOf 185 = .ok (.getfield 67, 3) := dk_180 0 67 (dk_at dksX3_nightOf_8 2 rfl rfl)
theorem dX3_nightOf_188 : decode cX3_nightOf 188 = .ok (.iload 6, 2) := dk_21 6 (dk_at dksX3_nightOf_8 5 rfl rfl)
theorem dX3_nightOf_190 : decode cX3_nightOf 190 = .ok (.iadd, 1) := dk_96 (dk_at dksX3_nightOf_8 7 rfl rfl)
theorem dX3_nightOf_191 : decode cX3_nightOf 191 = .ok (.iload 7, 2) := dk_21 7 (dk_at dksX3_nightOf_8 8 rfl rfl)
theorem dX3_nightOf_193 : decode cX3_nightOf 193 = .ok (.isub, 1) := dk_100 (dk_at dksX3_nightOf_8 10 rfl rfl)
theorem dX3_nightOf_194 : decode cX3_nightOf 194 = .ok (.bipush 99, 2) := dk_16 99 (dk_at dksX3_nightOf_8 11 rfl rfl)
theorem dX3_nightOf_196 : decode cX3_nightOf 196 = .ok (.invokestatic 122, 3) := dk_184 0 122 (dk_at dksX3_nightOf_8 13 rfl rfl)
theorem dX3_nightOf_199 : decode cX3_nightOf 199 = .ok (.putfield 67, 3) := dk_181 0 67 (dk_at dksX3_nightOf_8 16 rfl rfl)
theorem dX3_nightOf_202 : decode cX3_nightOf 202 = .ok (.return_, 1) := dk_177 (dk_at dksX3_nightOf_8 19 rfl rfl)
abbrev cX3_beside : ByteArray := prog_18_method_5_code
def yX3_beside : MethodName := ⟨RX3, "beside", "(I)I"⟩
def dkwX3_beside_1 : List UInt8 := [182, 0, 44, 167, 0, 4, 3, 172]
abbrev dktX3_beside_1 : List UInt8 := dkwX3_beside_1 ++ []
def dkwX3_beside_0 : List UInt8 := [42, 180, 0, 17, 27, 50, 182, 0, 33, 153, 0, 19, 42, 42, 180, 0, 17, 27, 50, 180, 0, 37]
abbrev dktX3_beside_0 : List UInt8 := dkwX3_beside_0 ++ dktX3_beside_1
theorem dksX3_beside_0 : cX3_beside.data.toList.drop 0 = dktX3_beside_0 := by decide +kernel
theorem dksX3_beside_1 : cX3_beside.data.toList.drop 22 = dktX3_beside_1 := dk_seg dksX3_beside_0 22 rfl rfl
theorem dX3_beside_0 : decode cX3_beside 0 = .ok (.aload_n 0, 1) := dk_42 (dk_at dksX3_beside_0 0 rfl rfl)
theorem dX3_beside_1 : decode cX3_beside 1 = .ok (.getfield 17, 3) := dk_180 0 17 (dk_at dksX3_beside_0 1 rfl rfl)
theorem dX3_beside_4 : decode cX3_beside 4 = .ok (.iload_n 1, 1) := dk_27 (dk_at dksX3_beside_0 4 rfl rfl)
theorem dX3_beside_5 : decode cX3_beside 5 = .ok (.aaload, 1) := dk_50 (dk_at dksX3_beside_0 5 rfl rfl)
theorem dX3_beside_6 : decode cX3_beside 6 = .ok (.invokevirtual 33, 3) := dk_182 0 33 (dk_at dksX3_beside_0 6 rfl rfl)
theorem dX3_beside_9 : decode cX3_beside 9 = .ok (.ifCond .eq 19, 3) := dk_153 0 19 (dk_at dksX3_beside_0 9 rfl rfl)
theorem dX3_beside_12 : decode cX3_beside 12 = .ok (.aload_n 0, 1) := dk_42 (dk_at dksX3_beside_0 12 rfl rfl)
theorem dX3_beside_13 : decode cX3_beside 13 = .ok (.aload_n 0, 1) := dk_42 (dk_at dksX3_beside_0 13 rfl rfl)
theorem dX3_beside_14 : decode cX3_beside 14 = .ok (.getfield 17, 3) := dk_180 0 17 (dk_at dksX3_beside_0 14 rfl rfl)
theorem dX3_beside_17 : decode cX3_beside 17 = .ok (.iload_n 1, 1) := dk_27 (dk_at dksX3_beside_0 17 rfl rfl)
theorem dX3_beside_18 : decode cX3_beside 18 = .ok (.aaload, 1) := dk_50 (dk_at dksX3_beside_0 18 rfl rfl)
theorem dX3_beside_19 : decode cX3_beside 19 = .ok (.getfield 37, 3) := dk_180 0 37 (dk_at dksX3_beside_0 19 rfl rfl)
theorem dX3_beside_22 : decode cX3_beside 22 = .ok (.invokevirtual 44, 3) := dk_182 0 44 (dk_at dksX3_beside_1 0 rfl rfl)
theorem dX3_beside_25 : decode cX3_beside 25 = .ok (.goto 4, 3) := dk_167 0 4 (dk_at dksX3_beside_1 3 rfl rfl)
theorem dX3_beside_28 : decode cX3_beside 28 = .ok (.iconst 0, 1) := dk_3 (dk_at dksX3_beside_1 6 rfl rfl)
theorem dX3_beside_29 : decode cX3_beside 29 = .ok (.ireturn, 1) := dk_172 (dk_at dksX3_beside_1 7 rfl rfl)
abbrev cX3_around : ByteArray := prog_18_method_4_code
def yX3_around : MethodName := ⟨RX3, "around", "(I)I"⟩
def dkwX3_around_2 : List UInt8 := [132, 3, 1, 167, 255, 209, 28, 172]
abbrev dktX3_around_2 : List UInt8 := dkwX3_around_2 ++ []
def dkwX3_around_1 : List UInt8 := [42, 180, 0, 17, 29, 50, 180, 0, 37, 184, 0, 40, 153, 0, 9, 4, 29, 120, 167, 0, 4, 3, 128, 61]
abbrev dktX3_around_1 : List UInt8 := dkwX3_around_1 ++ dktX3_around_2
def dkwX3_around_0 : List UInt8 := [3, 61, 3, 62, 29, 16, 16, 162, 0, 47, 28, 42, 180, 0, 17, 29, 50, 182, 0, 33, 153, 0, 25, 27]
abbrev dktX3_around_0 : List UInt8 := dkwX3_around_0 ++ dktX3_around_1
theorem dksX3_around_0 : cX3_around.data.toList.drop 0 = dktX3_around_0 := by decide +kernel
theorem dksX3_around_1 : cX3_around.data.toList.drop 24 = dktX3_around_1 := dk_seg dksX3_around_0 24 rfl rfl
theorem dksX3_around_2 : cX3_around.data.toList.drop 48 = dktX3_around_2 := dk_seg dksX3_around_1 24 rfl rfl
theorem dX3_around_0 : decode cX3_around 0 = .ok (.iconst 0, 1) := dk_3 (dk_at dksX3_around_0 0 rfl rfl)
theorem dX3_around_1 : decode cX3_around 1 = .ok (.istore_n 2, 1) := dk_61 (dk_at dksX3_around_0 1 rfl rfl)
theorem dX3_around_2 : decode cX3_around 2 = .ok (.iconst 0, 1) := dk_3 (dk_at dksX3_around_0 2 rfl rfl)
theorem dX3_around_3 : decode cX3_around 3 = .ok (.istore_n 3, 1) := dk_62 (dk_at dksX3_around_0 3 rfl rfl)
theorem dX3_around_4 : decode cX3_around 4 = .ok (.iload_n 3, 1) := dk_29 (dk_at dksX3_around_0 4 rfl rfl)
theorem dX3_around_5 : decode cX3_around 5 = .ok (.bipush 16, 2) := dk_16 16 (dk_at dksX3_around_0 5 rfl rfl)
theorem dX3_around_7 : decode cX3_around 7 = .ok (.if_icmp .ge 47, 3) := dk_162 0 47 (dk_at dksX3_around_0 7 rfl rfl)
theorem dX3_around_10 : decode cX3_around 10 = .ok (.iload_n 2, 1) := dk_28 (dk_at dksX3_around_0 10 rfl rfl)
theorem dX3_around_11 : decode cX3_around 11 = .ok (.aload_n 0, 1) := dk_42 (dk_at dksX3_around_0 11 rfl rfl)
theorem dX3_around_12 : decode cX3_around 12 = .ok (.getfield 17, 3) := dk_180 0 17 (dk_at dksX3_around_0 12 rfl rfl)
theorem dX3_around_15 : decode cX3_around 15 = .ok (.iload_n 3, 1) := dk_29 (dk_at dksX3_around_0 15 rfl rfl)
theorem dX3_around_16 : decode cX3_around 16 = .ok (.aaload, 1) := dk_50 (dk_at dksX3_around_0 16 rfl rfl)
theorem dX3_around_17 : decode cX3_around 17 = .ok (.invokevirtual 33, 3) := dk_182 0 33 (dk_at dksX3_around_0 17 rfl rfl)
theorem dX3_around_20 : decode cX3_around 20 = .ok (.ifCond .eq 25, 3) := dk_153 0 25 (dk_at dksX3_around_0 20 rfl rfl)
theorem dX3_around_23 : decode cX3_around 23 = .ok (.iload_n 1, 1) := dk_27 (dk_at dksX3_around_0 23 rfl rfl)
theorem dX3_around_24 : decode cX3_around 24 = .ok (.aload_n 0, 1) := dk_42 (dk_at dksX3_around_1 0 rfl rfl)
theorem dX3_around_25 : decode cX3_around 25 = .ok (.getfield 17, 3) := dk_180 0 17 (dk_at dksX3_around_1 1 rfl rfl)
theorem dX3_around_28 : decode cX3_around 28 = .ok (.iload_n 3, 1) := dk_29 (dk_at dksX3_around_1 4 rfl rfl)
theorem dX3_around_29 : decode cX3_around 29 = .ok (.aaload, 1) := dk_50 (dk_at dksX3_around_1 5 rfl rfl)
theorem dX3_around_30 : decode cX3_around 30 = .ok (.getfield 37, 3) := dk_180 0 37 (dk_at dksX3_around_1 6 rfl rfl)
theorem dX3_around_33 : decode cX3_around 33 = .ok (.invokestatic 40, 3) := dk_184 0 40 (dk_at dksX3_around_1 9 rfl rfl)
theorem dX3_around_36 : decode cX3_around 36 = .ok (.ifCond .eq 9, 3) := dk_153 0 9 (dk_at dksX3_around_1 12 rfl rfl)
theorem dX3_around_39 : decode cX3_around 39 = .ok (.iconst 1, 1) := dk_4 (dk_at dksX3_around_1 15 rfl rfl)
theorem dX3_around_40 : decode cX3_around 40 = .ok (.iload_n 3, 1) := dk_29 (dk_at dksX3_around_1 16 rfl rfl)
theorem dX3_around_41 : decode cX3_around 41 = .ok (.ishl, 1) := dk_120 (dk_at dksX3_around_1 17 rfl rfl)
theorem dX3_around_42 : decode cX3_around 42 = .ok (.goto 4, 3) := dk_167 0 4 (dk_at dksX3_around_1 18 rfl rfl)
theorem dX3_around_45 : decode cX3_around 45 = .ok (.iconst 0, 1) := dk_3 (dk_at dksX3_around_1 21 rfl rfl)
theorem dX3_around_46 : decode cX3_around 46 = .ok (.ior, 1) := dk_128 (dk_at dksX3_around_1 22 rfl rfl)
theorem dX3_around_47 : decode cX3_around 47 = .ok (.istore_n 2, 1) := dk_61 (dk_at dksX3_around_1 23 rfl rfl)
theorem dX3_around_48 : decode cX3_around 48 = .ok (.iinc 3 1, 3) := dk_132 3 1 (dk_at dksX3_around_2 0 rfl rfl)
theorem dX3_around_51 : decode cX3_around 51 = .ok (.goto (-47), 3) := dk_167 255 209 (dk_at dksX3_around_2 3 rfl rfl)
theorem dX3_around_54 : decode cX3_around 54 = .ok (.iload_n 2, 1) := dk_28 (dk_at dksX3_around_2 6 rfl rfl)
theorem dX3_around_55 : decode cX3_around 55 = .ok (.ireturn, 1) := dk_172 (dk_at dksX3_around_2 7 rfl rfl)
abbrev cX3_liked : ByteArray := prog_18_method_11_code
def yX3_liked : MethodName := ⟨RX3, "liked", "(I)I"⟩
def dkwX3_liked_4 : List UInt8 := [61, 21, 5, 62, 132, 4, 1, 167, 255, 162, 28, 172]
abbrev dktX3_liked_4 : List UInt8 := dkwX3_liked_4 ++ []
def dkwX3_liked_3 : List UInt8 := [180, 0, 3, 16, 101, 17, 39, 15, 182, 0, 80, 54, 5, 21, 5, 29, 163, 0, 6, 167, 0, 9, 21, 4]
abbrev dktX3_liked_3 : List UInt8 := dkwX3_liked_3 ++ dktX3_liked_4
def dkwX3_liked_2 : List UInt8 := [180, 0, 70, 21, 4, 42, 180, 0, 17, 27, 50, 42, 180, 0, 17, 21, 4, 50, 182, 0, 74, 87, 42]
abbrev dktX3_liked_2 : List UInt8 := dkwX3_liked_2 ++ dktX3_liked_3
def dkwX3_liked_1 : List UInt8 := [153, 0, 74, 42, 180, 0, 17, 21, 4, 50, 180, 0, 67, 154, 0, 6, 167, 0, 58, 42, 180, 0, 3]
abbrev dktX3_liked_1 : List UInt8 := dkwX3_liked_1 ++ dktX3_liked_2
def dkwX3_liked_0 : List UInt8 := [2, 61, 3, 62, 3, 54, 4, 21, 4, 16, 16, 162, 0, 93, 42, 27, 182, 0, 59, 21, 4, 184, 0, 52]
abbrev dktX3_liked_0 : List UInt8 := dkwX3_liked_0 ++ dktX3_liked_1
theorem dksX3_liked_0 : cX3_liked.data.toList.drop 0 = dktX3_liked_0 := by decide +kernel
theorem dksX3_liked_1 : cX3_liked.data.toList.drop 24 = dktX3_liked_1 := dk_seg dksX3_liked_0 24 rfl rfl
theorem dksX3_liked_2 : cX3_liked.data.toList.drop 47 = dktX3_liked_2 := dk_seg dksX3_liked_1 23 rfl rfl
theorem dksX3_liked_3 : cX3_liked.data.toList.drop 70 = dktX3_liked_3 := dk_seg dksX3_liked_2 23 rfl rfl
theorem dksX3_liked_4 : cX3_liked.data.toList.drop 94 = dktX3_liked_4 := dk_seg dksX3_liked_3 24 rfl rfl
theorem dX3_liked_0 : decode cX3_liked 0 = .ok (.iconst (-1), 1) := dk_2 (dk_at dksX3_liked_0 0 rfl rfl)
theorem dX3_liked_1 : decode cX3_liked 1 = .ok (.istore_n 2, 1) := dk_61 (dk_at dksX3_liked_0 1 rfl rfl)
theorem dX3_liked_2 : decode cX3_liked 2 = .ok (.iconst 0, 1) := dk_3 (dk_at dksX3_liked_0 2 rfl rfl)
theorem dX3_liked_3 : decode cX3_liked 3 = .ok (.istore_n 3, 1) := dk_62 (dk_at dksX3_liked_0 3 rfl rfl)
theorem dX3_liked_4 : decode cX3_liked 4 = .ok (.iconst 0, 1) := dk_3 (dk_at dksX3_liked_0 4 rfl rfl)
theorem dX3_liked_5 : decode cX3_liked 5 = .ok (.istore 4, 2) := dk_54 4 (dk_at dksX3_liked_0 5 rfl rfl)
theorem dX3_liked_7 : decode cX3_liked 7 = .ok (.iload 4, 2) := dk_21 4 (dk_at dksX3_liked_0 7 rfl rfl)
theorem dX3_liked_9 : decode cX3_liked 9 = .ok (.bipush 16, 2) := dk_16 16 (dk_at dksX3_liked_0 9 rfl rfl)
theorem dX3_liked_11 : decode cX3_liked 11 = .ok (.if_icmp .ge 93, 3) := dk_162 0 93 (dk_at dksX3_liked_0 11 rfl rfl)
theorem dX3_liked_14 : decode cX3_liked 14 = .ok (.aload_n 0, 1) := dk_42 (dk_at dksX3_liked_0 14 rfl rfl)
theorem dX3_liked_15 : decode cX3_liked 15 = .ok (.iload_n 1, 1) := dk_27 (dk_at dksX3_liked_0 15 rfl rfl)
theorem dX3_liked_16 : decode cX3_liked 16 = .ok (.invokevirtual 59, 3) := dk_182 0 59 (dk_at dksX3_liked_0 16 rfl rfl)
theorem dX3_liked_19 : decode cX3_liked 19 = .ok (.iload 4, 2) := dk_21 4 (dk_at dksX3_liked_0 19 rfl rfl)
theorem dX3_liked_21 : decode cX3_liked 21 = .ok (.invokestatic 52, 3) := dk_184 0 52 (dk_at dksX3_liked_0 21 rfl rfl)
theorem dX3_liked_24 : decode cX3_liked 24 = .ok (.ifCond .eq 74, 3) := dk_153 0 74 (dk_at dksX3_liked_1 0 rfl rfl)
theorem dX3_liked_27 : decode cX3_liked 27 = .ok (.aload_n 0, 1) := dk_42 (dk_at dksX3_liked_1 3 rfl rfl)
theorem dX3_liked_28 : decode cX3_liked 28 = .ok (.getfield 17, 3) := dk_180 0 17 (dk_at dksX3_liked_1 4 rfl rfl)
theorem dX3_liked_31 : decode cX3_liked 31 = .ok (.iload 4, 2) := dk_21 4 (dk_at dksX3_liked_1 7 rfl rfl)
theorem dX3_liked_33 : decode cX3_liked 33 = .ok (.aaload, 1) := dk_50 (dk_at dksX3_liked_1 9 rfl rfl)
theorem dX3_liked_34 : decode cX3_liked 34 = .ok (.getfield 67, 3) := dk_180 0 67 (dk_at dksX3_liked_1 10 rfl rfl)
theorem dX3_liked_37 : decode cX3_liked 37 = .ok (.ifCond .ne 6, 3) := dk_154 0 6 (dk_at dksX3_liked_1 13 rfl rfl)
theorem dX3_liked_40 : decode cX3_liked 40 = .ok (.goto 58, 3) := dk_167 0 58 (dk_at dksX3_liked_1 16 rfl rfl)
theorem dX3_liked_43 : decode cX3_liked 43 = .ok (.aload_n 0, 1) := dk_42 (dk_at dksX3_liked_1 19 rfl rfl)
theorem dX3_liked_44 : decode cX3_liked 44 = .ok (.getfield 3, 3) := dk_180 0 3 (dk_at dksX3_liked_1 20 rfl rfl)
theorem dX3_liked_47 : decode cX3_liked 47 = .ok (.getfield 70, 3) := dk_180 0 70 (dk_at dksX3_liked_2 0 rfl rfl)
theorem dX3_liked_50 : decode cX3_liked 50 = .ok (.iload 4, 2) := dk_21 4 (dk_at dksX3_liked_2 3 rfl rfl)
theorem dX3_liked_52 : decode cX3_liked 52 = .ok (.aload_n 0, 1) := dk_42 (dk_at dksX3_liked_2 5 rfl rfl)
theorem dX3_liked_53 : decode cX3_liked 53 = .ok (.getfield 17, 3) := dk_180 0 17 (dk_at dksX3_liked_2 6 rfl rfl)
theorem dX3_liked_56 : decode cX3_liked 56 = .ok (.iload_n 1, 1) := dk_27 (dk_at dksX3_liked_2 9 rfl rfl)
theorem dX3_liked_57 : decode cX3_liked 57 = .ok (.aaload, 1) := dk_50 (dk_at dksX3_liked_2 10 rfl rfl)
theorem dX3_liked_58 : decode cX3_liked 58 = .ok (.aload_n 0, 1) := dk_42 (dk_at dksX3_liked_2 11 rfl rfl)
theorem dX3_liked_59 : decode cX3_liked 59 = .ok (.getfield 17, 3) := dk_180 0 17 (dk_at dksX3_liked_2 12 rfl rfl)
theorem dX3_liked_62 : decode cX3_liked 62 = .ok (.iload 4, 2) := dk_21 4 (dk_at dksX3_liked_2 15 rfl rfl)
theorem dX3_liked_64 : decode cX3_liked 64 = .ok (.aaload, 1) := dk_50 (dk_at dksX3_liked_2 17 rfl rfl)
theorem dX3_liked_65 : decode cX3_liked 65 = .ok (.invokevirtual 74, 3) := dk_182 0 74 (dk_at dksX3_liked_2 18 rfl rfl)
theorem dX3_liked_68 : decode cX3_liked 68 = .ok (.pop, 1) := dk_87 (dk_at dksX3_liked_2 21 rfl rfl)
theorem dX3_liked_69 : decode cX3_liked 69 = .ok (.aload_n 0, 1) := dk_42 (dk_at dksX3_liked_2 22 rfl rfl)
theorem dX3_liked_70 : decode cX3_liked 70 = .ok (.getfield 3, 3) := dk_180 0 3 (dk_at dksX3_liked_3 0 rfl rfl)
theorem dX3_liked_73 : decode cX3_liked 73 = .ok (.bipush 101, 2) := dk_16 101 (dk_at dksX3_liked_3 3 rfl rfl)
theorem dX3_liked_75 : decode cX3_liked 75 = .ok (.sipush 9999, 3) := dk_17 39 15 (dk_at dksX3_liked_3 5 rfl rfl)
theorem dX3_liked_78 : decode cX3_liked 78 = .ok (.invokevirtual 80, 3) := dk_182 0 80 (dk_at dksX3_liked_3 8 rfl rfl)
theorem dX3_liked_81 : decode cX3_liked 81 = .ok (.istore 5, 2) := dk_54 5 (dk_at dksX3_liked_3 11 rfl rfl)
theorem dX3_liked_83 : decode cX3_liked 83 = .ok (.iload 5, 2) := dk_21 5 (dk_at dksX3_liked_3 13 rfl rfl)
theorem dX3_liked_85 : decode cX3_liked 85 = .ok (.iload_n 3, 1) := dk_29 (dk_at dksX3_liked_3 15 rfl rfl)
theorem dX3_liked_86 : decode cX3_liked 86 = .ok (.if_icmp .gt 6, 3) := dk_163 0 6 (dk_at dksX3_liked_3 16 rfl rfl)
theorem dX3_liked_89 : decode cX3_liked 89 = .ok (.goto 9, 3) := dk_167 0 9 (dk_at dksX3_liked_3 19 rfl rfl)
theorem dX3_liked_92 : decode cX3_liked 92 = .ok (.iload 4, 2) := dk_21 4 (dk_at dksX3_liked_3 22 rfl rfl)
theorem dX3_liked_94 : decode cX3_liked 94 = .ok (.istore_n 2, 1) := dk_61 (dk_at dksX3_liked_4 0 rfl rfl)
theorem dX3_liked_95 : decode cX3_liked 95 = .ok (.iload 5, 2) := dk_21 5 (dk_at dksX3_liked_4 1 rfl rfl)
theorem dX3_liked_97 : decode cX3_liked 97 = .ok (.istore_n 3, 1) := dk_62 (dk_at dksX3_liked_4 3 rfl rfl)
theorem dX3_liked_98 : decode cX3_liked 98 = .ok (.iinc 4 1, 3) := dk_132 4 1 (dk_at dksX3_liked_4 4 rfl rfl)
theorem dX3_liked_101 : decode cX3_liked 101 = .ok (.goto (-94), 3) := dk_167 255 162 (dk_at dksX3_liked_4 7 rfl rfl)
theorem dX3_liked_104 : decode cX3_liked 104 = .ok (.iload_n 2, 1) := dk_28 (dk_at dksX3_liked_4 10 rfl rfl)
theorem dX3_liked_105 : decode cX3_liked 105 = .ok (.ireturn, 1) := dk_172 (dk_at dksX3_liked_4 11 rfl rfl)
abbrev cX3_draw : ByteArray := prog_18_method_10_code
def yX3_draw : MethodName := ⟨RX3, "draw", "()I"⟩
def dkwX3_draw_1 : List UInt8 := [16, 10, 112, 172]
abbrev dktX3_draw_1 : List UInt8 := dkwX3_draw_1 ++ []
def dkwX3_draw_0 : List UInt8 := [42, 17, 98, 85, 42, 180, 0, 30, 104, 17, 54, 25, 96, 18, 66, 112, 181, 0, 30, 42, 180, 0, 30]
abbrev dktX3_draw_0 : List UInt8 := dkwX3_draw_0 ++ dktX3_draw_1
theorem dksX3_draw_0 : cX3_draw.data.toList.drop 0 = dktX3_draw_0 := by decide +kernel
theorem dksX3_draw_1 : cX3_draw.data.toList.drop 23 = dktX3_draw_1 := dk_seg dksX3_draw_0 23 rfl rfl
theorem dX3_draw_0 : decode cX3_draw 0 = .ok (.aload_n 0, 1) := dk_42 (dk_at dksX3_draw_0 0 rfl rfl)
theorem dX3_draw_1 : decode cX3_draw 1 = .ok (.sipush 25173, 3) := dk_17 98 85 (dk_at dksX3_draw_0 1 rfl rfl)
theorem dX3_draw_4 : decode cX3_draw 4 = .ok (.aload_n 0, 1) := dk_42 (dk_at dksX3_draw_0 4 rfl rfl)
theorem dX3_draw_5 : decode cX3_draw 5 = .ok (.getfield 30, 3) := dk_180 0 30 (dk_at dksX3_draw_0 5 rfl rfl)
theorem dX3_draw_8 : decode cX3_draw 8 = .ok (.imul, 1) := dk_104 (dk_at dksX3_draw_0 8 rfl rfl)
theorem dX3_draw_9 : decode cX3_draw 9 = .ok (.sipush 13849, 3) := dk_17 54 25 (dk_at dksX3_draw_0 9 rfl rfl)
theorem dX3_draw_12 : decode cX3_draw 12 = .ok (.iadd, 1) := dk_96 (dk_at dksX3_draw_0 12 rfl rfl)
theorem dX3_draw_13 : decode cX3_draw 13 = .ok (.ldc 66, 2) := dk_18 66 (dk_at dksX3_draw_0 13 rfl rfl)
theorem dX3_draw_15 : decode cX3_draw 15 = .ok (.irem, 1) := dk_112 (dk_at dksX3_draw_0 15 rfl rfl)
theorem dX3_draw_16 : decode cX3_draw 16 = .ok (.putfield 30, 3) := dk_181 0 30 (dk_at dksX3_draw_0 16 rfl rfl)
theorem dX3_draw_19 : decode cX3_draw 19 = .ok (.aload_n 0, 1) := dk_42 (dk_at dksX3_draw_0 19 rfl rfl)
theorem dX3_draw_20 : decode cX3_draw 20 = .ok (.getfield 30, 3) := dk_180 0 30 (dk_at dksX3_draw_0 20 rfl rfl)
theorem dX3_draw_23 : decode cX3_draw 23 = .ok (.bipush 10, 2) := dk_16 10 (dk_at dksX3_draw_1 0 rfl rfl)
theorem dX3_draw_25 : decode cX3_draw 25 = .ok (.irem, 1) := dk_112 (dk_at dksX3_draw_1 2 rfl rfl)
theorem dX3_draw_26 : decode cX3_draw 26 = .ok (.ireturn, 1) := dk_172 (dk_at dksX3_draw_1 3 rfl rfl)
abbrev cX3_learns : ByteArray := prog_18_method_12_code
def yX3_learns : MethodName := ⟨RX3, "learns", "(LTalkingPlots$Person;LTalkingPlots$Person;)V"⟩
def dkwX3_learns_1 : List UInt8 := [116, 126, 128, 181, 0, 83, 42, 89, 180, 0, 86, 4, 96, 181, 0, 86, 177]
abbrev dktX3_learns_1 : List UInt8 := dkwX3_learns_1 ++ []
def dkwX3_learns_0 : List UInt8 := [44, 180, 0, 83, 43, 180, 0, 83, 2, 130, 126, 62, 29, 154, 0, 4, 177, 43, 89, 180, 0, 83, 29, 29]
abbrev dktX3_learns_0 : List UInt8 := dkwX3_learns_0 ++ dktX3_learns_1
theorem dksX3_learns_0 : cX3_learns.data.toList.drop 0 = dktX3_learns_0 := by decide +kernel
theorem dksX3_learns_1 : cX3_learns.data.toList.drop 24 = dktX3_learns_1 := dk_seg dksX3_learns_0 24 rfl rfl
theorem dX3_learns_0 : decode cX3_learns 0 = .ok (.aload_n 2, 1) := dk_44 (dk_at dksX3_learns_0 0 rfl rfl)
theorem dX3_learns_1 : decode cX3_learns 1 = .ok (.getfield 83, 3) := dk_180 0 83 (dk_at dksX3_learns_0 1 rfl rfl)
theorem dX3_learns_4 : decode cX3_learns 4 = .ok (.aload_n 1, 1) := dk_43 (dk_at dksX3_learns_0 4 rfl rfl)
theorem dX3_learns_5 : decode cX3_learns 5 = .ok (.getfield 83, 3) := dk_180 0 83 (dk_at dksX3_learns_0 5 rfl rfl)
theorem dX3_learns_8 : decode cX3_learns 8 = .ok (.iconst (-1), 1) := dk_2 (dk_at dksX3_learns_0 8 rfl rfl)
theorem dX3_learns_9 : decode cX3_learns 9 = .ok (.ixor, 1) := dk_130 (dk_at dksX3_learns_0 9 rfl rfl)
theorem dX3_learns_10 : decode cX3_learns 10 = .ok (.iand, 1) := dk_126 (dk_at dksX3_learns_0 10 rfl rfl)
theorem dX3_learns_11 : decode cX3_learns 11 = .ok (.istore_n 3, 1) := dk_62 (dk_at dksX3_learns_0 11 rfl rfl)
theorem dX3_learns_12 : decode cX3_learns 12 = .ok (.iload_n 3, 1) := dk_29 (dk_at dksX3_learns_0 12 rfl rfl)
theorem dX3_learns_13 : decode cX3_learns 13 = .ok (.ifCond .ne 4, 3) := dk_154 0 4 (dk_at dksX3_learns_0 13 rfl rfl)
theorem dX3_learns_16 : decode cX3_learns 16 = .ok (.return_, 1) := dk_177 (dk_at dksX3_learns_0 16 rfl rfl)
theorem dX3_learns_17 : decode cX3_learns 17 = .ok (.aload_n 1, 1) := dk_43 (dk_at dksX3_learns_0 17 rfl rfl)
theorem dX3_learns_18 : decode cX3_learns 18 = .ok (.dup, 1) := dk_89 (dk_at dksX3_learns_0 18 rfl rfl)
theorem dX3_learns_19 : decode cX3_learns 19 = .ok (.getfield 83, 3) := dk_180 0 83 (dk_at dksX3_learns_0 19 rfl rfl)
theorem dX3_learns_22 : decode cX3_learns 22 = .ok (.iload_n 3, 1) := dk_29 (dk_at dksX3_learns_0 22 rfl rfl)
theorem dX3_learns_23 : decode cX3_learns 23 = .ok (.iload_n 3, 1) := dk_29 (dk_at dksX3_learns_0 23 rfl rfl)
theorem dX3_learns_24 : decode cX3_learns 24 = .ok (.ineg, 1) := dk_116 (dk_at dksX3_learns_1 0 rfl rfl)
theorem dX3_learns_25 : decode cX3_learns 25 = .ok (.iand, 1) := dk_126 (dk_at dksX3_learns_1 1 rfl rfl)
theorem dX3_learns_26 : decode cX3_learns 26 = .ok (.ior, 1) := dk_128 (dk_at dksX3_learns_1 2 rfl rfl)
theorem dX3_learns_27 : decode cX3_learns 27 = .ok (.putfield 83, 3) := dk_181 0 83 (dk_at dksX3_learns_1 3 rfl rfl)
theorem dX3_learns_30 : decode cX3_learns 30 = .ok (.aload_n 0, 1) := dk_42 (dk_at dksX3_learns_1 6 rfl rfl)
theorem dX3_learns_31 : decode cX3_learns 31 = .ok (.dup, 1) := dk_89 (dk_at dksX3_learns_1 7 rfl rfl)
theorem dX3_learns_32 : decode cX3_learns 32 = .ok (.getfield 86, 3) := dk_180 0 86 (dk_at dksX3_learns_1 8 rfl rfl)
theorem dX3_learns_35 : decode cX3_learns 35 = .ok (.iconst 1, 1) := dk_4 (dk_at dksX3_learns_1 11 rfl rfl)
theorem dX3_learns_36 : decode cX3_learns 36 = .ok (.iadd, 1) := dk_96 (dk_at dksX3_learns_1 12 rfl rfl)
theorem dX3_learns_37 : decode cX3_learns 37 = .ok (.putfield 86, 3) := dk_181 0 86 (dk_at dksX3_learns_1 13 rfl rfl)
theorem dX3_learns_40 : decode cX3_learns 40 = .ok (.return_, 1) := dk_177 (dk_at dksX3_learns_1 16 rfl rfl)
abbrev cX3_talk : ByteArray := prog_18_method_9_code
def yX3_talk : MethodName := ⟨RX3, "talk", "()I"⟩
def dkwX3_talk_1 : List UInt8 := [132, 2, 1, 167, 255, 234, 27, 5, 108, 172]
abbrev dktX3_talk_1 : List UInt8 := dkwX3_talk_1 ++ []
def dkwX3_talk_0 : List UInt8 := [3, 60, 3, 61, 28, 16, 16, 162, 0, 22, 27, 42, 28, 42, 28, 182, 0, 59, 182, 0, 62, 96, 60]
abbrev dktX3_talk_0 : List UInt8 := dkwX3_talk_0 ++ dktX3_talk_1
theorem dksX3_talk_0 : cX3_talk.data.toList.drop 0 = dktX3_talk_0 := by decide +kernel
theorem dksX3_talk_1 : cX3_talk.data.toList.drop 23 = dktX3_talk_1 := dk_seg dksX3_talk_0 23 rfl rfl
theorem dX3_talk_0 : decode cX3_talk 0 = .ok (.iconst 0, 1) := dk_3 (dk_at dksX3_talk_0 0 rfl rfl)
theorem dX3_talk_1 : decode cX3_talk 1 = .ok (.istore_n 1, 1) := dk_60 (dk_at dksX3_talk_0 1 rfl rfl)
theorem dX3_talk_2 : decode cX3_talk 2 = .ok (.iconst 0, 1) := dk_3 (dk_at dksX3_talk_0 2 rfl rfl)
theorem dX3_talk_3 : decode cX3_talk 3 = .ok (.istore_n 2, 1) := dk_61 (dk_at dksX3_talk_0 3 rfl rfl)
theorem dX3_talk_4 : decode cX3_talk 4 = .ok (.iload_n 2, 1) := dk_28 (dk_at dksX3_talk_0 4 rfl rfl)
theorem dX3_talk_5 : decode cX3_talk 5 = .ok (.bipush 16, 2) := dk_16 16 (dk_at dksX3_talk_0 5 rfl rfl)
theorem dX3_talk_7 : decode cX3_talk 7 = .ok (.if_icmp .ge 22, 3) := dk_162 0 22 (dk_at dksX3_talk_0 7 rfl rfl)
theorem dX3_talk_10 : decode cX3_talk 10 = .ok (.iload_n 1, 1) := dk_27 (dk_at dksX3_talk_0 10 rfl rfl)
theorem dX3_talk_11 : decode cX3_talk 11 = .ok (.aload_n 0, 1) := dk_42 (dk_at dksX3_talk_0 11 rfl rfl)
theorem dX3_talk_12 : decode cX3_talk 12 = .ok (.iload_n 2, 1) := dk_28 (dk_at dksX3_talk_0 12 rfl rfl)
theorem dX3_talk_13 : decode cX3_talk 13 = .ok (.aload_n 0, 1) := dk_42 (dk_at dksX3_talk_0 13 rfl rfl)
theorem dX3_talk_14 : decode cX3_talk 14 = .ok (.iload_n 2, 1) := dk_28 (dk_at dksX3_talk_0 14 rfl rfl)
theorem dX3_talk_15 : decode cX3_talk 15 = .ok (.invokevirtual 59, 3) := dk_182 0 59 (dk_at dksX3_talk_0 15 rfl rfl)
theorem dX3_talk_18 : decode cX3_talk 18 = .ok (.invokevirtual 62, 3) := dk_182 0 62 (dk_at dksX3_talk_0 18 rfl rfl)
theorem dX3_talk_21 : decode cX3_talk 21 = .ok (.iadd, 1) := dk_96 (dk_at dksX3_talk_0 21 rfl rfl)
theorem dX3_talk_22 : decode cX3_talk 22 = .ok (.istore_n 1, 1) := dk_60 (dk_at dksX3_talk_0 22 rfl rfl)
theorem dX3_talk_23 : decode cX3_talk 23 = .ok (.iinc 2 1, 3) := dk_132 2 1 (dk_at dksX3_talk_1 0 rfl rfl)
theorem dX3_talk_26 : decode cX3_talk 26 = .ok (.goto (-22), 3) := dk_167 255 234 (dk_at dksX3_talk_1 3 rfl rfl)
theorem dX3_talk_29 : decode cX3_talk 29 = .ok (.iload_n 1, 1) := dk_27 (dk_at dksX3_talk_1 6 rfl rfl)
theorem dX3_talk_30 : decode cX3_talk 30 = .ok (.iconst 2, 1) := dk_5 (dk_at dksX3_talk_1 7 rfl rfl)
theorem dX3_talk_31 : decode cX3_talk 31 = .ok (.idiv, 1) := dk_108 (dk_at dksX3_talk_1 8 rfl rfl)
theorem dX3_talk_32 : decode cX3_talk 32 = .ok (.ireturn, 1) := dk_172 (dk_at dksX3_talk_1 9 rfl rfl)
abbrev cX3_talkWith : ByteArray := prog_18_method_8_code
def yX3_talkWith : MethodName := ⟨RX3, "talkWith", "(II)I"⟩
def dkwX3_talkWith_2 : List UInt8 := [167, 0, 4, 3, 96, 62, 132, 4, 1, 167, 255, 208, 29, 172]
abbrev dktX3_talkWith_2 : List UInt8 := dkwX3_talkWith_2 ++ []
def dkwX3_talkWith_1 : List UInt8 := [184, 0, 52, 153, 0, 22, 42, 180, 0, 17, 27, 50, 42, 180, 0, 17, 21, 4, 50, 182, 0, 55]
abbrev dktX3_talkWith_1 : List UInt8 := dkwX3_talkWith_1 ++ dktX3_talkWith_2
def dkwX3_talkWith_0 : List UInt8 := [3, 62, 3, 54, 4, 21, 4, 16, 16, 162, 0, 47, 29, 21, 4, 27, 159, 0, 31, 28, 21, 4]
abbrev dktX3_talkWith_0 : List UInt8 := dkwX3_talkWith_0 ++ dktX3_talkWith_1
theorem dksX3_talkWith_0 : cX3_talkWith.data.toList.drop 0 = dktX3_talkWith_0 := by decide +kernel
theorem dksX3_talkWith_1 : cX3_talkWith.data.toList.drop 22 = dktX3_talkWith_1 := dk_seg dksX3_talkWith_0 22 rfl rfl
theorem dksX3_talkWith_2 : cX3_talkWith.data.toList.drop 44 = dktX3_talkWith_2 := dk_seg dksX3_talkWith_1 22 rfl rfl
theorem dX3_talkWith_0 : decode cX3_talkWith 0 = .ok (.iconst 0, 1) := dk_3 (dk_at dksX3_talkWith_0 0 rfl rfl)
theorem dX3_talkWith_1 : decode cX3_talkWith 1 = .ok (.istore_n 3, 1) := dk_62 (dk_at dksX3_talkWith_0 1 rfl rfl)
theorem dX3_talkWith_2 : decode cX3_talkWith 2 = .ok (.iconst 0, 1) := dk_3 (dk_at dksX3_talkWith_0 2 rfl rfl)
theorem dX3_talkWith_3 : decode cX3_talkWith 3 = .ok (.istore 4, 2) := dk_54 4 (dk_at dksX3_talkWith_0 3 rfl rfl)
theorem dX3_talkWith_5 : decode cX3_talkWith 5 = .ok (.iload 4, 2) := dk_21 4 (dk_at dksX3_talkWith_0 5 rfl rfl)
theorem dX3_talkWith_7 : decode cX3_talkWith 7 = .ok (.bipush 16, 2) := dk_16 16 (dk_at dksX3_talkWith_0 7 rfl rfl)
theorem dX3_talkWith_9 : decode cX3_talkWith 9 = .ok (.if_icmp .ge 47, 3) := dk_162 0 47 (dk_at dksX3_talkWith_0 9 rfl rfl)
theorem dX3_talkWith_12 : decode cX3_talkWith 12 = .ok (.iload_n 3, 1) := dk_29 (dk_at dksX3_talkWith_0 12 rfl rfl)
theorem dX3_talkWith_13 : decode cX3_talkWith 13 = .ok (.iload 4, 2) := dk_21 4 (dk_at dksX3_talkWith_0 13 rfl rfl)
theorem dX3_talkWith_15 : decode cX3_talkWith 15 = .ok (.iload_n 1, 1) := dk_27 (dk_at dksX3_talkWith_0 15 rfl rfl)
theorem dX3_talkWith_16 : decode cX3_talkWith 16 = .ok (.if_icmp .eq 31, 3) := dk_159 0 31 (dk_at dksX3_talkWith_0 16 rfl rfl)
theorem dX3_talkWith_19 : decode cX3_talkWith 19 = .ok (.iload_n 2, 1) := dk_28 (dk_at dksX3_talkWith_0 19 rfl rfl)
theorem dX3_talkWith_20 : decode cX3_talkWith 20 = .ok (.iload 4, 2) := dk_21 4 (dk_at dksX3_talkWith_0 20 rfl rfl)
theorem dX3_talkWith_22 : decode cX3_talkWith 22 = .ok (.invokestatic 52, 3) := dk_184 0 52 (dk_at dksX3_talkWith_1 0 rfl rfl)
theorem dX3_talkWith_25 : decode cX3_talkWith 25 = .ok (.ifCond .eq 22, 3) := dk_153 0 22 (dk_at dksX3_talkWith_1 3 rfl rfl)
theorem dX3_talkWith_28 : decode cX3_talkWith 28 = .ok (.aload_n 0, 1) := dk_42 (dk_at dksX3_talkWith_1 6 rfl rfl)
theorem dX3_talkWith_29 : decode cX3_talkWith 29 = .ok (.getfield 17, 3) := dk_180 0 17 (dk_at dksX3_talkWith_1 7 rfl rfl)
theorem dX3_talkWith_32 : decode cX3_talkWith 32 = .ok (.iload_n 1, 1) := dk_27 (dk_at dksX3_talkWith_1 10 rfl rfl)
theorem dX3_talkWith_33 : decode cX3_talkWith 33 = .ok (.aaload, 1) := dk_50 (dk_at dksX3_talkWith_1 11 rfl rfl)
theorem dX3_talkWith_34 : decode cX3_talkWith 34 = .ok (.aload_n 0, 1) := dk_42 (dk_at dksX3_talkWith_1 12 rfl rfl)
theorem dX3_talkWith_35 : decode cX3_talkWith 35 = .ok (.getfield 17, 3) := dk_180 0 17 (dk_at dksX3_talkWith_1 13 rfl rfl)
theorem dX3_talkWith_38 : decode cX3_talkWith 38 = .ok (.iload 4, 2) := dk_21 4 (dk_at dksX3_talkWith_1 16 rfl rfl)
theorem dX3_talkWith_40 : decode cX3_talkWith 40 = .ok (.aaload, 1) := dk_50 (dk_at dksX3_talkWith_1 18 rfl rfl)
theorem dX3_talkWith_41 : decode cX3_talkWith 41 = .ok (.invokevirtual 55, 3) := dk_182 0 55 (dk_at dksX3_talkWith_1 19 rfl rfl)
theorem dX3_talkWith_44 : decode cX3_talkWith 44 = .ok (.goto 4, 3) := dk_167 0 4 (dk_at dksX3_talkWith_2 0 rfl rfl)
theorem dX3_talkWith_47 : decode cX3_talkWith 47 = .ok (.iconst 0, 1) := dk_3 (dk_at dksX3_talkWith_2 3 rfl rfl)
theorem dX3_talkWith_48 : decode cX3_talkWith 48 = .ok (.iadd, 1) := dk_96 (dk_at dksX3_talkWith_2 4 rfl rfl)
theorem dX3_talkWith_49 : decode cX3_talkWith 49 = .ok (.istore_n 3, 1) := dk_62 (dk_at dksX3_talkWith_2 5 rfl rfl)
theorem dX3_talkWith_50 : decode cX3_talkWith 50 = .ok (.iinc 4 1, 3) := dk_132 4 1 (dk_at dksX3_talkWith_2 6 rfl rfl)
theorem dX3_talkWith_53 : decode cX3_talkWith 53 = .ok (.goto (-48), 3) := dk_167 255 208 (dk_at dksX3_talkWith_2 9 rfl rfl)
theorem dX3_talkWith_56 : decode cX3_talkWith 56 = .ok (.iload_n 3, 1) := dk_29 (dk_at dksX3_talkWith_2 12 rfl rfl)
theorem dX3_talkWith_57 : decode cX3_talkWith 57 = .ok (.ireturn, 1) := dk_172 (dk_at dksX3_talkWith_2 13 rfl rfl)
abbrev cX3_told : ByteArray := prog_18_method_6_code
def yX3_told : MethodName := ⟨RX3, "told", "()I"⟩
def dkwX3_told_1 : List UInt8 := [28, 120, 167, 0, 4, 3, 128, 60, 132, 2, 1, 167, 255, 225, 27, 172]
abbrev dktX3_told_1 : List UInt8 := dkwX3_told_1 ++ []
def dkwX3_told_0 : List UInt8 := [3, 60, 3, 61, 28, 16, 16, 162, 0, 31, 27, 42, 180, 0, 17, 28, 50, 180, 0, 48, 153, 0, 9, 4]
abbrev dktX3_told_0 : List UInt8 := dkwX3_told_0 ++ dktX3_told_1
theorem dksX3_told_0 : cX3_told.data.toList.drop 0 = dktX3_told_0 := by decide +kernel
theorem dksX3_told_1 : cX3_told.data.toList.drop 24 = dktX3_told_1 := dk_seg dksX3_told_0 24 rfl rfl
theorem dX3_told_0 : decode cX3_told 0 = .ok (.iconst 0, 1) := dk_3 (dk_at dksX3_told_0 0 rfl rfl)
theorem dX3_told_1 : decode cX3_told 1 = .ok (.istore_n 1, 1) := dk_60 (dk_at dksX3_told_0 1 rfl rfl)
theorem dX3_told_2 : decode cX3_told 2 = .ok (.iconst 0, 1) := dk_3 (dk_at dksX3_told_0 2 rfl rfl)
theorem dX3_told_3 : decode cX3_told 3 = .ok (.istore_n 2, 1) := dk_61 (dk_at dksX3_told_0 3 rfl rfl)
theorem dX3_told_4 : decode cX3_told 4 = .ok (.iload_n 2, 1) := dk_28 (dk_at dksX3_told_0 4 rfl rfl)
theorem dX3_told_5 : decode cX3_told 5 = .ok (.bipush 16, 2) := dk_16 16 (dk_at dksX3_told_0 5 rfl rfl)
theorem dX3_told_7 : decode cX3_told 7 = .ok (.if_icmp .ge 31, 3) := dk_162 0 31 (dk_at dksX3_told_0 7 rfl rfl)
theorem dX3_told_10 : decode cX3_told 10 = .ok (.iload_n 1, 1) := dk_27 (dk_at dksX3_told_0 10 rfl rfl)
theorem dX3_told_11 : decode cX3_told 11 = .ok (.aload_n 0, 1) := dk_42 (dk_at dksX3_told_0 11 rfl rfl)
theorem dX3_told_12 : decode cX3_told 12 = .ok (.getfield 17, 3) := dk_180 0 17 (dk_at dksX3_told_0 12 rfl rfl)
theorem dX3_told_15 : decode cX3_told 15 = .ok (.iload_n 2, 1) := dk_28 (dk_at dksX3_told_0 15 rfl rfl)
theorem dX3_told_16 : decode cX3_told 16 = .ok (.aaload, 1) := dk_50 (dk_at dksX3_told_0 16 rfl rfl)
theorem dX3_told_17 : decode cX3_told 17 = .ok (.getfield 48, 3) := dk_180 0 48 (dk_at dksX3_told_0 17 rfl rfl)
theorem dX3_told_20 : decode cX3_told 20 = .ok (.ifCond .eq 9, 3) := dk_153 0 9 (dk_at dksX3_told_0 20 rfl rfl)
theorem dX3_told_23 : decode cX3_told 23 = .ok (.iconst 1, 1) := dk_4 (dk_at dksX3_told_0 23 rfl rfl)
theorem dX3_told_24 : decode cX3_told 24 = .ok (.iload_n 2, 1) := dk_28 (dk_at dksX3_told_1 0 rfl rfl)
theorem dX3_told_25 : decode cX3_told 25 = .ok (.ishl, 1) := dk_120 (dk_at dksX3_told_1 1 rfl rfl)
theorem dX3_told_26 : decode cX3_told 26 = .ok (.goto 4, 3) := dk_167 0 4 (dk_at dksX3_told_1 2 rfl rfl)
theorem dX3_told_29 : decode cX3_told 29 = .ok (.iconst 0, 1) := dk_3 (dk_at dksX3_told_1 5 rfl rfl)
theorem dX3_told_30 : decode cX3_told 30 = .ok (.ior, 1) := dk_128 (dk_at dksX3_told_1 6 rfl rfl)
theorem dX3_told_31 : decode cX3_told 31 = .ok (.istore_n 1, 1) := dk_60 (dk_at dksX3_told_1 7 rfl rfl)
theorem dX3_told_32 : decode cX3_told 32 = .ok (.iinc 2 1, 3) := dk_132 2 1 (dk_at dksX3_told_1 8 rfl rfl)
theorem dX3_told_35 : decode cX3_told 35 = .ok (.goto (-31), 3) := dk_167 255 225 (dk_at dksX3_told_1 11 rfl rfl)
theorem dX3_told_38 : decode cX3_told 38 = .ok (.iload_n 1, 1) := dk_27 (dk_at dksX3_told_1 14 rfl rfl)
theorem dX3_told_39 : decode cX3_told 39 = .ok (.ireturn, 1) := dk_172 (dk_at dksX3_told_1 15 rfl rfl)
abbrev cX3_laid : ByteArray := prog_18_method_7_code
def yX3_laid : MethodName := ⟨RX3, "laid", "()I"⟩
def dkwX3_laid_1 : List UInt8 := [28, 120, 167, 0, 4, 3, 128, 60, 132, 2, 1, 167, 255, 225, 27, 172]
abbrev dktX3_laid_1 : List UInt8 := dkwX3_laid_1 ++ []
def dkwX3_laid_0 : List UInt8 := [3, 60, 3, 61, 28, 16, 16, 162, 0, 31, 27, 42, 180, 0, 17, 28, 50, 182, 0, 33, 153, 0, 9, 4]
abbrev dktX3_laid_0 : List UInt8 := dkwX3_laid_0 ++ dktX3_laid_1
theorem dksX3_laid_0 : cX3_laid.data.toList.drop 0 = dktX3_laid_0 := by decide +kernel
theorem dksX3_laid_1 : cX3_laid.data.toList.drop 24 = dktX3_laid_1 := dk_seg dksX3_laid_0 24 rfl rfl
theorem dX3_laid_0 : decode cX3_laid 0 = .ok (.iconst 0, 1) := dk_3 (dk_at dksX3_laid_0 0 rfl rfl)
theorem dX3_laid_1 : decode cX3_laid 1 = .ok (.istore_n 1, 1) := dk_60 (dk_at dksX3_laid_0 1 rfl rfl)
theorem dX3_laid_2 : decode cX3_laid 2 = .ok (.iconst 0, 1) := dk_3 (dk_at dksX3_laid_0 2 rfl rfl)
theorem dX3_laid_3 : decode cX3_laid 3 = .ok (.istore_n 2, 1) := dk_61 (dk_at dksX3_laid_0 3 rfl rfl)
theorem dX3_laid_4 : decode cX3_laid 4 = .ok (.iload_n 2, 1) := dk_28 (dk_at dksX3_laid_0 4 rfl rfl)
theorem dX3_laid_5 : decode cX3_laid 5 = .ok (.bipush 16, 2) := dk_16 16 (dk_at dksX3_laid_0 5 rfl rfl)
theorem dX3_laid_7 : decode cX3_laid 7 = .ok (.if_icmp .ge 31, 3) := dk_162 0 31 (dk_at dksX3_laid_0 7 rfl rfl)
theorem dX3_laid_10 : decode cX3_laid 10 = .ok (.iload_n 1, 1) := dk_27 (dk_at dksX3_laid_0 10 rfl rfl)
theorem dX3_laid_11 : decode cX3_laid 11 = .ok (.aload_n 0, 1) := dk_42 (dk_at dksX3_laid_0 11 rfl rfl)
theorem dX3_laid_12 : decode cX3_laid 12 = .ok (.getfield 17, 3) := dk_180 0 17 (dk_at dksX3_laid_0 12 rfl rfl)
theorem dX3_laid_15 : decode cX3_laid 15 = .ok (.iload_n 2, 1) := dk_28 (dk_at dksX3_laid_0 15 rfl rfl)
theorem dX3_laid_16 : decode cX3_laid 16 = .ok (.aaload, 1) := dk_50 (dk_at dksX3_laid_0 16 rfl rfl)
theorem dX3_laid_17 : decode cX3_laid 17 = .ok (.invokevirtual 33, 3) := dk_182 0 33 (dk_at dksX3_laid_0 17 rfl rfl)
theorem dX3_laid_20 : decode cX3_laid 20 = .ok (.ifCond .eq 9, 3) := dk_153 0 9 (dk_at dksX3_laid_0 20 rfl rfl)
theorem dX3_laid_23 : decode cX3_laid 23 = .ok (.iconst 1, 1) := dk_4 (dk_at dksX3_laid_0 23 rfl rfl)
theorem dX3_laid_24 : decode cX3_laid 24 = .ok (.iload_n 2, 1) := dk_28 (dk_at dksX3_laid_1 0 rfl rfl)
theorem dX3_laid_25 : decode cX3_laid 25 = .ok (.ishl, 1) := dk_120 (dk_at dksX3_laid_1 1 rfl rfl)
theorem dX3_laid_26 : decode cX3_laid 26 = .ok (.goto 4, 3) := dk_167 0 4 (dk_at dksX3_laid_1 2 rfl rfl)
theorem dX3_laid_29 : decode cX3_laid 29 = .ok (.iconst 0, 1) := dk_3 (dk_at dksX3_laid_1 5 rfl rfl)
theorem dX3_laid_30 : decode cX3_laid 30 = .ok (.ior, 1) := dk_128 (dk_at dksX3_laid_1 6 rfl rfl)
theorem dX3_laid_31 : decode cX3_laid 31 = .ok (.istore_n 1, 1) := dk_60 (dk_at dksX3_laid_1 7 rfl rfl)
theorem dX3_laid_32 : decode cX3_laid 32 = .ok (.iinc 2 1, 3) := dk_132 2 1 (dk_at dksX3_laid_1 8 rfl rfl)
theorem dX3_laid_35 : decode cX3_laid 35 = .ok (.goto (-31), 3) := dk_167 255 225 (dk_at dksX3_laid_1 11 rfl rfl)
theorem dX3_laid_38 : decode cX3_laid 38 = .ok (.iload_n 1, 1) := dk_27 (dk_at dksX3_laid_1 14 rfl rfl)
theorem dX3_laid_39 : decode cX3_laid 39 = .ok (.ireturn, 1) := dk_172 (dk_at dksX3_laid_1 15 rfl rfl)
theorem q109 : (Jvm.Cond.initialized "TalkingPlots$Yard") ∈ lw_all := lw_g (lw_at lw_m1 4 rfl) rfl
theorem q180 : (Jvm.Cond.instantiable "TalkingPlots$Yard" (6 : Nat)) ∈ lw_all := lw_g (lw_at lw_m1 75 rfl) rfl
theorem q182 : (Jvm.Cond.instanceMethod ({ cls := "TalkingPlots$Yard", name := "<init>", desc := "(LTalkingPlots;)V" } : Jvm.MethodName)) ∈ lw_all := lw_g (lw_at lw_m1 77 rfl) rfl
theorem q183 : (Jvm.Cond.code ({ cls := "TalkingPlots$Yard", name := "<init>", desc := "(LTalkingPlots;)V" } : Jvm.MethodName) prog_18_method_1_code (3 : Nat) (Option.none : Option Jvm.ClassFile.FieldType)) ∈ lw_all := lw_g (lw_at lw_m1 78 rfl) rfl
theorem q184 : (Jvm.Cond.methodLink "TalkingPlots$Yard" (9 : Nat) ({ cls := "java/lang/Object", name := "<init>", desc := "()V" } : Jvm.MethodName)) ∈ lw_all := lw_g (lw_at lw_m1 79 rfl) rfl
theorem q185 : (Jvm.Cond.classLink "TalkingPlots$Yard" (15 : Nat) "TalkingPlots$Person") ∈ lw_all := lw_g (lw_at lw_m1 80 rfl) rfl
theorem q188 : (Jvm.Cond.methodLinkNest "TalkingPlots$Yard" (21 : Nat) ({ cls := "TalkingPlots$Person", name := "<init>", desc := "()V" } : Jvm.MethodName) "TalkingPlots") ∈ lw_tbl := lw_at lw_m1 83 rfl
theorem q196 : (Jvm.Cond.fieldLinkNest "TalkingPlots$Yard" (83 : Nat) "TalkingPlots$Person" "topics" "I" "TalkingPlots") ∈ lw_tbl := lw_at lw_m1 91 rfl
theorem q199 : (Jvm.Cond.fieldLinkNest "TalkingPlots$Yard" (67 : Nat) "TalkingPlots$Person" "mood" "I" "TalkingPlots") ∈ lw_tbl := lw_at lw_m1 94 rfl
theorem q203 : (Jvm.Cond.fieldLinkNest "TalkingPlots$Yard" (37 : Nat) "TalkingPlots$Person" "plot" "I" "TalkingPlots") ∈ lw_tbl := lw_at lw_m1 98 rfl
theorem q206 : (Jvm.Cond.fieldLinkNest "TalkingPlots$Yard" (48 : Nat) "TalkingPlots$Person" "isTold" "Z" "TalkingPlots") ∈ lw_tbl := lw_at lw_m1 101 rfl
theorem q217 : (Jvm.Cond.fieldLink "TalkingPlots$Yard" (17 : Nat) "TalkingPlots$Yard" "people" "[LTalkingPlots$Person;") ∈ lw_all := lw_g (lw_at lw_m1 112 rfl) rfl
theorem q220 : (Jvm.Cond.fieldLink "TalkingPlots$Yard" (26 : Nat) "TalkingPlots$Yard" "night" "I") ∈ lw_all := lw_g (lw_at lw_m1 115 rfl) rfl
theorem q222 : (Jvm.Cond.fieldLink "TalkingPlots$Yard" (30 : Nat) "TalkingPlots$Yard" "x" "I") ∈ lw_all := lw_g (lw_at lw_m1 117 rfl) rfl
theorem q224 : (Jvm.Cond.fieldLink "TalkingPlots$Yard" (111 : Nat) "TalkingPlots$Yard" "talked" "I") ∈ lw_all := lw_g (lw_at lw_m1 119 rfl) rfl
theorem q226 : (Jvm.Cond.fieldLink "TalkingPlots$Yard" (86 : Nat) "TalkingPlots$Yard" "learnt" "I") ∈ lw_all := lw_g (lw_at lw_m1 121 rfl) rfl
theorem q228 : (Jvm.Cond.fieldLink "TalkingPlots$Yard" (3 : Nat) "TalkingPlots$Yard" "this$0" "LTalkingPlots;") ∈ lw_all := lw_g (lw_at lw_m1 123 rfl) rfl
theorem q229 : (Jvm.Cond.laysFinal "TalkingPlots$Yard" "TalkingPlots$Yard" "people" "[LTalkingPlots$Person;") ∈ lw_all := lw_g (lw_at lw_m1 124 rfl) rfl
theorem q230 : (Jvm.Cond.soleField "TalkingPlots$Yard" "people") ∈ lw_all := lw_g (lw_at lw_m1 125 rfl) rfl
theorem q231 : (Jvm.Cond.lays "TalkingPlots$Yard" "TalkingPlots$Yard" "night" "I") ∈ lw_all := lw_g (lw_at lw_m1 126 rfl) rfl
theorem q232 : (Jvm.Cond.soleField "TalkingPlots$Yard" "night") ∈ lw_all := lw_g (lw_at lw_m1 127 rfl) rfl
theorem q233 : (Jvm.Cond.lays "TalkingPlots$Yard" "TalkingPlots$Yard" "x" "I") ∈ lw_all := lw_g (lw_at lw_m1 128 rfl) rfl
theorem q234 : (Jvm.Cond.soleField "TalkingPlots$Yard" "x") ∈ lw_all := lw_g (lw_at lw_m1 129 rfl) rfl
theorem q235 : (Jvm.Cond.lays "TalkingPlots$Yard" "TalkingPlots$Yard" "talked" "I") ∈ lw_all := lw_g (lw_at lw_m1 130 rfl) rfl
theorem q236 : (Jvm.Cond.soleField "TalkingPlots$Yard" "talked") ∈ lw_all := lw_g (lw_at lw_m1 131 rfl) rfl
theorem q237 : (Jvm.Cond.lays "TalkingPlots$Yard" "TalkingPlots$Yard" "learnt" "I") ∈ lw_all := lw_g (lw_at lw_m1 132 rfl) rfl
theorem q238 : (Jvm.Cond.soleField "TalkingPlots$Yard" "learnt") ∈ lw_all := lw_g (lw_at lw_m1 133 rfl) rfl
theorem q239 : (Jvm.Cond.laysFinal "TalkingPlots$Yard" "TalkingPlots$Yard" "this$0" "LTalkingPlots;") ∈ lw_all := lw_g (lw_at lw_m1 134 rfl) rfl
theorem q240 : (Jvm.Cond.soleField "TalkingPlots$Yard" "this$0") ∈ lw_all := lw_g (lw_at lw_m1 135 rfl) rfl
theorem q241 : (Jvm.Cond.superclass "TalkingPlots$Yard" "java/lang/Object") ∈ lw_all := lw_g (lw_at lw_m1 136 rfl) rfl
theorem q273 : (Jvm.Cond.fieldLinkNest "TalkingPlots$Yard" (70 : Nat) "TalkingPlots" "moment" "LTalkingPlots$Moment;" "TalkingPlots") ∈ lw_tbl := lw_at lw_m1 168 rfl
theorem q282 : (Jvm.Cond.fieldLinkNest "TalkingPlots$Yard" (94 : Nat) "TalkingPlots" "law" "LTalkingPlots$Text;" "TalkingPlots") ∈ lw_tbl := lw_at lw_m1 177 rfl
theorem q631 : (Jvm.Cond.instanceMethod ({ cls := "TalkingPlots$Yard", name := "takes", desc := "(LTalkingPlots$Yard;)LTalkingPlots$Yard;" } : Jvm.MethodName)) ∈ lw_all := lw_g (lw_at lw_m3 46 rfl) rfl
theorem q632 : (Jvm.Cond.selects "TalkingPlots$Yard" ({ cls := "TalkingPlots$Yard", name := "takes", desc := "(LTalkingPlots$Yard;)LTalkingPlots$Yard;" } : Jvm.MethodName) ({ cls := "TalkingPlots$Yard", name := "takes", desc := "(LTalkingPlots$Yard;)LTalkingPlots$Yard;" } : Jvm.MethodName)) ∈ lw_all := lw_g (lw_at lw_m3 47 rfl) rfl
theorem q633 : (Jvm.Cond.code ({ cls := "TalkingPlots$Yard", name := "takes", desc := "(LTalkingPlots$Yard;)LTalkingPlots$Yard;" } : Jvm.MethodName) prog_18_method_2_code (3 : Nat) (Option.some (Jvm.ClassFile.FieldType.object "TalkingPlots$Yard"))) ∈ lw_all := lw_g (lw_at lw_m3 48 rfl) rfl
theorem q634 : (Jvm.Cond.methodLink "TalkingPlots$Yard" (22 : Nat) ({ cls := "TalkingPlots$Person", name := "takes", desc := "(LTalkingPlots$Person;)V" } : Jvm.MethodName)) ∈ lw_all := lw_g (lw_at lw_m3 49 rfl) rfl
theorem q745 : (Jvm.Cond.instanceMethod ({ cls := "TalkingPlots$Yard", name := "whoLiesAt", desc := "(I)I" } : Jvm.MethodName)) ∈ lw_all := lw_g (lw_at lw_m3 160 rfl) rfl
theorem q746 : (Jvm.Cond.selects "TalkingPlots$Yard" ({ cls := "TalkingPlots$Yard", name := "whoLiesAt", desc := "(I)I" } : Jvm.MethodName) ({ cls := "TalkingPlots$Yard", name := "whoLiesAt", desc := "(I)I" } : Jvm.MethodName)) ∈ lw_all := lw_g (lw_at lw_m3 161 rfl) rfl
theorem q747 : (Jvm.Cond.code ({ cls := "TalkingPlots$Yard", name := "whoLiesAt", desc := "(I)I" } : Jvm.MethodName) prog_18_method_3_code (3 : Nat) (Option.some Jvm.ClassFile.FieldType.int)) ∈ lw_all := lw_g (lw_at lw_m3 162 rfl) rfl
theorem q748 : (Jvm.Cond.methodLink "TalkingPlots$Yard" (33 : Nat) ({ cls := "TalkingPlots$Person", name := "isLaid", desc := "()Z" } : Jvm.MethodName)) ∈ lw_all := lw_g (lw_at lw_m3 163 rfl) rfl
theorem q820 : (Jvm.Cond.instanceMethod ({ cls := "TalkingPlots$Yard", name := "goes", desc := "(I)LTalkingPlots$Yard;" } : Jvm.MethodName)) ∈ lw_all := lw_g (lw_at lw_m3 235 rfl) rfl
theorem q821 : (Jvm.Cond.selects "TalkingPlots$Yard" ({ cls := "TalkingPlots$Yard", name := "goes", desc := "(I)LTalkingPlots$Yard;" } : Jvm.MethodName) ({ cls := "TalkingPlots$Yard", name := "goes", desc := "(I)LTalkingPlots$Yard;" } : Jvm.MethodName)) ∈ lw_all := lw_g (lw_at lw_m3 236 rfl) rfl
theorem q822 : (Jvm.Cond.code ({ cls := "TalkingPlots$Yard", name := "goes", desc := "(I)LTalkingPlots$Yard;" } : Jvm.MethodName) prog_18_method_14_code (4 : Nat) (Option.some (Jvm.ClassFile.FieldType.object "TalkingPlots$Yard"))) ∈ lw_all := lw_g (lw_at lw_m3 237 rfl) rfl
theorem q823 : (Jvm.Cond.methodLink "TalkingPlots$Yard" (125 : Nat) ({ cls := "TalkingPlots$Yard", name := "nightOf", desc := "(I)V" } : Jvm.MethodName)) ∈ lw_all := lw_g (lw_at lw_m3 238 rfl) rfl
theorem q824 : (Jvm.Cond.privateMethod ({ cls := "TalkingPlots$Yard", name := "nightOf", desc := "(I)V" } : Jvm.MethodName)) ∈ lw_tbl := lw_at lw_m3 239 rfl
theorem q825 : (Jvm.Cond.instanceMethod ({ cls := "TalkingPlots$Yard", name := "nightOf", desc := "(I)V" } : Jvm.MethodName)) ∈ lw_all := lw_g (lw_at lw_m4 0 rfl) rfl
theorem q826 : (Jvm.Cond.code ({ cls := "TalkingPlots$Yard", name := "nightOf", desc := "(I)V" } : Jvm.MethodName) prog_18_method_13_code (8 : Nat) (Option.none : Option Jvm.ClassFile.FieldType)) ∈ lw_all := lw_g (lw_at lw_m4 1 rfl) rfl
theorem q827 : (Jvm.Cond.methodLink "TalkingPlots$Yard" (59 : Nat) ({ cls := "TalkingPlots$Yard", name := "beside", desc := "(I)I" } : Jvm.MethodName)) ∈ lw_all := lw_g (lw_at lw_m4 2 rfl) rfl
theorem q828 : (Jvm.Cond.instanceMethod ({ cls := "TalkingPlots$Yard", name := "beside", desc := "(I)I" } : Jvm.MethodName)) ∈ lw_all := lw_g (lw_at lw_m4 3 rfl) rfl
theorem q829 : (Jvm.Cond.selects "TalkingPlots$Yard" ({ cls := "TalkingPlots$Yard", name := "beside", desc := "(I)I" } : Jvm.MethodName) ({ cls := "TalkingPlots$Yard", name := "beside", desc := "(I)I" } : Jvm.MethodName)) ∈ lw_all := lw_g (lw_at lw_m4 4 rfl) rfl
theorem q830 : (Jvm.Cond.code ({ cls := "TalkingPlots$Yard", name := "beside", desc := "(I)I" } : Jvm.MethodName) prog_18_method_5_code (2 : Nat) (Option.some Jvm.ClassFile.FieldType.int)) ∈ lw_all := lw_g (lw_at lw_m4 5 rfl) rfl
theorem q831 : (Jvm.Cond.methodLink "TalkingPlots$Yard" (44 : Nat) ({ cls := "TalkingPlots$Yard", name := "around", desc := "(I)I" } : Jvm.MethodName)) ∈ lw_all := lw_g (lw_at lw_m4 6 rfl) rfl
theorem q832 : (Jvm.Cond.instanceMethod ({ cls := "TalkingPlots$Yard", name := "around", desc := "(I)I" } : Jvm.MethodName)) ∈ lw_all := lw_g (lw_at lw_m4 7 rfl) rfl
theorem q833 : (Jvm.Cond.selects "TalkingPlots$Yard" ({ cls := "TalkingPlots$Yard", name := "around", desc := "(I)I" } : Jvm.MethodName) ({ cls := "TalkingPlots$Yard", name := "around", desc := "(I)I" } : Jvm.MethodName)) ∈ lw_all := lw_g (lw_at lw_m4 8 rfl) rfl
theorem q834 : (Jvm.Cond.code ({ cls := "TalkingPlots$Yard", name := "around", desc := "(I)I" } : Jvm.MethodName) prog_18_method_4_code (4 : Nat) (Option.some Jvm.ClassFile.FieldType.int)) ∈ lw_all := lw_g (lw_at lw_m4 9 rfl) rfl
theorem q835 : (Jvm.Cond.methodLinkNest "TalkingPlots$Yard" (40 : Nat) ({ cls := "TalkingPlots", name := "areNext", desc := "(II)Z" } : Jvm.MethodName) "TalkingPlots") ∈ lw_tbl := lw_at lw_m4 10 rfl
theorem q845 : (Jvm.Cond.methodLink "TalkingPlots$Yard" (89 : Nat) ({ cls := "java/lang/Integer", name := "bitCount", desc := "(I)I" } : Jvm.MethodName)) ∈ lw_all := lw_g (lw_at lw_m4 20 rfl) rfl
theorem q851 : (Jvm.Cond.methodLink "TalkingPlots$Yard" (98 : Nat) ({ cls := "TalkingPlots$Moment", name := "of", desc := "(IIII)LTalkingPlots$Moment;" } : Jvm.MethodName)) ∈ lw_all := lw_g (lw_at lw_m4 26 rfl) rfl
theorem q855 : (Jvm.Cond.methodLink "TalkingPlots$Yard" (102 : Nat) ({ cls := "TalkingPlots$Text", name := "says", desc := "(ILTalkingPlots$Asked;)Z" } : Jvm.MethodName)) ∈ lw_all := lw_g (lw_at lw_m4 30 rfl) rfl
theorem q895 : (Jvm.Cond.methodLink "TalkingPlots$Yard" (108 : Nat) ({ cls := "TalkingPlots$Yard", name := "liked", desc := "(I)I" } : Jvm.MethodName)) ∈ lw_all := lw_g (lw_at lw_m4 70 rfl) rfl
theorem q896 : (Jvm.Cond.privateMethod ({ cls := "TalkingPlots$Yard", name := "liked", desc := "(I)I" } : Jvm.MethodName)) ∈ lw_tbl := lw_at lw_m4 71 rfl
theorem q897 : (Jvm.Cond.instanceMethod ({ cls := "TalkingPlots$Yard", name := "liked", desc := "(I)I" } : Jvm.MethodName)) ∈ lw_all := lw_g (lw_at lw_m4 72 rfl) rfl
theorem q898 : (Jvm.Cond.code ({ cls := "TalkingPlots$Yard", name := "liked", desc := "(I)I" } : Jvm.MethodName) prog_18_method_11_code (6 : Nat) (Option.some Jvm.ClassFile.FieldType.int)) ∈ lw_all := lw_g (lw_at lw_m4 73 rfl) rfl
theorem q899 : (Jvm.Cond.methodLinkNest "TalkingPlots$Yard" (52 : Nat) ({ cls := "TalkingPlots", name := "has", desc := "(II)Z" } : Jvm.MethodName) "TalkingPlots") ∈ lw_tbl := lw_at lw_m4 74 rfl
theorem q902 : (Jvm.Cond.methodLink "TalkingPlots$Yard" (74 : Nat) ({ cls := "TalkingPlots$Moment", name := "with", desc := "(ILTalkingPlots$Person;LTalkingPlots$Person;)LTalkingPlots$Moment;" } : Jvm.MethodName)) ∈ lw_all := lw_g (lw_at lw_m4 77 rfl) rfl
theorem q912 : (Jvm.Cond.methodLinkNest "TalkingPlots$Yard" (80 : Nat) ({ cls := "TalkingPlots", name := "tells", desc := "(II)I" } : Jvm.MethodName) "TalkingPlots") ∈ lw_tbl := lw_at lw_m4 87 rfl
theorem q933 : (Jvm.Cond.methodLink "TalkingPlots$Yard" (114 : Nat) ({ cls := "TalkingPlots$Yard", name := "draw", desc := "()I" } : Jvm.MethodName)) ∈ lw_all := lw_g (lw_at lw_m4 108 rfl) rfl
theorem q934 : (Jvm.Cond.privateMethod ({ cls := "TalkingPlots$Yard", name := "draw", desc := "()I" } : Jvm.MethodName)) ∈ lw_tbl := lw_at lw_m4 109 rfl
theorem q935 : (Jvm.Cond.instanceMethod ({ cls := "TalkingPlots$Yard", name := "draw", desc := "()I" } : Jvm.MethodName)) ∈ lw_all := lw_g (lw_at lw_m4 110 rfl) rfl
theorem q936 : (Jvm.Cond.code ({ cls := "TalkingPlots$Yard", name := "draw", desc := "()I" } : Jvm.MethodName) prog_18_method_10_code (1 : Nat) (Option.some Jvm.ClassFile.FieldType.int)) ∈ lw_all := lw_g (lw_at lw_m4 111 rfl) rfl
theorem q937 : (Jvm.Cond.constant "TalkingPlots$Yard" (66 : Nat) (65536 : Int32)) ∈ lw_all := lw_g (lw_at lw_m4 112 rfl) rfl
theorem q938 : (Jvm.Cond.methodLink "TalkingPlots$Yard" (118 : Nat) ({ cls := "TalkingPlots$Yard", name := "learns", desc := "(LTalkingPlots$Person;LTalkingPlots$Person;)V" } : Jvm.MethodName)) ∈ lw_all := lw_g (lw_at lw_m4 113 rfl) rfl
theorem q939 : (Jvm.Cond.privateMethod ({ cls := "TalkingPlots$Yard", name := "learns", desc := "(LTalkingPlots$Person;LTalkingPlots$Person;)V" } : Jvm.MethodName)) ∈ lw_tbl := lw_at lw_m4 114 rfl
theorem q940 : (Jvm.Cond.instanceMethod ({ cls := "TalkingPlots$Yard", name := "learns", desc := "(LTalkingPlots$Person;LTalkingPlots$Person;)V" } : Jvm.MethodName)) ∈ lw_all := lw_g (lw_at lw_m4 115 rfl) rfl
theorem q941 : (Jvm.Cond.code ({ cls := "TalkingPlots$Yard", name := "learns", desc := "(LTalkingPlots$Person;LTalkingPlots$Person;)V" } : Jvm.MethodName) prog_18_method_12_code (4 : Nat) (Option.none : Option Jvm.ClassFile.FieldType)) ∈ lw_all := lw_g (lw_at lw_m4 116 rfl) rfl
theorem q942 : (Jvm.Cond.methodLinkNest "TalkingPlots$Yard" (122 : Nat) ({ cls := "TalkingPlots", name := "held", desc := "(II)I" } : Jvm.MethodName) "TalkingPlots") ∈ lw_tbl := lw_at lw_m4 117 rfl
theorem q981 : (Jvm.Cond.instanceMethod ({ cls := "TalkingPlots$Yard", name := "talk", desc := "()I" } : Jvm.MethodName)) ∈ lw_all := lw_g (lw_at lw_m4 156 rfl) rfl
theorem q982 : (Jvm.Cond.selects "TalkingPlots$Yard" ({ cls := "TalkingPlots$Yard", name := "talk", desc := "()I" } : Jvm.MethodName) ({ cls := "TalkingPlots$Yard", name := "talk", desc := "()I" } : Jvm.MethodName)) ∈ lw_all := lw_g (lw_at lw_m4 157 rfl) rfl
theorem q983 : (Jvm.Cond.code ({ cls := "TalkingPlots$Yard", name := "talk", desc := "()I" } : Jvm.MethodName) prog_18_method_9_code (3 : Nat) (Option.some Jvm.ClassFile.FieldType.int)) ∈ lw_all := lw_g (lw_at lw_m4 158 rfl) rfl
theorem q984 : (Jvm.Cond.methodLink "TalkingPlots$Yard" (62 : Nat) ({ cls := "TalkingPlots$Yard", name := "talkWith", desc := "(II)I" } : Jvm.MethodName)) ∈ lw_all := lw_g (lw_at lw_m4 159 rfl) rfl
theorem q985 : (Jvm.Cond.instanceMethod ({ cls := "TalkingPlots$Yard", name := "talkWith", desc := "(II)I" } : Jvm.MethodName)) ∈ lw_all := lw_g (lw_at lw_m4 160 rfl) rfl
theorem q986 : (Jvm.Cond.selects "TalkingPlots$Yard" ({ cls := "TalkingPlots$Yard", name := "talkWith", desc := "(II)I" } : Jvm.MethodName) ({ cls := "TalkingPlots$Yard", name := "talkWith", desc := "(II)I" } : Jvm.MethodName)) ∈ lw_all := lw_g (lw_at lw_m4 161 rfl) rfl
theorem q987 : (Jvm.Cond.code ({ cls := "TalkingPlots$Yard", name := "talkWith", desc := "(II)I" } : Jvm.MethodName) prog_18_method_8_code (5 : Nat) (Option.some Jvm.ClassFile.FieldType.int)) ∈ lw_all := lw_g (lw_at lw_m4 162 rfl) rfl
theorem q988 : (Jvm.Cond.methodLink "TalkingPlots$Yard" (55 : Nat) ({ cls := "TalkingPlots$Person", name := "talk", desc := "(LTalkingPlots$Person;)I" } : Jvm.MethodName)) ∈ lw_all := lw_g (lw_at lw_m4 163 rfl) rfl
theorem q1032 : (Jvm.Cond.instanceMethod ({ cls := "TalkingPlots$Yard", name := "told", desc := "()I" } : Jvm.MethodName)) ∈ lw_all := lw_g (lw_at lw_m4 207 rfl) rfl
theorem q1033 : (Jvm.Cond.selects "TalkingPlots$Yard" ({ cls := "TalkingPlots$Yard", name := "told", desc := "()I" } : Jvm.MethodName) ({ cls := "TalkingPlots$Yard", name := "told", desc := "()I" } : Jvm.MethodName)) ∈ lw_all := lw_g (lw_at lw_m4 208 rfl) rfl
theorem q1034 : (Jvm.Cond.code ({ cls := "TalkingPlots$Yard", name := "told", desc := "()I" } : Jvm.MethodName) prog_18_method_6_code (3 : Nat) (Option.some Jvm.ClassFile.FieldType.int)) ∈ lw_all := lw_g (lw_at lw_m4 209 rfl) rfl
theorem q1164 : (Jvm.Cond.instanceMethod ({ cls := "TalkingPlots$Yard", name := "laid", desc := "()I" } : Jvm.MethodName)) ∈ lw_all := lw_g (lw_at lw_m5 99 rfl) rfl
theorem q1165 : (Jvm.Cond.selects "TalkingPlots$Yard" ({ cls := "TalkingPlots$Yard", name := "laid", desc := "()I" } : Jvm.MethodName) ({ cls := "TalkingPlots$Yard", name := "laid", desc := "()I" } : Jvm.MethodName)) ∈ lw_all := lw_g (lw_at lw_m5 100 rfl) rfl
theorem q1166 : (Jvm.Cond.code ({ cls := "TalkingPlots$Yard", name := "laid", desc := "()I" } : Jvm.MethodName) prog_18_method_7_code (3 : Nat) (Option.some Jvm.ClassFile.FieldType.int)) ∈ lw_all := lw_g (lw_at lw_m5 101 rfl) rfl
theorem in_X3 : ∀ w ∈ wsX30, w ∈ lw_all := lw_in wsX30 [229, 231, 233, 235, 237, 239] (by decide +kernel) (by decide +kernel)
/-! TalkingPlots$Person -/
set_option maxRecDepth 100000
def RX4 : String := "TalkingPlots$Person"
def TX4 : u_T := fun k => match k with
  | 0 => ("TalkingPlots$Person", "topics", "I", false)
  | 1 => ("TalkingPlots$Person", "mood", "I", false)
  | 2 => ("TalkingPlots$Person", "plot", "I", false)
  | _ => ("TalkingPlots$Person", "isTold", "Z", false)
def tyX4 : Nat → FieldType := fun k => match k with
  | 0 => .int
  | 1 => .int
  | 2 => .int
  | _ => .boolean
abbrev wsX40 : List Cond := u_ws RX4 TX4 4
theorem nmX4 : ∀ a, a < 4 → ∀ b, b < 4 → a ≠ b → (TX4 a).2.1 ≠ (TX4 b).2.1 := by decide +kernel
theorem tyX4_ok : ∀ k, k < 4 → parseFieldDescriptor (TX4 k).2.2.1 = some (tyX4 k) := by decide +kernel
abbrev cX4_init : ByteArray := prog_9_method_1_code
def yX4_init : MethodName := ⟨RX4, "<init>", "()V"⟩
def dkwX4_init_0 : List UInt8 := [42, 183, 0, 3, 42, 2, 181, 0, 9, 177]
abbrev dktX4_init_0 : List UInt8 := dkwX4_init_0 ++ []
theorem dksX4_init_0 : cX4_init.data.toList.drop 0 = dktX4_init_0 := by decide +kernel
theorem dX4_init_0 : decode cX4_init 0 = .ok (.aload_n 0, 1) := dk_42 (dk_at dksX4_init_0 0 rfl rfl)
theorem dX4_init_1 : decode cX4_init 1 = .ok (.invokespecial 3, 3) := dk_183 0 3 (dk_at dksX4_init_0 1 rfl rfl)
theorem dX4_init_4 : decode cX4_init 4 = .ok (.aload_n 0, 1) := dk_42 (dk_at dksX4_init_0 4 rfl rfl)
theorem dX4_init_5 : decode cX4_init 5 = .ok (.iconst (-1), 1) := dk_2 (dk_at dksX4_init_0 5 rfl rfl)
theorem dX4_init_6 : decode cX4_init 6 = .ok (.putfield 9, 3) := dk_181 0 9 (dk_at dksX4_init_0 6 rfl rfl)
theorem dX4_init_9 : decode cX4_init 9 = .ok (.return_, 1) := dk_177 (dk_at dksX4_init_0 9 rfl rfl)
abbrev cX4_takes : ByteArray := prog_9_method_2_code
def yX4_takes : MethodName := ⟨RX4, "takes", "(LTalkingPlots$Person;)V"⟩
def dkwX4_takes_1 : List UInt8 := [42, 43, 180, 0, 21, 181, 0, 21, 177]
abbrev dktX4_takes_1 : List UInt8 := dkwX4_takes_1 ++ []
def dkwX4_takes_0 : List UInt8 := [42, 43, 180, 0, 15, 181, 0, 15, 42, 43, 180, 0, 18, 181, 0, 18, 42, 43, 180, 0, 9, 181, 0, 9]
abbrev dktX4_takes_0 : List UInt8 := dkwX4_takes_0 ++ dktX4_takes_1
theorem dksX4_takes_0 : cX4_takes.data.toList.drop 0 = dktX4_takes_0 := by decide +kernel
theorem dksX4_takes_1 : cX4_takes.data.toList.drop 24 = dktX4_takes_1 := dk_seg dksX4_takes_0 24 rfl rfl
theorem dX4_takes_0 : decode cX4_takes 0 = .ok (.aload_n 0, 1) := dk_42 (dk_at dksX4_takes_0 0 rfl rfl)
theorem dX4_takes_1 : decode cX4_takes 1 = .ok (.aload_n 1, 1) := dk_43 (dk_at dksX4_takes_0 1 rfl rfl)
theorem dX4_takes_2 : decode cX4_takes 2 = .ok (.getfield 15, 3) := dk_180 0 15 (dk_at dksX4_takes_0 2 rfl rfl)
theorem dX4_takes_5 : decode cX4_takes 5 = .ok (.putfield 15, 3) := dk_181 0 15 (dk_at dksX4_takes_0 5 rfl rfl)
theorem dX4_takes_8 : decode cX4_takes 8 = .ok (.aload_n 0, 1) := dk_42 (dk_at dksX4_takes_0 8 rfl rfl)
theorem dX4_takes_9 : decode cX4_takes 9 = .ok (.aload_n 1, 1) := dk_43 (dk_at dksX4_takes_0 9 rfl rfl)
theorem dX4_takes_10 : decode cX4_takes 10 = .ok (.getfield 18, 3) := dk_180 0 18 (dk_at dksX4_takes_0 10 rfl rfl)
theorem dX4_takes_13 : decode cX4_takes 13 = .ok (.putfield 18, 3) := dk_181 0 18 (dk_at dksX4_takes_0 13 rfl rfl)
theorem dX4_takes_16 : decode cX4_takes 16 = .ok (.aload_n 0, 1) := dk_42 (dk_at dksX4_takes_0 16 rfl rfl)
theorem dX4_takes_17 : decode cX4_takes 17 = .ok (.aload_n 1, 1) := dk_43 (dk_at dksX4_takes_0 17 rfl rfl)
theorem dX4_takes_18 : decode cX4_takes 18 = .ok (.getfield 9, 3) := dk_180 0 9 (dk_at dksX4_takes_0 18 rfl rfl)
theorem dX4_takes_21 : decode cX4_takes 21 = .ok (.putfield 9, 3) := dk_181 0 9 (dk_at dksX4_takes_0 21 rfl rfl)
theorem dX4_takes_24 : decode cX4_takes 24 = .ok (.aload_n 0, 1) := dk_42 (dk_at dksX4_takes_1 0 rfl rfl)
theorem dX4_takes_25 : decode cX4_takes 25 = .ok (.aload_n 1, 1) := dk_43 (dk_at dksX4_takes_1 1 rfl rfl)
theorem dX4_takes_26 : decode cX4_takes 26 = .ok (.getfield 21, 3) := dk_180 0 21 (dk_at dksX4_takes_1 2 rfl rfl)
theorem dX4_takes_29 : decode cX4_takes 29 = .ok (.putfield 21, 3) := dk_181 0 21 (dk_at dksX4_takes_1 5 rfl rfl)
theorem dX4_takes_32 : decode cX4_takes 32 = .ok (.return_, 1) := dk_177 (dk_at dksX4_takes_1 8 rfl rfl)
abbrev cX4_isLaid : ByteArray := prog_9_method_3_code
def yX4_isLaid : MethodName := ⟨RX4, "isLaid", "()Z"⟩
def dkwX4_isLaid_0 : List UInt8 := [42, 180, 0, 21, 153, 0, 15, 42, 180, 0, 9, 2, 159, 0, 7, 4, 167, 0, 4, 3, 172]
abbrev dktX4_isLaid_0 : List UInt8 := dkwX4_isLaid_0 ++ []
theorem dksX4_isLaid_0 : cX4_isLaid.data.toList.drop 0 = dktX4_isLaid_0 := by decide +kernel
theorem dX4_isLaid_0 : decode cX4_isLaid 0 = .ok (.aload_n 0, 1) := dk_42 (dk_at dksX4_isLaid_0 0 rfl rfl)
theorem dX4_isLaid_1 : decode cX4_isLaid 1 = .ok (.getfield 21, 3) := dk_180 0 21 (dk_at dksX4_isLaid_0 1 rfl rfl)
theorem dX4_isLaid_4 : decode cX4_isLaid 4 = .ok (.ifCond .eq 15, 3) := dk_153 0 15 (dk_at dksX4_isLaid_0 4 rfl rfl)
theorem dX4_isLaid_7 : decode cX4_isLaid 7 = .ok (.aload_n 0, 1) := dk_42 (dk_at dksX4_isLaid_0 7 rfl rfl)
theorem dX4_isLaid_8 : decode cX4_isLaid 8 = .ok (.getfield 9, 3) := dk_180 0 9 (dk_at dksX4_isLaid_0 8 rfl rfl)
theorem dX4_isLaid_11 : decode cX4_isLaid 11 = .ok (.iconst (-1), 1) := dk_2 (dk_at dksX4_isLaid_0 11 rfl rfl)
theorem dX4_isLaid_12 : decode cX4_isLaid 12 = .ok (.if_icmp .eq 7, 3) := dk_159 0 7 (dk_at dksX4_isLaid_0 12 rfl rfl)
theorem dX4_isLaid_15 : decode cX4_isLaid 15 = .ok (.iconst 1, 1) := dk_4 (dk_at dksX4_isLaid_0 15 rfl rfl)
theorem dX4_isLaid_16 : decode cX4_isLaid 16 = .ok (.goto 4, 3) := dk_167 0 4 (dk_at dksX4_isLaid_0 16 rfl rfl)
theorem dX4_isLaid_19 : decode cX4_isLaid 19 = .ok (.iconst 0, 1) := dk_3 (dk_at dksX4_isLaid_0 19 rfl rfl)
theorem dX4_isLaid_20 : decode cX4_isLaid 20 = .ok (.ireturn, 1) := dk_172 (dk_at dksX4_isLaid_0 20 rfl rfl)
abbrev cX4_shared : ByteArray := prog_9_method_4_code
def yX4_shared : MethodName := ⟨RX4, "shared", "(LTalkingPlots$Person;)I"⟩
def dkwX4_shared_0 : List UInt8 := [42, 180, 0, 15, 43, 180, 0, 15, 126, 184, 0, 25, 172]
abbrev dktX4_shared_0 : List UInt8 := dkwX4_shared_0 ++ []
theorem dksX4_shared_0 : cX4_shared.data.toList.drop 0 = dktX4_shared_0 := by decide +kernel
theorem dX4_shared_0 : decode cX4_shared 0 = .ok (.aload_n 0, 1) := dk_42 (dk_at dksX4_shared_0 0 rfl rfl)
theorem dX4_shared_1 : decode cX4_shared 1 = .ok (.getfield 15, 3) := dk_180 0 15 (dk_at dksX4_shared_0 1 rfl rfl)
theorem dX4_shared_4 : decode cX4_shared 4 = .ok (.aload_n 1, 1) := dk_43 (dk_at dksX4_shared_0 4 rfl rfl)
theorem dX4_shared_5 : decode cX4_shared 5 = .ok (.getfield 15, 3) := dk_180 0 15 (dk_at dksX4_shared_0 5 rfl rfl)
theorem dX4_shared_8 : decode cX4_shared 8 = .ok (.iand, 1) := dk_126 (dk_at dksX4_shared_0 8 rfl rfl)
theorem dX4_shared_9 : decode cX4_shared 9 = .ok (.invokestatic 25, 3) := dk_184 0 25 (dk_at dksX4_shared_0 9 rfl rfl)
theorem dX4_shared_12 : decode cX4_shared 12 = .ok (.ireturn, 1) := dk_172 (dk_at dksX4_shared_0 12 rfl rfl)
abbrev cX4_talk : ByteArray := prog_9_method_6_code
def yX4_talk : MethodName := ⟨RX4, "talk", "(LTalkingPlots$Person;)I"⟩
def dkwX4_talk_0 : List UInt8 := [6, 42, 43, 182, 0, 31, 104, 42, 43, 182, 0, 35, 100, 172]
abbrev dktX4_talk_0 : List UInt8 := dkwX4_talk_0 ++ []
theorem dksX4_talk_0 : cX4_talk.data.toList.drop 0 = dktX4_talk_0 := by decide +kernel
theorem dX4_talk_0 : decode cX4_talk 0 = .ok (.iconst 3, 1) := dk_6 (dk_at dksX4_talk_0 0 rfl rfl)
theorem dX4_talk_1 : decode cX4_talk 1 = .ok (.aload_n 0, 1) := dk_42 (dk_at dksX4_talk_0 1 rfl rfl)
theorem dX4_talk_2 : decode cX4_talk 2 = .ok (.aload_n 1, 1) := dk_43 (dk_at dksX4_talk_0 2 rfl rfl)
theorem dX4_talk_3 : decode cX4_talk 3 = .ok (.invokevirtual 31, 3) := dk_182 0 31 (dk_at dksX4_talk_0 3 rfl rfl)
theorem dX4_talk_6 : decode cX4_talk 6 = .ok (.imul, 1) := dk_104 (dk_at dksX4_talk_0 6 rfl rfl)
theorem dX4_talk_7 : decode cX4_talk 7 = .ok (.aload_n 0, 1) := dk_42 (dk_at dksX4_talk_0 7 rfl rfl)
theorem dX4_talk_8 : decode cX4_talk 8 = .ok (.aload_n 1, 1) := dk_43 (dk_at dksX4_talk_0 8 rfl rfl)
theorem dX4_talk_9 : decode cX4_talk 9 = .ok (.invokevirtual 35, 3) := dk_182 0 35 (dk_at dksX4_talk_0 9 rfl rfl)
theorem dX4_talk_12 : decode cX4_talk 12 = .ok (.isub, 1) := dk_100 (dk_at dksX4_talk_0 12 rfl rfl)
theorem dX4_talk_13 : decode cX4_talk 13 = .ok (.ireturn, 1) := dk_172 (dk_at dksX4_talk_0 13 rfl rfl)
abbrev cX4_unlike : ByteArray := prog_9_method_5_code
def yX4_unlike : MethodName := ⟨RX4, "unlike", "(LTalkingPlots$Person;)I"⟩
def dkwX4_unlike_0 : List UInt8 := [42, 180, 0, 15, 43, 180, 0, 15, 130, 184, 0, 25, 172]
abbrev dktX4_unlike_0 : List UInt8 := dkwX4_unlike_0 ++ []
theorem dksX4_unlike_0 : cX4_unlike.data.toList.drop 0 = dktX4_unlike_0 := by decide +kernel
theorem dX4_unlike_0 : decode cX4_unlike 0 = .ok (.aload_n 0, 1) := dk_42 (dk_at dksX4_unlike_0 0 rfl rfl)
theorem dX4_unlike_1 : decode cX4_unlike 1 = .ok (.getfield 15, 3) := dk_180 0 15 (dk_at dksX4_unlike_0 1 rfl rfl)
theorem dX4_unlike_4 : decode cX4_unlike 4 = .ok (.aload_n 1, 1) := dk_43 (dk_at dksX4_unlike_0 4 rfl rfl)
theorem dX4_unlike_5 : decode cX4_unlike 5 = .ok (.getfield 15, 3) := dk_180 0 15 (dk_at dksX4_unlike_0 5 rfl rfl)
theorem dX4_unlike_8 : decode cX4_unlike 8 = .ok (.ixor, 1) := dk_130 (dk_at dksX4_unlike_0 8 rfl rfl)
theorem dX4_unlike_9 : decode cX4_unlike 9 = .ok (.invokestatic 25, 3) := dk_184 0 25 (dk_at dksX4_unlike_0 9 rfl rfl)
theorem dX4_unlike_12 : decode cX4_unlike 12 = .ok (.ireturn, 1) := dk_172 (dk_at dksX4_unlike_0 12 rfl rfl)
theorem q110 : (Jvm.Cond.initialized "TalkingPlots$Person") ∈ lw_all := lw_g (lw_at lw_m1 5 rfl) rfl
theorem q187 : (Jvm.Cond.instantiable "TalkingPlots$Person" (4 : Nat)) ∈ lw_all := lw_g (lw_at lw_m1 82 rfl) rfl
theorem q189 : (Jvm.Cond.instanceMethod ({ cls := "TalkingPlots$Person", name := "<init>", desc := "()V" } : Jvm.MethodName)) ∈ lw_all := lw_g (lw_at lw_m1 84 rfl) rfl
theorem q190 : (Jvm.Cond.code ({ cls := "TalkingPlots$Person", name := "<init>", desc := "()V" } : Jvm.MethodName) prog_9_method_1_code (1 : Nat) (Option.none : Option Jvm.ClassFile.FieldType)) ∈ lw_all := lw_g (lw_at lw_m1 85 rfl) rfl
theorem q191 : (Jvm.Cond.methodLink "TalkingPlots$Person" (3 : Nat) ({ cls := "java/lang/Object", name := "<init>", desc := "()V" } : Jvm.MethodName)) ∈ lw_all := lw_g (lw_at lw_m1 86 rfl) rfl
theorem q192 : (Jvm.Cond.fieldLink "TalkingPlots$Person" (15 : Nat) "TalkingPlots$Person" "topics" "I") ∈ lw_all := lw_g (lw_at lw_m1 87 rfl) rfl
theorem q197 : (Jvm.Cond.fieldLink "TalkingPlots$Person" (18 : Nat) "TalkingPlots$Person" "mood" "I") ∈ lw_all := lw_g (lw_at lw_m1 92 rfl) rfl
theorem q201 : (Jvm.Cond.fieldLink "TalkingPlots$Person" (9 : Nat) "TalkingPlots$Person" "plot" "I") ∈ lw_all := lw_g (lw_at lw_m1 96 rfl) rfl
theorem q205 : (Jvm.Cond.fieldLink "TalkingPlots$Person" (21 : Nat) "TalkingPlots$Person" "isTold" "Z") ∈ lw_all := lw_g (lw_at lw_m1 100 rfl) rfl
theorem q208 : (Jvm.Cond.lays "TalkingPlots$Person" "TalkingPlots$Person" "topics" "I") ∈ lw_all := lw_g (lw_at lw_m1 103 rfl) rfl
theorem q209 : (Jvm.Cond.soleField "TalkingPlots$Person" "topics") ∈ lw_all := lw_g (lw_at lw_m1 104 rfl) rfl
theorem q210 : (Jvm.Cond.lays "TalkingPlots$Person" "TalkingPlots$Person" "mood" "I") ∈ lw_all := lw_g (lw_at lw_m1 105 rfl) rfl
theorem q211 : (Jvm.Cond.soleField "TalkingPlots$Person" "mood") ∈ lw_all := lw_g (lw_at lw_m1 106 rfl) rfl
theorem q212 : (Jvm.Cond.lays "TalkingPlots$Person" "TalkingPlots$Person" "plot" "I") ∈ lw_all := lw_g (lw_at lw_m1 107 rfl) rfl
theorem q213 : (Jvm.Cond.soleField "TalkingPlots$Person" "plot") ∈ lw_all := lw_g (lw_at lw_m1 108 rfl) rfl
theorem q214 : (Jvm.Cond.lays "TalkingPlots$Person" "TalkingPlots$Person" "isTold" "Z") ∈ lw_all := lw_g (lw_at lw_m1 109 rfl) rfl
theorem q215 : (Jvm.Cond.soleField "TalkingPlots$Person" "isTold") ∈ lw_all := lw_g (lw_at lw_m1 110 rfl) rfl
theorem q216 : (Jvm.Cond.superclass "TalkingPlots$Person" "java/lang/Object") ∈ lw_all := lw_g (lw_at lw_m1 111 rfl) rfl
theorem q635 : (Jvm.Cond.instanceMethod ({ cls := "TalkingPlots$Person", name := "takes", desc := "(LTalkingPlots$Person;)V" } : Jvm.MethodName)) ∈ lw_all := lw_g (lw_at lw_m3 50 rfl) rfl
theorem q636 : (Jvm.Cond.selects "TalkingPlots$Person" ({ cls := "TalkingPlots$Person", name := "takes", desc := "(LTalkingPlots$Person;)V" } : Jvm.MethodName) ({ cls := "TalkingPlots$Person", name := "takes", desc := "(LTalkingPlots$Person;)V" } : Jvm.MethodName)) ∈ lw_all := lw_g (lw_at lw_m3 51 rfl) rfl
theorem q637 : (Jvm.Cond.code ({ cls := "TalkingPlots$Person", name := "takes", desc := "(LTalkingPlots$Person;)V" } : Jvm.MethodName) prog_9_method_2_code (2 : Nat) (Option.none : Option Jvm.ClassFile.FieldType)) ∈ lw_all := lw_g (lw_at lw_m3 52 rfl) rfl
theorem q749 : (Jvm.Cond.instanceMethod ({ cls := "TalkingPlots$Person", name := "isLaid", desc := "()Z" } : Jvm.MethodName)) ∈ lw_all := lw_g (lw_at lw_m3 164 rfl) rfl
theorem q750 : (Jvm.Cond.selects "TalkingPlots$Person" ({ cls := "TalkingPlots$Person", name := "isLaid", desc := "()Z" } : Jvm.MethodName) ({ cls := "TalkingPlots$Person", name := "isLaid", desc := "()Z" } : Jvm.MethodName)) ∈ lw_all := lw_g (lw_at lw_m3 165 rfl) rfl
theorem q751 : (Jvm.Cond.code ({ cls := "TalkingPlots$Person", name := "isLaid", desc := "()Z" } : Jvm.MethodName) prog_9_method_3_code (1 : Nat) (Option.some Jvm.ClassFile.FieldType.boolean)) ∈ lw_all := lw_g (lw_at lw_m3 166 rfl) rfl
theorem q907 : (Jvm.Cond.instanceMethod ({ cls := "TalkingPlots$Person", name := "shared", desc := "(LTalkingPlots$Person;)I" } : Jvm.MethodName)) ∈ lw_all := lw_g (lw_at lw_m4 82 rfl) rfl
theorem q908 : (Jvm.Cond.selects "TalkingPlots$Person" ({ cls := "TalkingPlots$Person", name := "shared", desc := "(LTalkingPlots$Person;)I" } : Jvm.MethodName) ({ cls := "TalkingPlots$Person", name := "shared", desc := "(LTalkingPlots$Person;)I" } : Jvm.MethodName)) ∈ lw_all := lw_g (lw_at lw_m4 83 rfl) rfl
theorem q909 : (Jvm.Cond.code ({ cls := "TalkingPlots$Person", name := "shared", desc := "(LTalkingPlots$Person;)I" } : Jvm.MethodName) prog_9_method_4_code (2 : Nat) (Option.some Jvm.ClassFile.FieldType.int)) ∈ lw_all := lw_g (lw_at lw_m4 84 rfl) rfl
theorem q910 : (Jvm.Cond.methodLink "TalkingPlots$Person" (25 : Nat) ({ cls := "java/lang/Integer", name := "bitCount", desc := "(I)I" } : Jvm.MethodName)) ∈ lw_all := lw_g (lw_at lw_m4 85 rfl) rfl
theorem q968 : (Jvm.Cond.instanceMethod ({ cls := "TalkingPlots$Person", name := "talk", desc := "(LTalkingPlots$Person;)I" } : Jvm.MethodName)) ∈ lw_all := lw_g (lw_at lw_m4 143 rfl) rfl
theorem q969 : (Jvm.Cond.selects "TalkingPlots$Person" ({ cls := "TalkingPlots$Person", name := "talk", desc := "(LTalkingPlots$Person;)I" } : Jvm.MethodName) ({ cls := "TalkingPlots$Person", name := "talk", desc := "(LTalkingPlots$Person;)I" } : Jvm.MethodName)) ∈ lw_all := lw_g (lw_at lw_m4 144 rfl) rfl
theorem q970 : (Jvm.Cond.code ({ cls := "TalkingPlots$Person", name := "talk", desc := "(LTalkingPlots$Person;)I" } : Jvm.MethodName) prog_9_method_6_code (2 : Nat) (Option.some Jvm.ClassFile.FieldType.int)) ∈ lw_all := lw_g (lw_at lw_m4 145 rfl) rfl
theorem q971 : (Jvm.Cond.methodLink "TalkingPlots$Person" (31 : Nat) ({ cls := "TalkingPlots$Person", name := "shared", desc := "(LTalkingPlots$Person;)I" } : Jvm.MethodName)) ∈ lw_all := lw_g (lw_at lw_m4 146 rfl) rfl
theorem q972 : (Jvm.Cond.methodLink "TalkingPlots$Person" (35 : Nat) ({ cls := "TalkingPlots$Person", name := "unlike", desc := "(LTalkingPlots$Person;)I" } : Jvm.MethodName)) ∈ lw_all := lw_g (lw_at lw_m4 147 rfl) rfl
theorem q973 : (Jvm.Cond.instanceMethod ({ cls := "TalkingPlots$Person", name := "unlike", desc := "(LTalkingPlots$Person;)I" } : Jvm.MethodName)) ∈ lw_all := lw_g (lw_at lw_m4 148 rfl) rfl
theorem q974 : (Jvm.Cond.selects "TalkingPlots$Person" ({ cls := "TalkingPlots$Person", name := "unlike", desc := "(LTalkingPlots$Person;)I" } : Jvm.MethodName) ({ cls := "TalkingPlots$Person", name := "unlike", desc := "(LTalkingPlots$Person;)I" } : Jvm.MethodName)) ∈ lw_all := lw_g (lw_at lw_m4 149 rfl) rfl
theorem q975 : (Jvm.Cond.code ({ cls := "TalkingPlots$Person", name := "unlike", desc := "(LTalkingPlots$Person;)I" } : Jvm.MethodName) prog_9_method_5_code (2 : Nat) (Option.some Jvm.ClassFile.FieldType.int)) ∈ lw_all := lw_g (lw_at lw_m4 150 rfl) rfl
theorem in_X4 : ∀ w ∈ wsX40, w ∈ lw_all := lw_in wsX40 [208, 210, 212, 214] (by decide +kernel) (by decide +kernel)
/-! TalkingPlots$Text -/
set_option maxRecDepth 100000
def RX5 : String := "TalkingPlots$Text"
def TX5 : u_T := fun k => match k with
  | 0 => ("TalkingPlots$Text", "letters", "[I", true)
  | 1 => ("TalkingPlots$Text", "sums", "[LTalkingPlots$Sum;", true)
  | 2 => ("TalkingPlots$Text", "conditions", "[LTalkingPlots$Condition;", true)
  | _ => ("TalkingPlots$Text", "many", "I", false)
def tyX5 : Nat → FieldType := fun k => match k with
  | 0 => .array .int
  | 1 => .array (.object "TalkingPlots$Sum")
  | 2 => .array (.object "TalkingPlots$Condition")
  | _ => .int
abbrev wsX50 : List Cond := u_ws RX5 TX5 4
theorem nmX5 : ∀ a, a < 4 → ∀ b, b < 4 → a ≠ b → (TX5 a).2.1 ≠ (TX5 b).2.1 := by decide +kernel
theorem tyX5_ok : ∀ k, k < 4 → parseFieldDescriptor (TX5 k).2.2.1 = some (tyX5 k) := by decide +kernel
abbrev cX5_init : ByteArray := prog_16_method_1_code
def yX5_init : MethodName := ⟨RX5, "<init>", "()V"⟩
def dkwX5_init_1 : List UInt8 := [189, 0, 21, 181, 0, 23, 177]
abbrev dktX5_init_1 : List UInt8 := dkwX5_init_1 ++ []
def dkwX5_init_0 : List UInt8 := [42, 183, 0, 3, 42, 16, 16, 188, 10, 181, 0, 9, 42, 16, 16, 189, 0, 15, 181, 0, 17, 42, 16, 16]
abbrev dktX5_init_0 : List UInt8 := dkwX5_init_0 ++ dktX5_init_1
theorem dksX5_init_0 : cX5_init.data.toList.drop 0 = dktX5_init_0 := by decide +kernel
theorem dksX5_init_1 : cX5_init.data.toList.drop 24 = dktX5_init_1 := dk_seg dksX5_init_0 24 rfl rfl
theorem dX5_init_0 : decode cX5_init 0 = .ok (.aload_n 0, 1) := dk_42 (dk_at dksX5_init_0 0 rfl rfl)
theorem dX5_init_1 : decode cX5_init 1 = .ok (.invokespecial 3, 3) := dk_183 0 3 (dk_at dksX5_init_0 1 rfl rfl)
theorem dX5_init_4 : decode cX5_init 4 = .ok (.aload_n 0, 1) := dk_42 (dk_at dksX5_init_0 4 rfl rfl)
theorem dX5_init_5 : decode cX5_init 5 = .ok (.bipush 16, 2) := dk_16 16 (dk_at dksX5_init_0 5 rfl rfl)
theorem dX5_init_7 : decode cX5_init 7 = .ok (.newarray .int, 2) := dk_188_10 (dk_at dksX5_init_0 7 rfl rfl)
theorem dX5_init_9 : decode cX5_init 9 = .ok (.putfield 9, 3) := dk_181 0 9 (dk_at dksX5_init_0 9 rfl rfl)
theorem dX5_init_12 : decode cX5_init 12 = .ok (.aload_n 0, 1) := dk_42 (dk_at dksX5_init_0 12 rfl rfl)
theorem dX5_init_13 : decode cX5_init 13 = .ok (.bipush 16, 2) := dk_16 16 (dk_at dksX5_init_0 13 rfl rfl)
theorem dX5_init_15 : decode cX5_init 15 = .ok (.anewarray 15, 3) := dk_189 0 15 (dk_at dksX5_init_0 15 rfl rfl)
theorem dX5_init_18 : decode cX5_init 18 = .ok (.putfield 17, 3) := dk_181 0 17 (dk_at dksX5_init_0 18 rfl rfl)
theorem dX5_init_21 : decode cX5_init 21 = .ok (.aload_n 0, 1) := dk_42 (dk_at dksX5_init_0 21 rfl rfl)
theorem dX5_init_22 : decode cX5_init 22 = .ok (.bipush 16, 2) := dk_16 16 (dk_at dksX5_init_0 22 rfl rfl)
theorem dX5_init_24 : decode cX5_init 24 = .ok (.anewarray 21, 3) := dk_189 0 21 (dk_at dksX5_init_1 0 rfl rfl)
theorem dX5_init_27 : decode cX5_init 27 = .ok (.putfield 23, 3) := dk_181 0 23 (dk_at dksX5_init_1 3 rfl rfl)
theorem dX5_init_30 : decode cX5_init 30 = .ok (.return_, 1) := dk_177 (dk_at dksX5_init_1 6 rfl rfl)
abbrev cX5_says : ByteArray := prog_16_method_3_code
def yX5_says : MethodName := ⟨RX5, "says", "(ILTalkingPlots$Asked;)Z"⟩
def dkwX5_says_1 : List UInt8 := [29, 50, 44, 182, 0, 31, 4, 160, 0, 5, 4, 172, 132, 3, 1, 167, 255, 219, 3, 172]
abbrev dktX5_says_1 : List UInt8 := dkwX5_says_1 ++ []
def dkwX5_says_0 : List UInt8 := [3, 62, 29, 42, 180, 0, 27, 162, 0, 35, 42, 180, 0, 9, 29, 46, 27, 160, 0, 19, 42, 180, 0, 23]
abbrev dktX5_says_0 : List UInt8 := dkwX5_says_0 ++ dktX5_says_1
theorem dksX5_says_0 : cX5_says.data.toList.drop 0 = dktX5_says_0 := by decide +kernel
theorem dksX5_says_1 : cX5_says.data.toList.drop 24 = dktX5_says_1 := dk_seg dksX5_says_0 24 rfl rfl
theorem dX5_says_0 : decode cX5_says 0 = .ok (.iconst 0, 1) := dk_3 (dk_at dksX5_says_0 0 rfl rfl)
theorem dX5_says_1 : decode cX5_says 1 = .ok (.istore_n 3, 1) := dk_62 (dk_at dksX5_says_0 1 rfl rfl)
theorem dX5_says_2 : decode cX5_says 2 = .ok (.iload_n 3, 1) := dk_29 (dk_at dksX5_says_0 2 rfl rfl)
theorem dX5_says_3 : decode cX5_says 3 = .ok (.aload_n 0, 1) := dk_42 (dk_at dksX5_says_0 3 rfl rfl)
theorem dX5_says_4 : decode cX5_says 4 = .ok (.getfield 27, 3) := dk_180 0 27 (dk_at dksX5_says_0 4 rfl rfl)
theorem dX5_says_7 : decode cX5_says 7 = .ok (.if_icmp .ge 35, 3) := dk_162 0 35 (dk_at dksX5_says_0 7 rfl rfl)
theorem dX5_says_10 : decode cX5_says 10 = .ok (.aload_n 0, 1) := dk_42 (dk_at dksX5_says_0 10 rfl rfl)
theorem dX5_says_11 : decode cX5_says 11 = .ok (.getfield 9, 3) := dk_180 0 9 (dk_at dksX5_says_0 11 rfl rfl)
theorem dX5_says_14 : decode cX5_says 14 = .ok (.iload_n 3, 1) := dk_29 (dk_at dksX5_says_0 14 rfl rfl)
theorem dX5_says_15 : decode cX5_says 15 = .ok (.iaload, 1) := dk_46 (dk_at dksX5_says_0 15 rfl rfl)
theorem dX5_says_16 : decode cX5_says 16 = .ok (.iload_n 1, 1) := dk_27 (dk_at dksX5_says_0 16 rfl rfl)
theorem dX5_says_17 : decode cX5_says 17 = .ok (.if_icmp .ne 19, 3) := dk_160 0 19 (dk_at dksX5_says_0 17 rfl rfl)
theorem dX5_says_20 : decode cX5_says 20 = .ok (.aload_n 0, 1) := dk_42 (dk_at dksX5_says_0 20 rfl rfl)
theorem dX5_says_21 : decode cX5_says 21 = .ok (.getfield 23, 3) := dk_180 0 23 (dk_at dksX5_says_0 21 rfl rfl)
theorem dX5_says_24 : decode cX5_says 24 = .ok (.iload_n 3, 1) := dk_29 (dk_at dksX5_says_1 0 rfl rfl)
theorem dX5_says_25 : decode cX5_says 25 = .ok (.aaload, 1) := dk_50 (dk_at dksX5_says_1 1 rfl rfl)
theorem dX5_says_26 : decode cX5_says 26 = .ok (.aload_n 2, 1) := dk_44 (dk_at dksX5_says_1 2 rfl rfl)
theorem dX5_says_27 : decode cX5_says 27 = .ok (.invokevirtual 31, 3) := dk_182 0 31 (dk_at dksX5_says_1 3 rfl rfl)
theorem dX5_says_30 : decode cX5_says 30 = .ok (.iconst 1, 1) := dk_4 (dk_at dksX5_says_1 6 rfl rfl)
theorem dX5_says_31 : decode cX5_says 31 = .ok (.if_icmp .ne 5, 3) := dk_160 0 5 (dk_at dksX5_says_1 7 rfl rfl)
theorem dX5_says_34 : decode cX5_says 34 = .ok (.iconst 1, 1) := dk_4 (dk_at dksX5_says_1 10 rfl rfl)
theorem dX5_says_35 : decode cX5_says 35 = .ok (.ireturn, 1) := dk_172 (dk_at dksX5_says_1 11 rfl rfl)
theorem dX5_says_36 : decode cX5_says 36 = .ok (.iinc 3 1, 3) := dk_132 3 1 (dk_at dksX5_says_1 12 rfl rfl)
theorem dX5_says_39 : decode cX5_says 39 = .ok (.goto (-37), 3) := dk_167 255 219 (dk_at dksX5_says_1 15 rfl rfl)
theorem dX5_says_42 : decode cX5_says 42 = .ok (.iconst 0, 1) := dk_3 (dk_at dksX5_says_1 18 rfl rfl)
theorem dX5_says_43 : decode cX5_says 43 = .ok (.ireturn, 1) := dk_172 (dk_at dksX5_says_1 19 rfl rfl)
abbrev cX5_tells : ByteArray := prog_16_method_2_code
def yX5_tells : MethodName := ⟨RX5, "tells", "(ILTalkingPlots$Asked;)I"⟩
def dkwX5_tells_2 : List UInt8 := [167, 255, 210, 3, 172]
abbrev dktX5_tells_2 : List UInt8 := dkwX5_tells_2 ++ []
def dkwX5_tells_1 : List UInt8 := [29, 50, 44, 182, 0, 31, 4, 160, 0, 14, 42, 180, 0, 17, 29, 50, 44, 182, 0, 35, 172, 132, 3, 1]
abbrev dktX5_tells_1 : List UInt8 := dkwX5_tells_1 ++ dktX5_tells_2
def dkwX5_tells_0 : List UInt8 := [3, 62, 29, 42, 180, 0, 27, 162, 0, 44, 42, 180, 0, 9, 29, 46, 27, 160, 0, 28, 42, 180, 0, 23]
abbrev dktX5_tells_0 : List UInt8 := dkwX5_tells_0 ++ dktX5_tells_1
theorem dksX5_tells_0 : cX5_tells.data.toList.drop 0 = dktX5_tells_0 := by decide +kernel
theorem dksX5_tells_1 : cX5_tells.data.toList.drop 24 = dktX5_tells_1 := dk_seg dksX5_tells_0 24 rfl rfl
theorem dksX5_tells_2 : cX5_tells.data.toList.drop 48 = dktX5_tells_2 := dk_seg dksX5_tells_1 24 rfl rfl
theorem dX5_tells_0 : decode cX5_tells 0 = .ok (.iconst 0, 1) := dk_3 (dk_at dksX5_tells_0 0 rfl rfl)
theorem dX5_tells_1 : decode cX5_tells 1 = .ok (.istore_n 3, 1) := dk_62 (dk_at dksX5_tells_0 1 rfl rfl)
theorem dX5_tells_2 : decode cX5_tells 2 = .ok (.iload_n 3, 1) := dk_29 (dk_at dksX5_tells_0 2 rfl rfl)
theorem dX5_tells_3 : decode cX5_tells 3 = .ok (.aload_n 0, 1) := dk_42 (dk_at dksX5_tells_0 3 rfl rfl)
theorem dX5_tells_4 : decode cX5_tells 4 = .ok (.getfield 27, 3) := dk_180 0 27 (dk_at dksX5_tells_0 4 rfl rfl)
theorem dX5_tells_7 : decode cX5_tells 7 = .ok (.if_icmp .ge 44, 3) := dk_162 0 44 (dk_at dksX5_tells_0 7 rfl rfl)
theorem dX5_tells_10 : decode cX5_tells 10 = .ok (.aload_n 0, 1) := dk_42 (dk_at dksX5_tells_0 10 rfl rfl)
theorem dX5_tells_11 : decode cX5_tells 11 = .ok (.getfield 9, 3) := dk_180 0 9 (dk_at dksX5_tells_0 11 rfl rfl)
theorem dX5_tells_14 : decode cX5_tells 14 = .ok (.iload_n 3, 1) := dk_29 (dk_at dksX5_tells_0 14 rfl rfl)
theorem dX5_tells_15 : decode cX5_tells 15 = .ok (.iaload, 1) := dk_46 (dk_at dksX5_tells_0 15 rfl rfl)
theorem dX5_tells_16 : decode cX5_tells 16 = .ok (.iload_n 1, 1) := dk_27 (dk_at dksX5_tells_0 16 rfl rfl)
theorem dX5_tells_17 : decode cX5_tells 17 = .ok (.if_icmp .ne 28, 3) := dk_160 0 28 (dk_at dksX5_tells_0 17 rfl rfl)
theorem dX5_tells_20 : decode cX5_tells 20 = .ok (.aload_n 0, 1) := dk_42 (dk_at dksX5_tells_0 20 rfl rfl)
theorem dX5_tells_21 : decode cX5_tells 21 = .ok (.getfield 23, 3) := dk_180 0 23 (dk_at dksX5_tells_0 21 rfl rfl)
theorem dX5_tells_24 : decode cX5_tells 24 = .ok (.iload_n 3, 1) := dk_29 (dk_at dksX5_tells_1 0 rfl rfl)
theorem dX5_tells_25 : decode cX5_tells 25 = .ok (.aaload, 1) := dk_50 (dk_at dksX5_tells_1 1 rfl rfl)
theorem dX5_tells_26 : decode cX5_tells 26 = .ok (.aload_n 2, 1) := dk_44 (dk_at dksX5_tells_1 2 rfl rfl)
theorem dX5_tells_27 : decode cX5_tells 27 = .ok (.invokevirtual 31, 3) := dk_182 0 31 (dk_at dksX5_tells_1 3 rfl rfl)
theorem dX5_tells_30 : decode cX5_tells 30 = .ok (.iconst 1, 1) := dk_4 (dk_at dksX5_tells_1 6 rfl rfl)
theorem dX5_tells_31 : decode cX5_tells 31 = .ok (.if_icmp .ne 14, 3) := dk_160 0 14 (dk_at dksX5_tells_1 7 rfl rfl)
theorem dX5_tells_34 : decode cX5_tells 34 = .ok (.aload_n 0, 1) := dk_42 (dk_at dksX5_tells_1 10 rfl rfl)
theorem dX5_tells_35 : decode cX5_tells 35 = .ok (.getfield 17, 3) := dk_180 0 17 (dk_at dksX5_tells_1 11 rfl rfl)
theorem dX5_tells_38 : decode cX5_tells 38 = .ok (.iload_n 3, 1) := dk_29 (dk_at dksX5_tells_1 14 rfl rfl)
theorem dX5_tells_39 : decode cX5_tells 39 = .ok (.aaload, 1) := dk_50 (dk_at dksX5_tells_1 15 rfl rfl)
theorem dX5_tells_40 : decode cX5_tells 40 = .ok (.aload_n 2, 1) := dk_44 (dk_at dksX5_tells_1 16 rfl rfl)
theorem dX5_tells_41 : decode cX5_tells 41 = .ok (.invokevirtual 35, 3) := dk_182 0 35 (dk_at dksX5_tells_1 17 rfl rfl)
theorem dX5_tells_44 : decode cX5_tells 44 = .ok (.ireturn, 1) := dk_172 (dk_at dksX5_tells_1 20 rfl rfl)
theorem dX5_tells_45 : decode cX5_tells 45 = .ok (.iinc 3 1, 3) := dk_132 3 1 (dk_at dksX5_tells_1 21 rfl rfl)
theorem dX5_tells_48 : decode cX5_tells 48 = .ok (.goto (-46), 3) := dk_167 255 210 (dk_at dksX5_tells_2 0 rfl rfl)
theorem dX5_tells_51 : decode cX5_tells 51 = .ok (.iconst 0, 1) := dk_3 (dk_at dksX5_tells_2 3 rfl rfl)
theorem dX5_tells_52 : decode cX5_tells 52 = .ok (.ireturn, 1) := dk_172 (dk_at dksX5_tells_2 4 rfl rfl)
theorem q111 : (Jvm.Cond.initialized "TalkingPlots$Text") ∈ lw_all := lw_g (lw_at lw_m1 6 rfl) rfl
theorem q243 : (Jvm.Cond.instantiable "TalkingPlots$Text" (4 : Nat)) ∈ lw_all := lw_g (lw_at lw_m1 138 rfl) rfl
theorem q245 : (Jvm.Cond.instanceMethod ({ cls := "TalkingPlots$Text", name := "<init>", desc := "()V" } : Jvm.MethodName)) ∈ lw_all := lw_g (lw_at lw_m1 140 rfl) rfl
theorem q246 : (Jvm.Cond.code ({ cls := "TalkingPlots$Text", name := "<init>", desc := "()V" } : Jvm.MethodName) prog_16_method_1_code (1 : Nat) (Option.none : Option Jvm.ClassFile.FieldType)) ∈ lw_all := lw_g (lw_at lw_m1 141 rfl) rfl
theorem q247 : (Jvm.Cond.methodLink "TalkingPlots$Text" (3 : Nat) ({ cls := "java/lang/Object", name := "<init>", desc := "()V" } : Jvm.MethodName)) ∈ lw_all := lw_g (lw_at lw_m1 142 rfl) rfl
theorem q248 : (Jvm.Cond.classLink "TalkingPlots$Text" (15 : Nat) "TalkingPlots$Sum") ∈ lw_all := lw_g (lw_at lw_m1 143 rfl) rfl
theorem q250 : (Jvm.Cond.classLink "TalkingPlots$Text" (21 : Nat) "TalkingPlots$Condition") ∈ lw_all := lw_g (lw_at lw_m1 145 rfl) rfl
theorem q252 : (Jvm.Cond.fieldLink "TalkingPlots$Text" (9 : Nat) "TalkingPlots$Text" "letters" "[I") ∈ lw_all := lw_g (lw_at lw_m1 147 rfl) rfl
theorem q254 : (Jvm.Cond.fieldLink "TalkingPlots$Text" (17 : Nat) "TalkingPlots$Text" "sums" "[LTalkingPlots$Sum;") ∈ lw_all := lw_g (lw_at lw_m1 149 rfl) rfl
theorem q256 : (Jvm.Cond.fieldLink "TalkingPlots$Text" (23 : Nat) "TalkingPlots$Text" "conditions" "[LTalkingPlots$Condition;") ∈ lw_all := lw_g (lw_at lw_m1 151 rfl) rfl
theorem q258 : (Jvm.Cond.fieldLink "TalkingPlots$Text" (27 : Nat) "TalkingPlots$Text" "many" "I") ∈ lw_all := lw_g (lw_at lw_m1 153 rfl) rfl
theorem q261 : (Jvm.Cond.laysFinal "TalkingPlots$Text" "TalkingPlots$Text" "letters" "[I") ∈ lw_all := lw_g (lw_at lw_m1 156 rfl) rfl
theorem q262 : (Jvm.Cond.soleField "TalkingPlots$Text" "letters") ∈ lw_all := lw_g (lw_at lw_m1 157 rfl) rfl
theorem q263 : (Jvm.Cond.laysFinal "TalkingPlots$Text" "TalkingPlots$Text" "sums" "[LTalkingPlots$Sum;") ∈ lw_all := lw_g (lw_at lw_m1 158 rfl) rfl
theorem q264 : (Jvm.Cond.soleField "TalkingPlots$Text" "sums") ∈ lw_all := lw_g (lw_at lw_m1 159 rfl) rfl
theorem q265 : (Jvm.Cond.laysFinal "TalkingPlots$Text" "TalkingPlots$Text" "conditions" "[LTalkingPlots$Condition;") ∈ lw_all := lw_g (lw_at lw_m1 160 rfl) rfl
theorem q266 : (Jvm.Cond.soleField "TalkingPlots$Text" "conditions") ∈ lw_all := lw_g (lw_at lw_m1 161 rfl) rfl
theorem q267 : (Jvm.Cond.lays "TalkingPlots$Text" "TalkingPlots$Text" "many" "I") ∈ lw_all := lw_g (lw_at lw_m1 162 rfl) rfl
theorem q268 : (Jvm.Cond.soleField "TalkingPlots$Text" "many") ∈ lw_all := lw_g (lw_at lw_m1 163 rfl) rfl
theorem q269 : (Jvm.Cond.superclass "TalkingPlots$Text" "java/lang/Object") ∈ lw_all := lw_g (lw_at lw_m1 164 rfl) rfl
theorem q856 : (Jvm.Cond.instanceMethod ({ cls := "TalkingPlots$Text", name := "says", desc := "(ILTalkingPlots$Asked;)Z" } : Jvm.MethodName)) ∈ lw_all := lw_g (lw_at lw_m4 31 rfl) rfl
theorem q857 : (Jvm.Cond.selects "TalkingPlots$Text" ({ cls := "TalkingPlots$Text", name := "says", desc := "(ILTalkingPlots$Asked;)Z" } : Jvm.MethodName) ({ cls := "TalkingPlots$Text", name := "says", desc := "(ILTalkingPlots$Asked;)Z" } : Jvm.MethodName)) ∈ lw_all := lw_g (lw_at lw_m4 32 rfl) rfl
theorem q858 : (Jvm.Cond.code ({ cls := "TalkingPlots$Text", name := "says", desc := "(ILTalkingPlots$Asked;)Z" } : Jvm.MethodName) prog_16_method_3_code (4 : Nat) (Option.some Jvm.ClassFile.FieldType.boolean)) ∈ lw_all := lw_g (lw_at lw_m4 33 rfl) rfl
theorem q859 : (Jvm.Cond.methodLink "TalkingPlots$Text" (31 : Nat) ({ cls := "TalkingPlots$Condition", name := "holds", desc := "(LTalkingPlots$Asked;)I" } : Jvm.MethodName)) ∈ lw_all := lw_g (lw_at lw_m4 34 rfl) rfl
theorem q917 : (Jvm.Cond.instanceMethod ({ cls := "TalkingPlots$Text", name := "tells", desc := "(ILTalkingPlots$Asked;)I" } : Jvm.MethodName)) ∈ lw_all := lw_g (lw_at lw_m4 92 rfl) rfl
theorem q918 : (Jvm.Cond.selects "TalkingPlots$Text" ({ cls := "TalkingPlots$Text", name := "tells", desc := "(ILTalkingPlots$Asked;)I" } : Jvm.MethodName) ({ cls := "TalkingPlots$Text", name := "tells", desc := "(ILTalkingPlots$Asked;)I" } : Jvm.MethodName)) ∈ lw_all := lw_g (lw_at lw_m4 93 rfl) rfl
theorem q919 : (Jvm.Cond.code ({ cls := "TalkingPlots$Text", name := "tells", desc := "(ILTalkingPlots$Asked;)I" } : Jvm.MethodName) prog_16_method_2_code (4 : Nat) (Option.some Jvm.ClassFile.FieldType.int)) ∈ lw_all := lw_g (lw_at lw_m4 94 rfl) rfl
theorem q920 : (Jvm.Cond.methodLink "TalkingPlots$Text" (35 : Nat) ({ cls := "TalkingPlots$Sum", name := "told", desc := "(LTalkingPlots$Asked;)I" } : Jvm.MethodName)) ∈ lw_all := lw_g (lw_at lw_m4 95 rfl) rfl
theorem in_X5 : ∀ w ∈ wsX50, w ∈ lw_all := lw_in wsX50 [261, 263, 265, 267] (by decide +kernel) (by decide +kernel)
/-! TalkingPlots$Reader -/
set_option maxRecDepth 100000
def RX7 : String := "TalkingPlots$Reader"
def TX7 : u_T := fun k => match k with
  | 0 => ("TalkingPlots$Reader", "n", "I", true)
  | 1 => ("TalkingPlots$Reader", "text", "LTalkingPlots$Text;", true)
  | 2 => ("TalkingPlots$Reader", "at", "I", false)
  | 3 => ("TalkingPlots$Reader", "open", "I", false)
  | 4 => ("TalkingPlots$Reader", "fault", "I", false)
  | 5 => ("TalkingPlots$Reader", "place", "I", false)
  | _ => ("TalkingPlots$Reader", "this$0", "LTalkingPlots;", true)
def tyX7 : Nat → FieldType := fun k => match k with
  | 0 => .int
  | 1 => .object "TalkingPlots$Text"
  | 2 => .int
  | 3 => .int
  | 4 => .int
  | 5 => .int
  | _ => .object "TalkingPlots"
abbrev wsX70 : List Cond := u_ws RX7 TX7 7
theorem nmX7 : ∀ a, a < 7 → ∀ b, b < 7 → a ≠ b → (TX7 a).2.1 ≠ (TX7 b).2.1 := by decide +kernel
theorem tyX7_ok : ∀ k, k < 7 → parseFieldDescriptor (TX7 k).2.2.1 = some (tyX7 k) := by decide +kernel
abbrev cX7_init : ByteArray := prog_10_method_1_code
def yX7_init : MethodName := ⟨RX7, "<init>", "(LTalkingPlots;I)V"⟩
def dkwX7_init_1 : List UInt8 := [181, 0, 22, 177]
abbrev dktX7_init_1 : List UInt8 := dkwX7_init_1 ++ []
def dkwX7_init_0 : List UInt8 := [42, 43, 181, 0, 3, 42, 183, 0, 9, 42, 187, 0, 15, 89, 183, 0, 17, 181, 0, 18, 42, 28]
abbrev dktX7_init_0 : List UInt8 := dkwX7_init_0 ++ dktX7_init_1
theorem dksX7_init_0 : cX7_init.data.toList.drop 0 = dktX7_init_0 := by decide +kernel
theorem dksX7_init_1 : cX7_init.data.toList.drop 22 = dktX7_init_1 := dk_seg dksX7_init_0 22 rfl rfl
theorem dX7_init_0 : decode cX7_init 0 = .ok (.aload_n 0, 1) := dk_42 (dk_at dksX7_init_0 0 rfl rfl)
theorem dX7_init_1 : decode cX7_init 1 = .ok (.aload_n 1, 1) := dk_43 (dk_at dksX7_init_0 1 rfl rfl)
theorem dX7_init_2 : decode cX7_init 2 = .ok (.putfield 3, 3) := dk_181 0 3 (dk_at dksX7_init_0 2 rfl rfl)
theorem dX7_init_5 : decode cX7_init 5 = .ok (.aload_n 0, 1) := dk_42 (dk_at dksX7_init_0 5 rfl rfl)
theorem dX7_init_6 : decode cX7_init 6 = .ok (.invokespecial 9, 3) := dk_183 0 9 (dk_at dksX7_init_0 6 rfl rfl)
theorem dX7_init_9 : decode cX7_init 9 = .ok (.aload_n 0, 1) := dk_42 (dk_at dksX7_init_0 9 rfl rfl)
theorem dX7_init_10 : decode cX7_init 10 = .ok (.new 15, 3) := dk_187 0 15 (dk_at dksX7_init_0 10 rfl rfl)
theorem dX7_init_13 : decode cX7_init 13 = .ok (.dup, 1) := dk_89 (dk_at dksX7_init_0 13 rfl rfl)
theorem dX7_init_14 : decode cX7_init 14 = .ok (.invokespecial 17, 3) := dk_183 0 17 (dk_at dksX7_init_0 14 rfl rfl)
theorem dX7_init_17 : decode cX7_init 17 = .ok (.putfield 18, 3) := dk_181 0 18 (dk_at dksX7_init_0 17 rfl rfl)
theorem dX7_init_20 : decode cX7_init 20 = .ok (.aload_n 0, 1) := dk_42 (dk_at dksX7_init_0 20 rfl rfl)
theorem dX7_init_21 : decode cX7_init 21 = .ok (.iload_n 2, 1) := dk_28 (dk_at dksX7_init_0 21 rfl rfl)
theorem dX7_init_22 : decode cX7_init 22 = .ok (.putfield 22, 3) := dk_181 0 22 (dk_at dksX7_init_1 0 rfl rfl)
theorem dX7_init_25 : decode cX7_init 25 = .ok (.return_, 1) := dk_177 (dk_at dksX7_init_1 3 rfl rfl)
abbrev cX7_read : ByteArray := prog_10_method_16_code
def yX7_read : MethodName := ⟨RX7, "read", "()I"⟩
def dkwX7_read_3 : List UInt8 := [17, 252, 24, 42, 180, 0, 33, 104, 42, 180, 0, 36, 100, 172]
abbrev dktX7_read_3 : List UInt8 := dkwX7_read_3 ++ []
def dkwX7_read_2 : List UInt8 := [182, 0, 64, 167, 255, 207, 42, 182, 0, 43, 153, 0, 13, 42, 180, 0, 18, 180, 0, 131, 167, 0, 16]
abbrev dktX7_read_2 : List UInt8 := dkwX7_read_2 ++ dktX7_read_3
def dkwX7_read_1 : List UInt8 := [42, 180, 0, 26, 42, 180, 0, 22, 162, 0, 7, 4, 167, 0, 4, 3, 60, 27, 153, 255, 216, 42, 16, 59]
abbrev dktX7_read_1 : List UInt8 := dkwX7_read_1 ++ dktX7_read_2
def dkwX7_read_0 : List UInt8 := [4, 60, 27, 153, 0, 51, 42, 182, 0, 43, 153, 0, 44, 42, 182, 0, 146, 42, 182, 0, 43, 153, 0, 18]
abbrev dktX7_read_0 : List UInt8 := dkwX7_read_0 ++ dktX7_read_1
theorem dksX7_read_0 : cX7_read.data.toList.drop 0 = dktX7_read_0 := by decide +kernel
theorem dksX7_read_1 : cX7_read.data.toList.drop 24 = dktX7_read_1 := dk_seg dksX7_read_0 24 rfl rfl
theorem dksX7_read_2 : cX7_read.data.toList.drop 48 = dktX7_read_2 := dk_seg dksX7_read_1 24 rfl rfl
theorem dksX7_read_3 : cX7_read.data.toList.drop 71 = dktX7_read_3 := dk_seg dksX7_read_2 23 rfl rfl
theorem dX7_read_0 : decode cX7_read 0 = .ok (.iconst 1, 1) := dk_4 (dk_at dksX7_read_0 0 rfl rfl)
theorem dX7_read_1 : decode cX7_read 1 = .ok (.istore_n 1, 1) := dk_60 (dk_at dksX7_read_0 1 rfl rfl)
theorem dX7_read_2 : decode cX7_read 2 = .ok (.iload_n 1, 1) := dk_27 (dk_at dksX7_read_0 2 rfl rfl)
theorem dX7_read_3 : decode cX7_read 3 = .ok (.ifCond .eq 51, 3) := dk_153 0 51 (dk_at dksX7_read_0 3 rfl rfl)
theorem dX7_read_6 : decode cX7_read 6 = .ok (.aload_n 0, 1) := dk_42 (dk_at dksX7_read_0 6 rfl rfl)
theorem dX7_read_7 : decode cX7_read 7 = .ok (.invokevirtual 43, 3) := dk_182 0 43 (dk_at dksX7_read_0 7 rfl rfl)
theorem dX7_read_10 : decode cX7_read 10 = .ok (.ifCond .eq 44, 3) := dk_153 0 44 (dk_at dksX7_read_0 10 rfl rfl)
theorem dX7_read_13 : decode cX7_read 13 = .ok (.aload_n 0, 1) := dk_42 (dk_at dksX7_read_0 13 rfl rfl)
theorem dX7_read_14 : decode cX7_read 14 = .ok (.invokevirtual 146, 3) := dk_182 0 146 (dk_at dksX7_read_0 14 rfl rfl)
theorem dX7_read_17 : decode cX7_read 17 = .ok (.aload_n 0, 1) := dk_42 (dk_at dksX7_read_0 17 rfl rfl)
theorem dX7_read_18 : decode cX7_read 18 = .ok (.invokevirtual 43, 3) := dk_182 0 43 (dk_at dksX7_read_0 18 rfl rfl)
theorem dX7_read_21 : decode cX7_read 21 = .ok (.ifCond .eq 18, 3) := dk_153 0 18 (dk_at dksX7_read_0 21 rfl rfl)
theorem dX7_read_24 : decode cX7_read 24 = .ok (.aload_n 0, 1) := dk_42 (dk_at dksX7_read_1 0 rfl rfl)
theorem dX7_read_25 : decode cX7_read 25 = .ok (.getfield 26, 3) := dk_180 0 26 (dk_at dksX7_read_1 1 rfl rfl)
theorem dX7_read_28 : decode cX7_read 28 = .ok (.aload_n 0, 1) := dk_42 (dk_at dksX7_read_1 4 rfl rfl)
theorem dX7_read_29 : decode cX7_read 29 = .ok (.getfield 22, 3) := dk_180 0 22 (dk_at dksX7_read_1 5 rfl rfl)
theorem dX7_read_32 : decode cX7_read 32 = .ok (.if_icmp .ge 7, 3) := dk_162 0 7 (dk_at dksX7_read_1 8 rfl rfl)
theorem dX7_read_35 : decode cX7_read 35 = .ok (.iconst 1, 1) := dk_4 (dk_at dksX7_read_1 11 rfl rfl)
theorem dX7_read_36 : decode cX7_read 36 = .ok (.goto 4, 3) := dk_167 0 4 (dk_at dksX7_read_1 12 rfl rfl)
theorem dX7_read_39 : decode cX7_read 39 = .ok (.iconst 0, 1) := dk_3 (dk_at dksX7_read_1 15 rfl rfl)
theorem dX7_read_40 : decode cX7_read 40 = .ok (.istore_n 1, 1) := dk_60 (dk_at dksX7_read_1 16 rfl rfl)
theorem dX7_read_41 : decode cX7_read 41 = .ok (.iload_n 1, 1) := dk_27 (dk_at dksX7_read_1 17 rfl rfl)
theorem dX7_read_42 : decode cX7_read 42 = .ok (.ifCond .eq (-40), 3) := dk_153 255 216 (dk_at dksX7_read_1 18 rfl rfl)
theorem dX7_read_45 : decode cX7_read 45 = .ok (.aload_n 0, 1) := dk_42 (dk_at dksX7_read_1 21 rfl rfl)
theorem dX7_read_46 : decode cX7_read 46 = .ok (.bipush 59, 2) := dk_16 59 (dk_at dksX7_read_1 22 rfl rfl)
theorem dX7_read_48 : decode cX7_read 48 = .ok (.invokevirtual 64, 3) := dk_182 0 64 (dk_at dksX7_read_2 0 rfl rfl)
theorem dX7_read_51 : decode cX7_read 51 = .ok (.goto (-49), 3) := dk_167 255 207 (dk_at dksX7_read_2 3 rfl rfl)
theorem dX7_read_54 : decode cX7_read 54 = .ok (.aload_n 0, 1) := dk_42 (dk_at dksX7_read_2 6 rfl rfl)
theorem dX7_read_55 : decode cX7_read 55 = .ok (.invokevirtual 43, 3) := dk_182 0 43 (dk_at dksX7_read_2 7 rfl rfl)
theorem dX7_read_58 : decode cX7_read 58 = .ok (.ifCond .eq 13, 3) := dk_153 0 13 (dk_at dksX7_read_2 10 rfl rfl)
theorem dX7_read_61 : decode cX7_read 61 = .ok (.aload_n 0, 1) := dk_42 (dk_at dksX7_read_2 13 rfl rfl)
theorem dX7_read_62 : decode cX7_read 62 = .ok (.getfield 18, 3) := dk_180 0 18 (dk_at dksX7_read_2 14 rfl rfl)
theorem dX7_read_65 : decode cX7_read 65 = .ok (.getfield 131, 3) := dk_180 0 131 (dk_at dksX7_read_2 17 rfl rfl)
theorem dX7_read_68 : decode cX7_read 68 = .ok (.goto 16, 3) := dk_167 0 16 (dk_at dksX7_read_2 20 rfl rfl)
theorem dX7_read_71 : decode cX7_read 71 = .ok (.sipush (-1000), 3) := dk_17 252 24 (dk_at dksX7_read_3 0 rfl rfl)
theorem dX7_read_74 : decode cX7_read 74 = .ok (.aload_n 0, 1) := dk_42 (dk_at dksX7_read_3 3 rfl rfl)
theorem dX7_read_75 : decode cX7_read 75 = .ok (.getfield 33, 3) := dk_180 0 33 (dk_at dksX7_read_3 4 rfl rfl)
theorem dX7_read_78 : decode cX7_read 78 = .ok (.imul, 1) := dk_104 (dk_at dksX7_read_3 7 rfl rfl)
theorem dX7_read_79 : decode cX7_read 79 = .ok (.aload_n 0, 1) := dk_42 (dk_at dksX7_read_3 8 rfl rfl)
theorem dX7_read_80 : decode cX7_read 80 = .ok (.getfield 36, 3) := dk_180 0 36 (dk_at dksX7_read_3 9 rfl rfl)
theorem dX7_read_83 : decode cX7_read 83 = .ok (.isub, 1) := dk_100 (dk_at dksX7_read_3 12 rfl rfl)
theorem dX7_read_84 : decode cX7_read 84 = .ok (.ireturn, 1) := dk_172 (dk_at dksX7_read_3 13 rfl rfl)
abbrev cX7_isGood : ByteArray := prog_10_method_3_code
def yX7_isGood : MethodName := ⟨RX7, "isGood", "()Z"⟩
def dkwX7_isGood_0 : List UInt8 := [42, 180, 0, 33, 154, 0, 7, 4, 167, 0, 4, 3, 172]
abbrev dktX7_isGood_0 : List UInt8 := dkwX7_isGood_0 ++ []
theorem dksX7_isGood_0 : cX7_isGood.data.toList.drop 0 = dktX7_isGood_0 := by decide +kernel
theorem dX7_isGood_0 : decode cX7_isGood 0 = .ok (.aload_n 0, 1) := dk_42 (dk_at dksX7_isGood_0 0 rfl rfl)
theorem dX7_isGood_1 : decode cX7_isGood 1 = .ok (.getfield 33, 3) := dk_180 0 33 (dk_at dksX7_isGood_0 1 rfl rfl)
theorem dX7_isGood_4 : decode cX7_isGood 4 = .ok (.ifCond .ne 7, 3) := dk_154 0 7 (dk_at dksX7_isGood_0 4 rfl rfl)
theorem dX7_isGood_7 : decode cX7_isGood 7 = .ok (.iconst 1, 1) := dk_4 (dk_at dksX7_isGood_0 7 rfl rfl)
theorem dX7_isGood_8 : decode cX7_isGood 8 = .ok (.goto 4, 3) := dk_167 0 4 (dk_at dksX7_isGood_0 8 rfl rfl)
theorem dX7_isGood_11 : decode cX7_isGood 11 = .ok (.iconst 0, 1) := dk_3 (dk_at dksX7_isGood_0 11 rfl rfl)
theorem dX7_isGood_12 : decode cX7_isGood 12 = .ok (.ireturn, 1) := dk_172 (dk_at dksX7_isGood_0 12 rfl rfl)
abbrev cX7_clause : ByteArray := prog_10_method_15_code
def yX7_clause : MethodName := ⟨RX7, "clause", "()V"⟩
def dkwX7_clause_8 : List UInt8 := [4, 96, 181, 0, 131, 177]
abbrev dktX7_clause_8 : List UInt8 := dkwX7_clause_8 ++ []
def dkwX7_clause_7 : List UInt8 := [42, 180, 0, 18, 180, 0, 142, 42, 180, 0, 18, 180, 0, 131, 45, 83, 42, 180, 0, 18, 89, 180, 0, 131]
abbrev dktX7_clause_7 : List UInt8 := dkwX7_clause_7 ++ dktX7_clause_8
def dkwX7_clause_6 : List UInt8 := [180, 0, 18, 180, 0, 131, 27, 79, 42, 180, 0, 18, 180, 0, 138, 42, 180, 0, 18, 180, 0, 131, 44, 83]
abbrev dktX7_clause_6 : List UInt8 := dkwX7_clause_6 ++ dktX7_clause_7
def dkwX7_clause_5 : List UInt8 := [182, 0, 43, 153, 0, 10, 42, 182, 0, 110, 167, 0, 4, 1, 78, 42, 180, 0, 18, 180, 0, 134, 42]
abbrev dktX7_clause_5 : List UInt8 := dkwX7_clause_5 ++ dktX7_clause_6
def dkwX7_clause_4 : List UInt8 := [153, 0, 21, 42, 182, 0, 39, 16, 40, 159, 0, 12, 42, 4, 42, 180, 0, 26, 182, 0, 50, 42]
abbrev dktX7_clause_4 : List UInt8 := dkwX7_clause_4 ++ dktX7_clause_5
def dkwX7_clause_3 : List UInt8 := [181, 0, 54, 27, 16, 113, 160, 0, 7, 1, 167, 0, 7, 42, 182, 0, 60, 77, 42, 182, 0, 43]
abbrev dktX7_clause_3 : List UInt8 := dkwX7_clause_3 ++ dktX7_clause_4
def dkwX7_clause_2 : List UInt8 := [182, 0, 50, 42, 182, 0, 43, 154, 0, 4, 177, 42, 89, 180, 0, 26, 4, 96, 181, 0, 26, 42, 3]
abbrev dktX7_clause_2 : List UInt8 := dkwX7_clause_2 ++ dktX7_clause_3
def dkwX7_clause_1 : List UInt8 := [182, 0, 50, 167, 0, 24, 42, 180, 0, 18, 180, 0, 131, 16, 16, 160, 0, 12, 42, 7, 42, 180, 0, 26]
abbrev dktX7_clause_1 : List UInt8 := dkwX7_clause_1 ++ dktX7_clause_2
def dkwX7_clause_0 : List UInt8 := [42, 182, 0, 39, 60, 27, 153, 0, 12, 18, 129, 27, 182, 0, 77, 156, 0, 15, 42, 4, 42, 180, 0, 26]
abbrev dktX7_clause_0 : List UInt8 := dkwX7_clause_0 ++ dktX7_clause_1
theorem dksX7_clause_0 : cX7_clause.data.toList.drop 0 = dktX7_clause_0 := by decide +kernel
theorem dksX7_clause_1 : cX7_clause.data.toList.drop 24 = dktX7_clause_1 := dk_seg dksX7_clause_0 24 rfl rfl
theorem dksX7_clause_2 : cX7_clause.data.toList.drop 48 = dktX7_clause_2 := dk_seg dksX7_clause_1 24 rfl rfl
theorem dksX7_clause_3 : cX7_clause.data.toList.drop 71 = dktX7_clause_3 := dk_seg dksX7_clause_2 23 rfl rfl
theorem dksX7_clause_4 : cX7_clause.data.toList.drop 93 = dktX7_clause_4 := dk_seg dksX7_clause_3 22 rfl rfl
theorem dksX7_clause_5 : cX7_clause.data.toList.drop 115 = dktX7_clause_5 := dk_seg dksX7_clause_4 22 rfl rfl
theorem dksX7_clause_6 : cX7_clause.data.toList.drop 138 = dktX7_clause_6 := dk_seg dksX7_clause_5 23 rfl rfl
theorem dksX7_clause_7 : cX7_clause.data.toList.drop 162 = dktX7_clause_7 := dk_seg dksX7_clause_6 24 rfl rfl
theorem dksX7_clause_8 : cX7_clause.data.toList.drop 186 = dktX7_clause_8 := dk_seg dksX7_clause_7 24 rfl rfl
theorem dX7_clause_0 : decode cX7_clause 0 = .ok (.aload_n 0, 1) := dk_42 (dk_at dksX7_clause_0 0 rfl rfl)
theorem dX7_clause_1 : decode cX7_clause 1 = .ok (.invokevirtual 39, 3) := dk_182 0 39 (dk_at dksX7_clause_0 1 rfl rfl)
theorem dX7_clause_4 : decode cX7_clause 4 = .ok (.istore_n 1, 1) := dk_60 (dk_at dksX7_clause_0 4 rfl rfl)
theorem dX7_clause_5 : decode cX7_clause 5 = .ok (.iload_n 1, 1) := dk_27 (dk_at dksX7_clause_0 5 rfl rfl)
theorem dX7_clause_6 : decode cX7_clause 6 = .ok (.ifCond .eq 12, 3) := dk_153 0 12 (dk_at dksX7_clause_0 6 rfl rfl)
theorem dX7_clause_9 : decode cX7_clause 9 = .ok (.ldc 129, 2) := dk_18 129 (dk_at dksX7_clause_0 9 rfl rfl)
theorem dX7_clause_11 : decode cX7_clause 11 = .ok (.iload_n 1, 1) := dk_27 (dk_at dksX7_clause_0 11 rfl rfl)
theorem dX7_clause_12 : decode cX7_clause 12 = .ok (.invokevirtual 77, 3) := dk_182 0 77 (dk_at dksX7_clause_0 12 rfl rfl)
theorem dX7_clause_15 : decode cX7_clause 15 = .ok (.ifCond .ge 15, 3) := dk_156 0 15 (dk_at dksX7_clause_0 15 rfl rfl)
theorem dX7_clause_18 : decode cX7_clause 18 = .ok (.aload_n 0, 1) := dk_42 (dk_at dksX7_clause_0 18 rfl rfl)
theorem dX7_clause_19 : decode cX7_clause 19 = .ok (.iconst 1, 1) := dk_4 (dk_at dksX7_clause_0 19 rfl rfl)
theorem dX7_clause_20 : decode cX7_clause 20 = .ok (.aload_n 0, 1) := dk_42 (dk_at dksX7_clause_0 20 rfl rfl)
theorem dX7_clause_21 : decode cX7_clause 21 = .ok (.getfield 26, 3) := dk_180 0 26 (dk_at dksX7_clause_0 21 rfl rfl)
theorem dX7_clause_24 : decode cX7_clause 24 = .ok (.invokevirtual 50, 3) := dk_182 0 50 (dk_at dksX7_clause_1 0 rfl rfl)
theorem dX7_clause_27 : decode cX7_clause 27 = .ok (.goto 24, 3) := dk_167 0 24 (dk_at dksX7_clause_1 3 rfl rfl)
theorem dX7_clause_30 : decode cX7_clause 30 = .ok (.aload_n 0, 1) := dk_42 (dk_at dksX7_clause_1 6 rfl rfl)
theorem dX7_clause_31 : decode cX7_clause 31 = .ok (.getfield 18, 3) := dk_180 0 18 (dk_at dksX7_clause_1 7 rfl rfl)
theorem dX7_clause_34 : decode cX7_clause 34 = .ok (.getfield 131, 3) := dk_180 0 131 (dk_at dksX7_clause_1 10 rfl rfl)
theorem dX7_clause_37 : decode cX7_clause 37 = .ok (.bipush 16, 2) := dk_16 16 (dk_at dksX7_clause_1 13 rfl rfl)
theorem dX7_clause_39 : decode cX7_clause 39 = .ok (.if_icmp .ne 12, 3) := dk_160 0 12 (dk_at dksX7_clause_1 15 rfl rfl)
theorem dX7_clause_42 : decode cX7_clause 42 = .ok (.aload_n 0, 1) := dk_42 (dk_at dksX7_clause_1 18 rfl rfl)
theorem dX7_clause_43 : decode cX7_clause 43 = .ok (.iconst 4, 1) := dk_7 (dk_at dksX7_clause_1 19 rfl rfl)
theorem dX7_clause_44 : decode cX7_clause 44 = .ok (.aload_n 0, 1) := dk_42 (dk_at dksX7_clause_1 20 rfl rfl)
theorem dX7_clause_45 : decode cX7_clause 45 = .ok (.getfield 26, 3) := dk_180 0 26 (dk_at dksX7_clause_1 21 rfl rfl)
theorem dX7_clause_48 : decode cX7_clause 48 = .ok (.invokevirtual 50, 3) := dk_182 0 50 (dk_at dksX7_clause_2 0 rfl rfl)
theorem dX7_clause_51 : decode cX7_clause 51 = .ok (.aload_n 0, 1) := dk_42 (dk_at dksX7_clause_2 3 rfl rfl)
theorem dX7_clause_52 : decode cX7_clause 52 = .ok (.invokevirtual 43, 3) := dk_182 0 43 (dk_at dksX7_clause_2 4 rfl rfl)
theorem dX7_clause_55 : decode cX7_clause 55 = .ok (.ifCond .ne 4, 3) := dk_154 0 4 (dk_at dksX7_clause_2 7 rfl rfl)
theorem dX7_clause_58 : decode cX7_clause 58 = .ok (.return_, 1) := dk_177 (dk_at dksX7_clause_2 10 rfl rfl)
theorem dX7_clause_59 : decode cX7_clause 59 = .ok (.aload_n 0, 1) := dk_42 (dk_at dksX7_clause_2 11 rfl rfl)
theorem dX7_clause_60 : decode cX7_clause 60 = .ok (.dup, 1) := dk_89 (dk_at dksX7_clause_2 12 rfl rfl)
theorem dX7_clause_61 : decode cX7_clause 61 = .ok (.getfield 26, 3) := dk_180 0 26 (dk_at dksX7_clause_2 13 rfl rfl)
theorem dX7_clause_64 : decode cX7_clause 64 = .ok (.iconst 1, 1) := dk_4 (dk_at dksX7_clause_2 16 rfl rfl)
theorem dX7_clause_65 : decode cX7_clause 65 = .ok (.iadd, 1) := dk_96 (dk_at dksX7_clause_2 17 rfl rfl)
theorem dX7_clause_66 : decode cX7_clause 66 = .ok (.putfield 26, 3) := dk_181 0 26 (dk_at dksX7_clause_2 18 rfl rfl)
theorem dX7_clause_69 : decode cX7_clause 69 = .ok (.aload_n 0, 1) := dk_42 (dk_at dksX7_clause_2 21 rfl rfl)
theorem dX7_clause_70 : decode cX7_clause 70 = .ok (.iconst 0, 1) := dk_3 (dk_at dksX7_clause_2 22 rfl rfl)
theorem dX7_clause_71 : decode cX7_clause 71 = .ok (.putfield 54, 3) := dk_181 0 54 (dk_at dksX7_clause_3 0 rfl rfl)
theorem dX7_clause_74 : decode cX7_clause 74 = .ok (.iload_n 1, 1) := dk_27 (dk_at dksX7_clause_3 3 rfl rfl)
theorem dX7_clause_75 : decode cX7_clause 75 = .ok (.bipush 113, 2) := dk_16 113 (dk_at dksX7_clause_3 4 rfl rfl)
theorem dX7_clause_77 : decode cX7_clause 77 = .ok (.if_icmp .ne 7, 3) := dk_160 0 7 (dk_at dksX7_clause_3 6 rfl rfl)
theorem dX7_clause_80 : decode cX7_clause 80 = .ok (.aconst_null, 1) := dk_1 (dk_at dksX7_clause_3 9 rfl rfl)
theorem dX7_clause_81 : decode cX7_clause 81 = .ok (.goto 7, 3) := dk_167 0 7 (dk_at dksX7_clause_3 10 rfl rfl)
theorem dX7_clause_84 : decode cX7_clause 84 = .ok (.aload_n 0, 1) := dk_42 (dk_at dksX7_clause_3 13 rfl rfl)
theorem dX7_clause_85 : decode cX7_clause 85 = .ok (.invokevirtual 60, 3) := dk_182 0 60 (dk_at dksX7_clause_3 14 rfl rfl)
theorem dX7_clause_88 : decode cX7_clause 88 = .ok (.astore_n 2, 1) := dk_77 (dk_at dksX7_clause_3 17 rfl rfl)
theorem dX7_clause_89 : decode cX7_clause 89 = .ok (.aload_n 0, 1) := dk_42 (dk_at dksX7_clause_3 18 rfl rfl)
theorem dX7_clause_90 : decode cX7_clause 90 = .ok (.invokevirtual 43, 3) := dk_182 0 43 (dk_at dksX7_clause_3 19 rfl rfl)
theorem dX7_clause_93 : decode cX7_clause 93 = .ok (.ifCond .eq 21, 3) := dk_153 0 21 (dk_at dksX7_clause_4 0 rfl rfl)
theorem dX7_clause_96 : decode cX7_clause 96 = .ok (.aload_n 0, 1) := dk_42 (dk_at dksX7_clause_4 3 rfl rfl)
theorem dX7_clause_97 : decode cX7_clause 97 = .ok (.invokevirtual 39, 3) := dk_182 0 39 (dk_at dksX7_clause_4 4 rfl rfl)
theorem dX7_clause_100 : decode cX7_clause 100 = .ok (.bipush 40, 2) := dk_16 40 (dk_at dksX7_clause_4 7 rfl rfl)
theorem dX7_clause_102 : decode cX7_clause 102 = .ok (.if_icmp .eq 12, 3) := dk_159 0 12 (dk_at dksX7_clause_4 9 rfl rfl)
theorem dX7_clause_105 : decode cX7_clause 105 = .ok (.aload_n 0, 1) := dk_42 (dk_at dksX7_clause_4 12 rfl rfl)
theorem dX7_clause_106 : decode cX7_clause 106 = .ok (.iconst 1, 1) := dk_4 (dk_at dksX7_clause_4 13 rfl rfl)
theorem dX7_clause_107 : decode cX7_clause 107 = .ok (.aload_n 0, 1) := dk_42 (dk_at dksX7_clause_4 14 rfl rfl)
theorem dX7_clause_108 : decode cX7_clause 108 = .ok (.getfield 26, 3) := dk_180 0 26 (dk_at dksX7_clause_4 15 rfl rfl)
theorem dX7_clause_111 : decode cX7_clause 111 = .ok (.invokevirtual 50, 3) := dk_182 0 50 (dk_at dksX7_clause_4 18 rfl rfl)
theorem dX7_clause_114 : decode cX7_clause 114 = .ok (.aload_n 0, 1) := dk_42 (dk_at dksX7_clause_4 21 rfl rfl)
theorem dX7_clause_115 : decode cX7_clause 115 = .ok (.invokevirtual 43, 3) := dk_182 0 43 (dk_at dksX7_clause_5 0 rfl rfl)
theorem dX7_clause_118 : decode cX7_clause 118 = .ok (.ifCond .eq 10, 3) := dk_153 0 10 (dk_at dksX7_clause_5 3 rfl rfl)
theorem dX7_clause_121 : decode cX7_clause 121 = .ok (.aload_n 0, 1) := dk_42 (dk_at dksX7_clause_5 6 rfl rfl)
theorem dX7_clause_122 : decode cX7_clause 122 = .ok (.invokevirtual 110, 3) := dk_182 0 110 (dk_at dksX7_clause_5 7 rfl rfl)
theorem dX7_clause_125 : decode cX7_clause 125 = .ok (.goto 4, 3) := dk_167 0 4 (dk_at dksX7_clause_5 10 rfl rfl)
theorem dX7_clause_128 : decode cX7_clause 128 = .ok (.aconst_null, 1) := dk_1 (dk_at dksX7_clause_5 13 rfl rfl)
theorem dX7_clause_129 : decode cX7_clause 129 = .ok (.astore_n 3, 1) := dk_78 (dk_at dksX7_clause_5 14 rfl rfl)
theorem dX7_clause_130 : decode cX7_clause 130 = .ok (.aload_n 0, 1) := dk_42 (dk_at dksX7_clause_5 15 rfl rfl)
theorem dX7_clause_131 : decode cX7_clause 131 = .ok (.getfield 18, 3) := dk_180 0 18 (dk_at dksX7_clause_5 16 rfl rfl)
theorem dX7_clause_134 : decode cX7_clause 134 = .ok (.getfield 134, 3) := dk_180 0 134 (dk_at dksX7_clause_5 19 rfl rfl)
theorem dX7_clause_137 : decode cX7_clause 137 = .ok (.aload_n 0, 1) := dk_42 (dk_at dksX7_clause_5 22 rfl rfl)
theorem dX7_clause_138 : decode cX7_clause 138 = .ok (.getfield 18, 3) := dk_180 0 18 (dk_at dksX7_clause_6 0 rfl rfl)
theorem dX7_clause_141 : decode cX7_clause 141 = .ok (.getfield 131, 3) := dk_180 0 131 (dk_at dksX7_clause_6 3 rfl rfl)
theorem dX7_clause_144 : decode cX7_clause 144 = .ok (.iload_n 1, 1) := dk_27 (dk_at dksX7_clause_6 6 rfl rfl)
theorem dX7_clause_145 : decode cX7_clause 145 = .ok (.iastore, 1) := dk_79 (dk_at dksX7_clause_6 7 rfl rfl)
theorem dX7_clause_146 : decode cX7_clause 146 = .ok (.aload_n 0, 1) := dk_42 (dk_at dksX7_clause_6 8 rfl rfl)
theorem dX7_clause_147 : decode cX7_clause 147 = .ok (.getfield 18, 3) := dk_180 0 18 (dk_at dksX7_clause_6 9 rfl rfl)
theorem dX7_clause_150 : decode cX7_clause 150 = .ok (.getfield 138, 3) := dk_180 0 138 (dk_at dksX7_clause_6 12 rfl rfl)
theorem dX7_clause_153 : decode cX7_clause 153 = .ok (.aload_n 0, 1) := dk_42 (dk_at dksX7_clause_6 15 rfl rfl)
theorem dX7_clause_154 : decode cX7_clause 154 = .ok (.getfield 18, 3) := dk_180 0 18 (dk_at dksX7_clause_6 16 rfl rfl)
theorem dX7_clause_157 : decode cX7_clause 157 = .ok (.getfield 131, 3) := dk_180 0 131 (dk_at dksX7_clause_6 19 rfl rfl)
theorem dX7_clause_160 : decode cX7_clause 160 = .ok (.aload_n 2, 1) := dk_44 (dk_at dksX7_clause_6 22 rfl rfl)
theorem dX7_clause_161 : decode cX7_clause 161 = .ok (.aastore, 1) := dk_83 (dk_at dksX7_clause_6 23 rfl rfl)
theorem dX7_clause_162 : decode cX7_clause 162 = .ok (.aload_n 0, 1) := dk_42 (dk_at dksX7_clause_7 0 rfl rfl)
theorem dX7_clause_163 : decode cX7_clause 163 = .ok (.getfield 18, 3) := dk_180 0 18 (dk_at dksX7_clause_7 1 rfl rfl)
theorem dX7_clause_166 : decode cX7_clause 166 = .ok (.getfield 142, 3) := dk_180 0 142 (dk_at dksX7_clause_7 4 rfl rfl)
theorem dX7_clause_169 : decode cX7_clause 169 = .ok (.aload_n 0, 1) := dk_42 (dk_at dksX7_clause_7 7 rfl rfl)
theorem dX7_clause_170 : decode cX7_clause 170 = .ok (.getfield 18, 3) := dk_180 0 18 (dk_at dksX7_clause_7 8 rfl rfl)
theorem dX7_clause_173 : decode cX7_clause 173 = .ok (.getfield 131, 3) := dk_180 0 131 (dk_at dksX7_clause_7 11 rfl rfl)
theorem dX7_clause_176 : decode cX7_clause 176 = .ok (.aload_n 3, 1) := dk_45 (dk_at dksX7_clause_7 14 rfl rfl)
theorem dX7_clause_177 : decode cX7_clause 177 = .ok (.aastore, 1) := dk_83 (dk_at dksX7_clause_7 15 rfl rfl)
theorem dX7_clause_178 : decode cX7_clause 178 = .ok (.aload_n 0, 1) := dk_42 (dk_at dksX7_clause_7 16 rfl rfl)
theorem dX7_clause_179 : decode cX7_clause 179 = .ok (.getfield 18, 3) := dk_180 0 18 (dk_at dksX7_clause_7 17 rfl rfl)
theorem dX7_clause_182 : decode cX7_clause 182 = .ok (.dup, 1) := dk_89 (dk_at dksX7_clause_7 20 rfl rfl)
theorem dX7_clause_183 : decode cX7_clause 183 = .ok (.getfield 131, 3) := dk_180 0 131 (dk_at dksX7_clause_7 21 rfl rfl)
theorem dX7_clause_186 : decode cX7_clause 186 = .ok (.iconst 1, 1) := dk_4 (dk_at dksX7_clause_8 0 rfl rfl)
theorem dX7_clause_187 : decode cX7_clause 187 = .ok (.iadd, 1) := dk_96 (dk_at dksX7_clause_8 1 rfl rfl)
theorem dX7_clause_188 : decode cX7_clause 188 = .ok (.putfield 131, 3) := dk_181 0 131 (dk_at dksX7_clause_8 2 rfl rfl)
theorem dX7_clause_191 : decode cX7_clause 191 = .ok (.return_, 1) := dk_177 (dk_at dksX7_clause_8 5 rfl rfl)
abbrev cX7_here : ByteArray := prog_10_method_2_code
def yX7_here : MethodName := ⟨RX7, "here", "()I"⟩
def dkwX7_here_1 : List UInt8 := [17, 0, 255, 126, 167, 0, 4, 3, 172]
abbrev dktX7_here_1 : List UInt8 := dkwX7_here_1 ++ []
def dkwX7_here_0 : List UInt8 := [42, 180, 0, 26, 42, 180, 0, 22, 162, 0, 22, 42, 180, 0, 3, 180, 0, 29, 42, 180, 0, 26, 51]
abbrev dktX7_here_0 : List UInt8 := dkwX7_here_0 ++ dktX7_here_1
theorem dksX7_here_0 : cX7_here.data.toList.drop 0 = dktX7_here_0 := by decide +kernel
theorem dksX7_here_1 : cX7_here.data.toList.drop 23 = dktX7_here_1 := dk_seg dksX7_here_0 23 rfl rfl
theorem dX7_here_0 : decode cX7_here 0 = .ok (.aload_n 0, 1) := dk_42 (dk_at dksX7_here_0 0 rfl rfl)
theorem dX7_here_1 : decode cX7_here 1 = .ok (.getfield 26, 3) := dk_180 0 26 (dk_at dksX7_here_0 1 rfl rfl)
theorem dX7_here_4 : decode cX7_here 4 = .ok (.aload_n 0, 1) := dk_42 (dk_at dksX7_here_0 4 rfl rfl)
theorem dX7_here_5 : decode cX7_here 5 = .ok (.getfield 22, 3) := dk_180 0 22 (dk_at dksX7_here_0 5 rfl rfl)
theorem dX7_here_8 : decode cX7_here 8 = .ok (.if_icmp .ge 22, 3) := dk_162 0 22 (dk_at dksX7_here_0 8 rfl rfl)
theorem dX7_here_11 : decode cX7_here 11 = .ok (.aload_n 0, 1) := dk_42 (dk_at dksX7_here_0 11 rfl rfl)
theorem dX7_here_12 : decode cX7_here 12 = .ok (.getfield 3, 3) := dk_180 0 3 (dk_at dksX7_here_0 12 rfl rfl)
theorem dX7_here_15 : decode cX7_here 15 = .ok (.getfield 29, 3) := dk_180 0 29 (dk_at dksX7_here_0 15 rfl rfl)
theorem dX7_here_18 : decode cX7_here 18 = .ok (.aload_n 0, 1) := dk_42 (dk_at dksX7_here_0 18 rfl rfl)
theorem dX7_here_19 : decode cX7_here 19 = .ok (.getfield 26, 3) := dk_180 0 26 (dk_at dksX7_here_0 19 rfl rfl)
theorem dX7_here_22 : decode cX7_here 22 = .ok (.baload, 1) := dk_51 (dk_at dksX7_here_0 22 rfl rfl)
theorem dX7_here_23 : decode cX7_here 23 = .ok (.sipush 255, 3) := dk_17 0 255 (dk_at dksX7_here_1 0 rfl rfl)
theorem dX7_here_26 : decode cX7_here 26 = .ok (.iand, 1) := dk_126 (dk_at dksX7_here_1 3 rfl rfl)
theorem dX7_here_27 : decode cX7_here 27 = .ok (.goto 4, 3) := dk_167 0 4 (dk_at dksX7_here_1 4 rfl rfl)
theorem dX7_here_30 : decode cX7_here 30 = .ok (.iconst 0, 1) := dk_3 (dk_at dksX7_here_1 7 rfl rfl)
theorem dX7_here_31 : decode cX7_here 31 = .ok (.ireturn, 1) := dk_172 (dk_at dksX7_here_1 8 rfl rfl)
abbrev cX7_bad : ByteArray := prog_10_method_4_code
def yX7_bad : MethodName := ⟨RX7, "bad", "(II)V"⟩
def dkwX7_bad_0 : List UInt8 := [42, 180, 0, 33, 158, 0, 4, 177, 42, 27, 181, 0, 33, 42, 28, 181, 0, 36, 177]
abbrev dktX7_bad_0 : List UInt8 := dkwX7_bad_0 ++ []
theorem dksX7_bad_0 : cX7_bad.data.toList.drop 0 = dktX7_bad_0 := by decide +kernel
theorem dX7_bad_0 : decode cX7_bad 0 = .ok (.aload_n 0, 1) := dk_42 (dk_at dksX7_bad_0 0 rfl rfl)
theorem dX7_bad_1 : decode cX7_bad 1 = .ok (.getfield 33, 3) := dk_180 0 33 (dk_at dksX7_bad_0 1 rfl rfl)
theorem dX7_bad_4 : decode cX7_bad 4 = .ok (.ifCond .le 4, 3) := dk_158 0 4 (dk_at dksX7_bad_0 4 rfl rfl)
theorem dX7_bad_7 : decode cX7_bad 7 = .ok (.return_, 1) := dk_177 (dk_at dksX7_bad_0 7 rfl rfl)
theorem dX7_bad_8 : decode cX7_bad 8 = .ok (.aload_n 0, 1) := dk_42 (dk_at dksX7_bad_0 8 rfl rfl)
theorem dX7_bad_9 : decode cX7_bad 9 = .ok (.iload_n 1, 1) := dk_27 (dk_at dksX7_bad_0 9 rfl rfl)
theorem dX7_bad_10 : decode cX7_bad 10 = .ok (.putfield 33, 3) := dk_181 0 33 (dk_at dksX7_bad_0 10 rfl rfl)
theorem dX7_bad_13 : decode cX7_bad 13 = .ok (.aload_n 0, 1) := dk_42 (dk_at dksX7_bad_0 13 rfl rfl)
theorem dX7_bad_14 : decode cX7_bad 14 = .ok (.iload_n 2, 1) := dk_28 (dk_at dksX7_bad_0 14 rfl rfl)
theorem dX7_bad_15 : decode cX7_bad 15 = .ok (.putfield 36, 3) := dk_181 0 36 (dk_at dksX7_bad_0 15 rfl rfl)
theorem dX7_bad_18 : decode cX7_bad 18 = .ok (.return_, 1) := dk_177 (dk_at dksX7_bad_0 18 rfl rfl)
abbrev cX7_sum : ByteArray := prog_10_method_11_code
def yX7_sum : MethodName := ⟨RX7, "sum", "()LTalkingPlots$Sum;"⟩
def dkwX7_sum_3 : List UInt8 := [44, 180, 0, 94, 77, 167, 255, 195, 43, 176]
abbrev dktX7_sum_3 : List UInt8 := dkwX7_sum_3 ++ []
def dkwX7_sum_2 : List UInt8 := [180, 0, 26, 4, 96, 181, 0, 26, 44, 187, 0, 86, 89, 29, 42, 182, 0, 98, 183, 0, 91, 181, 0, 94]
abbrev dktX7_sum_2 : List UInt8 := dkwX7_sum_2 ++ dktX7_sum_3
def dkwX7_sum_1 : List UInt8 := [182, 0, 39, 16, 43, 159, 0, 12, 42, 182, 0, 39, 16, 45, 160, 0, 42, 42, 182, 0, 39, 62, 42, 89]
abbrev dktX7_sum_1 : List UInt8 := dkwX7_sum_1 ++ dktX7_sum_2
def dkwX7_sum_0 : List UInt8 := [187, 0, 86, 89, 3, 42, 182, 0, 98, 183, 0, 91, 76, 43, 77, 42, 182, 0, 43, 153, 0, 60, 42]
abbrev dktX7_sum_0 : List UInt8 := dkwX7_sum_0 ++ dktX7_sum_1
theorem dksX7_sum_0 : cX7_sum.data.toList.drop 0 = dktX7_sum_0 := by decide +kernel
theorem dksX7_sum_1 : cX7_sum.data.toList.drop 23 = dktX7_sum_1 := dk_seg dksX7_sum_0 23 rfl rfl
theorem dksX7_sum_2 : cX7_sum.data.toList.drop 47 = dktX7_sum_2 := dk_seg dksX7_sum_1 24 rfl rfl
theorem dksX7_sum_3 : cX7_sum.data.toList.drop 71 = dktX7_sum_3 := dk_seg dksX7_sum_2 24 rfl rfl
theorem dX7_sum_0 : decode cX7_sum 0 = .ok (.new 86, 3) := dk_187 0 86 (dk_at dksX7_sum_0 0 rfl rfl)
theorem dX7_sum_3 : decode cX7_sum 3 = .ok (.dup, 1) := dk_89 (dk_at dksX7_sum_0 3 rfl rfl)
theorem dX7_sum_4 : decode cX7_sum 4 = .ok (.iconst 0, 1) := dk_3 (dk_at dksX7_sum_0 4 rfl rfl)
theorem dX7_sum_5 : decode cX7_sum 5 = .ok (.aload_n 0, 1) := dk_42 (dk_at dksX7_sum_0 5 rfl rfl)
theorem dX7_sum_6 : decode cX7_sum 6 = .ok (.invokevirtual 98, 3) := dk_182 0 98 (dk_at dksX7_sum_0 6 rfl rfl)
theorem dX7_sum_9 : decode cX7_sum 9 = .ok (.invokespecial 91, 3) := dk_183 0 91 (dk_at dksX7_sum_0 9 rfl rfl)
theorem dX7_sum_12 : decode cX7_sum 12 = .ok (.astore_n 1, 1) := dk_76 (dk_at dksX7_sum_0 12 rfl rfl)
theorem dX7_sum_13 : decode cX7_sum 13 = .ok (.aload_n 1, 1) := dk_43 (dk_at dksX7_sum_0 13 rfl rfl)
theorem dX7_sum_14 : decode cX7_sum 14 = .ok (.astore_n 2, 1) := dk_77 (dk_at dksX7_sum_0 14 rfl rfl)
theorem dX7_sum_15 : decode cX7_sum 15 = .ok (.aload_n 0, 1) := dk_42 (dk_at dksX7_sum_0 15 rfl rfl)
theorem dX7_sum_16 : decode cX7_sum 16 = .ok (.invokevirtual 43, 3) := dk_182 0 43 (dk_at dksX7_sum_0 16 rfl rfl)
theorem dX7_sum_19 : decode cX7_sum 19 = .ok (.ifCond .eq 60, 3) := dk_153 0 60 (dk_at dksX7_sum_0 19 rfl rfl)
theorem dX7_sum_22 : decode cX7_sum 22 = .ok (.aload_n 0, 1) := dk_42 (dk_at dksX7_sum_0 22 rfl rfl)
theorem dX7_sum_23 : decode cX7_sum 23 = .ok (.invokevirtual 39, 3) := dk_182 0 39 (dk_at dksX7_sum_1 0 rfl rfl)
theorem dX7_sum_26 : decode cX7_sum 26 = .ok (.bipush 43, 2) := dk_16 43 (dk_at dksX7_sum_1 3 rfl rfl)
theorem dX7_sum_28 : decode cX7_sum 28 = .ok (.if_icmp .eq 12, 3) := dk_159 0 12 (dk_at dksX7_sum_1 5 rfl rfl)
theorem dX7_sum_31 : decode cX7_sum 31 = .ok (.aload_n 0, 1) := dk_42 (dk_at dksX7_sum_1 8 rfl rfl)
theorem dX7_sum_32 : decode cX7_sum 32 = .ok (.invokevirtual 39, 3) := dk_182 0 39 (dk_at dksX7_sum_1 9 rfl rfl)
theorem dX7_sum_35 : decode cX7_sum 35 = .ok (.bipush 45, 2) := dk_16 45 (dk_at dksX7_sum_1 12 rfl rfl)
theorem dX7_sum_37 : decode cX7_sum 37 = .ok (.if_icmp .ne 42, 3) := dk_160 0 42 (dk_at dksX7_sum_1 14 rfl rfl)
theorem dX7_sum_40 : decode cX7_sum 40 = .ok (.aload_n 0, 1) := dk_42 (dk_at dksX7_sum_1 17 rfl rfl)
theorem dX7_sum_41 : decode cX7_sum 41 = .ok (.invokevirtual 39, 3) := dk_182 0 39 (dk_at dksX7_sum_1 18 rfl rfl)
theorem dX7_sum_44 : decode cX7_sum 44 = .ok (.istore_n 3, 1) := dk_62 (dk_at dksX7_sum_1 21 rfl rfl)
theorem dX7_sum_45 : decode cX7_sum 45 = .ok (.aload_n 0, 1) := dk_42 (dk_at dksX7_sum_1 22 rfl rfl)
theorem dX7_sum_46 : decode cX7_sum 46 = .ok (.dup, 1) := dk_89 (dk_at dksX7_sum_1 23 rfl rfl)
theorem dX7_sum_47 : decode cX7_sum 47 = .ok (.getfield 26, 3) := dk_180 0 26 (dk_at dksX7_sum_2 0 rfl rfl)
theorem dX7_sum_50 : decode cX7_sum 50 = .ok (.iconst 1, 1) := dk_4 (dk_at dksX7_sum_2 3 rfl rfl)
theorem dX7_sum_51 : decode cX7_sum 51 = .ok (.iadd, 1) := dk_96 (dk_at dksX7_sum_2 4 rfl rfl)
theorem dX7_sum_52 : decode cX7_sum 52 = .ok (.putfield 26, 3) := dk_181 0 26 (dk_at dksX7_sum_2 5 rfl rfl)
theorem dX7_sum_55 : decode cX7_sum 55 = .ok (.aload_n 2, 1) := dk_44 (dk_at dksX7_sum_2 8 rfl rfl)
theorem dX7_sum_56 : decode cX7_sum 56 = .ok (.new 86, 3) := dk_187 0 86 (dk_at dksX7_sum_2 9 rfl rfl)
theorem dX7_sum_59 : decode cX7_sum 59 = .ok (.dup, 1) := dk_89 (dk_at dksX7_sum_2 12 rfl rfl)
theorem dX7_sum_60 : decode cX7_sum 60 = .ok (.iload_n 3, 1) := dk_29 (dk_at dksX7_sum_2 13 rfl rfl)
theorem dX7_sum_61 : decode cX7_sum 61 = .ok (.aload_n 0, 1) := dk_42 (dk_at dksX7_sum_2 14 rfl rfl)
theorem dX7_sum_62 : decode cX7_sum 62 = .ok (.invokevirtual 98, 3) := dk_182 0 98 (dk_at dksX7_sum_2 15 rfl rfl)
theorem dX7_sum_65 : decode cX7_sum 65 = .ok (.invokespecial 91, 3) := dk_183 0 91 (dk_at dksX7_sum_2 18 rfl rfl)
theorem dX7_sum_68 : decode cX7_sum 68 = .ok (.putfield 94, 3) := dk_181 0 94 (dk_at dksX7_sum_2 21 rfl rfl)
theorem dX7_sum_71 : decode cX7_sum 71 = .ok (.aload_n 2, 1) := dk_44 (dk_at dksX7_sum_3 0 rfl rfl)
theorem dX7_sum_72 : decode cX7_sum 72 = .ok (.getfield 94, 3) := dk_180 0 94 (dk_at dksX7_sum_3 1 rfl rfl)
theorem dX7_sum_75 : decode cX7_sum 75 = .ok (.astore_n 2, 1) := dk_77 (dk_at dksX7_sum_3 4 rfl rfl)
theorem dX7_sum_76 : decode cX7_sum 76 = .ok (.goto (-61), 3) := dk_167 255 195 (dk_at dksX7_sum_3 5 rfl rfl)
theorem dX7_sum_79 : decode cX7_sum 79 = .ok (.aload_n 1, 1) := dk_43 (dk_at dksX7_sum_3 8 rfl rfl)
theorem dX7_sum_80 : decode cX7_sum 80 = .ok (.areturn, 1) := dk_176 (dk_at dksX7_sum_3 9 rfl rfl)
abbrev cX7_product : ByteArray := prog_10_method_10_code
def yX7_product : MethodName := ⟨RX7, "product", "()LTalkingPlots$Sum;"⟩
def dkwX7_product_3 : List UInt8 := [42, 182, 0, 88, 183, 0, 91, 181, 0, 94, 44, 180, 0, 94, 77, 167, 255, 186, 43, 176]
abbrev dktX7_product_3 : List UInt8 := dkwX7_product_3 ++ []
def dkwX7_product_2 : List UInt8 := [160, 0, 42, 42, 182, 0, 39, 62, 42, 89, 180, 0, 26, 4, 96, 181, 0, 26, 44, 187, 0, 86, 89, 29]
abbrev dktX7_product_2 : List UInt8 := dkwX7_product_2 ++ dktX7_product_3
def dkwX7_product_1 : List UInt8 := [182, 0, 39, 16, 42, 159, 0, 21, 42, 182, 0, 39, 16, 47, 159, 0, 12, 42, 182, 0, 39, 16, 37]
abbrev dktX7_product_1 : List UInt8 := dkwX7_product_1 ++ dktX7_product_2
def dkwX7_product_0 : List UInt8 := [187, 0, 86, 89, 3, 42, 182, 0, 88, 183, 0, 91, 76, 43, 77, 42, 182, 0, 43, 153, 0, 69, 42]
abbrev dktX7_product_0 : List UInt8 := dkwX7_product_0 ++ dktX7_product_1
theorem dksX7_product_0 : cX7_product.data.toList.drop 0 = dktX7_product_0 := by decide +kernel
theorem dksX7_product_1 : cX7_product.data.toList.drop 23 = dktX7_product_1 := dk_seg dksX7_product_0 23 rfl rfl
theorem dksX7_product_2 : cX7_product.data.toList.drop 46 = dktX7_product_2 := dk_seg dksX7_product_1 23 rfl rfl
theorem dksX7_product_3 : cX7_product.data.toList.drop 70 = dktX7_product_3 := dk_seg dksX7_product_2 24 rfl rfl
theorem dX7_product_0 : decode cX7_product 0 = .ok (.new 86, 3) := dk_187 0 86 (dk_at dksX7_product_0 0 rfl rfl)
theorem dX7_product_3 : decode cX7_product 3 = .ok (.dup, 1) := dk_89 (dk_at dksX7_product_0 3 rfl rfl)
theorem dX7_product_4 : decode cX7_product 4 = .ok (.iconst 0, 1) := dk_3 (dk_at dksX7_product_0 4 rfl rfl)
theorem dX7_product_5 : decode cX7_product 5 = .ok (.aload_n 0, 1) := dk_42 (dk_at dksX7_product_0 5 rfl rfl)
theorem dX7_product_6 : decode cX7_product 6 = .ok (.invokevirtual 88, 3) := dk_182 0 88 (dk_at dksX7_product_0 6 rfl rfl)
theorem dX7_product_9 : decode cX7_product 9 = .ok (.invokespecial 91, 3) := dk_183 0 91 (dk_at dksX7_product_0 9 rfl rfl)
theorem dX7_product_12 : decode cX7_product 12 = .ok (.astore_n 1, 1) := dk_76 (dk_at dksX7_product_0 12 rfl rfl)
theorem dX7_product_13 : decode cX7_product 13 = .ok (.aload_n 1, 1) := dk_43 (dk_at dksX7_product_0 13 rfl rfl)
theorem dX7_product_14 : decode cX7_product 14 = .ok (.astore_n 2, 1) := dk_77 (dk_at dksX7_product_0 14 rfl rfl)
theorem dX7_product_15 : decode cX7_product 15 = .ok (.aload_n 0, 1) := dk_42 (dk_at dksX7_product_0 15 rfl rfl)
theorem dX7_product_16 : decode cX7_product 16 = .ok (.invokevirtual 43, 3) := dk_182 0 43 (dk_at dksX7_product_0 16 rfl rfl)
theorem dX7_product_19 : decode cX7_product 19 = .ok (.ifCond .eq 69, 3) := dk_153 0 69 (dk_at dksX7_product_0 19 rfl rfl)
theorem dX7_product_22 : decode cX7_product 22 = .ok (.aload_n 0, 1) := dk_42 (dk_at dksX7_product_0 22 rfl rfl)
theorem dX7_product_23 : decode cX7_product 23 = .ok (.invokevirtual 39, 3) := dk_182 0 39 (dk_at dksX7_product_1 0 rfl rfl)
theorem dX7_product_26 : decode cX7_product 26 = .ok (.bipush 42, 2) := dk_16 42 (dk_at dksX7_product_1 3 rfl rfl)
theorem dX7_product_28 : decode cX7_product 28 = .ok (.if_icmp .eq 21, 3) := dk_159 0 21 (dk_at dksX7_product_1 5 rfl rfl)
theorem dX7_product_31 : decode cX7_product 31 = .ok (.aload_n 0, 1) := dk_42 (dk_at dksX7_product_1 8 rfl rfl)
theorem dX7_product_32 : decode cX7_product 32 = .ok (.invokevirtual 39, 3) := dk_182 0 39 (dk_at dksX7_product_1 9 rfl rfl)
theorem dX7_product_35 : decode cX7_product 35 = .ok (.bipush 47, 2) := dk_16 47 (dk_at dksX7_product_1 12 rfl rfl)
theorem dX7_product_37 : decode cX7_product 37 = .ok (.if_icmp .eq 12, 3) := dk_159 0 12 (dk_at dksX7_product_1 14 rfl rfl)
theorem dX7_product_40 : decode cX7_product 40 = .ok (.aload_n 0, 1) := dk_42 (dk_at dksX7_product_1 17 rfl rfl)
theorem dX7_product_41 : decode cX7_product 41 = .ok (.invokevirtual 39, 3) := dk_182 0 39 (dk_at dksX7_product_1 18 rfl rfl)
theorem dX7_product_44 : decode cX7_product 44 = .ok (.bipush 37, 2) := dk_16 37 (dk_at dksX7_product_1 21 rfl rfl)
theorem dX7_product_46 : decode cX7_product 46 = .ok (.if_icmp .ne 42, 3) := dk_160 0 42 (dk_at dksX7_product_2 0 rfl rfl)
theorem dX7_product_49 : decode cX7_product 49 = .ok (.aload_n 0, 1) := dk_42 (dk_at dksX7_product_2 3 rfl rfl)
theorem dX7_product_50 : decode cX7_product 50 = .ok (.invokevirtual 39, 3) := dk_182 0 39 (dk_at dksX7_product_2 4 rfl rfl)
theorem dX7_product_53 : decode cX7_product 53 = .ok (.istore_n 3, 1) := dk_62 (dk_at dksX7_product_2 7 rfl rfl)
theorem dX7_product_54 : decode cX7_product 54 = .ok (.aload_n 0, 1) := dk_42 (dk_at dksX7_product_2 8 rfl rfl)
theorem dX7_product_55 : decode cX7_product 55 = .ok (.dup, 1) := dk_89 (dk_at dksX7_product_2 9 rfl rfl)
theorem dX7_product_56 : decode cX7_product 56 = .ok (.getfield 26, 3) := dk_180 0 26 (dk_at dksX7_product_2 10 rfl rfl)
theorem dX7_product_59 : decode cX7_product 59 = .ok (.iconst 1, 1) := dk_4 (dk_at dksX7_product_2 13 rfl rfl)
theorem dX7_product_60 : decode cX7_product 60 = .ok (.iadd, 1) := dk_96 (dk_at dksX7_product_2 14 rfl rfl)
theorem dX7_product_61 : decode cX7_product 61 = .ok (.putfield 26, 3) := dk_181 0 26 (dk_at dksX7_product_2 15 rfl rfl)
theorem dX7_product_64 : decode cX7_product 64 = .ok (.aload_n 2, 1) := dk_44 (dk_at dksX7_product_2 18 rfl rfl)
theorem dX7_product_65 : decode cX7_product 65 = .ok (.new 86, 3) := dk_187 0 86 (dk_at dksX7_product_2 19 rfl rfl)
theorem dX7_product_68 : decode cX7_product 68 = .ok (.dup, 1) := dk_89 (dk_at dksX7_product_2 22 rfl rfl)
theorem dX7_product_69 : decode cX7_product 69 = .ok (.iload_n 3, 1) := dk_29 (dk_at dksX7_product_2 23 rfl rfl)
theorem dX7_product_70 : decode cX7_product 70 = .ok (.aload_n 0, 1) := dk_42 (dk_at dksX7_product_3 0 rfl rfl)
theorem dX7_product_71 : decode cX7_product 71 = .ok (.invokevirtual 88, 3) := dk_182 0 88 (dk_at dksX7_product_3 1 rfl rfl)
theorem dX7_product_74 : decode cX7_product 74 = .ok (.invokespecial 91, 3) := dk_183 0 91 (dk_at dksX7_product_3 4 rfl rfl)
theorem dX7_product_77 : decode cX7_product 77 = .ok (.putfield 94, 3) := dk_181 0 94 (dk_at dksX7_product_3 7 rfl rfl)
theorem dX7_product_80 : decode cX7_product 80 = .ok (.aload_n 2, 1) := dk_44 (dk_at dksX7_product_3 10 rfl rfl)
theorem dX7_product_81 : decode cX7_product 81 = .ok (.getfield 94, 3) := dk_180 0 94 (dk_at dksX7_product_3 11 rfl rfl)
theorem dX7_product_84 : decode cX7_product 84 = .ok (.astore_n 2, 1) := dk_77 (dk_at dksX7_product_3 14 rfl rfl)
theorem dX7_product_85 : decode cX7_product 85 = .ok (.goto (-70), 3) := dk_167 255 186 (dk_at dksX7_product_3 15 rfl rfl)
theorem dX7_product_88 : decode cX7_product 88 = .ok (.aload_n 1, 1) := dk_43 (dk_at dksX7_product_3 18 rfl rfl)
theorem dX7_product_89 : decode cX7_product 89 = .ok (.areturn, 1) := dk_176 (dk_at dksX7_product_3 19 rfl rfl)
abbrev cX7_factor : ByteArray := prog_10_method_9_code
def yX7_factor : MethodName := ⟨RX7, "factor", "()LTalkingPlots$Sum;"⟩
def dkwX7_factor_5 : List UInt8 := [176]
abbrev dktX7_factor_5 : List UInt8 := dkwX7_factor_5 ++ []
def dkwX7_factor_4 : List UInt8 := [180, 0, 26, 182, 0, 50, 42, 89, 180, 0, 26, 4, 96, 181, 0, 26, 187, 0, 83, 89, 27, 183, 0, 85]
abbrev dktX7_factor_4 : List UInt8 := dkwX7_factor_4 ++ dktX7_factor_5
def dkwX7_factor_3 : List UInt8 := [182, 0, 70, 183, 0, 73, 176, 27, 153, 0, 12, 18, 75, 27, 182, 0, 77, 156, 0, 12, 42, 4, 42]
abbrev dktX7_factor_3 : List UInt8 := dkwX7_factor_3 ++ dktX7_factor_4
def dkwX7_factor_2 : List UInt8 := [180, 0, 54, 4, 100, 181, 0, 54, 44, 176, 42, 182, 0, 47, 153, 0, 15, 187, 0, 68, 89, 42]
abbrev dktX7_factor_2 : List UInt8 := dkwX7_factor_2 ++ dktX7_factor_3
def dkwX7_factor_1 : List UInt8 := [182, 0, 60, 167, 0, 4, 1, 77, 42, 182, 0, 43, 153, 0, 9, 42, 16, 93, 182, 0, 64, 42, 89]
abbrev dktX7_factor_1 : List UInt8 := dkwX7_factor_1 ++ dktX7_factor_2
def dkwX7_factor_0 : List UInt8 := [42, 182, 0, 39, 60, 27, 16, 91, 160, 0, 48, 42, 182, 0, 57, 42, 182, 0, 43, 153, 0, 10, 42]
abbrev dktX7_factor_0 : List UInt8 := dkwX7_factor_0 ++ dktX7_factor_1
theorem dksX7_factor_0 : cX7_factor.data.toList.drop 0 = dktX7_factor_0 := by decide +kernel
theorem dksX7_factor_1 : cX7_factor.data.toList.drop 23 = dktX7_factor_1 := dk_seg dksX7_factor_0 23 rfl rfl
theorem dksX7_factor_2 : cX7_factor.data.toList.drop 46 = dktX7_factor_2 := dk_seg dksX7_factor_1 23 rfl rfl
theorem dksX7_factor_3 : cX7_factor.data.toList.drop 68 = dktX7_factor_3 := dk_seg dksX7_factor_2 22 rfl rfl
theorem dksX7_factor_4 : cX7_factor.data.toList.drop 91 = dktX7_factor_4 := dk_seg dksX7_factor_3 23 rfl rfl
theorem dksX7_factor_5 : cX7_factor.data.toList.drop 115 = dktX7_factor_5 := dk_seg dksX7_factor_4 24 rfl rfl
theorem dX7_factor_0 : decode cX7_factor 0 = .ok (.aload_n 0, 1) := dk_42 (dk_at dksX7_factor_0 0 rfl rfl)
theorem dX7_factor_1 : decode cX7_factor 1 = .ok (.invokevirtual 39, 3) := dk_182 0 39 (dk_at dksX7_factor_0 1 rfl rfl)
theorem dX7_factor_4 : decode cX7_factor 4 = .ok (.istore_n 1, 1) := dk_60 (dk_at dksX7_factor_0 4 rfl rfl)
theorem dX7_factor_5 : decode cX7_factor 5 = .ok (.iload_n 1, 1) := dk_27 (dk_at dksX7_factor_0 5 rfl rfl)
theorem dX7_factor_6 : decode cX7_factor 6 = .ok (.bipush 91, 2) := dk_16 91 (dk_at dksX7_factor_0 6 rfl rfl)
theorem dX7_factor_8 : decode cX7_factor 8 = .ok (.if_icmp .ne 48, 3) := dk_160 0 48 (dk_at dksX7_factor_0 8 rfl rfl)
theorem dX7_factor_11 : decode cX7_factor 11 = .ok (.aload_n 0, 1) := dk_42 (dk_at dksX7_factor_0 11 rfl rfl)
theorem dX7_factor_12 : decode cX7_factor 12 = .ok (.invokevirtual 57, 3) := dk_182 0 57 (dk_at dksX7_factor_0 12 rfl rfl)
theorem dX7_factor_15 : decode cX7_factor 15 = .ok (.aload_n 0, 1) := dk_42 (dk_at dksX7_factor_0 15 rfl rfl)
theorem dX7_factor_16 : decode cX7_factor 16 = .ok (.invokevirtual 43, 3) := dk_182 0 43 (dk_at dksX7_factor_0 16 rfl rfl)
theorem dX7_factor_19 : decode cX7_factor 19 = .ok (.ifCond .eq 10, 3) := dk_153 0 10 (dk_at dksX7_factor_0 19 rfl rfl)
theorem dX7_factor_22 : decode cX7_factor 22 = .ok (.aload_n 0, 1) := dk_42 (dk_at dksX7_factor_0 22 rfl rfl)
theorem dX7_factor_23 : decode cX7_factor 23 = .ok (.invokevirtual 60, 3) := dk_182 0 60 (dk_at dksX7_factor_1 0 rfl rfl)
theorem dX7_factor_26 : decode cX7_factor 26 = .ok (.goto 4, 3) := dk_167 0 4 (dk_at dksX7_factor_1 3 rfl rfl)
theorem dX7_factor_29 : decode cX7_factor 29 = .ok (.aconst_null, 1) := dk_1 (dk_at dksX7_factor_1 6 rfl rfl)
theorem dX7_factor_30 : decode cX7_factor 30 = .ok (.astore_n 2, 1) := dk_77 (dk_at dksX7_factor_1 7 rfl rfl)
theorem dX7_factor_31 : decode cX7_factor 31 = .ok (.aload_n 0, 1) := dk_42 (dk_at dksX7_factor_1 8 rfl rfl)
theorem dX7_factor_32 : decode cX7_factor 32 = .ok (.invokevirtual 43, 3) := dk_182 0 43 (dk_at dksX7_factor_1 9 rfl rfl)
theorem dX7_factor_35 : decode cX7_factor 35 = .ok (.ifCond .eq 9, 3) := dk_153 0 9 (dk_at dksX7_factor_1 12 rfl rfl)
theorem dX7_factor_38 : decode cX7_factor 38 = .ok (.aload_n 0, 1) := dk_42 (dk_at dksX7_factor_1 15 rfl rfl)
theorem dX7_factor_39 : decode cX7_factor 39 = .ok (.bipush 93, 2) := dk_16 93 (dk_at dksX7_factor_1 16 rfl rfl)
theorem dX7_factor_41 : decode cX7_factor 41 = .ok (.invokevirtual 64, 3) := dk_182 0 64 (dk_at dksX7_factor_1 18 rfl rfl)
theorem dX7_factor_44 : decode cX7_factor 44 = .ok (.aload_n 0, 1) := dk_42 (dk_at dksX7_factor_1 21 rfl rfl)
theorem dX7_factor_45 : decode cX7_factor 45 = .ok (.dup, 1) := dk_89 (dk_at dksX7_factor_1 22 rfl rfl)
theorem dX7_factor_46 : decode cX7_factor 46 = .ok (.getfield 54, 3) := dk_180 0 54 (dk_at dksX7_factor_2 0 rfl rfl)
theorem dX7_factor_49 : decode cX7_factor 49 = .ok (.iconst 1, 1) := dk_4 (dk_at dksX7_factor_2 3 rfl rfl)
theorem dX7_factor_50 : decode cX7_factor 50 = .ok (.isub, 1) := dk_100 (dk_at dksX7_factor_2 4 rfl rfl)
theorem dX7_factor_51 : decode cX7_factor 51 = .ok (.putfield 54, 3) := dk_181 0 54 (dk_at dksX7_factor_2 5 rfl rfl)
theorem dX7_factor_54 : decode cX7_factor 54 = .ok (.aload_n 2, 1) := dk_44 (dk_at dksX7_factor_2 8 rfl rfl)
theorem dX7_factor_55 : decode cX7_factor 55 = .ok (.areturn, 1) := dk_176 (dk_at dksX7_factor_2 9 rfl rfl)
theorem dX7_factor_56 : decode cX7_factor 56 = .ok (.aload_n 0, 1) := dk_42 (dk_at dksX7_factor_2 10 rfl rfl)
theorem dX7_factor_57 : decode cX7_factor 57 = .ok (.invokevirtual 47, 3) := dk_182 0 47 (dk_at dksX7_factor_2 11 rfl rfl)
theorem dX7_factor_60 : decode cX7_factor 60 = .ok (.ifCond .eq 15, 3) := dk_153 0 15 (dk_at dksX7_factor_2 14 rfl rfl)
theorem dX7_factor_63 : decode cX7_factor 63 = .ok (.new 68, 3) := dk_187 0 68 (dk_at dksX7_factor_2 17 rfl rfl)
theorem dX7_factor_66 : decode cX7_factor 66 = .ok (.dup, 1) := dk_89 (dk_at dksX7_factor_2 20 rfl rfl)
theorem dX7_factor_67 : decode cX7_factor 67 = .ok (.aload_n 0, 1) := dk_42 (dk_at dksX7_factor_2 21 rfl rfl)
theorem dX7_factor_68 : decode cX7_factor 68 = .ok (.invokevirtual 70, 3) := dk_182 0 70 (dk_at dksX7_factor_3 0 rfl rfl)
theorem dX7_factor_71 : decode cX7_factor 71 = .ok (.invokespecial 73, 3) := dk_183 0 73 (dk_at dksX7_factor_3 3 rfl rfl)
theorem dX7_factor_74 : decode cX7_factor 74 = .ok (.areturn, 1) := dk_176 (dk_at dksX7_factor_3 6 rfl rfl)
theorem dX7_factor_75 : decode cX7_factor 75 = .ok (.iload_n 1, 1) := dk_27 (dk_at dksX7_factor_3 7 rfl rfl)
theorem dX7_factor_76 : decode cX7_factor 76 = .ok (.ifCond .eq 12, 3) := dk_153 0 12 (dk_at dksX7_factor_3 8 rfl rfl)
theorem dX7_factor_79 : decode cX7_factor 79 = .ok (.ldc 75, 2) := dk_18 75 (dk_at dksX7_factor_3 11 rfl rfl)
theorem dX7_factor_81 : decode cX7_factor 81 = .ok (.iload_n 1, 1) := dk_27 (dk_at dksX7_factor_3 13 rfl rfl)
theorem dX7_factor_82 : decode cX7_factor 82 = .ok (.invokevirtual 77, 3) := dk_182 0 77 (dk_at dksX7_factor_3 14 rfl rfl)
theorem dX7_factor_85 : decode cX7_factor 85 = .ok (.ifCond .ge 12, 3) := dk_156 0 12 (dk_at dksX7_factor_3 17 rfl rfl)
theorem dX7_factor_88 : decode cX7_factor 88 = .ok (.aload_n 0, 1) := dk_42 (dk_at dksX7_factor_3 20 rfl rfl)
theorem dX7_factor_89 : decode cX7_factor 89 = .ok (.iconst 1, 1) := dk_4 (dk_at dksX7_factor_3 21 rfl rfl)
theorem dX7_factor_90 : decode cX7_factor 90 = .ok (.aload_n 0, 1) := dk_42 (dk_at dksX7_factor_3 22 rfl rfl)
theorem dX7_factor_91 : decode cX7_factor 91 = .ok (.getfield 26, 3) := dk_180 0 26 (dk_at dksX7_factor_4 0 rfl rfl)
theorem dX7_factor_94 : decode cX7_factor 94 = .ok (.invokevirtual 50, 3) := dk_182 0 50 (dk_at dksX7_factor_4 3 rfl rfl)
theorem dX7_factor_97 : decode cX7_factor 97 = .ok (.aload_n 0, 1) := dk_42 (dk_at dksX7_factor_4 6 rfl rfl)
theorem dX7_factor_98 : decode cX7_factor 98 = .ok (.dup, 1) := dk_89 (dk_at dksX7_factor_4 7 rfl rfl)
theorem dX7_factor_99 : decode cX7_factor 99 = .ok (.getfield 26, 3) := dk_180 0 26 (dk_at dksX7_factor_4 8 rfl rfl)
theorem dX7_factor_102 : decode cX7_factor 102 = .ok (.iconst 1, 1) := dk_4 (dk_at dksX7_factor_4 11 rfl rfl)
theorem dX7_factor_103 : decode cX7_factor 103 = .ok (.iadd, 1) := dk_96 (dk_at dksX7_factor_4 12 rfl rfl)
theorem dX7_factor_104 : decode cX7_factor 104 = .ok (.putfield 26, 3) := dk_181 0 26 (dk_at dksX7_factor_4 13 rfl rfl)
theorem dX7_factor_107 : decode cX7_factor 107 = .ok (.new 83, 3) := dk_187 0 83 (dk_at dksX7_factor_4 16 rfl rfl)
theorem dX7_factor_110 : decode cX7_factor 110 = .ok (.dup, 1) := dk_89 (dk_at dksX7_factor_4 19 rfl rfl)
theorem dX7_factor_111 : decode cX7_factor 111 = .ok (.iload_n 1, 1) := dk_27 (dk_at dksX7_factor_4 20 rfl rfl)
theorem dX7_factor_112 : decode cX7_factor 112 = .ok (.invokespecial 85, 3) := dk_183 0 85 (dk_at dksX7_factor_4 21 rfl rfl)
theorem dX7_factor_115 : decode cX7_factor 115 = .ok (.areturn, 1) := dk_176 (dk_at dksX7_factor_5 0 rfl rfl)
abbrev cX7_opens : ByteArray := prog_10_method_8_code
def yX7_opens : MethodName := ⟨RX7, "opens", "()V"⟩
def dkwX7_opens_1 : List UInt8 := [96, 181, 0, 54, 42, 89, 180, 0, 26, 4, 96, 181, 0, 26, 177]
abbrev dktX7_opens_1 : List UInt8 := dkwX7_opens_1 ++ []
def dkwX7_opens_0 : List UInt8 := [42, 180, 0, 54, 16, 6, 160, 0, 12, 42, 8, 42, 180, 0, 26, 182, 0, 50, 42, 89, 180, 0, 54, 4]
abbrev dktX7_opens_0 : List UInt8 := dkwX7_opens_0 ++ dktX7_opens_1
theorem dksX7_opens_0 : cX7_opens.data.toList.drop 0 = dktX7_opens_0 := by decide +kernel
theorem dksX7_opens_1 : cX7_opens.data.toList.drop 24 = dktX7_opens_1 := dk_seg dksX7_opens_0 24 rfl rfl
theorem dX7_opens_0 : decode cX7_opens 0 = .ok (.aload_n 0, 1) := dk_42 (dk_at dksX7_opens_0 0 rfl rfl)
theorem dX7_opens_1 : decode cX7_opens 1 = .ok (.getfield 54, 3) := dk_180 0 54 (dk_at dksX7_opens_0 1 rfl rfl)
theorem dX7_opens_4 : decode cX7_opens 4 = .ok (.bipush 6, 2) := dk_16 6 (dk_at dksX7_opens_0 4 rfl rfl)
theorem dX7_opens_6 : decode cX7_opens 6 = .ok (.if_icmp .ne 12, 3) := dk_160 0 12 (dk_at dksX7_opens_0 6 rfl rfl)
theorem dX7_opens_9 : decode cX7_opens 9 = .ok (.aload_n 0, 1) := dk_42 (dk_at dksX7_opens_0 9 rfl rfl)
theorem dX7_opens_10 : decode cX7_opens 10 = .ok (.iconst 5, 1) := dk_8 (dk_at dksX7_opens_0 10 rfl rfl)
theorem dX7_opens_11 : decode cX7_opens 11 = .ok (.aload_n 0, 1) := dk_42 (dk_at dksX7_opens_0 11 rfl rfl)
theorem dX7_opens_12 : decode cX7_opens 12 = .ok (.getfield 26, 3) := dk_180 0 26 (dk_at dksX7_opens_0 12 rfl rfl)
theorem dX7_opens_15 : decode cX7_opens 15 = .ok (.invokevirtual 50, 3) := dk_182 0 50 (dk_at dksX7_opens_0 15 rfl rfl)
theorem dX7_opens_18 : decode cX7_opens 18 = .ok (.aload_n 0, 1) := dk_42 (dk_at dksX7_opens_0 18 rfl rfl)
theorem dX7_opens_19 : decode cX7_opens 19 = .ok (.dup, 1) := dk_89 (dk_at dksX7_opens_0 19 rfl rfl)
theorem dX7_opens_20 : decode cX7_opens 20 = .ok (.getfield 54, 3) := dk_180 0 54 (dk_at dksX7_opens_0 20 rfl rfl)
theorem dX7_opens_23 : decode cX7_opens 23 = .ok (.iconst 1, 1) := dk_4 (dk_at dksX7_opens_0 23 rfl rfl)
theorem dX7_opens_24 : decode cX7_opens 24 = .ok (.iadd, 1) := dk_96 (dk_at dksX7_opens_1 0 rfl rfl)
theorem dX7_opens_25 : decode cX7_opens 25 = .ok (.putfield 54, 3) := dk_181 0 54 (dk_at dksX7_opens_1 1 rfl rfl)
theorem dX7_opens_28 : decode cX7_opens 28 = .ok (.aload_n 0, 1) := dk_42 (dk_at dksX7_opens_1 4 rfl rfl)
theorem dX7_opens_29 : decode cX7_opens 29 = .ok (.dup, 1) := dk_89 (dk_at dksX7_opens_1 5 rfl rfl)
theorem dX7_opens_30 : decode cX7_opens 30 = .ok (.getfield 26, 3) := dk_180 0 26 (dk_at dksX7_opens_1 6 rfl rfl)
theorem dX7_opens_33 : decode cX7_opens 33 = .ok (.iconst 1, 1) := dk_4 (dk_at dksX7_opens_1 9 rfl rfl)
theorem dX7_opens_34 : decode cX7_opens 34 = .ok (.iadd, 1) := dk_96 (dk_at dksX7_opens_1 10 rfl rfl)
theorem dX7_opens_35 : decode cX7_opens 35 = .ok (.putfield 26, 3) := dk_181 0 26 (dk_at dksX7_opens_1 11 rfl rfl)
theorem dX7_opens_38 : decode cX7_opens 38 = .ok (.return_, 1) := dk_177 (dk_at dksX7_opens_1 14 rfl rfl)
abbrev cX7_must : ByteArray := prog_10_method_7_code
def yX7_must : MethodName := ⟨RX7, "must", "(I)V"⟩
def dkwX7_must_1 : List UInt8 := [181, 0, 26, 177]
abbrev dktX7_must_1 : List UInt8 := dkwX7_must_1 ++ []
def dkwX7_must_0 : List UInt8 := [42, 182, 0, 39, 27, 159, 0, 12, 42, 4, 42, 180, 0, 26, 182, 0, 50, 42, 89, 180, 0, 26, 4, 96]
abbrev dktX7_must_0 : List UInt8 := dkwX7_must_0 ++ dktX7_must_1
theorem dksX7_must_0 : cX7_must.data.toList.drop 0 = dktX7_must_0 := by decide +kernel
theorem dksX7_must_1 : cX7_must.data.toList.drop 24 = dktX7_must_1 := dk_seg dksX7_must_0 24 rfl rfl
theorem dX7_must_0 : decode cX7_must 0 = .ok (.aload_n 0, 1) := dk_42 (dk_at dksX7_must_0 0 rfl rfl)
theorem dX7_must_1 : decode cX7_must 1 = .ok (.invokevirtual 39, 3) := dk_182 0 39 (dk_at dksX7_must_0 1 rfl rfl)
theorem dX7_must_4 : decode cX7_must 4 = .ok (.iload_n 1, 1) := dk_27 (dk_at dksX7_must_0 4 rfl rfl)
theorem dX7_must_5 : decode cX7_must 5 = .ok (.if_icmp .eq 12, 3) := dk_159 0 12 (dk_at dksX7_must_0 5 rfl rfl)
theorem dX7_must_8 : decode cX7_must 8 = .ok (.aload_n 0, 1) := dk_42 (dk_at dksX7_must_0 8 rfl rfl)
theorem dX7_must_9 : decode cX7_must 9 = .ok (.iconst 1, 1) := dk_4 (dk_at dksX7_must_0 9 rfl rfl)
theorem dX7_must_10 : decode cX7_must 10 = .ok (.aload_n 0, 1) := dk_42 (dk_at dksX7_must_0 10 rfl rfl)
theorem dX7_must_11 : decode cX7_must 11 = .ok (.getfield 26, 3) := dk_180 0 26 (dk_at dksX7_must_0 11 rfl rfl)
theorem dX7_must_14 : decode cX7_must 14 = .ok (.invokevirtual 50, 3) := dk_182 0 50 (dk_at dksX7_must_0 14 rfl rfl)
theorem dX7_must_17 : decode cX7_must 17 = .ok (.aload_n 0, 1) := dk_42 (dk_at dksX7_must_0 17 rfl rfl)
theorem dX7_must_18 : decode cX7_must 18 = .ok (.dup, 1) := dk_89 (dk_at dksX7_must_0 18 rfl rfl)
theorem dX7_must_19 : decode cX7_must 19 = .ok (.getfield 26, 3) := dk_180 0 26 (dk_at dksX7_must_0 19 rfl rfl)
theorem dX7_must_22 : decode cX7_must 22 = .ok (.iconst 1, 1) := dk_4 (dk_at dksX7_must_0 22 rfl rfl)
theorem dX7_must_23 : decode cX7_must 23 = .ok (.iadd, 1) := dk_96 (dk_at dksX7_must_0 23 rfl rfl)
theorem dX7_must_24 : decode cX7_must 24 = .ok (.putfield 26, 3) := dk_181 0 26 (dk_at dksX7_must_1 0 rfl rfl)
theorem dX7_must_27 : decode cX7_must 27 = .ok (.return_, 1) := dk_177 (dk_at dksX7_must_1 3 rfl rfl)
abbrev cX7_seesDigit : ByteArray := prog_10_method_5_code
def yX7_seesDigit : MethodName := ⟨RX7, "seesDigit", "()Z"⟩
def dkwX7_seesDigit_0 : List UInt8 := [42, 182, 0, 39, 16, 48, 161, 0, 16, 42, 182, 0, 39, 16, 57, 163, 0, 7, 4, 167, 0, 4, 3, 172]
abbrev dktX7_seesDigit_0 : List UInt8 := dkwX7_seesDigit_0 ++ []
theorem dksX7_seesDigit_0 : cX7_seesDigit.data.toList.drop 0 = dktX7_seesDigit_0 := by decide +kernel
theorem dX7_seesDigit_0 : decode cX7_seesDigit 0 = .ok (.aload_n 0, 1) := dk_42 (dk_at dksX7_seesDigit_0 0 rfl rfl)
theorem dX7_seesDigit_1 : decode cX7_seesDigit 1 = .ok (.invokevirtual 39, 3) := dk_182 0 39 (dk_at dksX7_seesDigit_0 1 rfl rfl)
theorem dX7_seesDigit_4 : decode cX7_seesDigit 4 = .ok (.bipush 48, 2) := dk_16 48 (dk_at dksX7_seesDigit_0 4 rfl rfl)
theorem dX7_seesDigit_6 : decode cX7_seesDigit 6 = .ok (.if_icmp .lt 16, 3) := dk_161 0 16 (dk_at dksX7_seesDigit_0 6 rfl rfl)
theorem dX7_seesDigit_9 : decode cX7_seesDigit 9 = .ok (.aload_n 0, 1) := dk_42 (dk_at dksX7_seesDigit_0 9 rfl rfl)
theorem dX7_seesDigit_10 : decode cX7_seesDigit 10 = .ok (.invokevirtual 39, 3) := dk_182 0 39 (dk_at dksX7_seesDigit_0 10 rfl rfl)
theorem dX7_seesDigit_13 : decode cX7_seesDigit 13 = .ok (.bipush 57, 2) := dk_16 57 (dk_at dksX7_seesDigit_0 13 rfl rfl)
theorem dX7_seesDigit_15 : decode cX7_seesDigit 15 = .ok (.if_icmp .gt 7, 3) := dk_163 0 7 (dk_at dksX7_seesDigit_0 15 rfl rfl)
theorem dX7_seesDigit_18 : decode cX7_seesDigit 18 = .ok (.iconst 1, 1) := dk_4 (dk_at dksX7_seesDigit_0 18 rfl rfl)
theorem dX7_seesDigit_19 : decode cX7_seesDigit 19 = .ok (.goto 4, 3) := dk_167 0 4 (dk_at dksX7_seesDigit_0 19 rfl rfl)
theorem dX7_seesDigit_22 : decode cX7_seesDigit 22 = .ok (.iconst 0, 1) := dk_3 (dk_at dksX7_seesDigit_0 22 rfl rfl)
theorem dX7_seesDigit_23 : decode cX7_seesDigit 23 = .ok (.ireturn, 1) := dk_172 (dk_at dksX7_seesDigit_0 23 rfl rfl)
abbrev cX7_number : ByteArray := prog_10_method_6_code
def yX7_number : MethodName := ⟨RX7, "number", "()I"⟩
def dkwX7_number_2 : List UInt8 := [182, 0, 39, 96, 16, 48, 100, 61, 42, 89, 180, 0, 26, 4, 96, 181, 0, 26, 167, 255, 200, 28, 172]
abbrev dktX7_number_2 : List UInt8 := dkwX7_number_2 ++ []
def dkwX7_number_1 : List UInt8 := [180, 0, 26, 27, 8, 96, 160, 0, 12, 42, 5, 42, 180, 0, 26, 182, 0, 50, 16, 10, 28, 104, 42]
abbrev dktX7_number_1 : List UInt8 := dkwX7_number_1 ++ dktX7_number_2
def dkwX7_number_0 : List UInt8 := [42, 180, 0, 26, 60, 3, 61, 42, 182, 0, 43, 153, 0, 55, 42, 182, 0, 47, 153, 0, 48, 42]
abbrev dktX7_number_0 : List UInt8 := dkwX7_number_0 ++ dktX7_number_1
theorem dksX7_number_0 : cX7_number.data.toList.drop 0 = dktX7_number_0 := by decide +kernel
theorem dksX7_number_1 : cX7_number.data.toList.drop 22 = dktX7_number_1 := dk_seg dksX7_number_0 22 rfl rfl
theorem dksX7_number_2 : cX7_number.data.toList.drop 45 = dktX7_number_2 := dk_seg dksX7_number_1 23 rfl rfl
theorem dX7_number_0 : decode cX7_number 0 = .ok (.aload_n 0, 1) := dk_42 (dk_at dksX7_number_0 0 rfl rfl)
theorem dX7_number_1 : decode cX7_number 1 = .ok (.getfield 26, 3) := dk_180 0 26 (dk_at dksX7_number_0 1 rfl rfl)
theorem dX7_number_4 : decode cX7_number 4 = .ok (.istore_n 1, 1) := dk_60 (dk_at dksX7_number_0 4 rfl rfl)
theorem dX7_number_5 : decode cX7_number 5 = .ok (.iconst 0, 1) := dk_3 (dk_at dksX7_number_0 5 rfl rfl)
theorem dX7_number_6 : decode cX7_number 6 = .ok (.istore_n 2, 1) := dk_61 (dk_at dksX7_number_0 6 rfl rfl)
theorem dX7_number_7 : decode cX7_number 7 = .ok (.aload_n 0, 1) := dk_42 (dk_at dksX7_number_0 7 rfl rfl)
theorem dX7_number_8 : decode cX7_number 8 = .ok (.invokevirtual 43, 3) := dk_182 0 43 (dk_at dksX7_number_0 8 rfl rfl)
theorem dX7_number_11 : decode cX7_number 11 = .ok (.ifCond .eq 55, 3) := dk_153 0 55 (dk_at dksX7_number_0 11 rfl rfl)
theorem dX7_number_14 : decode cX7_number 14 = .ok (.aload_n 0, 1) := dk_42 (dk_at dksX7_number_0 14 rfl rfl)
theorem dX7_number_15 : decode cX7_number 15 = .ok (.invokevirtual 47, 3) := dk_182 0 47 (dk_at dksX7_number_0 15 rfl rfl)
theorem dX7_number_18 : decode cX7_number 18 = .ok (.ifCond .eq 48, 3) := dk_153 0 48 (dk_at dksX7_number_0 18 rfl rfl)
theorem dX7_number_21 : decode cX7_number 21 = .ok (.aload_n 0, 1) := dk_42 (dk_at dksX7_number_0 21 rfl rfl)
theorem dX7_number_22 : decode cX7_number 22 = .ok (.getfield 26, 3) := dk_180 0 26 (dk_at dksX7_number_1 0 rfl rfl)
theorem dX7_number_25 : decode cX7_number 25 = .ok (.iload_n 1, 1) := dk_27 (dk_at dksX7_number_1 3 rfl rfl)
theorem dX7_number_26 : decode cX7_number 26 = .ok (.iconst 5, 1) := dk_8 (dk_at dksX7_number_1 4 rfl rfl)
theorem dX7_number_27 : decode cX7_number 27 = .ok (.iadd, 1) := dk_96 (dk_at dksX7_number_1 5 rfl rfl)
theorem dX7_number_28 : decode cX7_number 28 = .ok (.if_icmp .ne 12, 3) := dk_160 0 12 (dk_at dksX7_number_1 6 rfl rfl)
theorem dX7_number_31 : decode cX7_number 31 = .ok (.aload_n 0, 1) := dk_42 (dk_at dksX7_number_1 9 rfl rfl)
theorem dX7_number_32 : decode cX7_number 32 = .ok (.iconst 2, 1) := dk_5 (dk_at dksX7_number_1 10 rfl rfl)
theorem dX7_number_33 : decode cX7_number 33 = .ok (.aload_n 0, 1) := dk_42 (dk_at dksX7_number_1 11 rfl rfl)
theorem dX7_number_34 : decode cX7_number 34 = .ok (.getfield 26, 3) := dk_180 0 26 (dk_at dksX7_number_1 12 rfl rfl)
theorem dX7_number_37 : decode cX7_number 37 = .ok (.invokevirtual 50, 3) := dk_182 0 50 (dk_at dksX7_number_1 15 rfl rfl)
theorem dX7_number_40 : decode cX7_number 40 = .ok (.bipush 10, 2) := dk_16 10 (dk_at dksX7_number_1 18 rfl rfl)
theorem dX7_number_42 : decode cX7_number 42 = .ok (.iload_n 2, 1) := dk_28 (dk_at dksX7_number_1 20 rfl rfl)
theorem dX7_number_43 : decode cX7_number 43 = .ok (.imul, 1) := dk_104 (dk_at dksX7_number_1 21 rfl rfl)
theorem dX7_number_44 : decode cX7_number 44 = .ok (.aload_n 0, 1) := dk_42 (dk_at dksX7_number_1 22 rfl rfl)
theorem dX7_number_45 : decode cX7_number 45 = .ok (.invokevirtual 39, 3) := dk_182 0 39 (dk_at dksX7_number_2 0 rfl rfl)
theorem dX7_number_48 : decode cX7_number 48 = .ok (.iadd, 1) := dk_96 (dk_at dksX7_number_2 3 rfl rfl)
theorem dX7_number_49 : decode cX7_number 49 = .ok (.bipush 48, 2) := dk_16 48 (dk_at dksX7_number_2 4 rfl rfl)
theorem dX7_number_51 : decode cX7_number 51 = .ok (.isub, 1) := dk_100 (dk_at dksX7_number_2 6 rfl rfl)
theorem dX7_number_52 : decode cX7_number 52 = .ok (.istore_n 2, 1) := dk_61 (dk_at dksX7_number_2 7 rfl rfl)
theorem dX7_number_53 : decode cX7_number 53 = .ok (.aload_n 0, 1) := dk_42 (dk_at dksX7_number_2 8 rfl rfl)
theorem dX7_number_54 : decode cX7_number 54 = .ok (.dup, 1) := dk_89 (dk_at dksX7_number_2 9 rfl rfl)
theorem dX7_number_55 : decode cX7_number 55 = .ok (.getfield 26, 3) := dk_180 0 26 (dk_at dksX7_number_2 10 rfl rfl)
theorem dX7_number_58 : decode cX7_number 58 = .ok (.iconst 1, 1) := dk_4 (dk_at dksX7_number_2 13 rfl rfl)
theorem dX7_number_59 : decode cX7_number 59 = .ok (.iadd, 1) := dk_96 (dk_at dksX7_number_2 14 rfl rfl)
theorem dX7_number_60 : decode cX7_number 60 = .ok (.putfield 26, 3) := dk_181 0 26 (dk_at dksX7_number_2 15 rfl rfl)
theorem dX7_number_63 : decode cX7_number 63 = .ok (.goto (-56), 3) := dk_167 255 200 (dk_at dksX7_number_2 18 rfl rfl)
theorem dX7_number_66 : decode cX7_number 66 = .ok (.iload_n 2, 1) := dk_28 (dk_at dksX7_number_2 21 rfl rfl)
theorem dX7_number_67 : decode cX7_number 67 = .ok (.ireturn, 1) := dk_172 (dk_at dksX7_number_2 22 rfl rfl)
abbrev cX7_condition : ByteArray := prog_10_method_14_code
def yX7_condition : MethodName := ⟨RX7, "condition", "()LTalkingPlots$Condition;"⟩
def dkwX7_condition_4 : List UInt8 := [42, 89, 180, 0, 54, 4, 100, 181, 0, 54, 43, 176]
abbrev dktX7_condition_4 : List UInt8 := dkwX7_condition_4 ++ []
def dkwX7_condition_3 : List UInt8 := [181, 0, 123, 44, 180, 0, 123, 77, 167, 255, 209, 42, 182, 0, 43, 153, 0, 9, 42, 16, 41, 182, 0, 64]
abbrev dktX7_condition_3 : List UInt8 := dkwX7_condition_3 ++ dktX7_condition_4
def dkwX7_condition_2 : List UInt8 := [89, 180, 0, 26, 4, 96, 181, 0, 26, 44, 187, 0, 118, 89, 42, 182, 0, 126, 4, 183, 0, 120]
abbrev dktX7_condition_2 : List UInt8 := dkwX7_condition_2 ++ dktX7_condition_3
def dkwX7_condition_1 : List UInt8 := [167, 0, 4, 1, 76, 43, 77, 42, 182, 0, 43, 153, 0, 46, 42, 182, 0, 39, 16, 124, 160, 0, 37, 42]
abbrev dktX7_condition_1 : List UInt8 := dkwX7_condition_1 ++ dktX7_condition_2
def dkwX7_condition_0 : List UInt8 := [42, 182, 0, 57, 42, 182, 0, 43, 153, 0, 18, 187, 0, 118, 89, 42, 182, 0, 126, 4, 183, 0, 120]
abbrev dktX7_condition_0 : List UInt8 := dkwX7_condition_0 ++ dktX7_condition_1
theorem dksX7_condition_0 : cX7_condition.data.toList.drop 0 = dktX7_condition_0 := by decide +kernel
theorem dksX7_condition_1 : cX7_condition.data.toList.drop 23 = dktX7_condition_1 := dk_seg dksX7_condition_0 23 rfl rfl
theorem dksX7_condition_2 : cX7_condition.data.toList.drop 47 = dktX7_condition_2 := dk_seg dksX7_condition_1 24 rfl rfl
theorem dksX7_condition_3 : cX7_condition.data.toList.drop 69 = dktX7_condition_3 := dk_seg dksX7_condition_2 22 rfl rfl
theorem dksX7_condition_4 : cX7_condition.data.toList.drop 93 = dktX7_condition_4 := dk_seg dksX7_condition_3 24 rfl rfl
theorem dX7_condition_0 : decode cX7_condition 0 = .ok (.aload_n 0, 1) := dk_42 (dk_at dksX7_condition_0 0 rfl rfl)
theorem dX7_condition_1 : decode cX7_condition 1 = .ok (.invokevirtual 57, 3) := dk_182 0 57 (dk_at dksX7_condition_0 1 rfl rfl)
theorem dX7_condition_4 : decode cX7_condition 4 = .ok (.aload_n 0, 1) := dk_42 (dk_at dksX7_condition_0 4 rfl rfl)
theorem dX7_condition_5 : decode cX7_condition 5 = .ok (.invokevirtual 43, 3) := dk_182 0 43 (dk_at dksX7_condition_0 5 rfl rfl)
theorem dX7_condition_8 : decode cX7_condition 8 = .ok (.ifCond .eq 18, 3) := dk_153 0 18 (dk_at dksX7_condition_0 8 rfl rfl)
theorem dX7_condition_11 : decode cX7_condition 11 = .ok (.new 118, 3) := dk_187 0 118 (dk_at dksX7_condition_0 11 rfl rfl)
theorem dX7_condition_14 : decode cX7_condition 14 = .ok (.dup, 1) := dk_89 (dk_at dksX7_condition_0 14 rfl rfl)
theorem dX7_condition_15 : decode cX7_condition 15 = .ok (.aload_n 0, 1) := dk_42 (dk_at dksX7_condition_0 15 rfl rfl)
theorem dX7_condition_16 : decode cX7_condition 16 = .ok (.invokevirtual 126, 3) := dk_182 0 126 (dk_at dksX7_condition_0 16 rfl rfl)
theorem dX7_condition_19 : decode cX7_condition 19 = .ok (.iconst 1, 1) := dk_4 (dk_at dksX7_condition_0 19 rfl rfl)
theorem dX7_condition_20 : decode cX7_condition 20 = .ok (.invokespecial 120, 3) := dk_183 0 120 (dk_at dksX7_condition_0 20 rfl rfl)
theorem dX7_condition_23 : decode cX7_condition 23 = .ok (.goto 4, 3) := dk_167 0 4 (dk_at dksX7_condition_1 0 rfl rfl)
theorem dX7_condition_26 : decode cX7_condition 26 = .ok (.aconst_null, 1) := dk_1 (dk_at dksX7_condition_1 3 rfl rfl)
theorem dX7_condition_27 : decode cX7_condition 27 = .ok (.astore_n 1, 1) := dk_76 (dk_at dksX7_condition_1 4 rfl rfl)
theorem dX7_condition_28 : decode cX7_condition 28 = .ok (.aload_n 1, 1) := dk_43 (dk_at dksX7_condition_1 5 rfl rfl)
theorem dX7_condition_29 : decode cX7_condition 29 = .ok (.astore_n 2, 1) := dk_77 (dk_at dksX7_condition_1 6 rfl rfl)
theorem dX7_condition_30 : decode cX7_condition 30 = .ok (.aload_n 0, 1) := dk_42 (dk_at dksX7_condition_1 7 rfl rfl)
theorem dX7_condition_31 : decode cX7_condition 31 = .ok (.invokevirtual 43, 3) := dk_182 0 43 (dk_at dksX7_condition_1 8 rfl rfl)
theorem dX7_condition_34 : decode cX7_condition 34 = .ok (.ifCond .eq 46, 3) := dk_153 0 46 (dk_at dksX7_condition_1 11 rfl rfl)
theorem dX7_condition_37 : decode cX7_condition 37 = .ok (.aload_n 0, 1) := dk_42 (dk_at dksX7_condition_1 14 rfl rfl)
theorem dX7_condition_38 : decode cX7_condition 38 = .ok (.invokevirtual 39, 3) := dk_182 0 39 (dk_at dksX7_condition_1 15 rfl rfl)
theorem dX7_condition_41 : decode cX7_condition 41 = .ok (.bipush 124, 2) := dk_16 124 (dk_at dksX7_condition_1 18 rfl rfl)
theorem dX7_condition_43 : decode cX7_condition 43 = .ok (.if_icmp .ne 37, 3) := dk_160 0 37 (dk_at dksX7_condition_1 20 rfl rfl)
theorem dX7_condition_46 : decode cX7_condition 46 = .ok (.aload_n 0, 1) := dk_42 (dk_at dksX7_condition_1 23 rfl rfl)
theorem dX7_condition_47 : decode cX7_condition 47 = .ok (.dup, 1) := dk_89 (dk_at dksX7_condition_2 0 rfl rfl)
theorem dX7_condition_48 : decode cX7_condition 48 = .ok (.getfield 26, 3) := dk_180 0 26 (dk_at dksX7_condition_2 1 rfl rfl)
theorem dX7_condition_51 : decode cX7_condition 51 = .ok (.iconst 1, 1) := dk_4 (dk_at dksX7_condition_2 4 rfl rfl)
theorem dX7_condition_52 : decode cX7_condition 52 = .ok (.iadd, 1) := dk_96 (dk_at dksX7_condition_2 5 rfl rfl)
theorem dX7_condition_53 : decode cX7_condition 53 = .ok (.putfield 26, 3) := dk_181 0 26 (dk_at dksX7_condition_2 6 rfl rfl)
theorem dX7_condition_56 : decode cX7_condition 56 = .ok (.aload_n 2, 1) := dk_44 (dk_at dksX7_condition_2 9 rfl rfl)
theorem dX7_condition_57 : decode cX7_condition 57 = .ok (.new 118, 3) := dk_187 0 118 (dk_at dksX7_condition_2 10 rfl rfl)
theorem dX7_condition_60 : decode cX7_condition 60 = .ok (.dup, 1) := dk_89 (dk_at dksX7_condition_2 13 rfl rfl)
theorem dX7_condition_61 : decode cX7_condition 61 = .ok (.aload_n 0, 1) := dk_42 (dk_at dksX7_condition_2 14 rfl rfl)
theorem dX7_condition_62 : decode cX7_condition 62 = .ok (.invokevirtual 126, 3) := dk_182 0 126 (dk_at dksX7_condition_2 15 rfl rfl)
theorem dX7_condition_65 : decode cX7_condition 65 = .ok (.iconst 1, 1) := dk_4 (dk_at dksX7_condition_2 18 rfl rfl)
theorem dX7_condition_66 : decode cX7_condition 66 = .ok (.invokespecial 120, 3) := dk_183 0 120 (dk_at dksX7_condition_2 19 rfl rfl)
theorem dX7_condition_69 : decode cX7_condition 69 = .ok (.putfield 123, 3) := dk_181 0 123 (dk_at dksX7_condition_3 0 rfl rfl)
theorem dX7_condition_72 : decode cX7_condition 72 = .ok (.aload_n 2, 1) := dk_44 (dk_at dksX7_condition_3 3 rfl rfl)
theorem dX7_condition_73 : decode cX7_condition 73 = .ok (.getfield 123, 3) := dk_180 0 123 (dk_at dksX7_condition_3 4 rfl rfl)
theorem dX7_condition_76 : decode cX7_condition 76 = .ok (.astore_n 2, 1) := dk_77 (dk_at dksX7_condition_3 7 rfl rfl)
theorem dX7_condition_77 : decode cX7_condition 77 = .ok (.goto (-47), 3) := dk_167 255 209 (dk_at dksX7_condition_3 8 rfl rfl)
theorem dX7_condition_80 : decode cX7_condition 80 = .ok (.aload_n 0, 1) := dk_42 (dk_at dksX7_condition_3 11 rfl rfl)
theorem dX7_condition_81 : decode cX7_condition 81 = .ok (.invokevirtual 43, 3) := dk_182 0 43 (dk_at dksX7_condition_3 12 rfl rfl)
theorem dX7_condition_84 : decode cX7_condition 84 = .ok (.ifCond .eq 9, 3) := dk_153 0 9 (dk_at dksX7_condition_3 15 rfl rfl)
theorem dX7_condition_87 : decode cX7_condition 87 = .ok (.aload_n 0, 1) := dk_42 (dk_at dksX7_condition_3 18 rfl rfl)
theorem dX7_condition_88 : decode cX7_condition 88 = .ok (.bipush 41, 2) := dk_16 41 (dk_at dksX7_condition_3 19 rfl rfl)
theorem dX7_condition_90 : decode cX7_condition 90 = .ok (.invokevirtual 64, 3) := dk_182 0 64 (dk_at dksX7_condition_3 21 rfl rfl)
theorem dX7_condition_93 : decode cX7_condition 93 = .ok (.aload_n 0, 1) := dk_42 (dk_at dksX7_condition_4 0 rfl rfl)
theorem dX7_condition_94 : decode cX7_condition 94 = .ok (.dup, 1) := dk_89 (dk_at dksX7_condition_4 1 rfl rfl)
theorem dX7_condition_95 : decode cX7_condition 95 = .ok (.getfield 54, 3) := dk_180 0 54 (dk_at dksX7_condition_4 2 rfl rfl)
theorem dX7_condition_98 : decode cX7_condition 98 = .ok (.iconst 1, 1) := dk_4 (dk_at dksX7_condition_4 5 rfl rfl)
theorem dX7_condition_99 : decode cX7_condition 99 = .ok (.isub, 1) := dk_100 (dk_at dksX7_condition_4 6 rfl rfl)
theorem dX7_condition_100 : decode cX7_condition 100 = .ok (.putfield 54, 3) := dk_181 0 54 (dk_at dksX7_condition_4 7 rfl rfl)
theorem dX7_condition_103 : decode cX7_condition 103 = .ok (.aload_n 1, 1) := dk_43 (dk_at dksX7_condition_4 10 rfl rfl)
theorem dX7_condition_104 : decode cX7_condition 104 = .ok (.areturn, 1) := dk_176 (dk_at dksX7_condition_4 11 rfl rfl)
abbrev cX7_pieces : ByteArray := prog_10_method_13_code
def yX7_pieces : MethodName := ⟨RX7, "pieces", "()LTalkingPlots$Condition;"⟩
def dkwX7_pieces_2 : List UInt8 := [182, 0, 101, 3, 183, 0, 120, 181, 0, 123, 44, 180, 0, 123, 77, 167, 255, 209, 43, 176]
abbrev dktX7_pieces_2 : List UInt8 := dkwX7_pieces_2 ++ []
def dkwX7_pieces_1 : List UInt8 := [182, 0, 39, 16, 38, 160, 0, 37, 42, 89, 180, 0, 26, 4, 96, 181, 0, 26, 44, 187, 0, 118, 89, 42]
abbrev dktX7_pieces_1 : List UInt8 := dkwX7_pieces_1 ++ dktX7_pieces_2
def dkwX7_pieces_0 : List UInt8 := [187, 0, 118, 89, 42, 182, 0, 101, 3, 183, 0, 120, 76, 43, 77, 42, 182, 0, 43, 153, 0, 46, 42]
abbrev dktX7_pieces_0 : List UInt8 := dkwX7_pieces_0 ++ dktX7_pieces_1
theorem dksX7_pieces_0 : cX7_pieces.data.toList.drop 0 = dktX7_pieces_0 := by decide +kernel
theorem dksX7_pieces_1 : cX7_pieces.data.toList.drop 23 = dktX7_pieces_1 := dk_seg dksX7_pieces_0 23 rfl rfl
theorem dksX7_pieces_2 : cX7_pieces.data.toList.drop 47 = dktX7_pieces_2 := dk_seg dksX7_pieces_1 24 rfl rfl
theorem dX7_pieces_0 : decode cX7_pieces 0 = .ok (.new 118, 3) := dk_187 0 118 (dk_at dksX7_pieces_0 0 rfl rfl)
theorem dX7_pieces_3 : decode cX7_pieces 3 = .ok (.dup, 1) := dk_89 (dk_at dksX7_pieces_0 3 rfl rfl)
theorem dX7_pieces_4 : decode cX7_pieces 4 = .ok (.aload_n 0, 1) := dk_42 (dk_at dksX7_pieces_0 4 rfl rfl)
theorem dX7_pieces_5 : decode cX7_pieces 5 = .ok (.invokevirtual 101, 3) := dk_182 0 101 (dk_at dksX7_pieces_0 5 rfl rfl)
theorem dX7_pieces_8 : decode cX7_pieces 8 = .ok (.iconst 0, 1) := dk_3 (dk_at dksX7_pieces_0 8 rfl rfl)
theorem dX7_pieces_9 : decode cX7_pieces 9 = .ok (.invokespecial 120, 3) := dk_183 0 120 (dk_at dksX7_pieces_0 9 rfl rfl)
theorem dX7_pieces_12 : decode cX7_pieces 12 = .ok (.astore_n 1, 1) := dk_76 (dk_at dksX7_pieces_0 12 rfl rfl)
theorem dX7_pieces_13 : decode cX7_pieces 13 = .ok (.aload_n 1, 1) := dk_43 (dk_at dksX7_pieces_0 13 rfl rfl)
theorem dX7_pieces_14 : decode cX7_pieces 14 = .ok (.astore_n 2, 1) := dk_77 (dk_at dksX7_pieces_0 14 rfl rfl)
theorem dX7_pieces_15 : decode cX7_pieces 15 = .ok (.aload_n 0, 1) := dk_42 (dk_at dksX7_pieces_0 15 rfl rfl)
theorem dX7_pieces_16 : decode cX7_pieces 16 = .ok (.invokevirtual 43, 3) := dk_182 0 43 (dk_at dksX7_pieces_0 16 rfl rfl)
theorem dX7_pieces_19 : decode cX7_pieces 19 = .ok (.ifCond .eq 46, 3) := dk_153 0 46 (dk_at dksX7_pieces_0 19 rfl rfl)
theorem dX7_pieces_22 : decode cX7_pieces 22 = .ok (.aload_n 0, 1) := dk_42 (dk_at dksX7_pieces_0 22 rfl rfl)
theorem dX7_pieces_23 : decode cX7_pieces 23 = .ok (.invokevirtual 39, 3) := dk_182 0 39 (dk_at dksX7_pieces_1 0 rfl rfl)
theorem dX7_pieces_26 : decode cX7_pieces 26 = .ok (.bipush 38, 2) := dk_16 38 (dk_at dksX7_pieces_1 3 rfl rfl)
theorem dX7_pieces_28 : decode cX7_pieces 28 = .ok (.if_icmp .ne 37, 3) := dk_160 0 37 (dk_at dksX7_pieces_1 5 rfl rfl)
theorem dX7_pieces_31 : decode cX7_pieces 31 = .ok (.aload_n 0, 1) := dk_42 (dk_at dksX7_pieces_1 8 rfl rfl)
theorem dX7_pieces_32 : decode cX7_pieces 32 = .ok (.dup, 1) := dk_89 (dk_at dksX7_pieces_1 9 rfl rfl)
theorem dX7_pieces_33 : decode cX7_pieces 33 = .ok (.getfield 26, 3) := dk_180 0 26 (dk_at dksX7_pieces_1 10 rfl rfl)
theorem dX7_pieces_36 : decode cX7_pieces 36 = .ok (.iconst 1, 1) := dk_4 (dk_at dksX7_pieces_1 13 rfl rfl)
theorem dX7_pieces_37 : decode cX7_pieces 37 = .ok (.iadd, 1) := dk_96 (dk_at dksX7_pieces_1 14 rfl rfl)
theorem dX7_pieces_38 : decode cX7_pieces 38 = .ok (.putfield 26, 3) := dk_181 0 26 (dk_at dksX7_pieces_1 15 rfl rfl)
theorem dX7_pieces_41 : decode cX7_pieces 41 = .ok (.aload_n 2, 1) := dk_44 (dk_at dksX7_pieces_1 18 rfl rfl)
theorem dX7_pieces_42 : decode cX7_pieces 42 = .ok (.new 118, 3) := dk_187 0 118 (dk_at dksX7_pieces_1 19 rfl rfl)
theorem dX7_pieces_45 : decode cX7_pieces 45 = .ok (.dup, 1) := dk_89 (dk_at dksX7_pieces_1 22 rfl rfl)
theorem dX7_pieces_46 : decode cX7_pieces 46 = .ok (.aload_n 0, 1) := dk_42 (dk_at dksX7_pieces_1 23 rfl rfl)
theorem dX7_pieces_47 : decode cX7_pieces 47 = .ok (.invokevirtual 101, 3) := dk_182 0 101 (dk_at dksX7_pieces_2 0 rfl rfl)
theorem dX7_pieces_50 : decode cX7_pieces 50 = .ok (.iconst 0, 1) := dk_3 (dk_at dksX7_pieces_2 3 rfl rfl)
theorem dX7_pieces_51 : decode cX7_pieces 51 = .ok (.invokespecial 120, 3) := dk_183 0 120 (dk_at dksX7_pieces_2 4 rfl rfl)
theorem dX7_pieces_54 : decode cX7_pieces 54 = .ok (.putfield 123, 3) := dk_181 0 123 (dk_at dksX7_pieces_2 7 rfl rfl)
theorem dX7_pieces_57 : decode cX7_pieces 57 = .ok (.aload_n 2, 1) := dk_44 (dk_at dksX7_pieces_2 10 rfl rfl)
theorem dX7_pieces_58 : decode cX7_pieces 58 = .ok (.getfield 123, 3) := dk_180 0 123 (dk_at dksX7_pieces_2 11 rfl rfl)
theorem dX7_pieces_61 : decode cX7_pieces 61 = .ok (.astore_n 2, 1) := dk_77 (dk_at dksX7_pieces_2 14 rfl rfl)
theorem dX7_pieces_62 : decode cX7_pieces 62 = .ok (.goto (-47), 3) := dk_167 255 209 (dk_at dksX7_pieces_2 15 rfl rfl)
theorem dX7_pieces_65 : decode cX7_pieces 65 = .ok (.aload_n 1, 1) := dk_43 (dk_at dksX7_pieces_2 18 rfl rfl)
theorem dX7_pieces_66 : decode cX7_pieces 66 = .ok (.areturn, 1) := dk_176 (dk_at dksX7_pieces_2 19 rfl rfl)
abbrev cX7_piece : ByteArray := prog_10_method_12_code
def yX7_piece : MethodName := ⟨RX7, "piece", "()LTalkingPlots$Condition;"⟩
def dkwX7_piece_5 : List UInt8 := [182, 0, 43, 153, 0, 10, 42, 182, 0, 60, 167, 0, 4, 1, 183, 0, 115, 176]
abbrev dktX7_piece_5 : List UInt8 := dkwX7_piece_5 ++ []
def dkwX7_piece_4 : List UInt8 := [180, 0, 26, 182, 0, 50, 42, 89, 180, 0, 26, 4, 96, 181, 0, 26, 187, 0, 113, 89, 44, 29, 42]
abbrev dktX7_piece_4 : List UInt8 := dkwX7_piece_4 ++ dktX7_piece_5
def dkwX7_piece_3 : List UInt8 := [62, 29, 16, 60, 159, 0, 24, 29, 16, 62, 159, 0, 18, 29, 16, 61, 159, 0, 12, 42, 4, 42]
abbrev dktX7_piece_3 : List UInt8 := dkwX7_piece_3 ++ dktX7_piece_4
def dkwX7_piece_2 : List UInt8 := [183, 0, 107, 176, 27, 16, 40, 160, 0, 8, 42, 182, 0, 110, 176, 42, 182, 0, 60, 77, 42, 182, 0, 39]
abbrev dktX7_piece_2 : List UInt8 := dkwX7_piece_2 ++ dktX7_piece_3
def dkwX7_piece_1 : List UInt8 := [182, 0, 101, 167, 0, 4, 1, 77, 42, 89, 180, 0, 54, 4, 100, 181, 0, 54, 187, 0, 105, 89, 44]
abbrev dktX7_piece_1 : List UInt8 := dkwX7_piece_1 ++ dktX7_piece_2
def dkwX7_piece_0 : List UInt8 := [42, 182, 0, 39, 60, 27, 16, 33, 160, 0, 42, 42, 182, 0, 57, 42, 182, 0, 43, 153, 0, 10, 42]
abbrev dktX7_piece_0 : List UInt8 := dkwX7_piece_0 ++ dktX7_piece_1
theorem dksX7_piece_0 : cX7_piece.data.toList.drop 0 = dktX7_piece_0 := by decide +kernel
theorem dksX7_piece_1 : cX7_piece.data.toList.drop 23 = dktX7_piece_1 := dk_seg dksX7_piece_0 23 rfl rfl
theorem dksX7_piece_2 : cX7_piece.data.toList.drop 46 = dktX7_piece_2 := dk_seg dksX7_piece_1 23 rfl rfl
theorem dksX7_piece_3 : cX7_piece.data.toList.drop 70 = dktX7_piece_3 := dk_seg dksX7_piece_2 24 rfl rfl
theorem dksX7_piece_4 : cX7_piece.data.toList.drop 92 = dktX7_piece_4 := dk_seg dksX7_piece_3 22 rfl rfl
theorem dksX7_piece_5 : cX7_piece.data.toList.drop 115 = dktX7_piece_5 := dk_seg dksX7_piece_4 23 rfl rfl
theorem dX7_piece_0 : decode cX7_piece 0 = .ok (.aload_n 0, 1) := dk_42 (dk_at dksX7_piece_0 0 rfl rfl)
theorem dX7_piece_1 : decode cX7_piece 1 = .ok (.invokevirtual 39, 3) := dk_182 0 39 (dk_at dksX7_piece_0 1 rfl rfl)
theorem dX7_piece_4 : decode cX7_piece 4 = .ok (.istore_n 1, 1) := dk_60 (dk_at dksX7_piece_0 4 rfl rfl)
theorem dX7_piece_5 : decode cX7_piece 5 = .ok (.iload_n 1, 1) := dk_27 (dk_at dksX7_piece_0 5 rfl rfl)
theorem dX7_piece_6 : decode cX7_piece 6 = .ok (.bipush 33, 2) := dk_16 33 (dk_at dksX7_piece_0 6 rfl rfl)
theorem dX7_piece_8 : decode cX7_piece 8 = .ok (.if_icmp .ne 42, 3) := dk_160 0 42 (dk_at dksX7_piece_0 8 rfl rfl)
theorem dX7_piece_11 : decode cX7_piece 11 = .ok (.aload_n 0, 1) := dk_42 (dk_at dksX7_piece_0 11 rfl rfl)
theorem dX7_piece_12 : decode cX7_piece 12 = .ok (.invokevirtual 57, 3) := dk_182 0 57 (dk_at dksX7_piece_0 12 rfl rfl)
theorem dX7_piece_15 : decode cX7_piece 15 = .ok (.aload_n 0, 1) := dk_42 (dk_at dksX7_piece_0 15 rfl rfl)
theorem dX7_piece_16 : decode cX7_piece 16 = .ok (.invokevirtual 43, 3) := dk_182 0 43 (dk_at dksX7_piece_0 16 rfl rfl)
theorem dX7_piece_19 : decode cX7_piece 19 = .ok (.ifCond .eq 10, 3) := dk_153 0 10 (dk_at dksX7_piece_0 19 rfl rfl)
theorem dX7_piece_22 : decode cX7_piece 22 = .ok (.aload_n 0, 1) := dk_42 (dk_at dksX7_piece_0 22 rfl rfl)
theorem dX7_piece_23 : decode cX7_piece 23 = .ok (.invokevirtual 101, 3) := dk_182 0 101 (dk_at dksX7_piece_1 0 rfl rfl)
theorem dX7_piece_26 : decode cX7_piece 26 = .ok (.goto 4, 3) := dk_167 0 4 (dk_at dksX7_piece_1 3 rfl rfl)
theorem dX7_piece_29 : decode cX7_piece 29 = .ok (.aconst_null, 1) := dk_1 (dk_at dksX7_piece_1 6 rfl rfl)
theorem dX7_piece_30 : decode cX7_piece 30 = .ok (.astore_n 2, 1) := dk_77 (dk_at dksX7_piece_1 7 rfl rfl)
theorem dX7_piece_31 : decode cX7_piece 31 = .ok (.aload_n 0, 1) := dk_42 (dk_at dksX7_piece_1 8 rfl rfl)
theorem dX7_piece_32 : decode cX7_piece 32 = .ok (.dup, 1) := dk_89 (dk_at dksX7_piece_1 9 rfl rfl)
theorem dX7_piece_33 : decode cX7_piece 33 = .ok (.getfield 54, 3) := dk_180 0 54 (dk_at dksX7_piece_1 10 rfl rfl)
theorem dX7_piece_36 : decode cX7_piece 36 = .ok (.iconst 1, 1) := dk_4 (dk_at dksX7_piece_1 13 rfl rfl)
theorem dX7_piece_37 : decode cX7_piece 37 = .ok (.isub, 1) := dk_100 (dk_at dksX7_piece_1 14 rfl rfl)
theorem dX7_piece_38 : decode cX7_piece 38 = .ok (.putfield 54, 3) := dk_181 0 54 (dk_at dksX7_piece_1 15 rfl rfl)
theorem dX7_piece_41 : decode cX7_piece 41 = .ok (.new 105, 3) := dk_187 0 105 (dk_at dksX7_piece_1 18 rfl rfl)
theorem dX7_piece_44 : decode cX7_piece 44 = .ok (.dup, 1) := dk_89 (dk_at dksX7_piece_1 21 rfl rfl)
theorem dX7_piece_45 : decode cX7_piece 45 = .ok (.aload_n 2, 1) := dk_44 (dk_at dksX7_piece_1 22 rfl rfl)
theorem dX7_piece_46 : decode cX7_piece 46 = .ok (.invokespecial 107, 3) := dk_183 0 107 (dk_at dksX7_piece_2 0 rfl rfl)
theorem dX7_piece_49 : decode cX7_piece 49 = .ok (.areturn, 1) := dk_176 (dk_at dksX7_piece_2 3 rfl rfl)
theorem dX7_piece_50 : decode cX7_piece 50 = .ok (.iload_n 1, 1) := dk_27 (dk_at dksX7_piece_2 4 rfl rfl)
theorem dX7_piece_51 : decode cX7_piece 51 = .ok (.bipush 40, 2) := dk_16 40 (dk_at dksX7_piece_2 5 rfl rfl)
theorem dX7_piece_53 : decode cX7_piece 53 = .ok (.if_icmp .ne 8, 3) := dk_160 0 8 (dk_at dksX7_piece_2 7 rfl rfl)
theorem dX7_piece_56 : decode cX7_piece 56 = .ok (.aload_n 0, 1) := dk_42 (dk_at dksX7_piece_2 10 rfl rfl)
theorem dX7_piece_57 : decode cX7_piece 57 = .ok (.invokevirtual 110, 3) := dk_182 0 110 (dk_at dksX7_piece_2 11 rfl rfl)
theorem dX7_piece_60 : decode cX7_piece 60 = .ok (.areturn, 1) := dk_176 (dk_at dksX7_piece_2 14 rfl rfl)
theorem dX7_piece_61 : decode cX7_piece 61 = .ok (.aload_n 0, 1) := dk_42 (dk_at dksX7_piece_2 15 rfl rfl)
theorem dX7_piece_62 : decode cX7_piece 62 = .ok (.invokevirtual 60, 3) := dk_182 0 60 (dk_at dksX7_piece_2 16 rfl rfl)
theorem dX7_piece_65 : decode cX7_piece 65 = .ok (.astore_n 2, 1) := dk_77 (dk_at dksX7_piece_2 19 rfl rfl)
theorem dX7_piece_66 : decode cX7_piece 66 = .ok (.aload_n 0, 1) := dk_42 (dk_at dksX7_piece_2 20 rfl rfl)
theorem dX7_piece_67 : decode cX7_piece 67 = .ok (.invokevirtual 39, 3) := dk_182 0 39 (dk_at dksX7_piece_2 21 rfl rfl)
theorem dX7_piece_70 : decode cX7_piece 70 = .ok (.istore_n 3, 1) := dk_62 (dk_at dksX7_piece_3 0 rfl rfl)
theorem dX7_piece_71 : decode cX7_piece 71 = .ok (.iload_n 3, 1) := dk_29 (dk_at dksX7_piece_3 1 rfl rfl)
theorem dX7_piece_72 : decode cX7_piece 72 = .ok (.bipush 60, 2) := dk_16 60 (dk_at dksX7_piece_3 2 rfl rfl)
theorem dX7_piece_74 : decode cX7_piece 74 = .ok (.if_icmp .eq 24, 3) := dk_159 0 24 (dk_at dksX7_piece_3 4 rfl rfl)
theorem dX7_piece_77 : decode cX7_piece 77 = .ok (.iload_n 3, 1) := dk_29 (dk_at dksX7_piece_3 7 rfl rfl)
theorem dX7_piece_78 : decode cX7_piece 78 = .ok (.bipush 62, 2) := dk_16 62 (dk_at dksX7_piece_3 8 rfl rfl)
theorem dX7_piece_80 : decode cX7_piece 80 = .ok (.if_icmp .eq 18, 3) := dk_159 0 18 (dk_at dksX7_piece_3 10 rfl rfl)
theorem dX7_piece_83 : decode cX7_piece 83 = .ok (.iload_n 3, 1) := dk_29 (dk_at dksX7_piece_3 13 rfl rfl)
theorem dX7_piece_84 : decode cX7_piece 84 = .ok (.bipush 61, 2) := dk_16 61 (dk_at dksX7_piece_3 14 rfl rfl)
theorem dX7_piece_86 : decode cX7_piece 86 = .ok (.if_icmp .eq 12, 3) := dk_159 0 12 (dk_at dksX7_piece_3 16 rfl rfl)
theorem dX7_piece_89 : decode cX7_piece 89 = .ok (.aload_n 0, 1) := dk_42 (dk_at dksX7_piece_3 19 rfl rfl)
theorem dX7_piece_90 : decode cX7_piece 90 = .ok (.iconst 1, 1) := dk_4 (dk_at dksX7_piece_3 20 rfl rfl)
theorem dX7_piece_91 : decode cX7_piece 91 = .ok (.aload_n 0, 1) := dk_42 (dk_at dksX7_piece_3 21 rfl rfl)
theorem dX7_piece_92 : decode cX7_piece 92 = .ok (.getfield 26, 3) := dk_180 0 26 (dk_at dksX7_piece_4 0 rfl rfl)
theorem dX7_piece_95 : decode cX7_piece 95 = .ok (.invokevirtual 50, 3) := dk_182 0 50 (dk_at dksX7_piece_4 3 rfl rfl)
theorem dX7_piece_98 : decode cX7_piece 98 = .ok (.aload_n 0, 1) := dk_42 (dk_at dksX7_piece_4 6 rfl rfl)
theorem dX7_piece_99 : decode cX7_piece 99 = .ok (.dup, 1) := dk_89 (dk_at dksX7_piece_4 7 rfl rfl)
theorem dX7_piece_100 : decode cX7_piece 100 = .ok (.getfield 26, 3) := dk_180 0 26 (dk_at dksX7_piece_4 8 rfl rfl)
theorem dX7_piece_103 : decode cX7_piece 103 = .ok (.iconst 1, 1) := dk_4 (dk_at dksX7_piece_4 11 rfl rfl)
theorem dX7_piece_104 : decode cX7_piece 104 = .ok (.iadd, 1) := dk_96 (dk_at dksX7_piece_4 12 rfl rfl)
theorem dX7_piece_105 : decode cX7_piece 105 = .ok (.putfield 26, 3) := dk_181 0 26 (dk_at dksX7_piece_4 13 rfl rfl)
theorem dX7_piece_108 : decode cX7_piece 108 = .ok (.new 113, 3) := dk_187 0 113 (dk_at dksX7_piece_4 16 rfl rfl)
theorem dX7_piece_111 : decode cX7_piece 111 = .ok (.dup, 1) := dk_89 (dk_at dksX7_piece_4 19 rfl rfl)
theorem dX7_piece_112 : decode cX7_piece 112 = .ok (.aload_n 2, 1) := dk_44 (dk_at dksX7_piece_4 20 rfl rfl)
theorem dX7_piece_113 : decode cX7_piece 113 = .ok (.iload_n 3, 1) := dk_29 (dk_at dksX7_piece_4 21 rfl rfl)
theorem dX7_piece_114 : decode cX7_piece 114 = .ok (.aload_n 0, 1) := dk_42 (dk_at dksX7_piece_4 22 rfl rfl)
theorem dX7_piece_115 : decode cX7_piece 115 = .ok (.invokevirtual 43, 3) := dk_182 0 43 (dk_at dksX7_piece_5 0 rfl rfl)
theorem dX7_piece_118 : decode cX7_piece 118 = .ok (.ifCond .eq 10, 3) := dk_153 0 10 (dk_at dksX7_piece_5 3 rfl rfl)
theorem dX7_piece_121 : decode cX7_piece 121 = .ok (.aload_n 0, 1) := dk_42 (dk_at dksX7_piece_5 6 rfl rfl)
theorem dX7_piece_122 : decode cX7_piece 122 = .ok (.invokevirtual 60, 3) := dk_182 0 60 (dk_at dksX7_piece_5 7 rfl rfl)
theorem dX7_piece_125 : decode cX7_piece 125 = .ok (.goto 4, 3) := dk_167 0 4 (dk_at dksX7_piece_5 10 rfl rfl)
theorem dX7_piece_128 : decode cX7_piece 128 = .ok (.aconst_null, 1) := dk_1 (dk_at dksX7_piece_5 13 rfl rfl)
theorem dX7_piece_129 : decode cX7_piece 129 = .ok (.invokespecial 115, 3) := dk_183 0 115 (dk_at dksX7_piece_5 14 rfl rfl)
theorem dX7_piece_132 : decode cX7_piece 132 = .ok (.areturn, 1) := dk_176 (dk_at dksX7_piece_5 17 rfl rfl)
theorem q113 : (Jvm.Cond.initialized "TalkingPlots$Reader") ∈ lw_all := lw_g (lw_at lw_m1 8 rfl) rfl
theorem q253 : (Jvm.Cond.fieldLinkNest "TalkingPlots$Reader" (134 : Nat) "TalkingPlots$Text" "letters" "[I" "TalkingPlots") ∈ lw_tbl := lw_at lw_m1 148 rfl
theorem q255 : (Jvm.Cond.fieldLinkNest "TalkingPlots$Reader" (138 : Nat) "TalkingPlots$Text" "sums" "[LTalkingPlots$Sum;" "TalkingPlots") ∈ lw_tbl := lw_at lw_m1 150 rfl
theorem q257 : (Jvm.Cond.fieldLinkNest "TalkingPlots$Reader" (142 : Nat) "TalkingPlots$Text" "conditions" "[LTalkingPlots$Condition;" "TalkingPlots") ∈ lw_tbl := lw_at lw_m1 152 rfl
theorem q259 : (Jvm.Cond.fieldLinkNest "TalkingPlots$Reader" (131 : Nat) "TalkingPlots$Text" "many" "I" "TalkingPlots") ∈ lw_tbl := lw_at lw_m1 154 rfl
theorem q278 : (Jvm.Cond.fieldLinkNest "TalkingPlots$Reader" (29 : Nat) "TalkingPlots" "tape" "[B" "TalkingPlots") ∈ lw_tbl := lw_at lw_m1 173 rfl
theorem q362 : (Jvm.Cond.instantiable "TalkingPlots$Reader" (7 : Nat)) ∈ lw_all := lw_g (lw_at lw_m2 17 rfl) rfl
theorem q364 : (Jvm.Cond.instanceMethod ({ cls := "TalkingPlots$Reader", name := "<init>", desc := "(LTalkingPlots;I)V" } : Jvm.MethodName)) ∈ lw_all := lw_g (lw_at lw_m2 19 rfl) rfl
theorem q365 : (Jvm.Cond.code ({ cls := "TalkingPlots$Reader", name := "<init>", desc := "(LTalkingPlots;I)V" } : Jvm.MethodName) prog_10_method_1_code (3 : Nat) (Option.none : Option Jvm.ClassFile.FieldType)) ∈ lw_all := lw_g (lw_at lw_m2 20 rfl) rfl
theorem q366 : (Jvm.Cond.methodLink "TalkingPlots$Reader" (9 : Nat) ({ cls := "java/lang/Object", name := "<init>", desc := "()V" } : Jvm.MethodName)) ∈ lw_all := lw_g (lw_at lw_m2 21 rfl) rfl
theorem q367 : (Jvm.Cond.classLink "TalkingPlots$Reader" (15 : Nat) "TalkingPlots$Text") ∈ lw_all := lw_g (lw_at lw_m2 22 rfl) rfl
theorem q368 : (Jvm.Cond.methodLinkNest "TalkingPlots$Reader" (17 : Nat) ({ cls := "TalkingPlots$Text", name := "<init>", desc := "()V" } : Jvm.MethodName) "TalkingPlots") ∈ lw_tbl := lw_at lw_m2 23 rfl
theorem q369 : (Jvm.Cond.fieldLink "TalkingPlots$Reader" (22 : Nat) "TalkingPlots$Reader" "n" "I") ∈ lw_all := lw_g (lw_at lw_m2 24 rfl) rfl
theorem q370 : (Jvm.Cond.fieldLink "TalkingPlots$Reader" (18 : Nat) "TalkingPlots$Reader" "text" "LTalkingPlots$Text;") ∈ lw_all := lw_g (lw_at lw_m2 25 rfl) rfl
theorem q372 : (Jvm.Cond.fieldLink "TalkingPlots$Reader" (26 : Nat) "TalkingPlots$Reader" "at" "I") ∈ lw_all := lw_g (lw_at lw_m2 27 rfl) rfl
theorem q373 : (Jvm.Cond.fieldLink "TalkingPlots$Reader" (54 : Nat) "TalkingPlots$Reader" "open" "I") ∈ lw_all := lw_g (lw_at lw_m2 28 rfl) rfl
theorem q374 : (Jvm.Cond.fieldLink "TalkingPlots$Reader" (33 : Nat) "TalkingPlots$Reader" "fault" "I") ∈ lw_all := lw_g (lw_at lw_m2 29 rfl) rfl
theorem q375 : (Jvm.Cond.fieldLink "TalkingPlots$Reader" (36 : Nat) "TalkingPlots$Reader" "place" "I") ∈ lw_all := lw_g (lw_at lw_m2 30 rfl) rfl
theorem q376 : (Jvm.Cond.fieldLink "TalkingPlots$Reader" (3 : Nat) "TalkingPlots$Reader" "this$0" "LTalkingPlots;") ∈ lw_all := lw_g (lw_at lw_m2 31 rfl) rfl
theorem q377 : (Jvm.Cond.laysFinal "TalkingPlots$Reader" "TalkingPlots$Reader" "n" "I") ∈ lw_all := lw_g (lw_at lw_m2 32 rfl) rfl
theorem q378 : (Jvm.Cond.soleField "TalkingPlots$Reader" "n") ∈ lw_all := lw_g (lw_at lw_m2 33 rfl) rfl
theorem q379 : (Jvm.Cond.laysFinal "TalkingPlots$Reader" "TalkingPlots$Reader" "text" "LTalkingPlots$Text;") ∈ lw_all := lw_g (lw_at lw_m2 34 rfl) rfl
theorem q380 : (Jvm.Cond.soleField "TalkingPlots$Reader" "text") ∈ lw_all := lw_g (lw_at lw_m2 35 rfl) rfl
theorem q381 : (Jvm.Cond.lays "TalkingPlots$Reader" "TalkingPlots$Reader" "at" "I") ∈ lw_all := lw_g (lw_at lw_m2 36 rfl) rfl
theorem q382 : (Jvm.Cond.soleField "TalkingPlots$Reader" "at") ∈ lw_all := lw_g (lw_at lw_m2 37 rfl) rfl
theorem q383 : (Jvm.Cond.lays "TalkingPlots$Reader" "TalkingPlots$Reader" "open" "I") ∈ lw_all := lw_g (lw_at lw_m2 38 rfl) rfl
theorem q384 : (Jvm.Cond.soleField "TalkingPlots$Reader" "open") ∈ lw_all := lw_g (lw_at lw_m2 39 rfl) rfl
theorem q385 : (Jvm.Cond.lays "TalkingPlots$Reader" "TalkingPlots$Reader" "fault" "I") ∈ lw_all := lw_g (lw_at lw_m2 40 rfl) rfl
theorem q386 : (Jvm.Cond.soleField "TalkingPlots$Reader" "fault") ∈ lw_all := lw_g (lw_at lw_m2 41 rfl) rfl
theorem q387 : (Jvm.Cond.lays "TalkingPlots$Reader" "TalkingPlots$Reader" "place" "I") ∈ lw_all := lw_g (lw_at lw_m2 42 rfl) rfl
theorem q388 : (Jvm.Cond.soleField "TalkingPlots$Reader" "place") ∈ lw_all := lw_g (lw_at lw_m2 43 rfl) rfl
theorem q389 : (Jvm.Cond.laysFinal "TalkingPlots$Reader" "TalkingPlots$Reader" "this$0" "LTalkingPlots;") ∈ lw_all := lw_g (lw_at lw_m2 44 rfl) rfl
theorem q390 : (Jvm.Cond.soleField "TalkingPlots$Reader" "this$0") ∈ lw_all := lw_g (lw_at lw_m2 45 rfl) rfl
theorem q391 : (Jvm.Cond.superclass "TalkingPlots$Reader" "java/lang/Object") ∈ lw_all := lw_g (lw_at lw_m2 46 rfl) rfl
theorem q393 : (Jvm.Cond.instanceMethod ({ cls := "TalkingPlots$Reader", name := "read", desc := "()I" } : Jvm.MethodName)) ∈ lw_all := lw_g (lw_at lw_m2 48 rfl) rfl
theorem q394 : (Jvm.Cond.selects "TalkingPlots$Reader" ({ cls := "TalkingPlots$Reader", name := "read", desc := "()I" } : Jvm.MethodName) ({ cls := "TalkingPlots$Reader", name := "read", desc := "()I" } : Jvm.MethodName)) ∈ lw_all := lw_g (lw_at lw_m2 49 rfl) rfl
theorem q395 : (Jvm.Cond.code ({ cls := "TalkingPlots$Reader", name := "read", desc := "()I" } : Jvm.MethodName) prog_10_method_16_code (2 : Nat) (Option.some Jvm.ClassFile.FieldType.int)) ∈ lw_all := lw_g (lw_at lw_m2 50 rfl) rfl
theorem q396 : (Jvm.Cond.methodLink "TalkingPlots$Reader" (43 : Nat) ({ cls := "TalkingPlots$Reader", name := "isGood", desc := "()Z" } : Jvm.MethodName)) ∈ lw_all := lw_g (lw_at lw_m2 51 rfl) rfl
theorem q397 : (Jvm.Cond.privateMethod ({ cls := "TalkingPlots$Reader", name := "isGood", desc := "()Z" } : Jvm.MethodName)) ∈ lw_tbl := lw_at lw_m2 52 rfl
theorem q398 : (Jvm.Cond.instanceMethod ({ cls := "TalkingPlots$Reader", name := "isGood", desc := "()Z" } : Jvm.MethodName)) ∈ lw_all := lw_g (lw_at lw_m2 53 rfl) rfl
theorem q399 : (Jvm.Cond.code ({ cls := "TalkingPlots$Reader", name := "isGood", desc := "()Z" } : Jvm.MethodName) prog_10_method_3_code (1 : Nat) (Option.some Jvm.ClassFile.FieldType.boolean)) ∈ lw_all := lw_g (lw_at lw_m2 54 rfl) rfl
theorem q400 : (Jvm.Cond.methodLink "TalkingPlots$Reader" (146 : Nat) ({ cls := "TalkingPlots$Reader", name := "clause", desc := "()V" } : Jvm.MethodName)) ∈ lw_all := lw_g (lw_at lw_m2 55 rfl) rfl
theorem q401 : (Jvm.Cond.privateMethod ({ cls := "TalkingPlots$Reader", name := "clause", desc := "()V" } : Jvm.MethodName)) ∈ lw_tbl := lw_at lw_m2 56 rfl
theorem q402 : (Jvm.Cond.instanceMethod ({ cls := "TalkingPlots$Reader", name := "clause", desc := "()V" } : Jvm.MethodName)) ∈ lw_all := lw_g (lw_at lw_m2 57 rfl) rfl
theorem q403 : (Jvm.Cond.code ({ cls := "TalkingPlots$Reader", name := "clause", desc := "()V" } : Jvm.MethodName) prog_10_method_15_code (4 : Nat) (Option.none : Option Jvm.ClassFile.FieldType)) ∈ lw_all := lw_g (lw_at lw_m2 58 rfl) rfl
theorem q404 : (Jvm.Cond.methodLink "TalkingPlots$Reader" (39 : Nat) ({ cls := "TalkingPlots$Reader", name := "here", desc := "()I" } : Jvm.MethodName)) ∈ lw_all := lw_g (lw_at lw_m2 59 rfl) rfl
theorem q405 : (Jvm.Cond.privateMethod ({ cls := "TalkingPlots$Reader", name := "here", desc := "()I" } : Jvm.MethodName)) ∈ lw_tbl := lw_at lw_m2 60 rfl
theorem q406 : (Jvm.Cond.instanceMethod ({ cls := "TalkingPlots$Reader", name := "here", desc := "()I" } : Jvm.MethodName)) ∈ lw_all := lw_g (lw_at lw_m2 61 rfl) rfl
theorem q407 : (Jvm.Cond.code ({ cls := "TalkingPlots$Reader", name := "here", desc := "()I" } : Jvm.MethodName) prog_10_method_2_code (1 : Nat) (Option.some Jvm.ClassFile.FieldType.int)) ∈ lw_all := lw_g (lw_at lw_m2 62 rfl) rfl
theorem q408 : (Jvm.Cond.stringRef "TalkingPlots$Reader" (129 : Nat) "ehgbq") ∈ lw_tbl := lw_at lw_m2 63 rfl
theorem q409 : (Jvm.Cond.methodLink "TalkingPlots$Reader" (77 : Nat) ({ cls := "java/lang/String", name := "indexOf", desc := "(I)I" } : Jvm.MethodName)) ∈ lw_all := lw_g (lw_at lw_m2 64 rfl) rfl
theorem q495 : (Jvm.Cond.methodLink "TalkingPlots$Reader" (50 : Nat) ({ cls := "TalkingPlots$Reader", name := "bad", desc := "(II)V" } : Jvm.MethodName)) ∈ lw_all := lw_g (lw_at lw_m2 150 rfl) rfl
theorem q496 : (Jvm.Cond.privateMethod ({ cls := "TalkingPlots$Reader", name := "bad", desc := "(II)V" } : Jvm.MethodName)) ∈ lw_tbl := lw_at lw_m2 151 rfl
theorem q497 : (Jvm.Cond.instanceMethod ({ cls := "TalkingPlots$Reader", name := "bad", desc := "(II)V" } : Jvm.MethodName)) ∈ lw_all := lw_g (lw_at lw_m2 152 rfl) rfl
theorem q498 : (Jvm.Cond.code ({ cls := "TalkingPlots$Reader", name := "bad", desc := "(II)V" } : Jvm.MethodName) prog_10_method_4_code (3 : Nat) (Option.none : Option Jvm.ClassFile.FieldType)) ∈ lw_all := lw_g (lw_at lw_m2 153 rfl) rfl
theorem q499 : (Jvm.Cond.methodLink "TalkingPlots$Reader" (60 : Nat) ({ cls := "TalkingPlots$Reader", name := "sum", desc := "()LTalkingPlots$Sum;" } : Jvm.MethodName)) ∈ lw_all := lw_g (lw_at lw_m2 154 rfl) rfl
theorem q500 : (Jvm.Cond.privateMethod ({ cls := "TalkingPlots$Reader", name := "sum", desc := "()LTalkingPlots$Sum;" } : Jvm.MethodName)) ∈ lw_tbl := lw_at lw_m2 155 rfl
theorem q501 : (Jvm.Cond.instanceMethod ({ cls := "TalkingPlots$Reader", name := "sum", desc := "()LTalkingPlots$Sum;" } : Jvm.MethodName)) ∈ lw_all := lw_g (lw_at lw_m2 156 rfl) rfl
theorem q502 : (Jvm.Cond.code ({ cls := "TalkingPlots$Reader", name := "sum", desc := "()LTalkingPlots$Sum;" } : Jvm.MethodName) prog_10_method_11_code (4 : Nat) (Option.some (Jvm.ClassFile.FieldType.object "TalkingPlots$Sum"))) ∈ lw_all := lw_g (lw_at lw_m2 157 rfl) rfl
theorem q503 : (Jvm.Cond.classLink "TalkingPlots$Reader" (86 : Nat) "TalkingPlots$Row") ∈ lw_all := lw_g (lw_at lw_m2 158 rfl) rfl
theorem q505 : (Jvm.Cond.methodLink "TalkingPlots$Reader" (98 : Nat) ({ cls := "TalkingPlots$Reader", name := "product", desc := "()LTalkingPlots$Sum;" } : Jvm.MethodName)) ∈ lw_all := lw_g (lw_at lw_m2 160 rfl) rfl
theorem q506 : (Jvm.Cond.privateMethod ({ cls := "TalkingPlots$Reader", name := "product", desc := "()LTalkingPlots$Sum;" } : Jvm.MethodName)) ∈ lw_tbl := lw_at lw_m2 161 rfl
theorem q507 : (Jvm.Cond.instanceMethod ({ cls := "TalkingPlots$Reader", name := "product", desc := "()LTalkingPlots$Sum;" } : Jvm.MethodName)) ∈ lw_all := lw_g (lw_at lw_m2 162 rfl) rfl
theorem q508 : (Jvm.Cond.code ({ cls := "TalkingPlots$Reader", name := "product", desc := "()LTalkingPlots$Sum;" } : Jvm.MethodName) prog_10_method_10_code (4 : Nat) (Option.some (Jvm.ClassFile.FieldType.object "TalkingPlots$Sum"))) ∈ lw_all := lw_g (lw_at lw_m2 163 rfl) rfl
theorem q509 : (Jvm.Cond.methodLink "TalkingPlots$Reader" (88 : Nat) ({ cls := "TalkingPlots$Reader", name := "factor", desc := "()LTalkingPlots$Sum;" } : Jvm.MethodName)) ∈ lw_all := lw_g (lw_at lw_m2 164 rfl) rfl
theorem q510 : (Jvm.Cond.privateMethod ({ cls := "TalkingPlots$Reader", name := "factor", desc := "()LTalkingPlots$Sum;" } : Jvm.MethodName)) ∈ lw_tbl := lw_at lw_m2 165 rfl
theorem q511 : (Jvm.Cond.instanceMethod ({ cls := "TalkingPlots$Reader", name := "factor", desc := "()LTalkingPlots$Sum;" } : Jvm.MethodName)) ∈ lw_all := lw_g (lw_at lw_m2 166 rfl) rfl
theorem q512 : (Jvm.Cond.code ({ cls := "TalkingPlots$Reader", name := "factor", desc := "()LTalkingPlots$Sum;" } : Jvm.MethodName) prog_10_method_9_code (3 : Nat) (Option.some (Jvm.ClassFile.FieldType.object "TalkingPlots$Sum"))) ∈ lw_all := lw_g (lw_at lw_m2 167 rfl) rfl
theorem q513 : (Jvm.Cond.methodLink "TalkingPlots$Reader" (57 : Nat) ({ cls := "TalkingPlots$Reader", name := "opens", desc := "()V" } : Jvm.MethodName)) ∈ lw_all := lw_g (lw_at lw_m2 168 rfl) rfl
theorem q514 : (Jvm.Cond.privateMethod ({ cls := "TalkingPlots$Reader", name := "opens", desc := "()V" } : Jvm.MethodName)) ∈ lw_tbl := lw_at lw_m2 169 rfl
theorem q515 : (Jvm.Cond.instanceMethod ({ cls := "TalkingPlots$Reader", name := "opens", desc := "()V" } : Jvm.MethodName)) ∈ lw_all := lw_g (lw_at lw_m2 170 rfl) rfl
theorem q516 : (Jvm.Cond.code ({ cls := "TalkingPlots$Reader", name := "opens", desc := "()V" } : Jvm.MethodName) prog_10_method_8_code (1 : Nat) (Option.none : Option Jvm.ClassFile.FieldType)) ∈ lw_all := lw_g (lw_at lw_m2 171 rfl) rfl
theorem q517 : (Jvm.Cond.methodLink "TalkingPlots$Reader" (64 : Nat) ({ cls := "TalkingPlots$Reader", name := "must", desc := "(I)V" } : Jvm.MethodName)) ∈ lw_all := lw_g (lw_at lw_m2 172 rfl) rfl
theorem q518 : (Jvm.Cond.privateMethod ({ cls := "TalkingPlots$Reader", name := "must", desc := "(I)V" } : Jvm.MethodName)) ∈ lw_tbl := lw_at lw_m2 173 rfl
theorem q519 : (Jvm.Cond.instanceMethod ({ cls := "TalkingPlots$Reader", name := "must", desc := "(I)V" } : Jvm.MethodName)) ∈ lw_all := lw_g (lw_at lw_m2 174 rfl) rfl
theorem q520 : (Jvm.Cond.code ({ cls := "TalkingPlots$Reader", name := "must", desc := "(I)V" } : Jvm.MethodName) prog_10_method_7_code (2 : Nat) (Option.none : Option Jvm.ClassFile.FieldType)) ∈ lw_all := lw_g (lw_at lw_m2 175 rfl) rfl
theorem q521 : (Jvm.Cond.methodLink "TalkingPlots$Reader" (47 : Nat) ({ cls := "TalkingPlots$Reader", name := "seesDigit", desc := "()Z" } : Jvm.MethodName)) ∈ lw_all := lw_g (lw_at lw_m2 176 rfl) rfl
theorem q522 : (Jvm.Cond.privateMethod ({ cls := "TalkingPlots$Reader", name := "seesDigit", desc := "()Z" } : Jvm.MethodName)) ∈ lw_tbl := lw_at lw_m2 177 rfl
theorem q523 : (Jvm.Cond.instanceMethod ({ cls := "TalkingPlots$Reader", name := "seesDigit", desc := "()Z" } : Jvm.MethodName)) ∈ lw_all := lw_g (lw_at lw_m2 178 rfl) rfl
theorem q524 : (Jvm.Cond.code ({ cls := "TalkingPlots$Reader", name := "seesDigit", desc := "()Z" } : Jvm.MethodName) prog_10_method_5_code (1 : Nat) (Option.some Jvm.ClassFile.FieldType.boolean)) ∈ lw_all := lw_g (lw_at lw_m2 179 rfl) rfl
theorem q525 : (Jvm.Cond.classLink "TalkingPlots$Reader" (68 : Nat) "TalkingPlots$Number") ∈ lw_all := lw_g (lw_at lw_m2 180 rfl) rfl
theorem q527 : (Jvm.Cond.methodLink "TalkingPlots$Reader" (70 : Nat) ({ cls := "TalkingPlots$Reader", name := "number", desc := "()I" } : Jvm.MethodName)) ∈ lw_all := lw_g (lw_at lw_m2 182 rfl) rfl
theorem q528 : (Jvm.Cond.privateMethod ({ cls := "TalkingPlots$Reader", name := "number", desc := "()I" } : Jvm.MethodName)) ∈ lw_tbl := lw_at lw_m2 183 rfl
theorem q529 : (Jvm.Cond.instanceMethod ({ cls := "TalkingPlots$Reader", name := "number", desc := "()I" } : Jvm.MethodName)) ∈ lw_all := lw_g (lw_at lw_m2 184 rfl) rfl
theorem q530 : (Jvm.Cond.code ({ cls := "TalkingPlots$Reader", name := "number", desc := "()I" } : Jvm.MethodName) prog_10_method_6_code (3 : Nat) (Option.some Jvm.ClassFile.FieldType.int)) ∈ lw_all := lw_g (lw_at lw_m2 185 rfl) rfl
theorem q531 : (Jvm.Cond.methodLink "TalkingPlots$Reader" (73 : Nat) ({ cls := "TalkingPlots$Number", name := "<init>", desc := "(I)V" } : Jvm.MethodName)) ∈ lw_all := lw_g (lw_at lw_m2 186 rfl) rfl
theorem q542 : (Jvm.Cond.stringRef "TalkingPlots$Reader" (75 : Nat) "pksumont") ∈ lw_tbl := lw_at lw_m2 197 rfl
theorem q543 : (Jvm.Cond.classLink "TalkingPlots$Reader" (83 : Nat) "TalkingPlots$Letter") ∈ lw_all := lw_g (lw_at lw_m2 198 rfl) rfl
theorem q545 : (Jvm.Cond.methodLink "TalkingPlots$Reader" (85 : Nat) ({ cls := "TalkingPlots$Letter", name := "<init>", desc := "(I)V" } : Jvm.MethodName)) ∈ lw_all := lw_g (lw_at lw_m2 200 rfl) rfl
theorem q553 : (Jvm.Cond.methodLink "TalkingPlots$Reader" (91 : Nat) ({ cls := "TalkingPlots$Row", name := "<init>", desc := "(ILTalkingPlots$Sum;)V" } : Jvm.MethodName)) ∈ lw_all := lw_g (lw_at lw_m2 208 rfl) rfl
theorem q560 : (Jvm.Cond.fieldLinkNest "TalkingPlots$Reader" (94 : Nat) "TalkingPlots$Row" "next" "LTalkingPlots$Row;" "TalkingPlots") ∈ lw_tbl := lw_at lw_m2 215 rfl
theorem q568 : (Jvm.Cond.methodLink "TalkingPlots$Reader" (110 : Nat) ({ cls := "TalkingPlots$Reader", name := "condition", desc := "()LTalkingPlots$Condition;" } : Jvm.MethodName)) ∈ lw_all := lw_g (lw_at lw_m2 223 rfl) rfl
theorem q569 : (Jvm.Cond.privateMethod ({ cls := "TalkingPlots$Reader", name := "condition", desc := "()LTalkingPlots$Condition;" } : Jvm.MethodName)) ∈ lw_tbl := lw_at lw_m2 224 rfl
theorem q570 : (Jvm.Cond.instanceMethod ({ cls := "TalkingPlots$Reader", name := "condition", desc := "()LTalkingPlots$Condition;" } : Jvm.MethodName)) ∈ lw_all := lw_g (lw_at lw_m2 225 rfl) rfl
theorem q571 : (Jvm.Cond.code ({ cls := "TalkingPlots$Reader", name := "condition", desc := "()LTalkingPlots$Condition;" } : Jvm.MethodName) prog_10_method_14_code (3 : Nat) (Option.some (Jvm.ClassFile.FieldType.object "TalkingPlots$Condition"))) ∈ lw_all := lw_g (lw_at lw_m2 226 rfl) rfl
theorem q572 : (Jvm.Cond.classLink "TalkingPlots$Reader" (118 : Nat) "TalkingPlots$Some") ∈ lw_all := lw_g (lw_at lw_m2 227 rfl) rfl
theorem q574 : (Jvm.Cond.methodLink "TalkingPlots$Reader" (126 : Nat) ({ cls := "TalkingPlots$Reader", name := "pieces", desc := "()LTalkingPlots$Condition;" } : Jvm.MethodName)) ∈ lw_all := lw_g (lw_at lw_m2 229 rfl) rfl
theorem q575 : (Jvm.Cond.privateMethod ({ cls := "TalkingPlots$Reader", name := "pieces", desc := "()LTalkingPlots$Condition;" } : Jvm.MethodName)) ∈ lw_tbl := lw_at lw_m2 230 rfl
theorem q576 : (Jvm.Cond.instanceMethod ({ cls := "TalkingPlots$Reader", name := "pieces", desc := "()LTalkingPlots$Condition;" } : Jvm.MethodName)) ∈ lw_all := lw_g (lw_at lw_m2 231 rfl) rfl
theorem q577 : (Jvm.Cond.code ({ cls := "TalkingPlots$Reader", name := "pieces", desc := "()LTalkingPlots$Condition;" } : Jvm.MethodName) prog_10_method_13_code (3 : Nat) (Option.some (Jvm.ClassFile.FieldType.object "TalkingPlots$Condition"))) ∈ lw_all := lw_g (lw_at lw_m2 232 rfl) rfl
theorem q578 : (Jvm.Cond.methodLink "TalkingPlots$Reader" (101 : Nat) ({ cls := "TalkingPlots$Reader", name := "piece", desc := "()LTalkingPlots$Condition;" } : Jvm.MethodName)) ∈ lw_all := lw_g (lw_at lw_m2 233 rfl) rfl
theorem q579 : (Jvm.Cond.privateMethod ({ cls := "TalkingPlots$Reader", name := "piece", desc := "()LTalkingPlots$Condition;" } : Jvm.MethodName)) ∈ lw_tbl := lw_at lw_m2 234 rfl
theorem q580 : (Jvm.Cond.instanceMethod ({ cls := "TalkingPlots$Reader", name := "piece", desc := "()LTalkingPlots$Condition;" } : Jvm.MethodName)) ∈ lw_all := lw_g (lw_at lw_m2 235 rfl) rfl
theorem q581 : (Jvm.Cond.code ({ cls := "TalkingPlots$Reader", name := "piece", desc := "()LTalkingPlots$Condition;" } : Jvm.MethodName) prog_10_method_12_code (4 : Nat) (Option.some (Jvm.ClassFile.FieldType.object "TalkingPlots$Condition"))) ∈ lw_all := lw_g (lw_at lw_m2 236 rfl) rfl
theorem q582 : (Jvm.Cond.classLink "TalkingPlots$Reader" (105 : Nat) "TalkingPlots$Not") ∈ lw_all := lw_g (lw_at lw_m2 237 rfl) rfl
theorem q584 : (Jvm.Cond.methodLink "TalkingPlots$Reader" (107 : Nat) ({ cls := "TalkingPlots$Not", name := "<init>", desc := "(LTalkingPlots$Condition;)V" } : Jvm.MethodName)) ∈ lw_all := lw_g (lw_at lw_m2 239 rfl) rfl
theorem q595 : (Jvm.Cond.classLink "TalkingPlots$Reader" (113 : Nat) "TalkingPlots$Compared") ∈ lw_all := lw_g (lw_at lw_m3 10 rfl) rfl
theorem q597 : (Jvm.Cond.methodLink "TalkingPlots$Reader" (115 : Nat) ({ cls := "TalkingPlots$Compared", name := "<init>", desc := "(LTalkingPlots$Sum;ILTalkingPlots$Sum;)V" } : Jvm.MethodName)) ∈ lw_all := lw_g (lw_at lw_m3 12 rfl) rfl
theorem q611 : (Jvm.Cond.methodLink "TalkingPlots$Reader" (120 : Nat) ({ cls := "TalkingPlots$Some", name := "<init>", desc := "(LTalkingPlots$Condition;I)V" } : Jvm.MethodName)) ∈ lw_all := lw_g (lw_at lw_m3 26 rfl) rfl
theorem q618 : (Jvm.Cond.fieldLinkNest "TalkingPlots$Reader" (123 : Nat) "TalkingPlots$Some" "next" "LTalkingPlots$Some;" "TalkingPlots") ∈ lw_tbl := lw_at lw_m3 33 rfl
theorem in_X7 : ∀ w ∈ wsX70, w ∈ lw_all := lw_in wsX70 [377, 379, 381, 383, 385, 387, 389] (by decide +kernel) (by decide +kernel)
/-! TalkingPlots$Sum -/
set_option maxRecDepth 100000
def RX8 : String := "TalkingPlots$Sum"
abbrev cX8_init : ByteArray := prog_15_method_1_code
def yX8_init : MethodName := ⟨RX8, "<init>", "()V"⟩
theorem dX8_init_0 : decode cX8_init 0 = .ok (.aload_n 0, 1) := by decide +kernel
theorem dX8_init_1 : decode cX8_init 1 = .ok (.invokespecial 1, 3) := by decide +kernel
theorem dX8_init_4 : decode cX8_init 4 = .ok (.return_, 1) := by decide +kernel
abbrev cX8_told : ByteArray := prog_15_method_3_code
def yX8_told : MethodName := ⟨RX8, "told", "(LTalkingPlots$Asked;)I"⟩
def dkwX8_told_0 : List UInt8 := [43, 3, 181, 0, 7, 42, 43, 182, 0, 13, 61, 43, 180, 0, 7, 153, 0, 7, 3, 167, 0, 4, 28, 172]
abbrev dktX8_told_0 : List UInt8 := dkwX8_told_0 ++ []
theorem dksX8_told_0 : cX8_told.data.toList.drop 0 = dktX8_told_0 := by decide +kernel
theorem dX8_told_0 : decode cX8_told 0 = .ok (.aload_n 1, 1) := dk_43 (dk_at dksX8_told_0 0 rfl rfl)
theorem dX8_told_1 : decode cX8_told 1 = .ok (.iconst 0, 1) := dk_3 (dk_at dksX8_told_0 1 rfl rfl)
theorem dX8_told_2 : decode cX8_told 2 = .ok (.putfield 7, 3) := dk_181 0 7 (dk_at dksX8_told_0 2 rfl rfl)
theorem dX8_told_5 : decode cX8_told 5 = .ok (.aload_n 0, 1) := dk_42 (dk_at dksX8_told_0 5 rfl rfl)
theorem dX8_told_6 : decode cX8_told 6 = .ok (.aload_n 1, 1) := dk_43 (dk_at dksX8_told_0 6 rfl rfl)
theorem dX8_told_7 : decode cX8_told 7 = .ok (.invokevirtual 13, 3) := dk_182 0 13 (dk_at dksX8_told_0 7 rfl rfl)
theorem dX8_told_10 : decode cX8_told 10 = .ok (.istore_n 2, 1) := dk_61 (dk_at dksX8_told_0 10 rfl rfl)
theorem dX8_told_11 : decode cX8_told 11 = .ok (.aload_n 1, 1) := dk_43 (dk_at dksX8_told_0 11 rfl rfl)
theorem dX8_told_12 : decode cX8_told 12 = .ok (.getfield 7, 3) := dk_180 0 7 (dk_at dksX8_told_0 12 rfl rfl)
theorem dX8_told_15 : decode cX8_told 15 = .ok (.ifCond .eq 7, 3) := dk_153 0 7 (dk_at dksX8_told_0 15 rfl rfl)
theorem dX8_told_18 : decode cX8_told 18 = .ok (.iconst 0, 1) := dk_3 (dk_at dksX8_told_0 18 rfl rfl)
theorem dX8_told_19 : decode cX8_told 19 = .ok (.goto 4, 3) := dk_167 0 4 (dk_at dksX8_told_0 19 rfl rfl)
theorem dX8_told_22 : decode cX8_told 22 = .ok (.iload_n 2, 1) := dk_28 (dk_at dksX8_told_0 22 rfl rfl)
theorem dX8_told_23 : decode cX8_told 23 = .ok (.ireturn, 1) := dk_172 (dk_at dksX8_told_0 23 rfl rfl)
theorem q120 : (Jvm.Cond.initialized "TalkingPlots$Sum") ∈ lw_all := lw_g (lw_at lw_m1 15 rfl) rfl
theorem q159 : (Jvm.Cond.fieldLinkNest "TalkingPlots$Sum" (7 : Nat) "TalkingPlots$Asked" "isRefused" "Z" "TalkingPlots") ∈ lw_tbl := lw_at lw_m1 54 rfl
theorem q535 : (Jvm.Cond.instanceMethod ({ cls := "TalkingPlots$Sum", name := "<init>", desc := "()V" } : Jvm.MethodName)) ∈ lw_all := lw_g (lw_at lw_m2 190 rfl) rfl
theorem q536 : (Jvm.Cond.code ({ cls := "TalkingPlots$Sum", name := "<init>", desc := "()V" } : Jvm.MethodName) prog_15_method_1_code (1 : Nat) (Option.none : Option Jvm.ClassFile.FieldType)) ∈ lw_all := lw_g (lw_at lw_m2 191 rfl) rfl
theorem q537 : (Jvm.Cond.methodLink "TalkingPlots$Sum" (1 : Nat) ({ cls := "java/lang/Object", name := "<init>", desc := "()V" } : Jvm.MethodName)) ∈ lw_all := lw_g (lw_at lw_m2 192 rfl) rfl
theorem q866 : (Jvm.Cond.declares ({ cls := "TalkingPlots$Sum", name := "worth", desc := "(LTalkingPlots$Asked;)I" } : Jvm.MethodName)) ∈ lw_tbl := lw_at lw_m4 41 rfl
theorem q867 : (Jvm.Cond.sameMethod "TalkingPlots$Sum" "TalkingPlots$Sum" "worth" "(LTalkingPlots$Asked;)I") ∈ lw_all := lw_g (lw_at lw_m4 42 rfl) rfl
theorem q921 : (Jvm.Cond.instanceMethod ({ cls := "TalkingPlots$Sum", name := "told", desc := "(LTalkingPlots$Asked;)I" } : Jvm.MethodName)) ∈ lw_all := lw_g (lw_at lw_m4 96 rfl) rfl
theorem q922 : (Jvm.Cond.sameMethod "TalkingPlots$Sum" "TalkingPlots$Sum" "told" "(LTalkingPlots$Asked;)I") ∈ lw_all := lw_g (lw_at lw_m4 97 rfl) rfl
theorem q926 : (Jvm.Cond.code ({ cls := "TalkingPlots$Sum", name := "told", desc := "(LTalkingPlots$Asked;)I" } : Jvm.MethodName) prog_15_method_3_code (3 : Nat) (Option.some Jvm.ClassFile.FieldType.int)) ∈ lw_all := lw_g (lw_at lw_m4 101 rfl) rfl
theorem q927 : (Jvm.Cond.methodLink "TalkingPlots$Sum" (13 : Nat) ({ cls := "TalkingPlots$Sum", name := "worth", desc := "(LTalkingPlots$Asked;)I" } : Jvm.MethodName)) ∈ lw_all := lw_g (lw_at lw_m4 102 rfl) rfl
/-! TalkingPlots$Row -/
set_option maxRecDepth 100000
def RX9 : String := "TalkingPlots$Row"
def TX9 : u_T := fun k => match k with
  | 0 => ("TalkingPlots$Row", "sign", "I", true)
  | 1 => ("TalkingPlots$Row", "part", "LTalkingPlots$Sum;", true)
  | _ => ("TalkingPlots$Row", "next", "LTalkingPlots$Row;", false)
def tyX9 : Nat → FieldType := fun k => match k with
  | 0 => .int
  | 1 => .object "TalkingPlots$Sum"
  | _ => .object "TalkingPlots$Row"
abbrev wsX90 : List Cond := u_ws RX9 TX9 3
theorem nmX9 : ∀ a, a < 3 → ∀ b, b < 3 → a ≠ b → (TX9 a).2.1 ≠ (TX9 b).2.1 := by decide +kernel
theorem tyX9_ok : ∀ k, k < 3 → parseFieldDescriptor (TX9 k).2.2.1 = some (tyX9 k) := by decide +kernel
abbrev cX9_init : ByteArray := prog_11_method_1_code
def yX9_init : MethodName := ⟨RX9, "<init>", "(ILTalkingPlots$Sum;)V"⟩
def dkwX9_init_0 : List UInt8 := [42, 183, 0, 1, 42, 27, 181, 0, 7, 42, 44, 181, 0, 13, 177]
abbrev dktX9_init_0 : List UInt8 := dkwX9_init_0 ++ []
theorem dksX9_init_0 : cX9_init.data.toList.drop 0 = dktX9_init_0 := by decide +kernel
theorem dX9_init_0 : decode cX9_init 0 = .ok (.aload_n 0, 1) := dk_42 (dk_at dksX9_init_0 0 rfl rfl)
theorem dX9_init_1 : decode cX9_init 1 = .ok (.invokespecial 1, 3) := dk_183 0 1 (dk_at dksX9_init_0 1 rfl rfl)
theorem dX9_init_4 : decode cX9_init 4 = .ok (.aload_n 0, 1) := dk_42 (dk_at dksX9_init_0 4 rfl rfl)
theorem dX9_init_5 : decode cX9_init 5 = .ok (.iload_n 1, 1) := dk_27 (dk_at dksX9_init_0 5 rfl rfl)
theorem dX9_init_6 : decode cX9_init 6 = .ok (.putfield 7, 3) := dk_181 0 7 (dk_at dksX9_init_0 6 rfl rfl)
theorem dX9_init_9 : decode cX9_init 9 = .ok (.aload_n 0, 1) := dk_42 (dk_at dksX9_init_0 9 rfl rfl)
theorem dX9_init_10 : decode cX9_init 10 = .ok (.aload_n 2, 1) := dk_44 (dk_at dksX9_init_0 10 rfl rfl)
theorem dX9_init_11 : decode cX9_init 11 = .ok (.putfield 13, 3) := dk_181 0 13 (dk_at dksX9_init_0 11 rfl rfl)
theorem dX9_init_14 : decode cX9_init 14 = .ok (.return_, 1) := dk_177 (dk_at dksX9_init_0 14 rfl rfl)
abbrev cX9_worth : ByteArray := prog_11_method_3_code
def yX9_worth : MethodName := ⟨RX9, "worth", "(LTalkingPlots$Asked;)I"⟩
def dkwX9_worth_1 : List UInt8 := [180, 0, 13, 43, 182, 0, 23, 43, 184, 0, 31, 61, 45, 180, 0, 27, 78, 167, 255, 229, 28, 172]
abbrev dktX9_worth_1 : List UInt8 := dkwX9_worth_1 ++ []
def dkwX9_worth_0 : List UInt8 := [42, 180, 0, 13, 43, 182, 0, 23, 61, 42, 180, 0, 27, 78, 45, 198, 0, 29, 45, 180, 0, 7, 28, 45]
abbrev dktX9_worth_0 : List UInt8 := dkwX9_worth_0 ++ dktX9_worth_1
theorem dksX9_worth_0 : cX9_worth.data.toList.drop 0 = dktX9_worth_0 := by decide +kernel
theorem dksX9_worth_1 : cX9_worth.data.toList.drop 24 = dktX9_worth_1 := dk_seg dksX9_worth_0 24 rfl rfl
theorem dX9_worth_0 : decode cX9_worth 0 = .ok (.aload_n 0, 1) := dk_42 (dk_at dksX9_worth_0 0 rfl rfl)
theorem dX9_worth_1 : decode cX9_worth 1 = .ok (.getfield 13, 3) := dk_180 0 13 (dk_at dksX9_worth_0 1 rfl rfl)
theorem dX9_worth_4 : decode cX9_worth 4 = .ok (.aload_n 1, 1) := dk_43 (dk_at dksX9_worth_0 4 rfl rfl)
theorem dX9_worth_5 : decode cX9_worth 5 = .ok (.invokevirtual 23, 3) := dk_182 0 23 (dk_at dksX9_worth_0 5 rfl rfl)
theorem dX9_worth_8 : decode cX9_worth 8 = .ok (.istore_n 2, 1) := dk_61 (dk_at dksX9_worth_0 8 rfl rfl)
theorem dX9_worth_9 : decode cX9_worth 9 = .ok (.aload_n 0, 1) := dk_42 (dk_at dksX9_worth_0 9 rfl rfl)
theorem dX9_worth_10 : decode cX9_worth 10 = .ok (.getfield 27, 3) := dk_180 0 27 (dk_at dksX9_worth_0 10 rfl rfl)
theorem dX9_worth_13 : decode cX9_worth 13 = .ok (.astore_n 3, 1) := dk_78 (dk_at dksX9_worth_0 13 rfl rfl)
theorem dX9_worth_14 : decode cX9_worth 14 = .ok (.aload_n 3, 1) := dk_45 (dk_at dksX9_worth_0 14 rfl rfl)
theorem dX9_worth_15 : decode cX9_worth 15 = .ok (.ifnull 29, 3) := dk_198 0 29 (dk_at dksX9_worth_0 15 rfl rfl)
theorem dX9_worth_18 : decode cX9_worth 18 = .ok (.aload_n 3, 1) := dk_45 (dk_at dksX9_worth_0 18 rfl rfl)
theorem dX9_worth_19 : decode cX9_worth 19 = .ok (.getfield 7, 3) := dk_180 0 7 (dk_at dksX9_worth_0 19 rfl rfl)
theorem dX9_worth_22 : decode cX9_worth 22 = .ok (.iload_n 2, 1) := dk_28 (dk_at dksX9_worth_0 22 rfl rfl)
theorem dX9_worth_23 : decode cX9_worth 23 = .ok (.aload_n 3, 1) := dk_45 (dk_at dksX9_worth_0 23 rfl rfl)
theorem dX9_worth_24 : decode cX9_worth 24 = .ok (.getfield 13, 3) := dk_180 0 13 (dk_at dksX9_worth_1 0 rfl rfl)
theorem dX9_worth_27 : decode cX9_worth 27 = .ok (.aload_n 1, 1) := dk_43 (dk_at dksX9_worth_1 3 rfl rfl)
theorem dX9_worth_28 : decode cX9_worth 28 = .ok (.invokevirtual 23, 3) := dk_182 0 23 (dk_at dksX9_worth_1 4 rfl rfl)
theorem dX9_worth_31 : decode cX9_worth 31 = .ok (.aload_n 1, 1) := dk_43 (dk_at dksX9_worth_1 7 rfl rfl)
theorem dX9_worth_32 : decode cX9_worth 32 = .ok (.invokestatic 31, 3) := dk_184 0 31 (dk_at dksX9_worth_1 8 rfl rfl)
theorem dX9_worth_35 : decode cX9_worth 35 = .ok (.istore_n 2, 1) := dk_61 (dk_at dksX9_worth_1 11 rfl rfl)
theorem dX9_worth_36 : decode cX9_worth 36 = .ok (.aload_n 3, 1) := dk_45 (dk_at dksX9_worth_1 12 rfl rfl)
theorem dX9_worth_37 : decode cX9_worth 37 = .ok (.getfield 27, 3) := dk_180 0 27 (dk_at dksX9_worth_1 13 rfl rfl)
theorem dX9_worth_40 : decode cX9_worth 40 = .ok (.astore_n 3, 1) := dk_78 (dk_at dksX9_worth_1 16 rfl rfl)
theorem dX9_worth_41 : decode cX9_worth 41 = .ok (.goto (-27), 3) := dk_167 255 229 (dk_at dksX9_worth_1 17 rfl rfl)
theorem dX9_worth_44 : decode cX9_worth 44 = .ok (.iload_n 2, 1) := dk_28 (dk_at dksX9_worth_1 20 rfl rfl)
theorem dX9_worth_45 : decode cX9_worth 45 = .ok (.ireturn, 1) := dk_172 (dk_at dksX9_worth_1 21 rfl rfl)
abbrev cX9_worked : ByteArray := prog_11_method_2_code
def yX9_worked : MethodName := ⟨RX9, "worked", "(IIILTalkingPlots$Asked;)I"⟩
def dkwX9_worked_3 : List UInt8 := [154, 0, 7, 3, 167, 0, 18, 26, 16, 47, 160, 0, 9, 27, 28, 108, 167, 0, 6, 27, 28, 112, 172]
abbrev dktX9_worked_3 : List UInt8 := dkwX9_worked_3 ++ []
def dkwX9_worked_2 : List UInt8 := [27, 28, 96, 172, 27, 28, 100, 172, 27, 28, 104, 172, 28, 154, 0, 8, 45, 4, 181, 0, 17, 28]
abbrev dktX9_worked_2 : List UInt8 := dkwX9_worked_2 ++ dktX9_worked_3
def dkwX9_worked_1 : List UInt8 := [170, 0, 0, 0, 0, 0, 43, 0, 0, 0, 42, 0, 0, 0, 45, 0, 0, 0, 39, 0, 0, 0, 31, 0, 0, 0, 43, 0, 0, 0, 35]
abbrev dktX9_worked_1 : List UInt8 := dkwX9_worked_1 ++ dktX9_worked_2
def dkwX9_worked_0 : List UInt8 := [26]
abbrev dktX9_worked_0 : List UInt8 := dkwX9_worked_0 ++ dktX9_worked_1
theorem dksX9_worked_0 : cX9_worked.data.toList.drop 0 = dktX9_worked_0 := by decide +kernel
theorem dksX9_worked_1 : cX9_worked.data.toList.drop 1 = dktX9_worked_1 := dk_seg dksX9_worked_0 1 rfl rfl
theorem dksX9_worked_2 : cX9_worked.data.toList.drop 32 = dktX9_worked_2 := dk_seg dksX9_worked_1 31 rfl rfl
theorem dksX9_worked_3 : cX9_worked.data.toList.drop 54 = dktX9_worked_3 := dk_seg dksX9_worked_2 22 rfl rfl
theorem dX9_worked_0 : decode cX9_worked 0 = .ok (.iload_n 0, 1) := dk_26 (dk_at dksX9_worked_0 0 rfl rfl)
theorem dX9_worked_1 : decode cX9_worked 1 = .ok (.tableswitch 43 42 45 #[39, 31, 43, 35], 31) := by decide +kernel
theorem dX9_worked_32 : decode cX9_worked 32 = .ok (.iload_n 1, 1) := dk_27 (dk_at dksX9_worked_2 0 rfl rfl)
theorem dX9_worked_33 : decode cX9_worked 33 = .ok (.iload_n 2, 1) := dk_28 (dk_at dksX9_worked_2 1 rfl rfl)
theorem dX9_worked_34 : decode cX9_worked 34 = .ok (.iadd, 1) := dk_96 (dk_at dksX9_worked_2 2 rfl rfl)
theorem dX9_worked_35 : decode cX9_worked 35 = .ok (.ireturn, 1) := dk_172 (dk_at dksX9_worked_2 3 rfl rfl)
theorem dX9_worked_36 : decode cX9_worked 36 = .ok (.iload_n 1, 1) := dk_27 (dk_at dksX9_worked_2 4 rfl rfl)
theorem dX9_worked_37 : decode cX9_worked 37 = .ok (.iload_n 2, 1) := dk_28 (dk_at dksX9_worked_2 5 rfl rfl)
theorem dX9_worked_38 : decode cX9_worked 38 = .ok (.isub, 1) := dk_100 (dk_at dksX9_worked_2 6 rfl rfl)
theorem dX9_worked_39 : decode cX9_worked 39 = .ok (.ireturn, 1) := dk_172 (dk_at dksX9_worked_2 7 rfl rfl)
theorem dX9_worked_40 : decode cX9_worked 40 = .ok (.iload_n 1, 1) := dk_27 (dk_at dksX9_worked_2 8 rfl rfl)
theorem dX9_worked_41 : decode cX9_worked 41 = .ok (.iload_n 2, 1) := dk_28 (dk_at dksX9_worked_2 9 rfl rfl)
theorem dX9_worked_42 : decode cX9_worked 42 = .ok (.imul, 1) := dk_104 (dk_at dksX9_worked_2 10 rfl rfl)
theorem dX9_worked_43 : decode cX9_worked 43 = .ok (.ireturn, 1) := dk_172 (dk_at dksX9_worked_2 11 rfl rfl)
theorem dX9_worked_44 : decode cX9_worked 44 = .ok (.iload_n 2, 1) := dk_28 (dk_at dksX9_worked_2 12 rfl rfl)
theorem dX9_worked_45 : decode cX9_worked 45 = .ok (.ifCond .ne 8, 3) := dk_154 0 8 (dk_at dksX9_worked_2 13 rfl rfl)
theorem dX9_worked_48 : decode cX9_worked 48 = .ok (.aload_n 3, 1) := dk_45 (dk_at dksX9_worked_2 16 rfl rfl)
theorem dX9_worked_49 : decode cX9_worked 49 = .ok (.iconst 1, 1) := dk_4 (dk_at dksX9_worked_2 17 rfl rfl)
theorem dX9_worked_50 : decode cX9_worked 50 = .ok (.putfield 17, 3) := dk_181 0 17 (dk_at dksX9_worked_2 18 rfl rfl)
theorem dX9_worked_53 : decode cX9_worked 53 = .ok (.iload_n 2, 1) := dk_28 (dk_at dksX9_worked_2 21 rfl rfl)
theorem dX9_worked_54 : decode cX9_worked 54 = .ok (.ifCond .ne 7, 3) := dk_154 0 7 (dk_at dksX9_worked_3 0 rfl rfl)
theorem dX9_worked_57 : decode cX9_worked 57 = .ok (.iconst 0, 1) := dk_3 (dk_at dksX9_worked_3 3 rfl rfl)
theorem dX9_worked_58 : decode cX9_worked 58 = .ok (.goto 18, 3) := dk_167 0 18 (dk_at dksX9_worked_3 4 rfl rfl)
theorem dX9_worked_61 : decode cX9_worked 61 = .ok (.iload_n 0, 1) := dk_26 (dk_at dksX9_worked_3 7 rfl rfl)
theorem dX9_worked_62 : decode cX9_worked 62 = .ok (.bipush 47, 2) := dk_16 47 (dk_at dksX9_worked_3 8 rfl rfl)
theorem dX9_worked_64 : decode cX9_worked 64 = .ok (.if_icmp .ne 9, 3) := dk_160 0 9 (dk_at dksX9_worked_3 10 rfl rfl)
theorem dX9_worked_67 : decode cX9_worked 67 = .ok (.iload_n 1, 1) := dk_27 (dk_at dksX9_worked_3 13 rfl rfl)
theorem dX9_worked_68 : decode cX9_worked 68 = .ok (.iload_n 2, 1) := dk_28 (dk_at dksX9_worked_3 14 rfl rfl)
theorem dX9_worked_69 : decode cX9_worked 69 = .ok (.idiv, 1) := dk_108 (dk_at dksX9_worked_3 15 rfl rfl)
theorem dX9_worked_70 : decode cX9_worked 70 = .ok (.goto 6, 3) := dk_167 0 6 (dk_at dksX9_worked_3 16 rfl rfl)
theorem dX9_worked_73 : decode cX9_worked 73 = .ok (.iload_n 1, 1) := dk_27 (dk_at dksX9_worked_3 19 rfl rfl)
theorem dX9_worked_74 : decode cX9_worked 74 = .ok (.iload_n 2, 1) := dk_28 (dk_at dksX9_worked_3 20 rfl rfl)
theorem dX9_worked_75 : decode cX9_worked 75 = .ok (.irem, 1) := dk_112 (dk_at dksX9_worked_3 21 rfl rfl)
theorem dX9_worked_76 : decode cX9_worked 76 = .ok (.ireturn, 1) := dk_172 (dk_at dksX9_worked_3 22 rfl rfl)
theorem q121 : (Jvm.Cond.initialized "TalkingPlots$Row") ∈ lw_all := lw_g (lw_at lw_m1 16 rfl) rfl
theorem q158 : (Jvm.Cond.fieldLinkNest "TalkingPlots$Row" (17 : Nat) "TalkingPlots$Asked" "isRefused" "Z" "TalkingPlots") ∈ lw_tbl := lw_at lw_m1 53 rfl
theorem q504 : (Jvm.Cond.instantiable "TalkingPlots$Row" (3 : Nat)) ∈ lw_all := lw_g (lw_at lw_m2 159 rfl) rfl
theorem q554 : (Jvm.Cond.instanceMethod ({ cls := "TalkingPlots$Row", name := "<init>", desc := "(ILTalkingPlots$Sum;)V" } : Jvm.MethodName)) ∈ lw_all := lw_g (lw_at lw_m2 209 rfl) rfl
theorem q555 : (Jvm.Cond.code ({ cls := "TalkingPlots$Row", name := "<init>", desc := "(ILTalkingPlots$Sum;)V" } : Jvm.MethodName) prog_11_method_1_code (3 : Nat) (Option.none : Option Jvm.ClassFile.FieldType)) ∈ lw_all := lw_g (lw_at lw_m2 210 rfl) rfl
theorem q556 : (Jvm.Cond.methodLinkNest "TalkingPlots$Row" (1 : Nat) ({ cls := "TalkingPlots$Sum", name := "<init>", desc := "()V" } : Jvm.MethodName) "TalkingPlots") ∈ lw_tbl := lw_at lw_m2 211 rfl
theorem q557 : (Jvm.Cond.fieldLink "TalkingPlots$Row" (7 : Nat) "TalkingPlots$Row" "sign" "I") ∈ lw_all := lw_g (lw_at lw_m2 212 rfl) rfl
theorem q558 : (Jvm.Cond.fieldLink "TalkingPlots$Row" (13 : Nat) "TalkingPlots$Row" "part" "LTalkingPlots$Sum;") ∈ lw_all := lw_g (lw_at lw_m2 213 rfl) rfl
theorem q559 : (Jvm.Cond.fieldLink "TalkingPlots$Row" (27 : Nat) "TalkingPlots$Row" "next" "LTalkingPlots$Row;") ∈ lw_all := lw_g (lw_at lw_m2 214 rfl) rfl
theorem q561 : (Jvm.Cond.laysFinal "TalkingPlots$Row" "TalkingPlots$Row" "sign" "I") ∈ lw_all := lw_g (lw_at lw_m2 216 rfl) rfl
theorem q562 : (Jvm.Cond.soleField "TalkingPlots$Row" "sign") ∈ lw_all := lw_g (lw_at lw_m2 217 rfl) rfl
theorem q563 : (Jvm.Cond.laysFinal "TalkingPlots$Row" "TalkingPlots$Row" "part" "LTalkingPlots$Sum;") ∈ lw_all := lw_g (lw_at lw_m2 218 rfl) rfl
theorem q564 : (Jvm.Cond.soleField "TalkingPlots$Row" "part") ∈ lw_all := lw_g (lw_at lw_m2 219 rfl) rfl
theorem q565 : (Jvm.Cond.lays "TalkingPlots$Row" "TalkingPlots$Row" "next" "LTalkingPlots$Row;") ∈ lw_all := lw_g (lw_at lw_m2 220 rfl) rfl
theorem q566 : (Jvm.Cond.soleField "TalkingPlots$Row" "next") ∈ lw_all := lw_g (lw_at lw_m2 221 rfl) rfl
theorem q567 : (Jvm.Cond.superclass "TalkingPlots$Row" "TalkingPlots$Sum") ∈ lw_all := lw_g (lw_at lw_m2 222 rfl) rfl
theorem q880 : (Jvm.Cond.selects "TalkingPlots$Row" ({ cls := "TalkingPlots$Sum", name := "worth", desc := "(LTalkingPlots$Asked;)I" } : Jvm.MethodName) ({ cls := "TalkingPlots$Row", name := "worth", desc := "(LTalkingPlots$Asked;)I" } : Jvm.MethodName)) ∈ lw_all := lw_g (lw_at lw_m4 55 rfl) rfl
theorem q881 : (Jvm.Cond.instanceMethod ({ cls := "TalkingPlots$Row", name := "worth", desc := "(LTalkingPlots$Asked;)I" } : Jvm.MethodName)) ∈ lw_all := lw_g (lw_at lw_m4 56 rfl) rfl
theorem q882 : (Jvm.Cond.code ({ cls := "TalkingPlots$Row", name := "worth", desc := "(LTalkingPlots$Asked;)I" } : Jvm.MethodName) prog_11_method_3_code (4 : Nat) (Option.some Jvm.ClassFile.FieldType.int)) ∈ lw_all := lw_g (lw_at lw_m4 57 rfl) rfl
theorem q883 : (Jvm.Cond.methodLink "TalkingPlots$Row" (23 : Nat) ({ cls := "TalkingPlots$Sum", name := "worth", desc := "(LTalkingPlots$Asked;)I" } : Jvm.MethodName)) ∈ lw_all := lw_g (lw_at lw_m4 58 rfl) rfl
theorem q884 : (Jvm.Cond.methodLink "TalkingPlots$Row" (31 : Nat) ({ cls := "TalkingPlots$Row", name := "worked", desc := "(IIILTalkingPlots$Asked;)I" } : Jvm.MethodName)) ∈ lw_all := lw_g (lw_at lw_m4 59 rfl) rfl
theorem q885 : (Jvm.Cond.static ({ cls := "TalkingPlots$Row", name := "worked", desc := "(IIILTalkingPlots$Asked;)I" } : Jvm.MethodName)) ∈ lw_all := lw_g (lw_at lw_m4 60 rfl) rfl
theorem q886 : (Jvm.Cond.code ({ cls := "TalkingPlots$Row", name := "worked", desc := "(IIILTalkingPlots$Asked;)I" } : Jvm.MethodName) prog_11_method_2_code (4 : Nat) (Option.some Jvm.ClassFile.FieldType.int)) ∈ lw_all := lw_g (lw_at lw_m4 61 rfl) rfl
theorem q925 : (Jvm.Cond.selects "TalkingPlots$Row" ({ cls := "TalkingPlots$Sum", name := "told", desc := "(LTalkingPlots$Asked;)I" } : Jvm.MethodName) ({ cls := "TalkingPlots$Sum", name := "told", desc := "(LTalkingPlots$Asked;)I" } : Jvm.MethodName)) ∈ lw_all := lw_g (lw_at lw_m4 100 rfl) rfl
theorem q1733 : (Jvm.Cond.castable "TalkingPlots$Row" "TalkingPlots$Sum") ∈ lw_tbl := lw_at lw_m7 188 rfl
theorem in_X9 : ∀ w ∈ wsX90, w ∈ lw_all := lw_in wsX90 [561, 563, 565] (by decide +kernel) (by decide +kernel)
/-! TalkingPlots$Number -/
set_option maxRecDepth 100000
def RX10 : String := "TalkingPlots$Number"
def TX10 : u_T := fun k => match k with
  | _ => ("TalkingPlots$Number", "n", "I", true)
def tyX10 : Nat → FieldType := fun k => match k with
  | _ => .int
abbrev wsX100 : List Cond := u_ws RX10 TX10 1
theorem nmX10 : ∀ a, a < 1 → ∀ b, b < 1 → a ≠ b → (TX10 a).2.1 ≠ (TX10 b).2.1 := by decide +kernel
theorem tyX10_ok : ∀ k, k < 1 → parseFieldDescriptor (TX10 k).2.2.1 = some (tyX10 k) := by decide +kernel
abbrev cX10_init : ByteArray := prog_8_method_1_code
def yX10_init : MethodName := ⟨RX10, "<init>", "(I)V"⟩
def dkwX10_init_0 : List UInt8 := [42, 183, 0, 1, 42, 27, 181, 0, 7, 177]
abbrev dktX10_init_0 : List UInt8 := dkwX10_init_0 ++ []
theorem dksX10_init_0 : cX10_init.data.toList.drop 0 = dktX10_init_0 := by decide +kernel
theorem dX10_init_0 : decode cX10_init 0 = .ok (.aload_n 0, 1) := dk_42 (dk_at dksX10_init_0 0 rfl rfl)
theorem dX10_init_1 : decode cX10_init 1 = .ok (.invokespecial 1, 3) := dk_183 0 1 (dk_at dksX10_init_0 1 rfl rfl)
theorem dX10_init_4 : decode cX10_init 4 = .ok (.aload_n 0, 1) := dk_42 (dk_at dksX10_init_0 4 rfl rfl)
theorem dX10_init_5 : decode cX10_init 5 = .ok (.iload_n 1, 1) := dk_27 (dk_at dksX10_init_0 5 rfl rfl)
theorem dX10_init_6 : decode cX10_init 6 = .ok (.putfield 7, 3) := dk_181 0 7 (dk_at dksX10_init_0 6 rfl rfl)
theorem dX10_init_9 : decode cX10_init 9 = .ok (.return_, 1) := dk_177 (dk_at dksX10_init_0 9 rfl rfl)
abbrev cX10_worth : ByteArray := prog_8_method_2_code
def yX10_worth : MethodName := ⟨RX10, "worth", "(LTalkingPlots$Asked;)I"⟩
theorem dX10_worth_0 : decode cX10_worth 0 = .ok (.aload_n 0, 1) := by decide +kernel
theorem dX10_worth_1 : decode cX10_worth 1 = .ok (.getfield 7, 3) := by decide +kernel
theorem dX10_worth_4 : decode cX10_worth 4 = .ok (.ireturn, 1) := by decide +kernel
theorem q122 : (Jvm.Cond.initialized "TalkingPlots$Number") ∈ lw_all := lw_g (lw_at lw_m1 17 rfl) rfl
theorem q526 : (Jvm.Cond.instantiable "TalkingPlots$Number" (1 : Nat)) ∈ lw_all := lw_g (lw_at lw_m2 181 rfl) rfl
theorem q532 : (Jvm.Cond.instanceMethod ({ cls := "TalkingPlots$Number", name := "<init>", desc := "(I)V" } : Jvm.MethodName)) ∈ lw_all := lw_g (lw_at lw_m2 187 rfl) rfl
theorem q533 : (Jvm.Cond.code ({ cls := "TalkingPlots$Number", name := "<init>", desc := "(I)V" } : Jvm.MethodName) prog_8_method_1_code (2 : Nat) (Option.none : Option Jvm.ClassFile.FieldType)) ∈ lw_all := lw_g (lw_at lw_m2 188 rfl) rfl
theorem q534 : (Jvm.Cond.methodLinkNest "TalkingPlots$Number" (1 : Nat) ({ cls := "TalkingPlots$Sum", name := "<init>", desc := "()V" } : Jvm.MethodName) "TalkingPlots") ∈ lw_tbl := lw_at lw_m2 189 rfl
theorem q538 : (Jvm.Cond.fieldLink "TalkingPlots$Number" (7 : Nat) "TalkingPlots$Number" "n" "I") ∈ lw_all := lw_g (lw_at lw_m2 193 rfl) rfl
theorem q539 : (Jvm.Cond.laysFinal "TalkingPlots$Number" "TalkingPlots$Number" "n" "I") ∈ lw_all := lw_g (lw_at lw_m2 194 rfl) rfl
theorem q540 : (Jvm.Cond.soleField "TalkingPlots$Number" "n") ∈ lw_all := lw_g (lw_at lw_m2 195 rfl) rfl
theorem q541 : (Jvm.Cond.superclass "TalkingPlots$Number" "TalkingPlots$Sum") ∈ lw_all := lw_g (lw_at lw_m2 196 rfl) rfl
theorem q877 : (Jvm.Cond.selects "TalkingPlots$Number" ({ cls := "TalkingPlots$Sum", name := "worth", desc := "(LTalkingPlots$Asked;)I" } : Jvm.MethodName) ({ cls := "TalkingPlots$Number", name := "worth", desc := "(LTalkingPlots$Asked;)I" } : Jvm.MethodName)) ∈ lw_all := lw_g (lw_at lw_m4 52 rfl) rfl
theorem q878 : (Jvm.Cond.instanceMethod ({ cls := "TalkingPlots$Number", name := "worth", desc := "(LTalkingPlots$Asked;)I" } : Jvm.MethodName)) ∈ lw_all := lw_g (lw_at lw_m4 53 rfl) rfl
theorem q879 : (Jvm.Cond.code ({ cls := "TalkingPlots$Number", name := "worth", desc := "(LTalkingPlots$Asked;)I" } : Jvm.MethodName) prog_8_method_2_code (2 : Nat) (Option.some Jvm.ClassFile.FieldType.int)) ∈ lw_all := lw_g (lw_at lw_m4 54 rfl) rfl
theorem q924 : (Jvm.Cond.selects "TalkingPlots$Number" ({ cls := "TalkingPlots$Sum", name := "told", desc := "(LTalkingPlots$Asked;)I" } : Jvm.MethodName) ({ cls := "TalkingPlots$Sum", name := "told", desc := "(LTalkingPlots$Asked;)I" } : Jvm.MethodName)) ∈ lw_all := lw_g (lw_at lw_m4 99 rfl) rfl
theorem q1734 : (Jvm.Cond.castable "TalkingPlots$Number" "TalkingPlots$Sum") ∈ lw_tbl := lw_at lw_m7 189 rfl
theorem in_X10 : ∀ w ∈ wsX100, w ∈ lw_all := lw_in wsX100 [539] (by decide +kernel) (by decide +kernel)
/-! TalkingPlots$Letter -/
set_option maxRecDepth 100000
def RX11 : String := "TalkingPlots$Letter"
def TX11 : u_T := fun k => match k with
  | _ => ("TalkingPlots$Letter", "letter", "I", true)
def tyX11 : Nat → FieldType := fun k => match k with
  | _ => .int
abbrev wsX110 : List Cond := u_ws RX11 TX11 1
theorem nmX11 : ∀ a, a < 1 → ∀ b, b < 1 → a ≠ b → (TX11 a).2.1 ≠ (TX11 b).2.1 := by decide +kernel
theorem tyX11_ok : ∀ k, k < 1 → parseFieldDescriptor (TX11 k).2.2.1 = some (tyX11 k) := by decide +kernel
abbrev cX11_init : ByteArray := prog_5_method_1_code
def yX11_init : MethodName := ⟨RX11, "<init>", "(I)V"⟩
def dkwX11_init_0 : List UInt8 := [42, 183, 0, 1, 42, 27, 181, 0, 7, 177]
abbrev dktX11_init_0 : List UInt8 := dkwX11_init_0 ++ []
theorem dksX11_init_0 : cX11_init.data.toList.drop 0 = dktX11_init_0 := by decide +kernel
theorem dX11_init_0 : decode cX11_init 0 = .ok (.aload_n 0, 1) := dk_42 (dk_at dksX11_init_0 0 rfl rfl)
theorem dX11_init_1 : decode cX11_init 1 = .ok (.invokespecial 1, 3) := dk_183 0 1 (dk_at dksX11_init_0 1 rfl rfl)
theorem dX11_init_4 : decode cX11_init 4 = .ok (.aload_n 0, 1) := dk_42 (dk_at dksX11_init_0 4 rfl rfl)
theorem dX11_init_5 : decode cX11_init 5 = .ok (.iload_n 1, 1) := dk_27 (dk_at dksX11_init_0 5 rfl rfl)
theorem dX11_init_6 : decode cX11_init 6 = .ok (.putfield 7, 3) := dk_181 0 7 (dk_at dksX11_init_0 6 rfl rfl)
theorem dX11_init_9 : decode cX11_init 9 = .ok (.return_, 1) := dk_177 (dk_at dksX11_init_0 9 rfl rfl)
abbrev cX11_worth : ByteArray := prog_5_method_2_code
def yX11_worth : MethodName := ⟨RX11, "worth", "(LTalkingPlots$Asked;)I"⟩
def dkwX11_worth_0 : List UInt8 := [43, 42, 180, 0, 7, 182, 0, 13, 172]
abbrev dktX11_worth_0 : List UInt8 := dkwX11_worth_0 ++ []
theorem dksX11_worth_0 : cX11_worth.data.toList.drop 0 = dktX11_worth_0 := by decide +kernel
theorem dX11_worth_0 : decode cX11_worth 0 = .ok (.aload_n 1, 1) := dk_43 (dk_at dksX11_worth_0 0 rfl rfl)
theorem dX11_worth_1 : decode cX11_worth 1 = .ok (.aload_n 0, 1) := dk_42 (dk_at dksX11_worth_0 1 rfl rfl)
theorem dX11_worth_2 : decode cX11_worth 2 = .ok (.getfield 7, 3) := dk_180 0 7 (dk_at dksX11_worth_0 2 rfl rfl)
theorem dX11_worth_5 : decode cX11_worth 5 = .ok (.invokevirtual 13, 3) := dk_182 0 13 (dk_at dksX11_worth_0 5 rfl rfl)
theorem dX11_worth_8 : decode cX11_worth 8 = .ok (.ireturn, 1) := dk_172 (dk_at dksX11_worth_0 8 rfl rfl)
theorem q123 : (Jvm.Cond.initialized "TalkingPlots$Letter") ∈ lw_all := lw_g (lw_at lw_m1 18 rfl) rfl
theorem q544 : (Jvm.Cond.instantiable "TalkingPlots$Letter" (1 : Nat)) ∈ lw_all := lw_g (lw_at lw_m2 199 rfl) rfl
theorem q546 : (Jvm.Cond.instanceMethod ({ cls := "TalkingPlots$Letter", name := "<init>", desc := "(I)V" } : Jvm.MethodName)) ∈ lw_all := lw_g (lw_at lw_m2 201 rfl) rfl
theorem q547 : (Jvm.Cond.code ({ cls := "TalkingPlots$Letter", name := "<init>", desc := "(I)V" } : Jvm.MethodName) prog_5_method_1_code (2 : Nat) (Option.none : Option Jvm.ClassFile.FieldType)) ∈ lw_all := lw_g (lw_at lw_m2 202 rfl) rfl
theorem q548 : (Jvm.Cond.methodLinkNest "TalkingPlots$Letter" (1 : Nat) ({ cls := "TalkingPlots$Sum", name := "<init>", desc := "()V" } : Jvm.MethodName) "TalkingPlots") ∈ lw_tbl := lw_at lw_m2 203 rfl
theorem q549 : (Jvm.Cond.fieldLink "TalkingPlots$Letter" (7 : Nat) "TalkingPlots$Letter" "letter" "I") ∈ lw_all := lw_g (lw_at lw_m2 204 rfl) rfl
theorem q550 : (Jvm.Cond.laysFinal "TalkingPlots$Letter" "TalkingPlots$Letter" "letter" "I") ∈ lw_all := lw_g (lw_at lw_m2 205 rfl) rfl
theorem q551 : (Jvm.Cond.soleField "TalkingPlots$Letter" "letter") ∈ lw_all := lw_g (lw_at lw_m2 206 rfl) rfl
theorem q552 : (Jvm.Cond.superclass "TalkingPlots$Letter" "TalkingPlots$Sum") ∈ lw_all := lw_g (lw_at lw_m2 207 rfl) rfl
theorem q868 : (Jvm.Cond.selects "TalkingPlots$Letter" ({ cls := "TalkingPlots$Sum", name := "worth", desc := "(LTalkingPlots$Asked;)I" } : Jvm.MethodName) ({ cls := "TalkingPlots$Letter", name := "worth", desc := "(LTalkingPlots$Asked;)I" } : Jvm.MethodName)) ∈ lw_all := lw_g (lw_at lw_m4 43 rfl) rfl
theorem q869 : (Jvm.Cond.instanceMethod ({ cls := "TalkingPlots$Letter", name := "worth", desc := "(LTalkingPlots$Asked;)I" } : Jvm.MethodName)) ∈ lw_all := lw_g (lw_at lw_m4 44 rfl) rfl
theorem q870 : (Jvm.Cond.code ({ cls := "TalkingPlots$Letter", name := "worth", desc := "(LTalkingPlots$Asked;)I" } : Jvm.MethodName) prog_5_method_2_code (2 : Nat) (Option.some Jvm.ClassFile.FieldType.int)) ∈ lw_all := lw_g (lw_at lw_m4 45 rfl) rfl
theorem q871 : (Jvm.Cond.methodLink "TalkingPlots$Letter" (13 : Nat) ({ cls := "TalkingPlots$Asked", name := "value", desc := "(I)I" } : Jvm.MethodName)) ∈ lw_all := lw_g (lw_at lw_m4 46 rfl) rfl
theorem q923 : (Jvm.Cond.selects "TalkingPlots$Letter" ({ cls := "TalkingPlots$Sum", name := "told", desc := "(LTalkingPlots$Asked;)I" } : Jvm.MethodName) ({ cls := "TalkingPlots$Sum", name := "told", desc := "(LTalkingPlots$Asked;)I" } : Jvm.MethodName)) ∈ lw_all := lw_g (lw_at lw_m4 98 rfl) rfl
theorem q1735 : (Jvm.Cond.castable "TalkingPlots$Letter" "TalkingPlots$Sum") ∈ lw_tbl := lw_at lw_m7 190 rfl
theorem in_X11 : ∀ w ∈ wsX110, w ∈ lw_all := lw_in wsX110 [550] (by decide +kernel) (by decide +kernel)
/-! TalkingPlots$Condition -/
set_option maxRecDepth 100000
def RX12 : String := "TalkingPlots$Condition"
abbrev cX12_init : ByteArray := prog_4_method_1_code
def yX12_init : MethodName := ⟨RX12, "<init>", "()V"⟩
theorem dX12_init_0 : decode cX12_init 0 = .ok (.aload_n 0, 1) := by decide +kernel
theorem dX12_init_1 : decode cX12_init 1 = .ok (.invokespecial 1, 3) := by decide +kernel
theorem dX12_init_4 : decode cX12_init 4 = .ok (.return_, 1) := by decide +kernel
theorem q124 : (Jvm.Cond.initialized "TalkingPlots$Condition") ∈ lw_all := lw_g (lw_at lw_m1 19 rfl) rfl
theorem q588 : (Jvm.Cond.instanceMethod ({ cls := "TalkingPlots$Condition", name := "<init>", desc := "()V" } : Jvm.MethodName)) ∈ lw_all := lw_g (lw_at lw_m3 3 rfl) rfl
theorem q589 : (Jvm.Cond.code ({ cls := "TalkingPlots$Condition", name := "<init>", desc := "()V" } : Jvm.MethodName) prog_4_method_1_code (1 : Nat) (Option.none : Option Jvm.ClassFile.FieldType)) ∈ lw_all := lw_g (lw_at lw_m3 4 rfl) rfl
theorem q590 : (Jvm.Cond.methodLink "TalkingPlots$Condition" (1 : Nat) ({ cls := "java/lang/Object", name := "<init>", desc := "()V" } : Jvm.MethodName)) ∈ lw_all := lw_g (lw_at lw_m3 5 rfl) rfl
theorem q860 : (Jvm.Cond.declares ({ cls := "TalkingPlots$Condition", name := "holds", desc := "(LTalkingPlots$Asked;)I" } : Jvm.MethodName)) ∈ lw_tbl := lw_at lw_m4 35 rfl
theorem q861 : (Jvm.Cond.sameMethod "TalkingPlots$Condition" "TalkingPlots$Condition" "holds" "(LTalkingPlots$Asked;)I") ∈ lw_all := lw_g (lw_at lw_m4 36 rfl) rfl
/-! TalkingPlots$Some -/
set_option maxRecDepth 100000
def RX13 : String := "TalkingPlots$Some"
def TX13 : u_T := fun k => match k with
  | 0 => ("TalkingPlots$Some", "part", "LTalkingPlots$Condition;", true)
  | 1 => ("TalkingPlots$Some", "decides", "I", true)
  | _ => ("TalkingPlots$Some", "next", "LTalkingPlots$Some;", false)
def tyX13 : Nat → FieldType := fun k => match k with
  | 0 => .object "TalkingPlots$Condition"
  | 1 => .int
  | _ => .object "TalkingPlots$Some"
abbrev wsX130 : List Cond := u_ws RX13 TX13 3
theorem nmX13 : ∀ a, a < 3 → ∀ b, b < 3 → a ≠ b → (TX13 a).2.1 ≠ (TX13 b).2.1 := by decide +kernel
theorem tyX13_ok : ∀ k, k < 3 → parseFieldDescriptor (TX13 k).2.2.1 = some (tyX13 k) := by decide +kernel
abbrev cX13_init : ByteArray := prog_14_method_1_code
def yX13_init : MethodName := ⟨RX13, "<init>", "(LTalkingPlots$Condition;I)V"⟩
def dkwX13_init_0 : List UInt8 := [42, 183, 0, 1, 42, 43, 181, 0, 7, 42, 28, 181, 0, 13, 177]
abbrev dktX13_init_0 : List UInt8 := dkwX13_init_0 ++ []
theorem dksX13_init_0 : cX13_init.data.toList.drop 0 = dktX13_init_0 := by decide +kernel
theorem dX13_init_0 : decode cX13_init 0 = .ok (.aload_n 0, 1) := dk_42 (dk_at dksX13_init_0 0 rfl rfl)
theorem dX13_init_1 : decode cX13_init 1 = .ok (.invokespecial 1, 3) := dk_183 0 1 (dk_at dksX13_init_0 1 rfl rfl)
theorem dX13_init_4 : decode cX13_init 4 = .ok (.aload_n 0, 1) := dk_42 (dk_at dksX13_init_0 4 rfl rfl)
theorem dX13_init_5 : decode cX13_init 5 = .ok (.aload_n 1, 1) := dk_43 (dk_at dksX13_init_0 5 rfl rfl)
theorem dX13_init_6 : decode cX13_init 6 = .ok (.putfield 7, 3) := dk_181 0 7 (dk_at dksX13_init_0 6 rfl rfl)
theorem dX13_init_9 : decode cX13_init 9 = .ok (.aload_n 0, 1) := dk_42 (dk_at dksX13_init_0 9 rfl rfl)
theorem dX13_init_10 : decode cX13_init 10 = .ok (.iload_n 2, 1) := dk_28 (dk_at dksX13_init_0 10 rfl rfl)
theorem dX13_init_11 : decode cX13_init 11 = .ok (.putfield 13, 3) := dk_181 0 13 (dk_at dksX13_init_0 11 rfl rfl)
theorem dX13_init_14 : decode cX13_init 14 = .ok (.return_, 1) := dk_177 (dk_at dksX13_init_0 14 rfl rfl)
abbrev cX13_holds : ByteArray := prog_14_method_2_code
def yX13_holds : MethodName := ⟨RX13, "holds", "(LTalkingPlots$Asked;)I"⟩
def dkwX13_holds_1 : List UInt8 := [180, 0, 13, 160, 0, 5, 29, 172, 44, 180, 0, 21, 77, 167, 255, 223, 4, 42, 180, 0, 13, 100, 172]
abbrev dktX13_holds_1 : List UInt8 := dkwX13_holds_1 ++ []
def dkwX13_holds_0 : List UInt8 := [42, 77, 44, 198, 0, 35, 44, 180, 0, 7, 43, 182, 0, 17, 62, 29, 5, 159, 0, 11, 29, 42]
abbrev dktX13_holds_0 : List UInt8 := dkwX13_holds_0 ++ dktX13_holds_1
theorem dksX13_holds_0 : cX13_holds.data.toList.drop 0 = dktX13_holds_0 := by decide +kernel
theorem dksX13_holds_1 : cX13_holds.data.toList.drop 22 = dktX13_holds_1 := dk_seg dksX13_holds_0 22 rfl rfl
theorem dX13_holds_0 : decode cX13_holds 0 = .ok (.aload_n 0, 1) := dk_42 (dk_at dksX13_holds_0 0 rfl rfl)
theorem dX13_holds_1 : decode cX13_holds 1 = .ok (.astore_n 2, 1) := dk_77 (dk_at dksX13_holds_0 1 rfl rfl)
theorem dX13_holds_2 : decode cX13_holds 2 = .ok (.aload_n 2, 1) := dk_44 (dk_at dksX13_holds_0 2 rfl rfl)
theorem dX13_holds_3 : decode cX13_holds 3 = .ok (.ifnull 35, 3) := dk_198 0 35 (dk_at dksX13_holds_0 3 rfl rfl)
theorem dX13_holds_6 : decode cX13_holds 6 = .ok (.aload_n 2, 1) := dk_44 (dk_at dksX13_holds_0 6 rfl rfl)
theorem dX13_holds_7 : decode cX13_holds 7 = .ok (.getfield 7, 3) := dk_180 0 7 (dk_at dksX13_holds_0 7 rfl rfl)
theorem dX13_holds_10 : decode cX13_holds 10 = .ok (.aload_n 1, 1) := dk_43 (dk_at dksX13_holds_0 10 rfl rfl)
theorem dX13_holds_11 : decode cX13_holds 11 = .ok (.invokevirtual 17, 3) := dk_182 0 17 (dk_at dksX13_holds_0 11 rfl rfl)
theorem dX13_holds_14 : decode cX13_holds 14 = .ok (.istore_n 3, 1) := dk_62 (dk_at dksX13_holds_0 14 rfl rfl)
theorem dX13_holds_15 : decode cX13_holds 15 = .ok (.iload_n 3, 1) := dk_29 (dk_at dksX13_holds_0 15 rfl rfl)
theorem dX13_holds_16 : decode cX13_holds 16 = .ok (.iconst 2, 1) := dk_5 (dk_at dksX13_holds_0 16 rfl rfl)
theorem dX13_holds_17 : decode cX13_holds 17 = .ok (.if_icmp .eq 11, 3) := dk_159 0 11 (dk_at dksX13_holds_0 17 rfl rfl)
theorem dX13_holds_20 : decode cX13_holds 20 = .ok (.iload_n 3, 1) := dk_29 (dk_at dksX13_holds_0 20 rfl rfl)
theorem dX13_holds_21 : decode cX13_holds 21 = .ok (.aload_n 0, 1) := dk_42 (dk_at dksX13_holds_0 21 rfl rfl)
theorem dX13_holds_22 : decode cX13_holds 22 = .ok (.getfield 13, 3) := dk_180 0 13 (dk_at dksX13_holds_1 0 rfl rfl)
theorem dX13_holds_25 : decode cX13_holds 25 = .ok (.if_icmp .ne 5, 3) := dk_160 0 5 (dk_at dksX13_holds_1 3 rfl rfl)
theorem dX13_holds_28 : decode cX13_holds 28 = .ok (.iload_n 3, 1) := dk_29 (dk_at dksX13_holds_1 6 rfl rfl)
theorem dX13_holds_29 : decode cX13_holds 29 = .ok (.ireturn, 1) := dk_172 (dk_at dksX13_holds_1 7 rfl rfl)
theorem dX13_holds_30 : decode cX13_holds 30 = .ok (.aload_n 2, 1) := dk_44 (dk_at dksX13_holds_1 8 rfl rfl)
theorem dX13_holds_31 : decode cX13_holds 31 = .ok (.getfield 21, 3) := dk_180 0 21 (dk_at dksX13_holds_1 9 rfl rfl)
theorem dX13_holds_34 : decode cX13_holds 34 = .ok (.astore_n 2, 1) := dk_77 (dk_at dksX13_holds_1 12 rfl rfl)
theorem dX13_holds_35 : decode cX13_holds 35 = .ok (.goto (-33), 3) := dk_167 255 223 (dk_at dksX13_holds_1 13 rfl rfl)
theorem dX13_holds_38 : decode cX13_holds 38 = .ok (.iconst 1, 1) := dk_4 (dk_at dksX13_holds_1 16 rfl rfl)
theorem dX13_holds_39 : decode cX13_holds 39 = .ok (.aload_n 0, 1) := dk_42 (dk_at dksX13_holds_1 17 rfl rfl)
theorem dX13_holds_40 : decode cX13_holds 40 = .ok (.getfield 13, 3) := dk_180 0 13 (dk_at dksX13_holds_1 18 rfl rfl)
theorem dX13_holds_43 : decode cX13_holds 43 = .ok (.isub, 1) := dk_100 (dk_at dksX13_holds_1 21 rfl rfl)
theorem dX13_holds_44 : decode cX13_holds 44 = .ok (.ireturn, 1) := dk_172 (dk_at dksX13_holds_1 22 rfl rfl)
theorem q125 : (Jvm.Cond.initialized "TalkingPlots$Some") ∈ lw_all := lw_g (lw_at lw_m1 20 rfl) rfl
theorem q573 : (Jvm.Cond.instantiable "TalkingPlots$Some" (3 : Nat)) ∈ lw_all := lw_g (lw_at lw_m2 228 rfl) rfl
theorem q612 : (Jvm.Cond.instanceMethod ({ cls := "TalkingPlots$Some", name := "<init>", desc := "(LTalkingPlots$Condition;I)V" } : Jvm.MethodName)) ∈ lw_all := lw_g (lw_at lw_m3 27 rfl) rfl
theorem q613 : (Jvm.Cond.code ({ cls := "TalkingPlots$Some", name := "<init>", desc := "(LTalkingPlots$Condition;I)V" } : Jvm.MethodName) prog_14_method_1_code (3 : Nat) (Option.none : Option Jvm.ClassFile.FieldType)) ∈ lw_all := lw_g (lw_at lw_m3 28 rfl) rfl
theorem q614 : (Jvm.Cond.methodLinkNest "TalkingPlots$Some" (1 : Nat) ({ cls := "TalkingPlots$Condition", name := "<init>", desc := "()V" } : Jvm.MethodName) "TalkingPlots") ∈ lw_tbl := lw_at lw_m3 29 rfl
theorem q615 : (Jvm.Cond.fieldLink "TalkingPlots$Some" (7 : Nat) "TalkingPlots$Some" "part" "LTalkingPlots$Condition;") ∈ lw_all := lw_g (lw_at lw_m3 30 rfl) rfl
theorem q616 : (Jvm.Cond.fieldLink "TalkingPlots$Some" (13 : Nat) "TalkingPlots$Some" "decides" "I") ∈ lw_all := lw_g (lw_at lw_m3 31 rfl) rfl
theorem q617 : (Jvm.Cond.fieldLink "TalkingPlots$Some" (21 : Nat) "TalkingPlots$Some" "next" "LTalkingPlots$Some;") ∈ lw_all := lw_g (lw_at lw_m3 32 rfl) rfl
theorem q619 : (Jvm.Cond.laysFinal "TalkingPlots$Some" "TalkingPlots$Some" "part" "LTalkingPlots$Condition;") ∈ lw_all := lw_g (lw_at lw_m3 34 rfl) rfl
theorem q620 : (Jvm.Cond.soleField "TalkingPlots$Some" "part") ∈ lw_all := lw_g (lw_at lw_m3 35 rfl) rfl
theorem q621 : (Jvm.Cond.laysFinal "TalkingPlots$Some" "TalkingPlots$Some" "decides" "I") ∈ lw_all := lw_g (lw_at lw_m3 36 rfl) rfl
theorem q622 : (Jvm.Cond.soleField "TalkingPlots$Some" "decides") ∈ lw_all := lw_g (lw_at lw_m3 37 rfl) rfl
theorem q623 : (Jvm.Cond.lays "TalkingPlots$Some" "TalkingPlots$Some" "next" "LTalkingPlots$Some;") ∈ lw_all := lw_g (lw_at lw_m3 38 rfl) rfl
theorem q624 : (Jvm.Cond.soleField "TalkingPlots$Some" "next") ∈ lw_all := lw_g (lw_at lw_m3 39 rfl) rfl
theorem q625 : (Jvm.Cond.superclass "TalkingPlots$Some" "TalkingPlots$Condition") ∈ lw_all := lw_g (lw_at lw_m3 40 rfl) rfl
theorem q891 : (Jvm.Cond.instanceMethod ({ cls := "TalkingPlots$Some", name := "holds", desc := "(LTalkingPlots$Asked;)I" } : Jvm.MethodName)) ∈ lw_all := lw_g (lw_at lw_m4 66 rfl) rfl
theorem q892 : (Jvm.Cond.code ({ cls := "TalkingPlots$Some", name := "holds", desc := "(LTalkingPlots$Asked;)I" } : Jvm.MethodName) prog_14_method_2_code (4 : Nat) (Option.some Jvm.ClassFile.FieldType.int)) ∈ lw_all := lw_g (lw_at lw_m4 67 rfl) rfl
theorem q893 : (Jvm.Cond.methodLink "TalkingPlots$Some" (17 : Nat) ({ cls := "TalkingPlots$Condition", name := "holds", desc := "(LTalkingPlots$Asked;)I" } : Jvm.MethodName)) ∈ lw_all := lw_g (lw_at lw_m4 68 rfl) rfl
theorem q894 : (Jvm.Cond.selects "TalkingPlots$Some" ({ cls := "TalkingPlots$Condition", name := "holds", desc := "(LTalkingPlots$Asked;)I" } : Jvm.MethodName) ({ cls := "TalkingPlots$Some", name := "holds", desc := "(LTalkingPlots$Asked;)I" } : Jvm.MethodName)) ∈ lw_all := lw_g (lw_at lw_m4 69 rfl) rfl
theorem q1736 : (Jvm.Cond.castable "TalkingPlots$Some" "TalkingPlots$Condition") ∈ lw_tbl := lw_at lw_m7 191 rfl
theorem in_X13 : ∀ w ∈ wsX130, w ∈ lw_all := lw_in wsX130 [619, 621, 623] (by decide +kernel) (by decide +kernel)
/-! TalkingPlots$Not -/
set_option maxRecDepth 100000
def RX14 : String := "TalkingPlots$Not"
def TX14 : u_T := fun k => match k with
  | _ => ("TalkingPlots$Not", "x", "LTalkingPlots$Condition;", true)
def tyX14 : Nat → FieldType := fun k => match k with
  | _ => .object "TalkingPlots$Condition"
abbrev wsX140 : List Cond := u_ws RX14 TX14 1
theorem nmX14 : ∀ a, a < 1 → ∀ b, b < 1 → a ≠ b → (TX14 a).2.1 ≠ (TX14 b).2.1 := by decide +kernel
theorem tyX14_ok : ∀ k, k < 1 → parseFieldDescriptor (TX14 k).2.2.1 = some (tyX14 k) := by decide +kernel
abbrev cX14_init : ByteArray := prog_7_method_1_code
def yX14_init : MethodName := ⟨RX14, "<init>", "(LTalkingPlots$Condition;)V"⟩
def dkwX14_init_0 : List UInt8 := [42, 183, 0, 1, 42, 43, 181, 0, 7, 177]
abbrev dktX14_init_0 : List UInt8 := dkwX14_init_0 ++ []
theorem dksX14_init_0 : cX14_init.data.toList.drop 0 = dktX14_init_0 := by decide +kernel
theorem dX14_init_0 : decode cX14_init 0 = .ok (.aload_n 0, 1) := dk_42 (dk_at dksX14_init_0 0 rfl rfl)
theorem dX14_init_1 : decode cX14_init 1 = .ok (.invokespecial 1, 3) := dk_183 0 1 (dk_at dksX14_init_0 1 rfl rfl)
theorem dX14_init_4 : decode cX14_init 4 = .ok (.aload_n 0, 1) := dk_42 (dk_at dksX14_init_0 4 rfl rfl)
theorem dX14_init_5 : decode cX14_init 5 = .ok (.aload_n 1, 1) := dk_43 (dk_at dksX14_init_0 5 rfl rfl)
theorem dX14_init_6 : decode cX14_init 6 = .ok (.putfield 7, 3) := dk_181 0 7 (dk_at dksX14_init_0 6 rfl rfl)
theorem dX14_init_9 : decode cX14_init 9 = .ok (.return_, 1) := dk_177 (dk_at dksX14_init_0 9 rfl rfl)
abbrev cX14_holds : ByteArray := prog_7_method_2_code
def yX14_holds : MethodName := ⟨RX14, "holds", "(LTalkingPlots$Asked;)I"⟩
def dkwX14_holds_0 : List UInt8 := [42, 180, 0, 7, 43, 182, 0, 13, 61, 28, 5, 160, 0, 7, 5, 167, 0, 6, 4, 28, 100, 172]
abbrev dktX14_holds_0 : List UInt8 := dkwX14_holds_0 ++ []
theorem dksX14_holds_0 : cX14_holds.data.toList.drop 0 = dktX14_holds_0 := by decide +kernel
theorem dX14_holds_0 : decode cX14_holds 0 = .ok (.aload_n 0, 1) := dk_42 (dk_at dksX14_holds_0 0 rfl rfl)
theorem dX14_holds_1 : decode cX14_holds 1 = .ok (.getfield 7, 3) := dk_180 0 7 (dk_at dksX14_holds_0 1 rfl rfl)
theorem dX14_holds_4 : decode cX14_holds 4 = .ok (.aload_n 1, 1) := dk_43 (dk_at dksX14_holds_0 4 rfl rfl)
theorem dX14_holds_5 : decode cX14_holds 5 = .ok (.invokevirtual 13, 3) := dk_182 0 13 (dk_at dksX14_holds_0 5 rfl rfl)
theorem dX14_holds_8 : decode cX14_holds 8 = .ok (.istore_n 2, 1) := dk_61 (dk_at dksX14_holds_0 8 rfl rfl)
theorem dX14_holds_9 : decode cX14_holds 9 = .ok (.iload_n 2, 1) := dk_28 (dk_at dksX14_holds_0 9 rfl rfl)
theorem dX14_holds_10 : decode cX14_holds 10 = .ok (.iconst 2, 1) := dk_5 (dk_at dksX14_holds_0 10 rfl rfl)
theorem dX14_holds_11 : decode cX14_holds 11 = .ok (.if_icmp .ne 7, 3) := dk_160 0 7 (dk_at dksX14_holds_0 11 rfl rfl)
theorem dX14_holds_14 : decode cX14_holds 14 = .ok (.iconst 2, 1) := dk_5 (dk_at dksX14_holds_0 14 rfl rfl)
theorem dX14_holds_15 : decode cX14_holds 15 = .ok (.goto 6, 3) := dk_167 0 6 (dk_at dksX14_holds_0 15 rfl rfl)
theorem dX14_holds_18 : decode cX14_holds 18 = .ok (.iconst 1, 1) := dk_4 (dk_at dksX14_holds_0 18 rfl rfl)
theorem dX14_holds_19 : decode cX14_holds 19 = .ok (.iload_n 2, 1) := dk_28 (dk_at dksX14_holds_0 19 rfl rfl)
theorem dX14_holds_20 : decode cX14_holds 20 = .ok (.isub, 1) := dk_100 (dk_at dksX14_holds_0 20 rfl rfl)
theorem dX14_holds_21 : decode cX14_holds 21 = .ok (.ireturn, 1) := dk_172 (dk_at dksX14_holds_0 21 rfl rfl)
theorem q126 : (Jvm.Cond.initialized "TalkingPlots$Not") ∈ lw_all := lw_g (lw_at lw_m1 21 rfl) rfl
theorem q583 : (Jvm.Cond.instantiable "TalkingPlots$Not" (1 : Nat)) ∈ lw_all := lw_g (lw_at lw_m2 238 rfl) rfl
theorem q585 : (Jvm.Cond.instanceMethod ({ cls := "TalkingPlots$Not", name := "<init>", desc := "(LTalkingPlots$Condition;)V" } : Jvm.MethodName)) ∈ lw_all := lw_g (lw_at lw_m3 0 rfl) rfl
theorem q586 : (Jvm.Cond.code ({ cls := "TalkingPlots$Not", name := "<init>", desc := "(LTalkingPlots$Condition;)V" } : Jvm.MethodName) prog_7_method_1_code (2 : Nat) (Option.none : Option Jvm.ClassFile.FieldType)) ∈ lw_all := lw_g (lw_at lw_m3 1 rfl) rfl
theorem q587 : (Jvm.Cond.methodLinkNest "TalkingPlots$Not" (1 : Nat) ({ cls := "TalkingPlots$Condition", name := "<init>", desc := "()V" } : Jvm.MethodName) "TalkingPlots") ∈ lw_tbl := lw_at lw_m3 2 rfl
theorem q591 : (Jvm.Cond.fieldLink "TalkingPlots$Not" (7 : Nat) "TalkingPlots$Not" "x" "LTalkingPlots$Condition;") ∈ lw_all := lw_g (lw_at lw_m3 6 rfl) rfl
theorem q592 : (Jvm.Cond.laysFinal "TalkingPlots$Not" "TalkingPlots$Not" "x" "LTalkingPlots$Condition;") ∈ lw_all := lw_g (lw_at lw_m3 7 rfl) rfl
theorem q593 : (Jvm.Cond.soleField "TalkingPlots$Not" "x") ∈ lw_all := lw_g (lw_at lw_m3 8 rfl) rfl
theorem q594 : (Jvm.Cond.superclass "TalkingPlots$Not" "TalkingPlots$Condition") ∈ lw_all := lw_g (lw_at lw_m3 9 rfl) rfl
theorem q887 : (Jvm.Cond.selects "TalkingPlots$Not" ({ cls := "TalkingPlots$Condition", name := "holds", desc := "(LTalkingPlots$Asked;)I" } : Jvm.MethodName) ({ cls := "TalkingPlots$Not", name := "holds", desc := "(LTalkingPlots$Asked;)I" } : Jvm.MethodName)) ∈ lw_all := lw_g (lw_at lw_m4 62 rfl) rfl
theorem q888 : (Jvm.Cond.instanceMethod ({ cls := "TalkingPlots$Not", name := "holds", desc := "(LTalkingPlots$Asked;)I" } : Jvm.MethodName)) ∈ lw_all := lw_g (lw_at lw_m4 63 rfl) rfl
theorem q889 : (Jvm.Cond.code ({ cls := "TalkingPlots$Not", name := "holds", desc := "(LTalkingPlots$Asked;)I" } : Jvm.MethodName) prog_7_method_2_code (3 : Nat) (Option.some Jvm.ClassFile.FieldType.int)) ∈ lw_all := lw_g (lw_at lw_m4 64 rfl) rfl
theorem q890 : (Jvm.Cond.methodLink "TalkingPlots$Not" (13 : Nat) ({ cls := "TalkingPlots$Condition", name := "holds", desc := "(LTalkingPlots$Asked;)I" } : Jvm.MethodName)) ∈ lw_all := lw_g (lw_at lw_m4 65 rfl) rfl
theorem q1737 : (Jvm.Cond.castable "TalkingPlots$Not" "TalkingPlots$Condition") ∈ lw_tbl := lw_at lw_m7 192 rfl
theorem in_X14 : ∀ w ∈ wsX140, w ∈ lw_all := lw_in wsX140 [592] (by decide +kernel) (by decide +kernel)
/-! TalkingPlots$Compared -/
set_option maxRecDepth 100000
def RX15 : String := "TalkingPlots$Compared"
def TX15 : u_T := fun k => match k with
  | 0 => ("TalkingPlots$Compared", "x", "LTalkingPlots$Sum;", true)
  | 1 => ("TalkingPlots$Compared", "y", "LTalkingPlots$Sum;", true)
  | _ => ("TalkingPlots$Compared", "sign", "I", true)
def tyX15 : Nat → FieldType := fun k => match k with
  | 0 => .object "TalkingPlots$Sum"
  | 1 => .object "TalkingPlots$Sum"
  | _ => .int
abbrev wsX150 : List Cond := u_ws RX15 TX15 3
theorem nmX15 : ∀ a, a < 3 → ∀ b, b < 3 → a ≠ b → (TX15 a).2.1 ≠ (TX15 b).2.1 := by decide +kernel
theorem tyX15_ok : ∀ k, k < 3 → parseFieldDescriptor (TX15 k).2.2.1 = some (tyX15 k) := by decide +kernel
abbrev cX15_init : ByteArray := prog_3_method_1_code
def yX15_init : MethodName := ⟨RX15, "<init>", "(LTalkingPlots$Sum;ILTalkingPlots$Sum;)V"⟩
def dkwX15_init_0 : List UInt8 := [42, 183, 0, 1, 42, 43, 181, 0, 7, 42, 28, 181, 0, 13, 42, 45, 181, 0, 17, 177]
abbrev dktX15_init_0 : List UInt8 := dkwX15_init_0 ++ []
theorem dksX15_init_0 : cX15_init.data.toList.drop 0 = dktX15_init_0 := by decide +kernel
theorem dX15_init_0 : decode cX15_init 0 = .ok (.aload_n 0, 1) := dk_42 (dk_at dksX15_init_0 0 rfl rfl)
theorem dX15_init_1 : decode cX15_init 1 = .ok (.invokespecial 1, 3) := dk_183 0 1 (dk_at dksX15_init_0 1 rfl rfl)
theorem dX15_init_4 : decode cX15_init 4 = .ok (.aload_n 0, 1) := dk_42 (dk_at dksX15_init_0 4 rfl rfl)
theorem dX15_init_5 : decode cX15_init 5 = .ok (.aload_n 1, 1) := dk_43 (dk_at dksX15_init_0 5 rfl rfl)
theorem dX15_init_6 : decode cX15_init 6 = .ok (.putfield 7, 3) := dk_181 0 7 (dk_at dksX15_init_0 6 rfl rfl)
theorem dX15_init_9 : decode cX15_init 9 = .ok (.aload_n 0, 1) := dk_42 (dk_at dksX15_init_0 9 rfl rfl)
theorem dX15_init_10 : decode cX15_init 10 = .ok (.iload_n 2, 1) := dk_28 (dk_at dksX15_init_0 10 rfl rfl)
theorem dX15_init_11 : decode cX15_init 11 = .ok (.putfield 13, 3) := dk_181 0 13 (dk_at dksX15_init_0 11 rfl rfl)
theorem dX15_init_14 : decode cX15_init 14 = .ok (.aload_n 0, 1) := dk_42 (dk_at dksX15_init_0 14 rfl rfl)
theorem dX15_init_15 : decode cX15_init 15 = .ok (.aload_n 3, 1) := dk_45 (dk_at dksX15_init_0 15 rfl rfl)
theorem dX15_init_16 : decode cX15_init 16 = .ok (.putfield 17, 3) := dk_181 0 17 (dk_at dksX15_init_0 16 rfl rfl)
theorem dX15_init_19 : decode cX15_init 19 = .ok (.return_, 1) := dk_177 (dk_at dksX15_init_0 19 rfl rfl)
abbrev cX15_holds : ByteArray := prog_3_method_2_code
def yX15_holds : MethodName := ⟨RX15, "holds", "(LTalkingPlots$Asked;)I"⟩
def dkwX15_holds_4 : List UInt8 := [153, 0, 7, 4, 167, 0, 4, 3, 172]
abbrev dktX15_holds_4 : List UInt8 := dkwX15_holds_4 ++ []
def dkwX15_holds_3 : List UInt8 := [160, 0, 7, 4, 167, 0, 4, 3, 54, 4, 43, 180, 0, 20, 153, 0, 7, 5, 167, 0, 13, 21, 4]
abbrev dktX15_holds_3 : List UInt8 := dkwX15_holds_3 ++ dktX15_holds_4
def dkwX15_holds_2 : List UInt8 := [180, 0, 13, 16, 62, 160, 0, 16, 28, 29, 164, 0, 7, 4, 167, 0, 17, 3, 167, 0, 13, 28, 29]
abbrev dktX15_holds_2 : List UInt8 := dkwX15_holds_2 ++ dktX15_holds_3
def dkwX15_holds_1 : List UInt8 := [180, 0, 13, 16, 60, 160, 0, 16, 28, 29, 162, 0, 7, 4, 167, 0, 39, 3, 167, 0, 35, 42]
abbrev dktX15_holds_1 : List UInt8 := dkwX15_holds_1 ++ dktX15_holds_2
def dkwX15_holds_0 : List UInt8 := [43, 3, 181, 0, 20, 42, 180, 0, 7, 43, 182, 0, 26, 61, 42, 180, 0, 17, 43, 182, 0, 26, 62, 42]
abbrev dktX15_holds_0 : List UInt8 := dkwX15_holds_0 ++ dktX15_holds_1
theorem dksX15_holds_0 : cX15_holds.data.toList.drop 0 = dktX15_holds_0 := by decide +kernel
theorem dksX15_holds_1 : cX15_holds.data.toList.drop 24 = dktX15_holds_1 := dk_seg dksX15_holds_0 24 rfl rfl
theorem dksX15_holds_2 : cX15_holds.data.toList.drop 46 = dktX15_holds_2 := dk_seg dksX15_holds_1 22 rfl rfl
theorem dksX15_holds_3 : cX15_holds.data.toList.drop 69 = dktX15_holds_3 := dk_seg dksX15_holds_2 23 rfl rfl
theorem dksX15_holds_4 : cX15_holds.data.toList.drop 92 = dktX15_holds_4 := dk_seg dksX15_holds_3 23 rfl rfl
theorem dX15_holds_0 : decode cX15_holds 0 = .ok (.aload_n 1, 1) := dk_43 (dk_at dksX15_holds_0 0 rfl rfl)
theorem dX15_holds_1 : decode cX15_holds 1 = .ok (.iconst 0, 1) := dk_3 (dk_at dksX15_holds_0 1 rfl rfl)
theorem dX15_holds_2 : decode cX15_holds 2 = .ok (.putfield 20, 3) := dk_181 0 20 (dk_at dksX15_holds_0 2 rfl rfl)
theorem dX15_holds_5 : decode cX15_holds 5 = .ok (.aload_n 0, 1) := dk_42 (dk_at dksX15_holds_0 5 rfl rfl)
theorem dX15_holds_6 : decode cX15_holds 6 = .ok (.getfield 7, 3) := dk_180 0 7 (dk_at dksX15_holds_0 6 rfl rfl)
theorem dX15_holds_9 : decode cX15_holds 9 = .ok (.aload_n 1, 1) := dk_43 (dk_at dksX15_holds_0 9 rfl rfl)
theorem dX15_holds_10 : decode cX15_holds 10 = .ok (.invokevirtual 26, 3) := dk_182 0 26 (dk_at dksX15_holds_0 10 rfl rfl)
theorem dX15_holds_13 : decode cX15_holds 13 = .ok (.istore_n 2, 1) := dk_61 (dk_at dksX15_holds_0 13 rfl rfl)
theorem dX15_holds_14 : decode cX15_holds 14 = .ok (.aload_n 0, 1) := dk_42 (dk_at dksX15_holds_0 14 rfl rfl)
theorem dX15_holds_15 : decode cX15_holds 15 = .ok (.getfield 17, 3) := dk_180 0 17 (dk_at dksX15_holds_0 15 rfl rfl)
theorem dX15_holds_18 : decode cX15_holds 18 = .ok (.aload_n 1, 1) := dk_43 (dk_at dksX15_holds_0 18 rfl rfl)
theorem dX15_holds_19 : decode cX15_holds 19 = .ok (.invokevirtual 26, 3) := dk_182 0 26 (dk_at dksX15_holds_0 19 rfl rfl)
theorem dX15_holds_22 : decode cX15_holds 22 = .ok (.istore_n 3, 1) := dk_62 (dk_at dksX15_holds_0 22 rfl rfl)
theorem dX15_holds_23 : decode cX15_holds 23 = .ok (.aload_n 0, 1) := dk_42 (dk_at dksX15_holds_0 23 rfl rfl)
theorem dX15_holds_24 : decode cX15_holds 24 = .ok (.getfield 13, 3) := dk_180 0 13 (dk_at dksX15_holds_1 0 rfl rfl)
theorem dX15_holds_27 : decode cX15_holds 27 = .ok (.bipush 60, 2) := dk_16 60 (dk_at dksX15_holds_1 3 rfl rfl)
theorem dX15_holds_29 : decode cX15_holds 29 = .ok (.if_icmp .ne 16, 3) := dk_160 0 16 (dk_at dksX15_holds_1 5 rfl rfl)
theorem dX15_holds_32 : decode cX15_holds 32 = .ok (.iload_n 2, 1) := dk_28 (dk_at dksX15_holds_1 8 rfl rfl)
theorem dX15_holds_33 : decode cX15_holds 33 = .ok (.iload_n 3, 1) := dk_29 (dk_at dksX15_holds_1 9 rfl rfl)
theorem dX15_holds_34 : decode cX15_holds 34 = .ok (.if_icmp .ge 7, 3) := dk_162 0 7 (dk_at dksX15_holds_1 10 rfl rfl)
theorem dX15_holds_37 : decode cX15_holds 37 = .ok (.iconst 1, 1) := dk_4 (dk_at dksX15_holds_1 13 rfl rfl)
theorem dX15_holds_38 : decode cX15_holds 38 = .ok (.goto 39, 3) := dk_167 0 39 (dk_at dksX15_holds_1 14 rfl rfl)
theorem dX15_holds_41 : decode cX15_holds 41 = .ok (.iconst 0, 1) := dk_3 (dk_at dksX15_holds_1 17 rfl rfl)
theorem dX15_holds_42 : decode cX15_holds 42 = .ok (.goto 35, 3) := dk_167 0 35 (dk_at dksX15_holds_1 18 rfl rfl)
theorem dX15_holds_45 : decode cX15_holds 45 = .ok (.aload_n 0, 1) := dk_42 (dk_at dksX15_holds_1 21 rfl rfl)
theorem dX15_holds_46 : decode cX15_holds 46 = .ok (.getfield 13, 3) := dk_180 0 13 (dk_at dksX15_holds_2 0 rfl rfl)
theorem dX15_holds_49 : decode cX15_holds 49 = .ok (.bipush 62, 2) := dk_16 62 (dk_at dksX15_holds_2 3 rfl rfl)
theorem dX15_holds_51 : decode cX15_holds 51 = .ok (.if_icmp .ne 16, 3) := dk_160 0 16 (dk_at dksX15_holds_2 5 rfl rfl)
theorem dX15_holds_54 : decode cX15_holds 54 = .ok (.iload_n 2, 1) := dk_28 (dk_at dksX15_holds_2 8 rfl rfl)
theorem dX15_holds_55 : decode cX15_holds 55 = .ok (.iload_n 3, 1) := dk_29 (dk_at dksX15_holds_2 9 rfl rfl)
theorem dX15_holds_56 : decode cX15_holds 56 = .ok (.if_icmp .le 7, 3) := dk_164 0 7 (dk_at dksX15_holds_2 10 rfl rfl)
theorem dX15_holds_59 : decode cX15_holds 59 = .ok (.iconst 1, 1) := dk_4 (dk_at dksX15_holds_2 13 rfl rfl)
theorem dX15_holds_60 : decode cX15_holds 60 = .ok (.goto 17, 3) := dk_167 0 17 (dk_at dksX15_holds_2 14 rfl rfl)
theorem dX15_holds_63 : decode cX15_holds 63 = .ok (.iconst 0, 1) := dk_3 (dk_at dksX15_holds_2 17 rfl rfl)
theorem dX15_holds_64 : decode cX15_holds 64 = .ok (.goto 13, 3) := dk_167 0 13 (dk_at dksX15_holds_2 18 rfl rfl)
theorem dX15_holds_67 : decode cX15_holds 67 = .ok (.iload_n 2, 1) := dk_28 (dk_at dksX15_holds_2 21 rfl rfl)
theorem dX15_holds_68 : decode cX15_holds 68 = .ok (.iload_n 3, 1) := dk_29 (dk_at dksX15_holds_2 22 rfl rfl)
theorem dX15_holds_69 : decode cX15_holds 69 = .ok (.if_icmp .ne 7, 3) := dk_160 0 7 (dk_at dksX15_holds_3 0 rfl rfl)
theorem dX15_holds_72 : decode cX15_holds 72 = .ok (.iconst 1, 1) := dk_4 (dk_at dksX15_holds_3 3 rfl rfl)
theorem dX15_holds_73 : decode cX15_holds 73 = .ok (.goto 4, 3) := dk_167 0 4 (dk_at dksX15_holds_3 4 rfl rfl)
theorem dX15_holds_76 : decode cX15_holds 76 = .ok (.iconst 0, 1) := dk_3 (dk_at dksX15_holds_3 7 rfl rfl)
theorem dX15_holds_77 : decode cX15_holds 77 = .ok (.istore 4, 2) := dk_54 4 (dk_at dksX15_holds_3 8 rfl rfl)
theorem dX15_holds_79 : decode cX15_holds 79 = .ok (.aload_n 1, 1) := dk_43 (dk_at dksX15_holds_3 10 rfl rfl)
theorem dX15_holds_80 : decode cX15_holds 80 = .ok (.getfield 20, 3) := dk_180 0 20 (dk_at dksX15_holds_3 11 rfl rfl)
theorem dX15_holds_83 : decode cX15_holds 83 = .ok (.ifCond .eq 7, 3) := dk_153 0 7 (dk_at dksX15_holds_3 14 rfl rfl)
theorem dX15_holds_86 : decode cX15_holds 86 = .ok (.iconst 2, 1) := dk_5 (dk_at dksX15_holds_3 17 rfl rfl)
theorem dX15_holds_87 : decode cX15_holds 87 = .ok (.goto 13, 3) := dk_167 0 13 (dk_at dksX15_holds_3 18 rfl rfl)
theorem dX15_holds_90 : decode cX15_holds 90 = .ok (.iload 4, 2) := dk_21 4 (dk_at dksX15_holds_3 21 rfl rfl)
theorem dX15_holds_92 : decode cX15_holds 92 = .ok (.ifCond .eq 7, 3) := dk_153 0 7 (dk_at dksX15_holds_4 0 rfl rfl)
theorem dX15_holds_95 : decode cX15_holds 95 = .ok (.iconst 1, 1) := dk_4 (dk_at dksX15_holds_4 3 rfl rfl)
theorem dX15_holds_96 : decode cX15_holds 96 = .ok (.goto 4, 3) := dk_167 0 4 (dk_at dksX15_holds_4 4 rfl rfl)
theorem dX15_holds_99 : decode cX15_holds 99 = .ok (.iconst 0, 1) := dk_3 (dk_at dksX15_holds_4 7 rfl rfl)
theorem dX15_holds_100 : decode cX15_holds 100 = .ok (.ireturn, 1) := dk_172 (dk_at dksX15_holds_4 8 rfl rfl)
theorem q127 : (Jvm.Cond.initialized "TalkingPlots$Compared") ∈ lw_all := lw_g (lw_at lw_m1 22 rfl) rfl
theorem q157 : (Jvm.Cond.fieldLinkNest "TalkingPlots$Compared" (20 : Nat) "TalkingPlots$Asked" "isRefused" "Z" "TalkingPlots") ∈ lw_tbl := lw_at lw_m1 52 rfl
theorem q596 : (Jvm.Cond.instantiable "TalkingPlots$Compared" (3 : Nat)) ∈ lw_all := lw_g (lw_at lw_m3 11 rfl) rfl
theorem q598 : (Jvm.Cond.instanceMethod ({ cls := "TalkingPlots$Compared", name := "<init>", desc := "(LTalkingPlots$Sum;ILTalkingPlots$Sum;)V" } : Jvm.MethodName)) ∈ lw_all := lw_g (lw_at lw_m3 13 rfl) rfl
theorem q599 : (Jvm.Cond.code ({ cls := "TalkingPlots$Compared", name := "<init>", desc := "(LTalkingPlots$Sum;ILTalkingPlots$Sum;)V" } : Jvm.MethodName) prog_3_method_1_code (4 : Nat) (Option.none : Option Jvm.ClassFile.FieldType)) ∈ lw_all := lw_g (lw_at lw_m3 14 rfl) rfl
theorem q600 : (Jvm.Cond.methodLinkNest "TalkingPlots$Compared" (1 : Nat) ({ cls := "TalkingPlots$Condition", name := "<init>", desc := "()V" } : Jvm.MethodName) "TalkingPlots") ∈ lw_tbl := lw_at lw_m3 15 rfl
theorem q601 : (Jvm.Cond.fieldLink "TalkingPlots$Compared" (7 : Nat) "TalkingPlots$Compared" "x" "LTalkingPlots$Sum;") ∈ lw_all := lw_g (lw_at lw_m3 16 rfl) rfl
theorem q602 : (Jvm.Cond.fieldLink "TalkingPlots$Compared" (17 : Nat) "TalkingPlots$Compared" "y" "LTalkingPlots$Sum;") ∈ lw_all := lw_g (lw_at lw_m3 17 rfl) rfl
theorem q603 : (Jvm.Cond.fieldLink "TalkingPlots$Compared" (13 : Nat) "TalkingPlots$Compared" "sign" "I") ∈ lw_all := lw_g (lw_at lw_m3 18 rfl) rfl
theorem q604 : (Jvm.Cond.laysFinal "TalkingPlots$Compared" "TalkingPlots$Compared" "x" "LTalkingPlots$Sum;") ∈ lw_all := lw_g (lw_at lw_m3 19 rfl) rfl
theorem q605 : (Jvm.Cond.soleField "TalkingPlots$Compared" "x") ∈ lw_all := lw_g (lw_at lw_m3 20 rfl) rfl
theorem q606 : (Jvm.Cond.laysFinal "TalkingPlots$Compared" "TalkingPlots$Compared" "y" "LTalkingPlots$Sum;") ∈ lw_all := lw_g (lw_at lw_m3 21 rfl) rfl
theorem q607 : (Jvm.Cond.soleField "TalkingPlots$Compared" "y") ∈ lw_all := lw_g (lw_at lw_m3 22 rfl) rfl
theorem q608 : (Jvm.Cond.laysFinal "TalkingPlots$Compared" "TalkingPlots$Compared" "sign" "I") ∈ lw_all := lw_g (lw_at lw_m3 23 rfl) rfl
theorem q609 : (Jvm.Cond.soleField "TalkingPlots$Compared" "sign") ∈ lw_all := lw_g (lw_at lw_m3 24 rfl) rfl
theorem q610 : (Jvm.Cond.superclass "TalkingPlots$Compared" "TalkingPlots$Condition") ∈ lw_all := lw_g (lw_at lw_m3 25 rfl) rfl
theorem q862 : (Jvm.Cond.selects "TalkingPlots$Compared" ({ cls := "TalkingPlots$Condition", name := "holds", desc := "(LTalkingPlots$Asked;)I" } : Jvm.MethodName) ({ cls := "TalkingPlots$Compared", name := "holds", desc := "(LTalkingPlots$Asked;)I" } : Jvm.MethodName)) ∈ lw_all := lw_g (lw_at lw_m4 37 rfl) rfl
theorem q863 : (Jvm.Cond.instanceMethod ({ cls := "TalkingPlots$Compared", name := "holds", desc := "(LTalkingPlots$Asked;)I" } : Jvm.MethodName)) ∈ lw_all := lw_g (lw_at lw_m4 38 rfl) rfl
theorem q864 : (Jvm.Cond.code ({ cls := "TalkingPlots$Compared", name := "holds", desc := "(LTalkingPlots$Asked;)I" } : Jvm.MethodName) prog_3_method_2_code (5 : Nat) (Option.some Jvm.ClassFile.FieldType.int)) ∈ lw_all := lw_g (lw_at lw_m4 39 rfl) rfl
theorem q865 : (Jvm.Cond.methodLink "TalkingPlots$Compared" (26 : Nat) ({ cls := "TalkingPlots$Sum", name := "worth", desc := "(LTalkingPlots$Asked;)I" } : Jvm.MethodName)) ∈ lw_all := lw_g (lw_at lw_m4 40 rfl) rfl
theorem q1738 : (Jvm.Cond.castable "TalkingPlots$Compared" "TalkingPlots$Condition") ∈ lw_tbl := lw_at lw_m7 193 rfl
theorem in_X15 : ∀ w ∈ wsX150, w ∈ lw_all := lw_in wsX150 [604, 606, 608] (by decide +kernel) (by decide +kernel)
/-! TalkingPlots$Scribe -/
set_option maxRecDepth 100000
def RX16 : String := "TalkingPlots$Scribe"
abbrev cX16_init : ByteArray := prog_12_method_1_code
def yX16_init : MethodName := ⟨RX16, "<init>", "(LTalkingPlots;I)V"⟩
def dkwX16_init_0 : List UInt8 := [42, 43, 181, 0, 1, 42, 183, 0, 7, 42, 28, 181, 0, 13, 177]
abbrev dktX16_init_0 : List UInt8 := dkwX16_init_0 ++ []
theorem dksX16_init_0 : cX16_init.data.toList.drop 0 = dktX16_init_0 := by decide +kernel
theorem dX16_init_0 : decode cX16_init 0 = .ok (.aload_n 0, 1) := dk_42 (dk_at dksX16_init_0 0 rfl rfl)
theorem dX16_init_1 : decode cX16_init 1 = .ok (.aload_n 1, 1) := dk_43 (dk_at dksX16_init_0 1 rfl rfl)
theorem dX16_init_2 : decode cX16_init 2 = .ok (.putfield 1, 3) := dk_181 0 1 (dk_at dksX16_init_0 2 rfl rfl)
theorem dX16_init_5 : decode cX16_init 5 = .ok (.aload_n 0, 1) := dk_42 (dk_at dksX16_init_0 5 rfl rfl)
theorem dX16_init_6 : decode cX16_init 6 = .ok (.invokespecial 7, 3) := dk_183 0 7 (dk_at dksX16_init_0 6 rfl rfl)
theorem dX16_init_9 : decode cX16_init 9 = .ok (.aload_n 0, 1) := dk_42 (dk_at dksX16_init_0 9 rfl rfl)
theorem dX16_init_10 : decode cX16_init 10 = .ok (.iload_n 2, 1) := dk_28 (dk_at dksX16_init_0 10 rfl rfl)
theorem dX16_init_11 : decode cX16_init 11 = .ok (.putfield 13, 3) := dk_181 0 13 (dk_at dksX16_init_0 11 rfl rfl)
theorem dX16_init_14 : decode cX16_init 14 = .ok (.return_, 1) := dk_177 (dk_at dksX16_init_0 14 rfl rfl)
abbrev cX16_read : ByteArray := prog_12_method_10_code
def yX16_read : MethodName := ⟨RX16, "read", "()I"⟩
def dkwX16_read_4 : List UInt8 := [180, 0, 29, 100, 172]
abbrev dktX16_read_4 : List UInt8 := dkwX16_read_4 ++ []
def dkwX16_read_3 : List UInt8 := [167, 255, 195, 42, 182, 0, 36, 153, 0, 7, 27, 167, 0, 16, 17, 252, 24, 42, 180, 0, 26, 104, 42]
abbrev dktX16_read_3 : List UInt8 := dkwX16_read_3 ++ dktX16_read_4
def dkwX16_read_2 : List UInt8 := [180, 0, 17, 4, 96, 181, 0, 17, 42, 182, 0, 36, 153, 0, 8, 42, 27, 182, 0, 48, 132, 1, 1]
abbrev dktX16_read_2 : List UInt8 := dkwX16_read_2 ++ dktX16_read_3
def dkwX16_read_1 : List UInt8 := [162, 0, 49, 42, 182, 0, 32, 16, 59, 159, 0, 12, 42, 4, 42, 180, 0, 17, 182, 0, 44, 42, 89]
abbrev dktX16_read_1 : List UInt8 := dkwX16_read_1 ++ dktX16_read_2
def dkwX16_read_0 : List UInt8 := [42, 3, 182, 0, 48, 4, 60, 42, 182, 0, 36, 153, 0, 60, 42, 180, 0, 17, 42, 180, 0, 13]
abbrev dktX16_read_0 : List UInt8 := dkwX16_read_0 ++ dktX16_read_1
theorem dksX16_read_0 : cX16_read.data.toList.drop 0 = dktX16_read_0 := by decide +kernel
theorem dksX16_read_1 : cX16_read.data.toList.drop 22 = dktX16_read_1 := dk_seg dksX16_read_0 22 rfl rfl
theorem dksX16_read_2 : cX16_read.data.toList.drop 45 = dktX16_read_2 := dk_seg dksX16_read_1 23 rfl rfl
theorem dksX16_read_3 : cX16_read.data.toList.drop 68 = dktX16_read_3 := dk_seg dksX16_read_2 23 rfl rfl
theorem dksX16_read_4 : cX16_read.data.toList.drop 91 = dktX16_read_4 := dk_seg dksX16_read_3 23 rfl rfl
theorem dX16_read_0 : decode cX16_read 0 = .ok (.aload_n 0, 1) := dk_42 (dk_at dksX16_read_0 0 rfl rfl)
theorem dX16_read_1 : decode cX16_read 1 = .ok (.iconst 0, 1) := dk_3 (dk_at dksX16_read_0 1 rfl rfl)
theorem dX16_read_2 : decode cX16_read 2 = .ok (.invokevirtual 48, 3) := dk_182 0 48 (dk_at dksX16_read_0 2 rfl rfl)
theorem dX16_read_5 : decode cX16_read 5 = .ok (.iconst 1, 1) := dk_4 (dk_at dksX16_read_0 5 rfl rfl)
theorem dX16_read_6 : decode cX16_read 6 = .ok (.istore_n 1, 1) := dk_60 (dk_at dksX16_read_0 6 rfl rfl)
theorem dX16_read_7 : decode cX16_read 7 = .ok (.aload_n 0, 1) := dk_42 (dk_at dksX16_read_0 7 rfl rfl)
theorem dX16_read_8 : decode cX16_read 8 = .ok (.invokevirtual 36, 3) := dk_182 0 36 (dk_at dksX16_read_0 8 rfl rfl)
theorem dX16_read_11 : decode cX16_read 11 = .ok (.ifCond .eq 60, 3) := dk_153 0 60 (dk_at dksX16_read_0 11 rfl rfl)
theorem dX16_read_14 : decode cX16_read 14 = .ok (.aload_n 0, 1) := dk_42 (dk_at dksX16_read_0 14 rfl rfl)
theorem dX16_read_15 : decode cX16_read 15 = .ok (.getfield 17, 3) := dk_180 0 17 (dk_at dksX16_read_0 15 rfl rfl)
theorem dX16_read_18 : decode cX16_read 18 = .ok (.aload_n 0, 1) := dk_42 (dk_at dksX16_read_0 18 rfl rfl)
theorem dX16_read_19 : decode cX16_read 19 = .ok (.getfield 13, 3) := dk_180 0 13 (dk_at dksX16_read_0 19 rfl rfl)
theorem dX16_read_22 : decode cX16_read 22 = .ok (.if_icmp .ge 49, 3) := dk_162 0 49 (dk_at dksX16_read_1 0 rfl rfl)
theorem dX16_read_25 : decode cX16_read 25 = .ok (.aload_n 0, 1) := dk_42 (dk_at dksX16_read_1 3 rfl rfl)
theorem dX16_read_26 : decode cX16_read 26 = .ok (.invokevirtual 32, 3) := dk_182 0 32 (dk_at dksX16_read_1 4 rfl rfl)
theorem dX16_read_29 : decode cX16_read 29 = .ok (.bipush 59, 2) := dk_16 59 (dk_at dksX16_read_1 7 rfl rfl)
theorem dX16_read_31 : decode cX16_read 31 = .ok (.if_icmp .eq 12, 3) := dk_159 0 12 (dk_at dksX16_read_1 9 rfl rfl)
theorem dX16_read_34 : decode cX16_read 34 = .ok (.aload_n 0, 1) := dk_42 (dk_at dksX16_read_1 12 rfl rfl)
theorem dX16_read_35 : decode cX16_read 35 = .ok (.iconst 1, 1) := dk_4 (dk_at dksX16_read_1 13 rfl rfl)
theorem dX16_read_36 : decode cX16_read 36 = .ok (.aload_n 0, 1) := dk_42 (dk_at dksX16_read_1 14 rfl rfl)
theorem dX16_read_37 : decode cX16_read 37 = .ok (.getfield 17, 3) := dk_180 0 17 (dk_at dksX16_read_1 15 rfl rfl)
theorem dX16_read_40 : decode cX16_read 40 = .ok (.invokevirtual 44, 3) := dk_182 0 44 (dk_at dksX16_read_1 18 rfl rfl)
theorem dX16_read_43 : decode cX16_read 43 = .ok (.aload_n 0, 1) := dk_42 (dk_at dksX16_read_1 21 rfl rfl)
theorem dX16_read_44 : decode cX16_read 44 = .ok (.dup, 1) := dk_89 (dk_at dksX16_read_1 22 rfl rfl)
theorem dX16_read_45 : decode cX16_read 45 = .ok (.getfield 17, 3) := dk_180 0 17 (dk_at dksX16_read_2 0 rfl rfl)
theorem dX16_read_48 : decode cX16_read 48 = .ok (.iconst 1, 1) := dk_4 (dk_at dksX16_read_2 3 rfl rfl)
theorem dX16_read_49 : decode cX16_read 49 = .ok (.iadd, 1) := dk_96 (dk_at dksX16_read_2 4 rfl rfl)
theorem dX16_read_50 : decode cX16_read 50 = .ok (.putfield 17, 3) := dk_181 0 17 (dk_at dksX16_read_2 5 rfl rfl)
theorem dX16_read_53 : decode cX16_read 53 = .ok (.aload_n 0, 1) := dk_42 (dk_at dksX16_read_2 8 rfl rfl)
theorem dX16_read_54 : decode cX16_read 54 = .ok (.invokevirtual 36, 3) := dk_182 0 36 (dk_at dksX16_read_2 9 rfl rfl)
theorem dX16_read_57 : decode cX16_read 57 = .ok (.ifCond .eq 8, 3) := dk_153 0 8 (dk_at dksX16_read_2 12 rfl rfl)
theorem dX16_read_60 : decode cX16_read 60 = .ok (.aload_n 0, 1) := dk_42 (dk_at dksX16_read_2 15 rfl rfl)
theorem dX16_read_61 : decode cX16_read 61 = .ok (.iload_n 1, 1) := dk_27 (dk_at dksX16_read_2 16 rfl rfl)
theorem dX16_read_62 : decode cX16_read 62 = .ok (.invokevirtual 48, 3) := dk_182 0 48 (dk_at dksX16_read_2 17 rfl rfl)
theorem dX16_read_65 : decode cX16_read 65 = .ok (.iinc 1 1, 3) := dk_132 1 1 (dk_at dksX16_read_2 20 rfl rfl)
theorem dX16_read_68 : decode cX16_read 68 = .ok (.goto (-61), 3) := dk_167 255 195 (dk_at dksX16_read_3 0 rfl rfl)
theorem dX16_read_71 : decode cX16_read 71 = .ok (.aload_n 0, 1) := dk_42 (dk_at dksX16_read_3 3 rfl rfl)
theorem dX16_read_72 : decode cX16_read 72 = .ok (.invokevirtual 36, 3) := dk_182 0 36 (dk_at dksX16_read_3 4 rfl rfl)
theorem dX16_read_75 : decode cX16_read 75 = .ok (.ifCond .eq 7, 3) := dk_153 0 7 (dk_at dksX16_read_3 7 rfl rfl)
theorem dX16_read_78 : decode cX16_read 78 = .ok (.iload_n 1, 1) := dk_27 (dk_at dksX16_read_3 10 rfl rfl)
theorem dX16_read_79 : decode cX16_read 79 = .ok (.goto 16, 3) := dk_167 0 16 (dk_at dksX16_read_3 11 rfl rfl)
theorem dX16_read_82 : decode cX16_read 82 = .ok (.sipush (-1000), 3) := dk_17 252 24 (dk_at dksX16_read_3 14 rfl rfl)
theorem dX16_read_85 : decode cX16_read 85 = .ok (.aload_n 0, 1) := dk_42 (dk_at dksX16_read_3 17 rfl rfl)
theorem dX16_read_86 : decode cX16_read 86 = .ok (.getfield 26, 3) := dk_180 0 26 (dk_at dksX16_read_3 18 rfl rfl)
theorem dX16_read_89 : decode cX16_read 89 = .ok (.imul, 1) := dk_104 (dk_at dksX16_read_3 21 rfl rfl)
theorem dX16_read_90 : decode cX16_read 90 = .ok (.aload_n 0, 1) := dk_42 (dk_at dksX16_read_3 22 rfl rfl)
theorem dX16_read_91 : decode cX16_read 91 = .ok (.getfield 29, 3) := dk_180 0 29 (dk_at dksX16_read_4 0 rfl rfl)
theorem dX16_read_94 : decode cX16_read 94 = .ok (.isub, 1) := dk_100 (dk_at dksX16_read_4 3 rfl rfl)
theorem dX16_read_95 : decode cX16_read 95 = .ok (.ireturn, 1) := dk_172 (dk_at dksX16_read_4 4 rfl rfl)
abbrev cX16_place : ByteArray := prog_12_method_3_code
def yX16_place : MethodName := ⟨RX16, "place", "()I"⟩
theorem dX16_place_0 : decode cX16_place 0 = .ok (.aload_n 0, 1) := by decide +kernel
theorem dX16_place_1 : decode cX16_place 1 = .ok (.getfield 17, 3) := by decide +kernel
theorem dX16_place_4 : decode cX16_place 4 = .ok (.ireturn, 1) := by decide +kernel
abbrev cX16_sign : ByteArray := prog_12_method_8_code
def yX16_sign : MethodName := ⟨RX16, "sign", "(II)I"⟩
def dkwX16_sign_1 : List UInt8 := [154, 0, 12, 42, 4, 42, 180, 0, 17, 182, 0, 44, 42, 89, 180, 0, 17, 4, 96, 181, 0, 17, 29, 172]
abbrev dktX16_sign_1 : List UInt8 := dkwX16_sign_1 ++ []
def dkwX16_sign_0 : List UInt8 := [42, 182, 0, 32, 27, 100, 62, 42, 182, 0, 36, 153, 0, 25, 42, 27, 27, 28, 96, 4, 100, 182, 0, 40]
abbrev dktX16_sign_0 : List UInt8 := dkwX16_sign_0 ++ dktX16_sign_1
theorem dksX16_sign_0 : cX16_sign.data.toList.drop 0 = dktX16_sign_0 := by decide +kernel
theorem dksX16_sign_1 : cX16_sign.data.toList.drop 24 = dktX16_sign_1 := dk_seg dksX16_sign_0 24 rfl rfl
theorem dX16_sign_0 : decode cX16_sign 0 = .ok (.aload_n 0, 1) := dk_42 (dk_at dksX16_sign_0 0 rfl rfl)
theorem dX16_sign_1 : decode cX16_sign 1 = .ok (.invokevirtual 32, 3) := dk_182 0 32 (dk_at dksX16_sign_0 1 rfl rfl)
theorem dX16_sign_4 : decode cX16_sign 4 = .ok (.iload_n 1, 1) := dk_27 (dk_at dksX16_sign_0 4 rfl rfl)
theorem dX16_sign_5 : decode cX16_sign 5 = .ok (.isub, 1) := dk_100 (dk_at dksX16_sign_0 5 rfl rfl)
theorem dX16_sign_6 : decode cX16_sign 6 = .ok (.istore_n 3, 1) := dk_62 (dk_at dksX16_sign_0 6 rfl rfl)
theorem dX16_sign_7 : decode cX16_sign 7 = .ok (.aload_n 0, 1) := dk_42 (dk_at dksX16_sign_0 7 rfl rfl)
theorem dX16_sign_8 : decode cX16_sign 8 = .ok (.invokevirtual 36, 3) := dk_182 0 36 (dk_at dksX16_sign_0 8 rfl rfl)
theorem dX16_sign_11 : decode cX16_sign 11 = .ok (.ifCond .eq 25, 3) := dk_153 0 25 (dk_at dksX16_sign_0 11 rfl rfl)
theorem dX16_sign_14 : decode cX16_sign 14 = .ok (.aload_n 0, 1) := dk_42 (dk_at dksX16_sign_0 14 rfl rfl)
theorem dX16_sign_15 : decode cX16_sign 15 = .ok (.iload_n 1, 1) := dk_27 (dk_at dksX16_sign_0 15 rfl rfl)
theorem dX16_sign_16 : decode cX16_sign 16 = .ok (.iload_n 1, 1) := dk_27 (dk_at dksX16_sign_0 16 rfl rfl)
theorem dX16_sign_17 : decode cX16_sign 17 = .ok (.iload_n 2, 1) := dk_28 (dk_at dksX16_sign_0 17 rfl rfl)
theorem dX16_sign_18 : decode cX16_sign 18 = .ok (.iadd, 1) := dk_96 (dk_at dksX16_sign_0 18 rfl rfl)
theorem dX16_sign_19 : decode cX16_sign 19 = .ok (.iconst 1, 1) := dk_4 (dk_at dksX16_sign_0 19 rfl rfl)
theorem dX16_sign_20 : decode cX16_sign 20 = .ok (.isub, 1) := dk_100 (dk_at dksX16_sign_0 20 rfl rfl)
theorem dX16_sign_21 : decode cX16_sign 21 = .ok (.invokevirtual 40, 3) := dk_182 0 40 (dk_at dksX16_sign_0 21 rfl rfl)
theorem dX16_sign_24 : decode cX16_sign 24 = .ok (.ifCond .ne 12, 3) := dk_154 0 12 (dk_at dksX16_sign_1 0 rfl rfl)
theorem dX16_sign_27 : decode cX16_sign 27 = .ok (.aload_n 0, 1) := dk_42 (dk_at dksX16_sign_1 3 rfl rfl)
theorem dX16_sign_28 : decode cX16_sign 28 = .ok (.iconst 1, 1) := dk_4 (dk_at dksX16_sign_1 4 rfl rfl)
theorem dX16_sign_29 : decode cX16_sign 29 = .ok (.aload_n 0, 1) := dk_42 (dk_at dksX16_sign_1 5 rfl rfl)
theorem dX16_sign_30 : decode cX16_sign 30 = .ok (.getfield 17, 3) := dk_180 0 17 (dk_at dksX16_sign_1 6 rfl rfl)
theorem dX16_sign_33 : decode cX16_sign 33 = .ok (.invokevirtual 44, 3) := dk_182 0 44 (dk_at dksX16_sign_1 9 rfl rfl)
theorem dX16_sign_36 : decode cX16_sign 36 = .ok (.aload_n 0, 1) := dk_42 (dk_at dksX16_sign_1 12 rfl rfl)
theorem dX16_sign_37 : decode cX16_sign 37 = .ok (.dup, 1) := dk_89 (dk_at dksX16_sign_1 13 rfl rfl)
theorem dX16_sign_38 : decode cX16_sign 38 = .ok (.getfield 17, 3) := dk_180 0 17 (dk_at dksX16_sign_1 14 rfl rfl)
theorem dX16_sign_41 : decode cX16_sign 41 = .ok (.iconst 1, 1) := dk_4 (dk_at dksX16_sign_1 17 rfl rfl)
theorem dX16_sign_42 : decode cX16_sign 42 = .ok (.iadd, 1) := dk_96 (dk_at dksX16_sign_1 18 rfl rfl)
theorem dX16_sign_43 : decode cX16_sign 43 = .ok (.putfield 17, 3) := dk_181 0 17 (dk_at dksX16_sign_1 19 rfl rfl)
theorem dX16_sign_46 : decode cX16_sign 46 = .ok (.iload_n 3, 1) := dk_29 (dk_at dksX16_sign_1 22 rfl rfl)
theorem dX16_sign_47 : decode cX16_sign 47 = .ok (.ireturn, 1) := dk_172 (dk_at dksX16_sign_1 23 rfl rfl)
abbrev cX16_here : ByteArray := prog_12_method_2_code
def yX16_here : MethodName := ⟨RX16, "here", "()I"⟩
def dkwX16_here_1 : List UInt8 := [17, 0, 255, 126, 167, 0, 4, 3, 172]
abbrev dktX16_here_1 : List UInt8 := dkwX16_here_1 ++ []
def dkwX16_here_0 : List UInt8 := [42, 180, 0, 17, 42, 180, 0, 13, 162, 0, 22, 42, 180, 0, 1, 180, 0, 20, 42, 180, 0, 17, 51]
abbrev dktX16_here_0 : List UInt8 := dkwX16_here_0 ++ dktX16_here_1
theorem dksX16_here_0 : cX16_here.data.toList.drop 0 = dktX16_here_0 := by decide +kernel
theorem dksX16_here_1 : cX16_here.data.toList.drop 23 = dktX16_here_1 := dk_seg dksX16_here_0 23 rfl rfl
theorem dX16_here_0 : decode cX16_here 0 = .ok (.aload_n 0, 1) := dk_42 (dk_at dksX16_here_0 0 rfl rfl)
theorem dX16_here_1 : decode cX16_here 1 = .ok (.getfield 17, 3) := dk_180 0 17 (dk_at dksX16_here_0 1 rfl rfl)
theorem dX16_here_4 : decode cX16_here 4 = .ok (.aload_n 0, 1) := dk_42 (dk_at dksX16_here_0 4 rfl rfl)
theorem dX16_here_5 : decode cX16_here 5 = .ok (.getfield 13, 3) := dk_180 0 13 (dk_at dksX16_here_0 5 rfl rfl)
theorem dX16_here_8 : decode cX16_here 8 = .ok (.if_icmp .ge 22, 3) := dk_162 0 22 (dk_at dksX16_here_0 8 rfl rfl)
theorem dX16_here_11 : decode cX16_here 11 = .ok (.aload_n 0, 1) := dk_42 (dk_at dksX16_here_0 11 rfl rfl)
theorem dX16_here_12 : decode cX16_here 12 = .ok (.getfield 1, 3) := dk_180 0 1 (dk_at dksX16_here_0 12 rfl rfl)
theorem dX16_here_15 : decode cX16_here 15 = .ok (.getfield 20, 3) := dk_180 0 20 (dk_at dksX16_here_0 15 rfl rfl)
theorem dX16_here_18 : decode cX16_here 18 = .ok (.aload_n 0, 1) := dk_42 (dk_at dksX16_here_0 18 rfl rfl)
theorem dX16_here_19 : decode cX16_here 19 = .ok (.getfield 17, 3) := dk_180 0 17 (dk_at dksX16_here_0 19 rfl rfl)
theorem dX16_here_22 : decode cX16_here 22 = .ok (.baload, 1) := dk_51 (dk_at dksX16_here_0 22 rfl rfl)
theorem dX16_here_23 : decode cX16_here 23 = .ok (.sipush 255, 3) := dk_17 0 255 (dk_at dksX16_here_1 0 rfl rfl)
theorem dX16_here_26 : decode cX16_here 26 = .ok (.iand, 1) := dk_126 (dk_at dksX16_here_1 3 rfl rfl)
theorem dX16_here_27 : decode cX16_here 27 = .ok (.goto 4, 3) := dk_167 0 4 (dk_at dksX16_here_1 4 rfl rfl)
theorem dX16_here_30 : decode cX16_here 30 = .ok (.iconst 0, 1) := dk_3 (dk_at dksX16_here_1 7 rfl rfl)
theorem dX16_here_31 : decode cX16_here 31 = .ok (.ireturn, 1) := dk_172 (dk_at dksX16_here_1 8 rfl rfl)
abbrev cX16_isGood : ByteArray := prog_12_method_6_code
def yX16_isGood : MethodName := ⟨RX16, "isGood", "()Z"⟩
def dkwX16_isGood_0 : List UInt8 := [42, 180, 0, 26, 154, 0, 7, 4, 167, 0, 4, 3, 172]
abbrev dktX16_isGood_0 : List UInt8 := dkwX16_isGood_0 ++ []
theorem dksX16_isGood_0 : cX16_isGood.data.toList.drop 0 = dktX16_isGood_0 := by decide +kernel
theorem dX16_isGood_0 : decode cX16_isGood 0 = .ok (.aload_n 0, 1) := dk_42 (dk_at dksX16_isGood_0 0 rfl rfl)
theorem dX16_isGood_1 : decode cX16_isGood 1 = .ok (.getfield 26, 3) := dk_180 0 26 (dk_at dksX16_isGood_0 1 rfl rfl)
theorem dX16_isGood_4 : decode cX16_isGood 4 = .ok (.ifCond .ne 7, 3) := dk_154 0 7 (dk_at dksX16_isGood_0 4 rfl rfl)
theorem dX16_isGood_7 : decode cX16_isGood 7 = .ok (.iconst 1, 1) := dk_4 (dk_at dksX16_isGood_0 7 rfl rfl)
theorem dX16_isGood_8 : decode cX16_isGood 8 = .ok (.goto 4, 3) := dk_167 0 4 (dk_at dksX16_isGood_0 8 rfl rfl)
theorem dX16_isGood_11 : decode cX16_isGood 11 = .ok (.iconst 0, 1) := dk_3 (dk_at dksX16_isGood_0 11 rfl rfl)
theorem dX16_isGood_12 : decode cX16_isGood 12 = .ok (.ireturn, 1) := dk_172 (dk_at dksX16_isGood_0 12 rfl rfl)
abbrev cX16_sees : ByteArray := prog_12_method_7_code
def yX16_sees : MethodName := ⟨RX16, "sees", "(II)Z"⟩
def dkwX16_sees_0 : List UInt8 := [42, 182, 0, 32, 27, 161, 0, 15, 42, 182, 0, 32, 28, 163, 0, 7, 4, 167, 0, 4, 3, 172]
abbrev dktX16_sees_0 : List UInt8 := dkwX16_sees_0 ++ []
theorem dksX16_sees_0 : cX16_sees.data.toList.drop 0 = dktX16_sees_0 := by decide +kernel
theorem dX16_sees_0 : decode cX16_sees 0 = .ok (.aload_n 0, 1) := dk_42 (dk_at dksX16_sees_0 0 rfl rfl)
theorem dX16_sees_1 : decode cX16_sees 1 = .ok (.invokevirtual 32, 3) := dk_182 0 32 (dk_at dksX16_sees_0 1 rfl rfl)
theorem dX16_sees_4 : decode cX16_sees 4 = .ok (.iload_n 1, 1) := dk_27 (dk_at dksX16_sees_0 4 rfl rfl)
theorem dX16_sees_5 : decode cX16_sees 5 = .ok (.if_icmp .lt 15, 3) := dk_161 0 15 (dk_at dksX16_sees_0 5 rfl rfl)
theorem dX16_sees_8 : decode cX16_sees 8 = .ok (.aload_n 0, 1) := dk_42 (dk_at dksX16_sees_0 8 rfl rfl)
theorem dX16_sees_9 : decode cX16_sees 9 = .ok (.invokevirtual 32, 3) := dk_182 0 32 (dk_at dksX16_sees_0 9 rfl rfl)
theorem dX16_sees_12 : decode cX16_sees 12 = .ok (.iload_n 2, 1) := dk_28 (dk_at dksX16_sees_0 12 rfl rfl)
theorem dX16_sees_13 : decode cX16_sees 13 = .ok (.if_icmp .gt 7, 3) := dk_163 0 7 (dk_at dksX16_sees_0 13 rfl rfl)
theorem dX16_sees_16 : decode cX16_sees 16 = .ok (.iconst 1, 1) := dk_4 (dk_at dksX16_sees_0 16 rfl rfl)
theorem dX16_sees_17 : decode cX16_sees 17 = .ok (.goto 4, 3) := dk_167 0 4 (dk_at dksX16_sees_0 17 rfl rfl)
theorem dX16_sees_20 : decode cX16_sees 20 = .ok (.iconst 0, 1) := dk_3 (dk_at dksX16_sees_0 20 rfl rfl)
theorem dX16_sees_21 : decode cX16_sees 21 = .ok (.ireturn, 1) := dk_172 (dk_at dksX16_sees_0 21 rfl rfl)
abbrev cX16_bad : ByteArray := prog_12_method_5_code
def yX16_bad : MethodName := ⟨RX16, "bad", "(II)V"⟩
def dkwX16_bad_0 : List UInt8 := [42, 180, 0, 26, 158, 0, 4, 177, 42, 27, 181, 0, 26, 42, 28, 181, 0, 29, 177]
abbrev dktX16_bad_0 : List UInt8 := dkwX16_bad_0 ++ []
theorem dksX16_bad_0 : cX16_bad.data.toList.drop 0 = dktX16_bad_0 := by decide +kernel
theorem dX16_bad_0 : decode cX16_bad 0 = .ok (.aload_n 0, 1) := dk_42 (dk_at dksX16_bad_0 0 rfl rfl)
theorem dX16_bad_1 : decode cX16_bad 1 = .ok (.getfield 26, 3) := dk_180 0 26 (dk_at dksX16_bad_0 1 rfl rfl)
theorem dX16_bad_4 : decode cX16_bad 4 = .ok (.ifCond .le 4, 3) := dk_158 0 4 (dk_at dksX16_bad_0 4 rfl rfl)
theorem dX16_bad_7 : decode cX16_bad 7 = .ok (.return_, 1) := dk_177 (dk_at dksX16_bad_0 7 rfl rfl)
theorem dX16_bad_8 : decode cX16_bad 8 = .ok (.aload_n 0, 1) := dk_42 (dk_at dksX16_bad_0 8 rfl rfl)
theorem dX16_bad_9 : decode cX16_bad 9 = .ok (.iload_n 1, 1) := dk_27 (dk_at dksX16_bad_0 9 rfl rfl)
theorem dX16_bad_10 : decode cX16_bad 10 = .ok (.putfield 26, 3) := dk_181 0 26 (dk_at dksX16_bad_0 10 rfl rfl)
theorem dX16_bad_13 : decode cX16_bad 13 = .ok (.aload_n 0, 1) := dk_42 (dk_at dksX16_bad_0 13 rfl rfl)
theorem dX16_bad_14 : decode cX16_bad 14 = .ok (.iload_n 2, 1) := dk_28 (dk_at dksX16_bad_0 14 rfl rfl)
theorem dX16_bad_15 : decode cX16_bad 15 = .ok (.putfield 29, 3) := dk_181 0 29 (dk_at dksX16_bad_0 15 rfl rfl)
theorem dX16_bad_18 : decode cX16_bad 18 = .ok (.return_, 1) := dk_177 (dk_at dksX16_bad_0 18 rfl rfl)
abbrev cX16_goes : ByteArray := prog_12_method_4_code
def yX16_goes : MethodName := ⟨RX16, "goes", "()V"⟩
def dkwX16_goes_0 : List UInt8 := [42, 89, 180, 0, 17, 4, 96, 181, 0, 17, 177]
abbrev dktX16_goes_0 : List UInt8 := dkwX16_goes_0 ++ []
theorem dksX16_goes_0 : cX16_goes.data.toList.drop 0 = dktX16_goes_0 := by decide +kernel
theorem dX16_goes_0 : decode cX16_goes 0 = .ok (.aload_n 0, 1) := dk_42 (dk_at dksX16_goes_0 0 rfl rfl)
theorem dX16_goes_1 : decode cX16_goes 1 = .ok (.dup, 1) := dk_89 (dk_at dksX16_goes_0 1 rfl rfl)
theorem dX16_goes_2 : decode cX16_goes 2 = .ok (.getfield 17, 3) := dk_180 0 17 (dk_at dksX16_goes_0 2 rfl rfl)
theorem dX16_goes_5 : decode cX16_goes 5 = .ok (.iconst 1, 1) := dk_4 (dk_at dksX16_goes_0 5 rfl rfl)
theorem dX16_goes_6 : decode cX16_goes 6 = .ok (.iadd, 1) := dk_96 (dk_at dksX16_goes_0 6 rfl rfl)
theorem dX16_goes_7 : decode cX16_goes 7 = .ok (.putfield 17, 3) := dk_181 0 17 (dk_at dksX16_goes_0 7 rfl rfl)
theorem dX16_goes_10 : decode cX16_goes 10 = .ok (.return_, 1) := dk_177 (dk_at dksX16_goes_0 10 rfl rfl)
theorem q128 : (Jvm.Cond.initialized "TalkingPlots$Scribe") ∈ lw_all := lw_g (lw_at lw_m1 23 rfl) rfl
theorem q279 : (Jvm.Cond.fieldLinkNest "TalkingPlots$Scribe" (20 : Nat) "TalkingPlots" "tape" "[B" "TalkingPlots") ∈ lw_tbl := lw_at lw_m1 174 rfl
theorem q644 : (Jvm.Cond.instanceMethod ({ cls := "TalkingPlots$Scribe", name := "<init>", desc := "(LTalkingPlots;I)V" } : Jvm.MethodName)) ∈ lw_all := lw_g (lw_at lw_m3 59 rfl) rfl
theorem q645 : (Jvm.Cond.code ({ cls := "TalkingPlots$Scribe", name := "<init>", desc := "(LTalkingPlots;I)V" } : Jvm.MethodName) prog_12_method_1_code (3 : Nat) (Option.none : Option Jvm.ClassFile.FieldType)) ∈ lw_all := lw_g (lw_at lw_m3 60 rfl) rfl
theorem q646 : (Jvm.Cond.methodLink "TalkingPlots$Scribe" (7 : Nat) ({ cls := "java/lang/Object", name := "<init>", desc := "()V" } : Jvm.MethodName)) ∈ lw_all := lw_g (lw_at lw_m3 61 rfl) rfl
theorem q648 : (Jvm.Cond.fieldLink "TalkingPlots$Scribe" (13 : Nat) "TalkingPlots$Scribe" "n" "I") ∈ lw_all := lw_g (lw_at lw_m3 63 rfl) rfl
theorem q649 : (Jvm.Cond.fieldLink "TalkingPlots$Scribe" (17 : Nat) "TalkingPlots$Scribe" "at" "I") ∈ lw_all := lw_g (lw_at lw_m3 64 rfl) rfl
theorem q650 : (Jvm.Cond.fieldLink "TalkingPlots$Scribe" (26 : Nat) "TalkingPlots$Scribe" "fault" "I") ∈ lw_all := lw_g (lw_at lw_m3 65 rfl) rfl
theorem q651 : (Jvm.Cond.fieldLink "TalkingPlots$Scribe" (29 : Nat) "TalkingPlots$Scribe" "place" "I") ∈ lw_all := lw_g (lw_at lw_m3 66 rfl) rfl
theorem q652 : (Jvm.Cond.fieldLink "TalkingPlots$Scribe" (1 : Nat) "TalkingPlots$Scribe" "this$0" "LTalkingPlots;") ∈ lw_all := lw_g (lw_at lw_m3 67 rfl) rfl
theorem q656 : (Jvm.Cond.soleField "TalkingPlots$Scribe" "n") ∈ lw_all := lw_g (lw_at lw_m3 71 rfl) rfl
theorem q658 : (Jvm.Cond.soleField "TalkingPlots$Scribe" "at") ∈ lw_all := lw_g (lw_at lw_m3 73 rfl) rfl
theorem q660 : (Jvm.Cond.soleField "TalkingPlots$Scribe" "fault") ∈ lw_all := lw_g (lw_at lw_m3 75 rfl) rfl
theorem q662 : (Jvm.Cond.soleField "TalkingPlots$Scribe" "place") ∈ lw_all := lw_g (lw_at lw_m3 77 rfl) rfl
theorem q664 : (Jvm.Cond.soleField "TalkingPlots$Scribe" "this$0") ∈ lw_all := lw_g (lw_at lw_m3 79 rfl) rfl
theorem q668 : (Jvm.Cond.declares ({ cls := "TalkingPlots$Scribe", name := "read", desc := "()I" } : Jvm.MethodName)) ∈ lw_tbl := lw_at lw_m3 83 rfl
theorem q670 : (Jvm.Cond.instanceMethod ({ cls := "TalkingPlots$Scribe", name := "read", desc := "()I" } : Jvm.MethodName)) ∈ lw_all := lw_g (lw_at lw_m3 85 rfl) rfl
theorem q671 : (Jvm.Cond.code ({ cls := "TalkingPlots$Scribe", name := "read", desc := "()I" } : Jvm.MethodName) prog_12_method_10_code (2 : Nat) (Option.some Jvm.ClassFile.FieldType.int)) ∈ lw_all := lw_g (lw_at lw_m3 86 rfl) rfl
theorem q672 : (Jvm.Cond.methodLink "TalkingPlots$Scribe" (48 : Nat) ({ cls := "TalkingPlots$Scribe", name := "line", desc := "(I)V" } : Jvm.MethodName)) ∈ lw_all := lw_g (lw_at lw_m3 87 rfl) rfl
theorem q673 : (Jvm.Cond.declares ({ cls := "TalkingPlots$Scribe", name := "line", desc := "(I)V" } : Jvm.MethodName)) ∈ lw_tbl := lw_at lw_m3 88 rfl
theorem q674 : (Jvm.Cond.sameMethod "TalkingPlots$Scribe" "TalkingPlots$Scribe" "line" "(I)V") ∈ lw_all := lw_g (lw_at lw_m3 89 rfl) rfl
theorem q680 : (Jvm.Cond.declares ({ cls := "TalkingPlots$Scribe", name := "place", desc := "()I" } : Jvm.MethodName)) ∈ lw_tbl := lw_at lw_m3 95 rfl
theorem q682 : (Jvm.Cond.instanceMethod ({ cls := "TalkingPlots$Scribe", name := "place", desc := "()I" } : Jvm.MethodName)) ∈ lw_all := lw_g (lw_at lw_m3 97 rfl) rfl
theorem q683 : (Jvm.Cond.code ({ cls := "TalkingPlots$Scribe", name := "place", desc := "()I" } : Jvm.MethodName) prog_12_method_3_code (1 : Nat) (Option.some Jvm.ClassFile.FieldType.int)) ∈ lw_all := lw_g (lw_at lw_m3 98 rfl) rfl
theorem q686 : (Jvm.Cond.declares ({ cls := "TalkingPlots$Scribe", name := "sign", desc := "(II)I" } : Jvm.MethodName)) ∈ lw_tbl := lw_at lw_m3 101 rfl
theorem q688 : (Jvm.Cond.instanceMethod ({ cls := "TalkingPlots$Scribe", name := "sign", desc := "(II)I" } : Jvm.MethodName)) ∈ lw_all := lw_g (lw_at lw_m3 103 rfl) rfl
theorem q689 : (Jvm.Cond.code ({ cls := "TalkingPlots$Scribe", name := "sign", desc := "(II)I" } : Jvm.MethodName) prog_12_method_8_code (4 : Nat) (Option.some Jvm.ClassFile.FieldType.int)) ∈ lw_all := lw_g (lw_at lw_m3 104 rfl) rfl
theorem q690 : (Jvm.Cond.methodLink "TalkingPlots$Scribe" (32 : Nat) ({ cls := "TalkingPlots$Scribe", name := "here", desc := "()I" } : Jvm.MethodName)) ∈ lw_all := lw_g (lw_at lw_m3 105 rfl) rfl
theorem q691 : (Jvm.Cond.instanceMethod ({ cls := "TalkingPlots$Scribe", name := "here", desc := "()I" } : Jvm.MethodName)) ∈ lw_all := lw_g (lw_at lw_m3 106 rfl) rfl
theorem q692 : (Jvm.Cond.sameMethod "TalkingPlots$Scribe" "TalkingPlots$Scribe" "here" "()I") ∈ lw_all := lw_g (lw_at lw_m3 107 rfl) rfl
theorem q695 : (Jvm.Cond.code ({ cls := "TalkingPlots$Scribe", name := "here", desc := "()I" } : Jvm.MethodName) prog_12_method_2_code (1 : Nat) (Option.some Jvm.ClassFile.FieldType.int)) ∈ lw_all := lw_g (lw_at lw_m3 110 rfl) rfl
theorem q696 : (Jvm.Cond.methodLink "TalkingPlots$Scribe" (36 : Nat) ({ cls := "TalkingPlots$Scribe", name := "isGood", desc := "()Z" } : Jvm.MethodName)) ∈ lw_all := lw_g (lw_at lw_m3 111 rfl) rfl
theorem q697 : (Jvm.Cond.instanceMethod ({ cls := "TalkingPlots$Scribe", name := "isGood", desc := "()Z" } : Jvm.MethodName)) ∈ lw_all := lw_g (lw_at lw_m3 112 rfl) rfl
theorem q698 : (Jvm.Cond.sameMethod "TalkingPlots$Scribe" "TalkingPlots$Scribe" "isGood" "()Z") ∈ lw_all := lw_g (lw_at lw_m3 113 rfl) rfl
theorem q701 : (Jvm.Cond.code ({ cls := "TalkingPlots$Scribe", name := "isGood", desc := "()Z" } : Jvm.MethodName) prog_12_method_6_code (1 : Nat) (Option.some Jvm.ClassFile.FieldType.boolean)) ∈ lw_all := lw_g (lw_at lw_m3 116 rfl) rfl
theorem q702 : (Jvm.Cond.methodLink "TalkingPlots$Scribe" (40 : Nat) ({ cls := "TalkingPlots$Scribe", name := "sees", desc := "(II)Z" } : Jvm.MethodName)) ∈ lw_all := lw_g (lw_at lw_m3 117 rfl) rfl
theorem q703 : (Jvm.Cond.instanceMethod ({ cls := "TalkingPlots$Scribe", name := "sees", desc := "(II)Z" } : Jvm.MethodName)) ∈ lw_all := lw_g (lw_at lw_m3 118 rfl) rfl
theorem q704 : (Jvm.Cond.sameMethod "TalkingPlots$Scribe" "TalkingPlots$Scribe" "sees" "(II)Z") ∈ lw_all := lw_g (lw_at lw_m3 119 rfl) rfl
theorem q707 : (Jvm.Cond.code ({ cls := "TalkingPlots$Scribe", name := "sees", desc := "(II)Z" } : Jvm.MethodName) prog_12_method_7_code (3 : Nat) (Option.some Jvm.ClassFile.FieldType.boolean)) ∈ lw_all := lw_g (lw_at lw_m3 122 rfl) rfl
theorem q708 : (Jvm.Cond.methodLink "TalkingPlots$Scribe" (44 : Nat) ({ cls := "TalkingPlots$Scribe", name := "bad", desc := "(II)V" } : Jvm.MethodName)) ∈ lw_all := lw_g (lw_at lw_m3 123 rfl) rfl
theorem q709 : (Jvm.Cond.instanceMethod ({ cls := "TalkingPlots$Scribe", name := "bad", desc := "(II)V" } : Jvm.MethodName)) ∈ lw_all := lw_g (lw_at lw_m3 124 rfl) rfl
theorem q710 : (Jvm.Cond.sameMethod "TalkingPlots$Scribe" "TalkingPlots$Scribe" "bad" "(II)V") ∈ lw_all := lw_g (lw_at lw_m3 125 rfl) rfl
theorem q713 : (Jvm.Cond.code ({ cls := "TalkingPlots$Scribe", name := "bad", desc := "(II)V" } : Jvm.MethodName) prog_12_method_5_code (3 : Nat) (Option.none : Option Jvm.ClassFile.FieldType)) ∈ lw_all := lw_g (lw_at lw_m3 128 rfl) rfl
theorem q716 : (Jvm.Cond.declares ({ cls := "TalkingPlots$Scribe", name := "isGood", desc := "()Z" } : Jvm.MethodName)) ∈ lw_tbl := lw_at lw_m3 131 rfl
theorem q720 : (Jvm.Cond.declares ({ cls := "TalkingPlots$Scribe", name := "bad", desc := "(II)V" } : Jvm.MethodName)) ∈ lw_tbl := lw_at lw_m3 135 rfl
theorem q732 : (Jvm.Cond.declares ({ cls := "TalkingPlots$Scribe", name := "here", desc := "()I" } : Jvm.MethodName)) ∈ lw_tbl := lw_at lw_m3 147 rfl
theorem q736 : (Jvm.Cond.declares ({ cls := "TalkingPlots$Scribe", name := "goes", desc := "()V" } : Jvm.MethodName)) ∈ lw_tbl := lw_at lw_m3 151 rfl
theorem q738 : (Jvm.Cond.instanceMethod ({ cls := "TalkingPlots$Scribe", name := "goes", desc := "()V" } : Jvm.MethodName)) ∈ lw_all := lw_g (lw_at lw_m3 153 rfl) rfl
theorem q739 : (Jvm.Cond.code ({ cls := "TalkingPlots$Scribe", name := "goes", desc := "()V" } : Jvm.MethodName) prog_12_method_4_code (1 : Nat) (Option.none : Option Jvm.ClassFile.FieldType)) ∈ lw_all := lw_g (lw_at lw_m3 154 rfl) rfl
/-! TalkingPlots$Sexton -/
set_option maxRecDepth 100000
def RX17 : String := "TalkingPlots$Sexton"
def TX17 : u_T := fun k => match k with
  | 0 => ("TalkingPlots$Scribe", "n", "I", true)
  | 1 => ("TalkingPlots$Scribe", "at", "I", false)
  | 2 => ("TalkingPlots$Scribe", "fault", "I", false)
  | 3 => ("TalkingPlots$Scribe", "place", "I", false)
  | 4 => ("TalkingPlots$Scribe", "this$0", "LTalkingPlots;", true)
  | _ => ("TalkingPlots$Sexton", "this$0", "LTalkingPlots;", true)
def tyX17 : Nat → FieldType := fun k => match k with
  | 0 => .int
  | 1 => .int
  | 2 => .int
  | 3 => .int
  | 4 => .object "TalkingPlots"
  | _ => .object "TalkingPlots"
abbrev wsX170 : List Cond := u_ws RX17 TX17 6
-- two fields of one name: no nmX17
theorem tyX17_ok : ∀ k, k < 6 → parseFieldDescriptor (TX17 k).2.2.1 = some (tyX17 k) := by decide +kernel
abbrev cX17_init : ByteArray := prog_13_method_1_code
def yX17_init : MethodName := ⟨RX17, "<init>", "(LTalkingPlots;I)V"⟩
def dkwX17_init_0 : List UInt8 := [42, 43, 181, 0, 3, 42, 43, 28, 183, 0, 9, 177]
abbrev dktX17_init_0 : List UInt8 := dkwX17_init_0 ++ []
theorem dksX17_init_0 : cX17_init.data.toList.drop 0 = dktX17_init_0 := by decide +kernel
theorem dX17_init_0 : decode cX17_init 0 = .ok (.aload_n 0, 1) := dk_42 (dk_at dksX17_init_0 0 rfl rfl)
theorem dX17_init_1 : decode cX17_init 1 = .ok (.aload_n 1, 1) := dk_43 (dk_at dksX17_init_0 1 rfl rfl)
theorem dX17_init_2 : decode cX17_init 2 = .ok (.putfield 3, 3) := dk_181 0 3 (dk_at dksX17_init_0 2 rfl rfl)
theorem dX17_init_5 : decode cX17_init 5 = .ok (.aload_n 0, 1) := dk_42 (dk_at dksX17_init_0 5 rfl rfl)
theorem dX17_init_6 : decode cX17_init 6 = .ok (.aload_n 1, 1) := dk_43 (dk_at dksX17_init_0 6 rfl rfl)
theorem dX17_init_7 : decode cX17_init 7 = .ok (.iload_n 2, 1) := dk_28 (dk_at dksX17_init_0 7 rfl rfl)
theorem dX17_init_8 : decode cX17_init 8 = .ok (.invokespecial 9, 3) := dk_183 0 9 (dk_at dksX17_init_0 8 rfl rfl)
theorem dX17_init_11 : decode cX17_init 11 = .ok (.return_, 1) := dk_177 (dk_at dksX17_init_0 11 rfl rfl)
abbrev cX17_line : ByteArray := prog_13_method_6_code
def yX17_line : MethodName := ⟨RX17, "line", "(I)V"⟩
def dkwX17_line_2 : List UInt8 := [154, 0, 10, 42, 16, 7, 28, 182, 0, 30, 42, 182, 0, 23, 153, 0, 8, 42, 29, 182, 0, 77, 177]
abbrev dktX17_line_2 : List UInt8 := dkwX17_line_2 ++ []
def dkwX17_line_1 : List UInt8 := [160, 0, 9, 42, 7, 28, 182, 0, 30, 42, 182, 0, 23, 153, 0, 21, 42, 180, 0, 3, 29, 182, 0, 58]
abbrev dktX17_line_1 : List UInt8 := dkwX17_line_1 ++ dktX17_line_2
def dkwX17_line_0 : List UInt8 := [42, 182, 0, 15, 61, 42, 16, 97, 16, 16, 182, 0, 19, 62, 42, 182, 0, 23, 153, 0, 15, 27, 16, 20]
abbrev dktX17_line_0 : List UInt8 := dkwX17_line_0 ++ dktX17_line_1
theorem dksX17_line_0 : cX17_line.data.toList.drop 0 = dktX17_line_0 := by decide +kernel
theorem dksX17_line_1 : cX17_line.data.toList.drop 24 = dktX17_line_1 := dk_seg dksX17_line_0 24 rfl rfl
theorem dksX17_line_2 : cX17_line.data.toList.drop 48 = dktX17_line_2 := dk_seg dksX17_line_1 24 rfl rfl
theorem dX17_line_0 : decode cX17_line 0 = .ok (.aload_n 0, 1) := dk_42 (dk_at dksX17_line_0 0 rfl rfl)
theorem dX17_line_1 : decode cX17_line 1 = .ok (.invokevirtual 15, 3) := dk_182 0 15 (dk_at dksX17_line_0 1 rfl rfl)
theorem dX17_line_4 : decode cX17_line 4 = .ok (.istore_n 2, 1) := dk_61 (dk_at dksX17_line_0 4 rfl rfl)
theorem dX17_line_5 : decode cX17_line 5 = .ok (.aload_n 0, 1) := dk_42 (dk_at dksX17_line_0 5 rfl rfl)
theorem dX17_line_6 : decode cX17_line 6 = .ok (.bipush 97, 2) := dk_16 97 (dk_at dksX17_line_0 6 rfl rfl)
theorem dX17_line_8 : decode cX17_line 8 = .ok (.bipush 16, 2) := dk_16 16 (dk_at dksX17_line_0 8 rfl rfl)
theorem dX17_line_10 : decode cX17_line 10 = .ok (.invokevirtual 19, 3) := dk_182 0 19 (dk_at dksX17_line_0 10 rfl rfl)
theorem dX17_line_13 : decode cX17_line 13 = .ok (.istore_n 3, 1) := dk_62 (dk_at dksX17_line_0 13 rfl rfl)
theorem dX17_line_14 : decode cX17_line 14 = .ok (.aload_n 0, 1) := dk_42 (dk_at dksX17_line_0 14 rfl rfl)
theorem dX17_line_15 : decode cX17_line 15 = .ok (.invokevirtual 23, 3) := dk_182 0 23 (dk_at dksX17_line_0 15 rfl rfl)
theorem dX17_line_18 : decode cX17_line 18 = .ok (.ifCond .eq 15, 3) := dk_153 0 15 (dk_at dksX17_line_0 18 rfl rfl)
theorem dX17_line_21 : decode cX17_line 21 = .ok (.iload_n 1, 1) := dk_27 (dk_at dksX17_line_0 21 rfl rfl)
theorem dX17_line_22 : decode cX17_line 22 = .ok (.bipush 20, 2) := dk_16 20 (dk_at dksX17_line_0 22 rfl rfl)
theorem dX17_line_24 : decode cX17_line 24 = .ok (.if_icmp .ne 9, 3) := dk_160 0 9 (dk_at dksX17_line_1 0 rfl rfl)
theorem dX17_line_27 : decode cX17_line 27 = .ok (.aload_n 0, 1) := dk_42 (dk_at dksX17_line_1 3 rfl rfl)
theorem dX17_line_28 : decode cX17_line 28 = .ok (.iconst 4, 1) := dk_7 (dk_at dksX17_line_1 4 rfl rfl)
theorem dX17_line_29 : decode cX17_line 29 = .ok (.iload_n 2, 1) := dk_28 (dk_at dksX17_line_1 5 rfl rfl)
theorem dX17_line_30 : decode cX17_line 30 = .ok (.invokevirtual 30, 3) := dk_182 0 30 (dk_at dksX17_line_1 6 rfl rfl)
theorem dX17_line_33 : decode cX17_line 33 = .ok (.aload_n 0, 1) := dk_42 (dk_at dksX17_line_1 9 rfl rfl)
theorem dX17_line_34 : decode cX17_line 34 = .ok (.invokevirtual 23, 3) := dk_182 0 23 (dk_at dksX17_line_1 10 rfl rfl)
theorem dX17_line_37 : decode cX17_line 37 = .ok (.ifCond .eq 21, 3) := dk_153 0 21 (dk_at dksX17_line_1 13 rfl rfl)
theorem dX17_line_40 : decode cX17_line 40 = .ok (.aload_n 0, 1) := dk_42 (dk_at dksX17_line_1 16 rfl rfl)
theorem dX17_line_41 : decode cX17_line 41 = .ok (.getfield 3, 3) := dk_180 0 3 (dk_at dksX17_line_1 17 rfl rfl)
theorem dX17_line_44 : decode cX17_line 44 = .ok (.iload_n 3, 1) := dk_29 (dk_at dksX17_line_1 20 rfl rfl)
theorem dX17_line_45 : decode cX17_line 45 = .ok (.invokevirtual 58, 3) := dk_182 0 58 (dk_at dksX17_line_1 21 rfl rfl)
theorem dX17_line_48 : decode cX17_line 48 = .ok (.ifCond .ne 10, 3) := dk_154 0 10 (dk_at dksX17_line_2 0 rfl rfl)
theorem dX17_line_51 : decode cX17_line 51 = .ok (.aload_n 0, 1) := dk_42 (dk_at dksX17_line_2 3 rfl rfl)
theorem dX17_line_52 : decode cX17_line 52 = .ok (.bipush 7, 2) := dk_16 7 (dk_at dksX17_line_2 4 rfl rfl)
theorem dX17_line_54 : decode cX17_line 54 = .ok (.iload_n 2, 1) := dk_28 (dk_at dksX17_line_2 6 rfl rfl)
theorem dX17_line_55 : decode cX17_line 55 = .ok (.invokevirtual 30, 3) := dk_182 0 30 (dk_at dksX17_line_2 7 rfl rfl)
theorem dX17_line_58 : decode cX17_line 58 = .ok (.aload_n 0, 1) := dk_42 (dk_at dksX17_line_2 10 rfl rfl)
theorem dX17_line_59 : decode cX17_line 59 = .ok (.invokevirtual 23, 3) := dk_182 0 23 (dk_at dksX17_line_2 11 rfl rfl)
theorem dX17_line_62 : decode cX17_line 62 = .ok (.ifCond .eq 8, 3) := dk_153 0 8 (dk_at dksX17_line_2 14 rfl rfl)
theorem dX17_line_65 : decode cX17_line 65 = .ok (.aload_n 0, 1) := dk_42 (dk_at dksX17_line_2 17 rfl rfl)
theorem dX17_line_66 : decode cX17_line 66 = .ok (.iload_n 3, 1) := dk_29 (dk_at dksX17_line_2 18 rfl rfl)
theorem dX17_line_67 : decode cX17_line 67 = .ok (.invokevirtual 77, 3) := dk_182 0 77 (dk_at dksX17_line_2 19 rfl rfl)
theorem dX17_line_70 : decode cX17_line 70 = .ok (.return_, 1) := dk_177 (dk_at dksX17_line_2 22 rfl rfl)
abbrev cX17_does : ByteArray := prog_13_method_5_code
def yX17_does : MethodName := ⟨RX17, "does", "(I)V"⟩
def dkwX17_does_5 : List UInt8 := [182, 0, 73, 167, 0, 9, 42, 4, 29, 182, 0, 30, 177]
abbrev dktX17_does_5 : List UInt8 := dkwX17_does_5 ++ []
def dkwX17_does_4 : List UInt8 := [180, 0, 3, 180, 0, 38, 180, 0, 48, 27, 50, 28, 16, 43, 160, 0, 7, 4, 167, 0, 4, 3]
abbrev dktX17_does_4 : List UInt8 := dkwX17_does_4 ++ dktX17_does_5
def dkwX17_does_3 : List UInt8 := [167, 0, 58, 42, 42, 180, 0, 3, 180, 0, 38, 180, 0, 48, 27, 50, 182, 0, 69, 167, 0, 39, 42, 42]
abbrev dktX17_does_3 : List UInt8 := dkwX17_does_3 ++ dktX17_does_4
def dkwX17_does_2 : List UInt8 := [42, 27, 182, 0, 65, 167, 0, 77, 42, 180, 0, 3, 180, 0, 38, 180, 0, 48, 27, 50, 2, 181, 0, 52]
abbrev dktX17_does_2 : List UInt8 := dkwX17_does_2 ++ dktX17_does_3
def dkwX17_does_1 : List UInt8 := [171, 0, 0, 0, 125, 0, 0, 0, 5, 0, 0, 0, 33, 0, 0, 0, 57, 0, 0, 0, 43, 0, 0, 0, 95, 0, 0, 0, 45, 0, 0, 0, 95, 0, 0, 0, 61, 0, 0, 0, 76, 0, 0, 0, 64, 0, 0, 0, 49]
abbrev dktX17_does_1 : List UInt8 := dkwX17_does_1 ++ dktX17_does_2
def dkwX17_does_0 : List UInt8 := [42, 182, 0, 27, 61, 42, 182, 0, 15, 62, 42, 182, 0, 34, 28]
abbrev dktX17_does_0 : List UInt8 := dkwX17_does_0 ++ dktX17_does_1
theorem dksX17_does_0 : cX17_does.data.toList.drop 0 = dktX17_does_0 := by decide +kernel
theorem dksX17_does_1 : cX17_does.data.toList.drop 15 = dktX17_does_1 := dk_seg dksX17_does_0 15 rfl rfl
theorem dksX17_does_2 : cX17_does.data.toList.drop 64 = dktX17_does_2 := dk_seg dksX17_does_1 49 rfl rfl
theorem dksX17_does_3 : cX17_does.data.toList.drop 88 = dktX17_does_3 := dk_seg dksX17_does_2 24 rfl rfl
theorem dksX17_does_4 : cX17_does.data.toList.drop 112 = dktX17_does_4 := dk_seg dksX17_does_3 24 rfl rfl
theorem dksX17_does_5 : cX17_does.data.toList.drop 134 = dktX17_does_5 := dk_seg dksX17_does_4 22 rfl rfl
theorem dX17_does_0 : decode cX17_does 0 = .ok (.aload_n 0, 1) := dk_42 (dk_at dksX17_does_0 0 rfl rfl)
theorem dX17_does_1 : decode cX17_does 1 = .ok (.invokevirtual 27, 3) := dk_182 0 27 (dk_at dksX17_does_0 1 rfl rfl)
theorem dX17_does_4 : decode cX17_does 4 = .ok (.istore_n 2, 1) := dk_61 (dk_at dksX17_does_0 4 rfl rfl)
theorem dX17_does_5 : decode cX17_does 5 = .ok (.aload_n 0, 1) := dk_42 (dk_at dksX17_does_0 5 rfl rfl)
theorem dX17_does_6 : decode cX17_does 6 = .ok (.invokevirtual 15, 3) := dk_182 0 15 (dk_at dksX17_does_0 6 rfl rfl)
theorem dX17_does_9 : decode cX17_does 9 = .ok (.istore_n 3, 1) := dk_62 (dk_at dksX17_does_0 9 rfl rfl)
theorem dX17_does_10 : decode cX17_does 10 = .ok (.aload_n 0, 1) := dk_42 (dk_at dksX17_does_0 10 rfl rfl)
theorem dX17_does_11 : decode cX17_does 11 = .ok (.invokevirtual 34, 3) := dk_182 0 34 (dk_at dksX17_does_0 11 rfl rfl)
theorem dX17_does_14 : decode cX17_does 14 = .ok (.iload_n 2, 1) := dk_28 (dk_at dksX17_does_0 14 rfl rfl)
theorem dX17_does_15 : decode cX17_does 15 = .ok (.lookupswitch 125 #[(33, 57), (43, 95), (45, 95), (61, 76), (64, 49)], 49) := by decide +kernel
theorem dX17_does_64 : decode cX17_does 64 = .ok (.aload_n 0, 1) := dk_42 (dk_at dksX17_does_2 0 rfl rfl)
theorem dX17_does_65 : decode cX17_does 65 = .ok (.iload_n 1, 1) := dk_27 (dk_at dksX17_does_2 1 rfl rfl)
theorem dX17_does_66 : decode cX17_does 66 = .ok (.invokevirtual 65, 3) := dk_182 0 65 (dk_at dksX17_does_2 2 rfl rfl)
theorem dX17_does_69 : decode cX17_does 69 = .ok (.goto 77, 3) := dk_167 0 77 (dk_at dksX17_does_2 5 rfl rfl)
theorem dX17_does_72 : decode cX17_does 72 = .ok (.aload_n 0, 1) := dk_42 (dk_at dksX17_does_2 8 rfl rfl)
theorem dX17_does_73 : decode cX17_does 73 = .ok (.getfield 3, 3) := dk_180 0 3 (dk_at dksX17_does_2 9 rfl rfl)
theorem dX17_does_76 : decode cX17_does 76 = .ok (.getfield 38, 3) := dk_180 0 38 (dk_at dksX17_does_2 12 rfl rfl)
theorem dX17_does_79 : decode cX17_does 79 = .ok (.getfield 48, 3) := dk_180 0 48 (dk_at dksX17_does_2 15 rfl rfl)
theorem dX17_does_82 : decode cX17_does 82 = .ok (.iload_n 1, 1) := dk_27 (dk_at dksX17_does_2 18 rfl rfl)
theorem dX17_does_83 : decode cX17_does 83 = .ok (.aaload, 1) := dk_50 (dk_at dksX17_does_2 19 rfl rfl)
theorem dX17_does_84 : decode cX17_does 84 = .ok (.iconst (-1), 1) := dk_2 (dk_at dksX17_does_2 20 rfl rfl)
theorem dX17_does_85 : decode cX17_does 85 = .ok (.putfield 52, 3) := dk_181 0 52 (dk_at dksX17_does_2 21 rfl rfl)
theorem dX17_does_88 : decode cX17_does 88 = .ok (.goto 58, 3) := dk_167 0 58 (dk_at dksX17_does_3 0 rfl rfl)
theorem dX17_does_91 : decode cX17_does 91 = .ok (.aload_n 0, 1) := dk_42 (dk_at dksX17_does_3 3 rfl rfl)
theorem dX17_does_92 : decode cX17_does 92 = .ok (.aload_n 0, 1) := dk_42 (dk_at dksX17_does_3 4 rfl rfl)
theorem dX17_does_93 : decode cX17_does 93 = .ok (.getfield 3, 3) := dk_180 0 3 (dk_at dksX17_does_3 5 rfl rfl)
theorem dX17_does_96 : decode cX17_does 96 = .ok (.getfield 38, 3) := dk_180 0 38 (dk_at dksX17_does_3 8 rfl rfl)
theorem dX17_does_99 : decode cX17_does 99 = .ok (.getfield 48, 3) := dk_180 0 48 (dk_at dksX17_does_3 11 rfl rfl)
theorem dX17_does_102 : decode cX17_does 102 = .ok (.iload_n 1, 1) := dk_27 (dk_at dksX17_does_3 14 rfl rfl)
theorem dX17_does_103 : decode cX17_does 103 = .ok (.aaload, 1) := dk_50 (dk_at dksX17_does_3 15 rfl rfl)
theorem dX17_does_104 : decode cX17_does 104 = .ok (.invokevirtual 69, 3) := dk_182 0 69 (dk_at dksX17_does_3 16 rfl rfl)
theorem dX17_does_107 : decode cX17_does 107 = .ok (.goto 39, 3) := dk_167 0 39 (dk_at dksX17_does_3 19 rfl rfl)
theorem dX17_does_110 : decode cX17_does 110 = .ok (.aload_n 0, 1) := dk_42 (dk_at dksX17_does_3 22 rfl rfl)
theorem dX17_does_111 : decode cX17_does 111 = .ok (.aload_n 0, 1) := dk_42 (dk_at dksX17_does_3 23 rfl rfl)
theorem dX17_does_112 : decode cX17_does 112 = .ok (.getfield 3, 3) := dk_180 0 3 (dk_at dksX17_does_4 0 rfl rfl)
theorem dX17_does_115 : decode cX17_does 115 = .ok (.getfield 38, 3) := dk_180 0 38 (dk_at dksX17_does_4 3 rfl rfl)
theorem dX17_does_118 : decode cX17_does 118 = .ok (.getfield 48, 3) := dk_180 0 48 (dk_at dksX17_does_4 6 rfl rfl)
theorem dX17_does_121 : decode cX17_does 121 = .ok (.iload_n 1, 1) := dk_27 (dk_at dksX17_does_4 9 rfl rfl)
theorem dX17_does_122 : decode cX17_does 122 = .ok (.aaload, 1) := dk_50 (dk_at dksX17_does_4 10 rfl rfl)
theorem dX17_does_123 : decode cX17_does 123 = .ok (.iload_n 2, 1) := dk_28 (dk_at dksX17_does_4 11 rfl rfl)
theorem dX17_does_124 : decode cX17_does 124 = .ok (.bipush 43, 2) := dk_16 43 (dk_at dksX17_does_4 12 rfl rfl)
theorem dX17_does_126 : decode cX17_does 126 = .ok (.if_icmp .ne 7, 3) := dk_160 0 7 (dk_at dksX17_does_4 14 rfl rfl)
theorem dX17_does_129 : decode cX17_does 129 = .ok (.iconst 1, 1) := dk_4 (dk_at dksX17_does_4 17 rfl rfl)
theorem dX17_does_130 : decode cX17_does 130 = .ok (.goto 4, 3) := dk_167 0 4 (dk_at dksX17_does_4 18 rfl rfl)
theorem dX17_does_133 : decode cX17_does 133 = .ok (.iconst 0, 1) := dk_3 (dk_at dksX17_does_4 21 rfl rfl)
theorem dX17_does_134 : decode cX17_does 134 = .ok (.invokevirtual 73, 3) := dk_182 0 73 (dk_at dksX17_does_5 0 rfl rfl)
theorem dX17_does_137 : decode cX17_does 137 = .ok (.goto 9, 3) := dk_167 0 9 (dk_at dksX17_does_5 3 rfl rfl)
theorem dX17_does_140 : decode cX17_does 140 = .ok (.aload_n 0, 1) := dk_42 (dk_at dksX17_does_5 6 rfl rfl)
theorem dX17_does_141 : decode cX17_does 141 = .ok (.iconst 1, 1) := dk_4 (dk_at dksX17_does_5 7 rfl rfl)
theorem dX17_does_142 : decode cX17_does 142 = .ok (.iload_n 3, 1) := dk_29 (dk_at dksX17_does_5 8 rfl rfl)
theorem dX17_does_143 : decode cX17_does 143 = .ok (.invokevirtual 30, 3) := dk_182 0 30 (dk_at dksX17_does_5 9 rfl rfl)
theorem dX17_does_146 : decode cX17_does 146 = .ok (.return_, 1) := dk_177 (dk_at dksX17_does_5 12 rfl rfl)
abbrev cX17_lays : ByteArray := prog_13_method_2_code
def yX17_lays : MethodName := ⟨RX17, "lays", "(I)V"⟩
def dkwX17_lays_6 : List UInt8 := [21, 5, 104, 29, 96, 181, 0, 52, 177]
abbrev dktX17_lays_6 : List UInt8 := dkwX17_lays_6 ++ []
def dkwX17_lays_5 : List UInt8 := [159, 0, 10, 42, 16, 8, 28, 182, 0, 30, 42, 180, 0, 3, 180, 0, 38, 180, 0, 48, 27, 50, 16, 10]
abbrev dktX17_lays_5 : List UInt8 := dkwX17_lays_5 ++ dktX17_lays_6
def dkwX17_lays_4 : List UInt8 := [180, 0, 38, 16, 10, 21, 5, 104, 29, 96, 182, 0, 42, 54, 6, 21, 6, 2, 159, 0, 16, 21, 6, 27]
abbrev dktX17_lays_4 : List UInt8 := dkwX17_lays_4 ++ dktX17_lays_5
def dkwX17_lays_3 : List UInt8 := [16, 6, 161, 0, 10, 42, 6, 21, 4, 182, 0, 30, 42, 182, 0, 23, 154, 0, 4, 177, 42, 180, 0, 3]
abbrev dktX17_lays_3 : List UInt8 := dkwX17_lays_3 ++ dktX17_lays_4
def dkwX17_lays_2 : List UInt8 := [182, 0, 15, 54, 4, 42, 16, 48, 16, 10, 182, 0, 19, 54, 5, 42, 182, 0, 23, 153, 0, 17, 21, 5]
abbrev dktX17_lays_2 : List UInt8 := dkwX17_lays_2 ++ dktX17_lays_3
def dkwX17_lays_1 : List UInt8 := [182, 0, 27, 16, 44, 159, 0, 12, 42, 4, 42, 182, 0, 15, 182, 0, 30, 42, 182, 0, 34, 42]
abbrev dktX17_lays_1 : List UInt8 := dkwX17_lays_1 ++ dktX17_lays_2
def dkwX17_lays_0 : List UInt8 := [42, 182, 0, 15, 61, 42, 16, 48, 16, 10, 182, 0, 19, 62, 42, 182, 0, 23, 153, 0, 21, 42]
abbrev dktX17_lays_0 : List UInt8 := dkwX17_lays_0 ++ dktX17_lays_1
theorem dksX17_lays_0 : cX17_lays.data.toList.drop 0 = dktX17_lays_0 := by decide +kernel
theorem dksX17_lays_1 : cX17_lays.data.toList.drop 22 = dktX17_lays_1 := dk_seg dksX17_lays_0 22 rfl rfl
theorem dksX17_lays_2 : cX17_lays.data.toList.drop 44 = dktX17_lays_2 := dk_seg dksX17_lays_1 22 rfl rfl
theorem dksX17_lays_3 : cX17_lays.data.toList.drop 68 = dktX17_lays_3 := dk_seg dksX17_lays_2 24 rfl rfl
theorem dksX17_lays_4 : cX17_lays.data.toList.drop 92 = dktX17_lays_4 := dk_seg dksX17_lays_3 24 rfl rfl
theorem dksX17_lays_5 : cX17_lays.data.toList.drop 116 = dktX17_lays_5 := dk_seg dksX17_lays_4 24 rfl rfl
theorem dksX17_lays_6 : cX17_lays.data.toList.drop 140 = dktX17_lays_6 := dk_seg dksX17_lays_5 24 rfl rfl
theorem dX17_lays_0 : decode cX17_lays 0 = .ok (.aload_n 0, 1) := dk_42 (dk_at dksX17_lays_0 0 rfl rfl)
theorem dX17_lays_1 : decode cX17_lays 1 = .ok (.invokevirtual 15, 3) := dk_182 0 15 (dk_at dksX17_lays_0 1 rfl rfl)
theorem dX17_lays_4 : decode cX17_lays 4 = .ok (.istore_n 2, 1) := dk_61 (dk_at dksX17_lays_0 4 rfl rfl)
theorem dX17_lays_5 : decode cX17_lays 5 = .ok (.aload_n 0, 1) := dk_42 (dk_at dksX17_lays_0 5 rfl rfl)
theorem dX17_lays_6 : decode cX17_lays 6 = .ok (.bipush 48, 2) := dk_16 48 (dk_at dksX17_lays_0 6 rfl rfl)
theorem dX17_lays_8 : decode cX17_lays 8 = .ok (.bipush 10, 2) := dk_16 10 (dk_at dksX17_lays_0 8 rfl rfl)
theorem dX17_lays_10 : decode cX17_lays 10 = .ok (.invokevirtual 19, 3) := dk_182 0 19 (dk_at dksX17_lays_0 10 rfl rfl)
theorem dX17_lays_13 : decode cX17_lays 13 = .ok (.istore_n 3, 1) := dk_62 (dk_at dksX17_lays_0 13 rfl rfl)
theorem dX17_lays_14 : decode cX17_lays 14 = .ok (.aload_n 0, 1) := dk_42 (dk_at dksX17_lays_0 14 rfl rfl)
theorem dX17_lays_15 : decode cX17_lays 15 = .ok (.invokevirtual 23, 3) := dk_182 0 23 (dk_at dksX17_lays_0 15 rfl rfl)
theorem dX17_lays_18 : decode cX17_lays 18 = .ok (.ifCond .eq 21, 3) := dk_153 0 21 (dk_at dksX17_lays_0 18 rfl rfl)
theorem dX17_lays_21 : decode cX17_lays 21 = .ok (.aload_n 0, 1) := dk_42 (dk_at dksX17_lays_0 21 rfl rfl)
theorem dX17_lays_22 : decode cX17_lays 22 = .ok (.invokevirtual 27, 3) := dk_182 0 27 (dk_at dksX17_lays_1 0 rfl rfl)
theorem dX17_lays_25 : decode cX17_lays 25 = .ok (.bipush 44, 2) := dk_16 44 (dk_at dksX17_lays_1 3 rfl rfl)
theorem dX17_lays_27 : decode cX17_lays 27 = .ok (.if_icmp .eq 12, 3) := dk_159 0 12 (dk_at dksX17_lays_1 5 rfl rfl)
theorem dX17_lays_30 : decode cX17_lays 30 = .ok (.aload_n 0, 1) := dk_42 (dk_at dksX17_lays_1 8 rfl rfl)
theorem dX17_lays_31 : decode cX17_lays 31 = .ok (.iconst 1, 1) := dk_4 (dk_at dksX17_lays_1 9 rfl rfl)
theorem dX17_lays_32 : decode cX17_lays 32 = .ok (.aload_n 0, 1) := dk_42 (dk_at dksX17_lays_1 10 rfl rfl)
theorem dX17_lays_33 : decode cX17_lays 33 = .ok (.invokevirtual 15, 3) := dk_182 0 15 (dk_at dksX17_lays_1 11 rfl rfl)
theorem dX17_lays_36 : decode cX17_lays 36 = .ok (.invokevirtual 30, 3) := dk_182 0 30 (dk_at dksX17_lays_1 14 rfl rfl)
theorem dX17_lays_39 : decode cX17_lays 39 = .ok (.aload_n 0, 1) := dk_42 (dk_at dksX17_lays_1 17 rfl rfl)
theorem dX17_lays_40 : decode cX17_lays 40 = .ok (.invokevirtual 34, 3) := dk_182 0 34 (dk_at dksX17_lays_1 18 rfl rfl)
theorem dX17_lays_43 : decode cX17_lays 43 = .ok (.aload_n 0, 1) := dk_42 (dk_at dksX17_lays_1 21 rfl rfl)
theorem dX17_lays_44 : decode cX17_lays 44 = .ok (.invokevirtual 15, 3) := dk_182 0 15 (dk_at dksX17_lays_2 0 rfl rfl)
theorem dX17_lays_47 : decode cX17_lays 47 = .ok (.istore 4, 2) := dk_54 4 (dk_at dksX17_lays_2 3 rfl rfl)
theorem dX17_lays_49 : decode cX17_lays 49 = .ok (.aload_n 0, 1) := dk_42 (dk_at dksX17_lays_2 5 rfl rfl)
theorem dX17_lays_50 : decode cX17_lays 50 = .ok (.bipush 48, 2) := dk_16 48 (dk_at dksX17_lays_2 6 rfl rfl)
theorem dX17_lays_52 : decode cX17_lays 52 = .ok (.bipush 10, 2) := dk_16 10 (dk_at dksX17_lays_2 8 rfl rfl)
theorem dX17_lays_54 : decode cX17_lays 54 = .ok (.invokevirtual 19, 3) := dk_182 0 19 (dk_at dksX17_lays_2 10 rfl rfl)
theorem dX17_lays_57 : decode cX17_lays 57 = .ok (.istore 5, 2) := dk_54 5 (dk_at dksX17_lays_2 13 rfl rfl)
theorem dX17_lays_59 : decode cX17_lays 59 = .ok (.aload_n 0, 1) := dk_42 (dk_at dksX17_lays_2 15 rfl rfl)
theorem dX17_lays_60 : decode cX17_lays 60 = .ok (.invokevirtual 23, 3) := dk_182 0 23 (dk_at dksX17_lays_2 16 rfl rfl)
theorem dX17_lays_63 : decode cX17_lays 63 = .ok (.ifCond .eq 17, 3) := dk_153 0 17 (dk_at dksX17_lays_2 19 rfl rfl)
theorem dX17_lays_66 : decode cX17_lays 66 = .ok (.iload 5, 2) := dk_21 5 (dk_at dksX17_lays_2 22 rfl rfl)
theorem dX17_lays_68 : decode cX17_lays 68 = .ok (.bipush 6, 2) := dk_16 6 (dk_at dksX17_lays_3 0 rfl rfl)
theorem dX17_lays_70 : decode cX17_lays 70 = .ok (.if_icmp .lt 10, 3) := dk_161 0 10 (dk_at dksX17_lays_3 2 rfl rfl)
theorem dX17_lays_73 : decode cX17_lays 73 = .ok (.aload_n 0, 1) := dk_42 (dk_at dksX17_lays_3 5 rfl rfl)
theorem dX17_lays_74 : decode cX17_lays 74 = .ok (.iconst 3, 1) := dk_6 (dk_at dksX17_lays_3 6 rfl rfl)
theorem dX17_lays_75 : decode cX17_lays 75 = .ok (.iload 4, 2) := dk_21 4 (dk_at dksX17_lays_3 7 rfl rfl)
theorem dX17_lays_77 : decode cX17_lays 77 = .ok (.invokevirtual 30, 3) := dk_182 0 30 (dk_at dksX17_lays_3 9 rfl rfl)
theorem dX17_lays_80 : decode cX17_lays 80 = .ok (.aload_n 0, 1) := dk_42 (dk_at dksX17_lays_3 12 rfl rfl)
theorem dX17_lays_81 : decode cX17_lays 81 = .ok (.invokevirtual 23, 3) := dk_182 0 23 (dk_at dksX17_lays_3 13 rfl rfl)
theorem dX17_lays_84 : decode cX17_lays 84 = .ok (.ifCond .ne 4, 3) := dk_154 0 4 (dk_at dksX17_lays_3 16 rfl rfl)
theorem dX17_lays_87 : decode cX17_lays 87 = .ok (.return_, 1) := dk_177 (dk_at dksX17_lays_3 19 rfl rfl)
theorem dX17_lays_88 : decode cX17_lays 88 = .ok (.aload_n 0, 1) := dk_42 (dk_at dksX17_lays_3 20 rfl rfl)
theorem dX17_lays_89 : decode cX17_lays 89 = .ok (.getfield 3, 3) := dk_180 0 3 (dk_at dksX17_lays_3 21 rfl rfl)
theorem dX17_lays_92 : decode cX17_lays 92 = .ok (.getfield 38, 3) := dk_180 0 38 (dk_at dksX17_lays_4 0 rfl rfl)
theorem dX17_lays_95 : decode cX17_lays 95 = .ok (.bipush 10, 2) := dk_16 10 (dk_at dksX17_lays_4 3 rfl rfl)
theorem dX17_lays_97 : decode cX17_lays 97 = .ok (.iload 5, 2) := dk_21 5 (dk_at dksX17_lays_4 5 rfl rfl)
theorem dX17_lays_99 : decode cX17_lays 99 = .ok (.imul, 1) := dk_104 (dk_at dksX17_lays_4 7 rfl rfl)
theorem dX17_lays_100 : decode cX17_lays 100 = .ok (.iload_n 3, 1) := dk_29 (dk_at dksX17_lays_4 8 rfl rfl)
theorem dX17_lays_101 : decode cX17_lays 101 = .ok (.iadd, 1) := dk_96 (dk_at dksX17_lays_4 9 rfl rfl)
theorem dX17_lays_102 : decode cX17_lays 102 = .ok (.invokevirtual 42, 3) := dk_182 0 42 (dk_at dksX17_lays_4 10 rfl rfl)
theorem dX17_lays_105 : decode cX17_lays 105 = .ok (.istore 6, 2) := dk_54 6 (dk_at dksX17_lays_4 13 rfl rfl)
theorem dX17_lays_107 : decode cX17_lays 107 = .ok (.iload 6, 2) := dk_21 6 (dk_at dksX17_lays_4 15 rfl rfl)
theorem dX17_lays_109 : decode cX17_lays 109 = .ok (.iconst (-1), 1) := dk_2 (dk_at dksX17_lays_4 17 rfl rfl)
theorem dX17_lays_110 : decode cX17_lays 110 = .ok (.if_icmp .eq 16, 3) := dk_159 0 16 (dk_at dksX17_lays_4 18 rfl rfl)
theorem dX17_lays_113 : decode cX17_lays 113 = .ok (.iload 6, 2) := dk_21 6 (dk_at dksX17_lays_4 21 rfl rfl)
theorem dX17_lays_115 : decode cX17_lays 115 = .ok (.iload_n 1, 1) := dk_27 (dk_at dksX17_lays_4 23 rfl rfl)
theorem dX17_lays_116 : decode cX17_lays 116 = .ok (.if_icmp .eq 10, 3) := dk_159 0 10 (dk_at dksX17_lays_5 0 rfl rfl)
theorem dX17_lays_119 : decode cX17_lays 119 = .ok (.aload_n 0, 1) := dk_42 (dk_at dksX17_lays_5 3 rfl rfl)
theorem dX17_lays_120 : decode cX17_lays 120 = .ok (.bipush 8, 2) := dk_16 8 (dk_at dksX17_lays_5 4 rfl rfl)
theorem dX17_lays_122 : decode cX17_lays 122 = .ok (.iload_n 2, 1) := dk_28 (dk_at dksX17_lays_5 6 rfl rfl)
theorem dX17_lays_123 : decode cX17_lays 123 = .ok (.invokevirtual 30, 3) := dk_182 0 30 (dk_at dksX17_lays_5 7 rfl rfl)
theorem dX17_lays_126 : decode cX17_lays 126 = .ok (.aload_n 0, 1) := dk_42 (dk_at dksX17_lays_5 10 rfl rfl)
theorem dX17_lays_127 : decode cX17_lays 127 = .ok (.getfield 3, 3) := dk_180 0 3 (dk_at dksX17_lays_5 11 rfl rfl)
theorem dX17_lays_130 : decode cX17_lays 130 = .ok (.getfield 38, 3) := dk_180 0 38 (dk_at dksX17_lays_5 14 rfl rfl)
theorem dX17_lays_133 : decode cX17_lays 133 = .ok (.getfield 48, 3) := dk_180 0 48 (dk_at dksX17_lays_5 17 rfl rfl)
theorem dX17_lays_136 : decode cX17_lays 136 = .ok (.iload_n 1, 1) := dk_27 (dk_at dksX17_lays_5 20 rfl rfl)
theorem dX17_lays_137 : decode cX17_lays 137 = .ok (.aaload, 1) := dk_50 (dk_at dksX17_lays_5 21 rfl rfl)
theorem dX17_lays_138 : decode cX17_lays 138 = .ok (.bipush 10, 2) := dk_16 10 (dk_at dksX17_lays_5 22 rfl rfl)
theorem dX17_lays_140 : decode cX17_lays 140 = .ok (.iload 5, 2) := dk_21 5 (dk_at dksX17_lays_6 0 rfl rfl)
theorem dX17_lays_142 : decode cX17_lays 142 = .ok (.imul, 1) := dk_104 (dk_at dksX17_lays_6 2 rfl rfl)
theorem dX17_lays_143 : decode cX17_lays 143 = .ok (.iload_n 3, 1) := dk_29 (dk_at dksX17_lays_6 3 rfl rfl)
theorem dX17_lays_144 : decode cX17_lays 144 = .ok (.iadd, 1) := dk_96 (dk_at dksX17_lays_6 4 rfl rfl)
theorem dX17_lays_145 : decode cX17_lays 145 = .ok (.putfield 52, 3) := dk_181 0 52 (dk_at dksX17_lays_6 5 rfl rfl)
theorem dX17_lays_148 : decode cX17_lays 148 = .ok (.return_, 1) := dk_177 (dk_at dksX17_lays_6 8 rfl rfl)
abbrev cX17_changes : ByteArray := prog_13_method_3_code
def yX17_changes : MethodName := ⟨RX17, "changes", "(LTalkingPlots$Person;)V"⟩
def dkwX17_changes_3 : List UInt8 := [181, 0, 52, 42, 180, 0, 3, 180, 0, 38, 180, 0, 48, 29, 50, 21, 4, 181, 0, 52, 177]
abbrev dktX17_changes_3 : List UInt8 := dkwX17_changes_3 ++ []
def dkwX17_changes_2 : List UInt8 := [177, 43, 180, 0, 52, 54, 4, 43, 42, 180, 0, 3, 180, 0, 38, 180, 0, 48, 29, 50, 180, 0, 52]
abbrev dktX17_changes_2 : List UInt8 := dkwX17_changes_2 ++ dktX17_changes_3
def dkwX17_changes_1 : List UInt8 := [180, 0, 3, 29, 182, 0, 58, 154, 0, 10, 42, 16, 7, 28, 182, 0, 30, 42, 182, 0, 23, 154, 0, 4]
abbrev dktX17_changes_1 : List UInt8 := dkwX17_changes_1 ++ dktX17_changes_2
def dkwX17_changes_0 : List UInt8 := [42, 182, 0, 15, 61, 42, 16, 97, 16, 16, 182, 0, 19, 62, 42, 182, 0, 23, 153, 0, 21, 42]
abbrev dktX17_changes_0 : List UInt8 := dkwX17_changes_0 ++ dktX17_changes_1
theorem dksX17_changes_0 : cX17_changes.data.toList.drop 0 = dktX17_changes_0 := by decide +kernel
theorem dksX17_changes_1 : cX17_changes.data.toList.drop 22 = dktX17_changes_1 := dk_seg dksX17_changes_0 22 rfl rfl
theorem dksX17_changes_2 : cX17_changes.data.toList.drop 46 = dktX17_changes_2 := dk_seg dksX17_changes_1 24 rfl rfl
theorem dksX17_changes_3 : cX17_changes.data.toList.drop 69 = dktX17_changes_3 := dk_seg dksX17_changes_2 23 rfl rfl
theorem dX17_changes_0 : decode cX17_changes 0 = .ok (.aload_n 0, 1) := dk_42 (dk_at dksX17_changes_0 0 rfl rfl)
theorem dX17_changes_1 : decode cX17_changes 1 = .ok (.invokevirtual 15, 3) := dk_182 0 15 (dk_at dksX17_changes_0 1 rfl rfl)
theorem dX17_changes_4 : decode cX17_changes 4 = .ok (.istore_n 2, 1) := dk_61 (dk_at dksX17_changes_0 4 rfl rfl)
theorem dX17_changes_5 : decode cX17_changes 5 = .ok (.aload_n 0, 1) := dk_42 (dk_at dksX17_changes_0 5 rfl rfl)
theorem dX17_changes_6 : decode cX17_changes 6 = .ok (.bipush 97, 2) := dk_16 97 (dk_at dksX17_changes_0 6 rfl rfl)
theorem dX17_changes_8 : decode cX17_changes 8 = .ok (.bipush 16, 2) := dk_16 16 (dk_at dksX17_changes_0 8 rfl rfl)
theorem dX17_changes_10 : decode cX17_changes 10 = .ok (.invokevirtual 19, 3) := dk_182 0 19 (dk_at dksX17_changes_0 10 rfl rfl)
theorem dX17_changes_13 : decode cX17_changes 13 = .ok (.istore_n 3, 1) := dk_62 (dk_at dksX17_changes_0 13 rfl rfl)
theorem dX17_changes_14 : decode cX17_changes 14 = .ok (.aload_n 0, 1) := dk_42 (dk_at dksX17_changes_0 14 rfl rfl)
theorem dX17_changes_15 : decode cX17_changes 15 = .ok (.invokevirtual 23, 3) := dk_182 0 23 (dk_at dksX17_changes_0 15 rfl rfl)
theorem dX17_changes_18 : decode cX17_changes 18 = .ok (.ifCond .eq 21, 3) := dk_153 0 21 (dk_at dksX17_changes_0 18 rfl rfl)
theorem dX17_changes_21 : decode cX17_changes 21 = .ok (.aload_n 0, 1) := dk_42 (dk_at dksX17_changes_0 21 rfl rfl)
theorem dX17_changes_22 : decode cX17_changes 22 = .ok (.getfield 3, 3) := dk_180 0 3 (dk_at dksX17_changes_1 0 rfl rfl)
theorem dX17_changes_25 : decode cX17_changes 25 = .ok (.iload_n 3, 1) := dk_29 (dk_at dksX17_changes_1 3 rfl rfl)
theorem dX17_changes_26 : decode cX17_changes 26 = .ok (.invokevirtual 58, 3) := dk_182 0 58 (dk_at dksX17_changes_1 4 rfl rfl)
theorem dX17_changes_29 : decode cX17_changes 29 = .ok (.ifCond .ne 10, 3) := dk_154 0 10 (dk_at dksX17_changes_1 7 rfl rfl)
theorem dX17_changes_32 : decode cX17_changes 32 = .ok (.aload_n 0, 1) := dk_42 (dk_at dksX17_changes_1 10 rfl rfl)
theorem dX17_changes_33 : decode cX17_changes 33 = .ok (.bipush 7, 2) := dk_16 7 (dk_at dksX17_changes_1 11 rfl rfl)
theorem dX17_changes_35 : decode cX17_changes 35 = .ok (.iload_n 2, 1) := dk_28 (dk_at dksX17_changes_1 13 rfl rfl)
theorem dX17_changes_36 : decode cX17_changes 36 = .ok (.invokevirtual 30, 3) := dk_182 0 30 (dk_at dksX17_changes_1 14 rfl rfl)
theorem dX17_changes_39 : decode cX17_changes 39 = .ok (.aload_n 0, 1) := dk_42 (dk_at dksX17_changes_1 17 rfl rfl)
theorem dX17_changes_40 : decode cX17_changes 40 = .ok (.invokevirtual 23, 3) := dk_182 0 23 (dk_at dksX17_changes_1 18 rfl rfl)
theorem dX17_changes_43 : decode cX17_changes 43 = .ok (.ifCond .ne 4, 3) := dk_154 0 4 (dk_at dksX17_changes_1 21 rfl rfl)
theorem dX17_changes_46 : decode cX17_changes 46 = .ok (.return_, 1) := dk_177 (dk_at dksX17_changes_2 0 rfl rfl)
theorem dX17_changes_47 : decode cX17_changes 47 = .ok (.aload_n 1, 1) := dk_43 (dk_at dksX17_changes_2 1 rfl rfl)
theorem dX17_changes_48 : decode cX17_changes 48 = .ok (.getfield 52, 3) := dk_180 0 52 (dk_at dksX17_changes_2 2 rfl rfl)
theorem dX17_changes_51 : decode cX17_changes 51 = .ok (.istore 4, 2) := dk_54 4 (dk_at dksX17_changes_2 5 rfl rfl)
theorem dX17_changes_53 : decode cX17_changes 53 = .ok (.aload_n 1, 1) := dk_43 (dk_at dksX17_changes_2 7 rfl rfl)
theorem dX17_changes_54 : decode cX17_changes 54 = .ok (.aload_n 0, 1) := dk_42 (dk_at dksX17_changes_2 8 rfl rfl)
theorem dX17_changes_55 : decode cX17_changes 55 = .ok (.getfield 3, 3) := dk_180 0 3 (dk_at dksX17_changes_2 9 rfl rfl)
theorem dX17_changes_58 : decode cX17_changes 58 = .ok (.getfield 38, 3) := dk_180 0 38 (dk_at dksX17_changes_2 12 rfl rfl)
theorem dX17_changes_61 : decode cX17_changes 61 = .ok (.getfield 48, 3) := dk_180 0 48 (dk_at dksX17_changes_2 15 rfl rfl)
theorem dX17_changes_64 : decode cX17_changes 64 = .ok (.iload_n 3, 1) := dk_29 (dk_at dksX17_changes_2 18 rfl rfl)
theorem dX17_changes_65 : decode cX17_changes 65 = .ok (.aaload, 1) := dk_50 (dk_at dksX17_changes_2 19 rfl rfl)
theorem dX17_changes_66 : decode cX17_changes 66 = .ok (.getfield 52, 3) := dk_180 0 52 (dk_at dksX17_changes_2 20 rfl rfl)
theorem dX17_changes_69 : decode cX17_changes 69 = .ok (.putfield 52, 3) := dk_181 0 52 (dk_at dksX17_changes_3 0 rfl rfl)
theorem dX17_changes_72 : decode cX17_changes 72 = .ok (.aload_n 0, 1) := dk_42 (dk_at dksX17_changes_3 3 rfl rfl)
theorem dX17_changes_73 : decode cX17_changes 73 = .ok (.getfield 3, 3) := dk_180 0 3 (dk_at dksX17_changes_3 4 rfl rfl)
theorem dX17_changes_76 : decode cX17_changes 76 = .ok (.getfield 38, 3) := dk_180 0 38 (dk_at dksX17_changes_3 7 rfl rfl)
theorem dX17_changes_79 : decode cX17_changes 79 = .ok (.getfield 48, 3) := dk_180 0 48 (dk_at dksX17_changes_3 10 rfl rfl)
theorem dX17_changes_82 : decode cX17_changes 82 = .ok (.iload_n 3, 1) := dk_29 (dk_at dksX17_changes_3 13 rfl rfl)
theorem dX17_changes_83 : decode cX17_changes 83 = .ok (.aaload, 1) := dk_50 (dk_at dksX17_changes_3 14 rfl rfl)
theorem dX17_changes_84 : decode cX17_changes 84 = .ok (.iload 4, 2) := dk_21 4 (dk_at dksX17_changes_3 15 rfl rfl)
theorem dX17_changes_86 : decode cX17_changes 86 = .ok (.putfield 52, 3) := dk_181 0 52 (dk_at dksX17_changes_3 17 rfl rfl)
theorem dX17_changes_89 : decode cX17_changes 89 = .ok (.return_, 1) := dk_177 (dk_at dksX17_changes_3 20 rfl rfl)
abbrev cX17_topic : ByteArray := prog_13_method_4_code
def yX17_topic : MethodName := ⟨RX17, "topic", "(LTalkingPlots$Person;Z)V"⟩
def dkwX17_topic_1 : List UInt8 := [180, 0, 62, 4, 29, 120, 128, 167, 0, 13, 43, 180, 0, 62, 4, 29, 120, 2, 130, 126, 181, 0, 62, 177]
abbrev dktX17_topic_1 : List UInt8 := dkwX17_topic_1 ++ []
def dkwX17_topic_0 : List UInt8 := [42, 16, 65, 16, 16, 182, 0, 19, 62, 42, 182, 0, 23, 153, 0, 32, 43, 28, 153, 0, 14, 43]
abbrev dktX17_topic_0 : List UInt8 := dkwX17_topic_0 ++ dktX17_topic_1
theorem dksX17_topic_0 : cX17_topic.data.toList.drop 0 = dktX17_topic_0 := by decide +kernel
theorem dksX17_topic_1 : cX17_topic.data.toList.drop 22 = dktX17_topic_1 := dk_seg dksX17_topic_0 22 rfl rfl
theorem dX17_topic_0 : decode cX17_topic 0 = .ok (.aload_n 0, 1) := dk_42 (dk_at dksX17_topic_0 0 rfl rfl)
theorem dX17_topic_1 : decode cX17_topic 1 = .ok (.bipush 65, 2) := dk_16 65 (dk_at dksX17_topic_0 1 rfl rfl)
theorem dX17_topic_3 : decode cX17_topic 3 = .ok (.bipush 16, 2) := dk_16 16 (dk_at dksX17_topic_0 3 rfl rfl)
theorem dX17_topic_5 : decode cX17_topic 5 = .ok (.invokevirtual 19, 3) := dk_182 0 19 (dk_at dksX17_topic_0 5 rfl rfl)
theorem dX17_topic_8 : decode cX17_topic 8 = .ok (.istore_n 3, 1) := dk_62 (dk_at dksX17_topic_0 8 rfl rfl)
theorem dX17_topic_9 : decode cX17_topic 9 = .ok (.aload_n 0, 1) := dk_42 (dk_at dksX17_topic_0 9 rfl rfl)
theorem dX17_topic_10 : decode cX17_topic 10 = .ok (.invokevirtual 23, 3) := dk_182 0 23 (dk_at dksX17_topic_0 10 rfl rfl)
theorem dX17_topic_13 : decode cX17_topic 13 = .ok (.ifCond .eq 32, 3) := dk_153 0 32 (dk_at dksX17_topic_0 13 rfl rfl)
theorem dX17_topic_16 : decode cX17_topic 16 = .ok (.aload_n 1, 1) := dk_43 (dk_at dksX17_topic_0 16 rfl rfl)
theorem dX17_topic_17 : decode cX17_topic 17 = .ok (.iload_n 2, 1) := dk_28 (dk_at dksX17_topic_0 17 rfl rfl)
theorem dX17_topic_18 : decode cX17_topic 18 = .ok (.ifCond .eq 14, 3) := dk_153 0 14 (dk_at dksX17_topic_0 18 rfl rfl)
theorem dX17_topic_21 : decode cX17_topic 21 = .ok (.aload_n 1, 1) := dk_43 (dk_at dksX17_topic_0 21 rfl rfl)
theorem dX17_topic_22 : decode cX17_topic 22 = .ok (.getfield 62, 3) := dk_180 0 62 (dk_at dksX17_topic_1 0 rfl rfl)
theorem dX17_topic_25 : decode cX17_topic 25 = .ok (.iconst 1, 1) := dk_4 (dk_at dksX17_topic_1 3 rfl rfl)
theorem dX17_topic_26 : decode cX17_topic 26 = .ok (.iload_n 3, 1) := dk_29 (dk_at dksX17_topic_1 4 rfl rfl)
theorem dX17_topic_27 : decode cX17_topic 27 = .ok (.ishl, 1) := dk_120 (dk_at dksX17_topic_1 5 rfl rfl)
theorem dX17_topic_28 : decode cX17_topic 28 = .ok (.ior, 1) := dk_128 (dk_at dksX17_topic_1 6 rfl rfl)
theorem dX17_topic_29 : decode cX17_topic 29 = .ok (.goto 13, 3) := dk_167 0 13 (dk_at dksX17_topic_1 7 rfl rfl)
theorem dX17_topic_32 : decode cX17_topic 32 = .ok (.aload_n 1, 1) := dk_43 (dk_at dksX17_topic_1 10 rfl rfl)
theorem dX17_topic_33 : decode cX17_topic 33 = .ok (.getfield 62, 3) := dk_180 0 62 (dk_at dksX17_topic_1 11 rfl rfl)
theorem dX17_topic_36 : decode cX17_topic 36 = .ok (.iconst 1, 1) := dk_4 (dk_at dksX17_topic_1 14 rfl rfl)
theorem dX17_topic_37 : decode cX17_topic 37 = .ok (.iload_n 3, 1) := dk_29 (dk_at dksX17_topic_1 15 rfl rfl)
theorem dX17_topic_38 : decode cX17_topic 38 = .ok (.ishl, 1) := dk_120 (dk_at dksX17_topic_1 16 rfl rfl)
theorem dX17_topic_39 : decode cX17_topic 39 = .ok (.iconst (-1), 1) := dk_2 (dk_at dksX17_topic_1 17 rfl rfl)
theorem dX17_topic_40 : decode cX17_topic 40 = .ok (.ixor, 1) := dk_130 (dk_at dksX17_topic_1 18 rfl rfl)
theorem dX17_topic_41 : decode cX17_topic 41 = .ok (.iand, 1) := dk_126 (dk_at dksX17_topic_1 19 rfl rfl)
theorem dX17_topic_42 : decode cX17_topic 42 = .ok (.putfield 62, 3) := dk_181 0 62 (dk_at dksX17_topic_1 20 rfl rfl)
theorem dX17_topic_45 : decode cX17_topic 45 = .ok (.return_, 1) := dk_177 (dk_at dksX17_topic_1 23 rfl rfl)
theorem q129 : (Jvm.Cond.initialized "TalkingPlots$Sexton") ∈ lw_all := lw_g (lw_at lw_m1 24 rfl) rfl
theorem q194 : (Jvm.Cond.fieldLinkNest "TalkingPlots$Sexton" (62 : Nat) "TalkingPlots$Person" "topics" "I" "TalkingPlots") ∈ lw_tbl := lw_at lw_m1 89 rfl
theorem q202 : (Jvm.Cond.fieldLinkNest "TalkingPlots$Sexton" (52 : Nat) "TalkingPlots$Person" "plot" "I" "TalkingPlots") ∈ lw_tbl := lw_at lw_m1 97 rfl
theorem q218 : (Jvm.Cond.fieldLinkNest "TalkingPlots$Sexton" (48 : Nat) "TalkingPlots$Yard" "people" "[LTalkingPlots$Person;" "TalkingPlots") ∈ lw_tbl := lw_at lw_m1 113 rfl
theorem q275 : (Jvm.Cond.fieldLinkNest "TalkingPlots$Sexton" (38 : Nat) "TalkingPlots" "then" "LTalkingPlots$Yard;" "TalkingPlots") ∈ lw_tbl := lw_at lw_m1 170 rfl
theorem q639 : (Jvm.Cond.instantiable "TalkingPlots$Sexton" (6 : Nat)) ∈ lw_all := lw_g (lw_at lw_m3 54 rfl) rfl
theorem q641 : (Jvm.Cond.instanceMethod ({ cls := "TalkingPlots$Sexton", name := "<init>", desc := "(LTalkingPlots;I)V" } : Jvm.MethodName)) ∈ lw_all := lw_g (lw_at lw_m3 56 rfl) rfl
theorem q642 : (Jvm.Cond.code ({ cls := "TalkingPlots$Sexton", name := "<init>", desc := "(LTalkingPlots;I)V" } : Jvm.MethodName) prog_13_method_1_code (3 : Nat) (Option.none : Option Jvm.ClassFile.FieldType)) ∈ lw_all := lw_g (lw_at lw_m3 57 rfl) rfl
theorem q643 : (Jvm.Cond.methodLink "TalkingPlots$Sexton" (9 : Nat) ({ cls := "TalkingPlots$Scribe", name := "<init>", desc := "(LTalkingPlots;I)V" } : Jvm.MethodName)) ∈ lw_all := lw_g (lw_at lw_m3 58 rfl) rfl
theorem q647 : (Jvm.Cond.fieldLink "TalkingPlots$Sexton" (3 : Nat) "TalkingPlots$Sexton" "this$0" "LTalkingPlots;") ∈ lw_all := lw_g (lw_at lw_m3 62 rfl) rfl
theorem q653 : (Jvm.Cond.laysFinal "TalkingPlots$Sexton" "TalkingPlots$Sexton" "this$0" "LTalkingPlots;") ∈ lw_all := lw_g (lw_at lw_m3 68 rfl) rfl
theorem q654 : (Jvm.Cond.soleField "TalkingPlots$Sexton" "this$0") ∈ lw_all := lw_g (lw_at lw_m3 69 rfl) rfl
theorem q655 : (Jvm.Cond.laysFinal "TalkingPlots$Sexton" "TalkingPlots$Scribe" "n" "I") ∈ lw_all := lw_g (lw_at lw_m3 70 rfl) rfl
theorem q657 : (Jvm.Cond.lays "TalkingPlots$Sexton" "TalkingPlots$Scribe" "at" "I") ∈ lw_all := lw_g (lw_at lw_m3 72 rfl) rfl
theorem q659 : (Jvm.Cond.lays "TalkingPlots$Sexton" "TalkingPlots$Scribe" "fault" "I") ∈ lw_all := lw_g (lw_at lw_m3 74 rfl) rfl
theorem q661 : (Jvm.Cond.lays "TalkingPlots$Sexton" "TalkingPlots$Scribe" "place" "I") ∈ lw_all := lw_g (lw_at lw_m3 76 rfl) rfl
theorem q663 : (Jvm.Cond.laysFinal "TalkingPlots$Sexton" "TalkingPlots$Scribe" "this$0" "LTalkingPlots;") ∈ lw_all := lw_g (lw_at lw_m3 78 rfl) rfl
theorem q665 : (Jvm.Cond.superclass "TalkingPlots$Sexton" "TalkingPlots$Scribe") ∈ lw_all := lw_g (lw_at lw_m3 80 rfl) rfl
theorem q667 : (Jvm.Cond.sameMethod "TalkingPlots$Sexton" "TalkingPlots$Scribe" "read" "()I") ∈ lw_all := lw_g (lw_at lw_m3 82 rfl) rfl
theorem q669 : (Jvm.Cond.selects "TalkingPlots$Sexton" ({ cls := "TalkingPlots$Sexton", name := "read", desc := "()I" } : Jvm.MethodName) ({ cls := "TalkingPlots$Scribe", name := "read", desc := "()I" } : Jvm.MethodName)) ∈ lw_all := lw_g (lw_at lw_m3 84 rfl) rfl
theorem q675 : (Jvm.Cond.selects "TalkingPlots$Sexton" ({ cls := "TalkingPlots$Scribe", name := "line", desc := "(I)V" } : Jvm.MethodName) ({ cls := "TalkingPlots$Sexton", name := "line", desc := "(I)V" } : Jvm.MethodName)) ∈ lw_all := lw_g (lw_at lw_m3 90 rfl) rfl
theorem q676 : (Jvm.Cond.instanceMethod ({ cls := "TalkingPlots$Sexton", name := "line", desc := "(I)V" } : Jvm.MethodName)) ∈ lw_all := lw_g (lw_at lw_m3 91 rfl) rfl
theorem q677 : (Jvm.Cond.code ({ cls := "TalkingPlots$Sexton", name := "line", desc := "(I)V" } : Jvm.MethodName) prog_13_method_6_code (4 : Nat) (Option.none : Option Jvm.ClassFile.FieldType)) ∈ lw_all := lw_g (lw_at lw_m3 92 rfl) rfl
theorem q678 : (Jvm.Cond.methodLink "TalkingPlots$Sexton" (15 : Nat) ({ cls := "TalkingPlots$Sexton", name := "place", desc := "()I" } : Jvm.MethodName)) ∈ lw_all := lw_g (lw_at lw_m3 93 rfl) rfl
theorem q679 : (Jvm.Cond.sameMethod "TalkingPlots$Sexton" "TalkingPlots$Scribe" "place" "()I") ∈ lw_all := lw_g (lw_at lw_m3 94 rfl) rfl
theorem q681 : (Jvm.Cond.selects "TalkingPlots$Sexton" ({ cls := "TalkingPlots$Sexton", name := "place", desc := "()I" } : Jvm.MethodName) ({ cls := "TalkingPlots$Scribe", name := "place", desc := "()I" } : Jvm.MethodName)) ∈ lw_all := lw_g (lw_at lw_m3 96 rfl) rfl
theorem q684 : (Jvm.Cond.methodLink "TalkingPlots$Sexton" (19 : Nat) ({ cls := "TalkingPlots$Sexton", name := "sign", desc := "(II)I" } : Jvm.MethodName)) ∈ lw_all := lw_g (lw_at lw_m3 99 rfl) rfl
theorem q685 : (Jvm.Cond.sameMethod "TalkingPlots$Sexton" "TalkingPlots$Scribe" "sign" "(II)I") ∈ lw_all := lw_g (lw_at lw_m3 100 rfl) rfl
theorem q687 : (Jvm.Cond.selects "TalkingPlots$Sexton" ({ cls := "TalkingPlots$Sexton", name := "sign", desc := "(II)I" } : Jvm.MethodName) ({ cls := "TalkingPlots$Scribe", name := "sign", desc := "(II)I" } : Jvm.MethodName)) ∈ lw_all := lw_g (lw_at lw_m3 102 rfl) rfl
theorem q693 : (Jvm.Cond.selects "TalkingPlots$Sexton" ({ cls := "TalkingPlots$Scribe", name := "here", desc := "()I" } : Jvm.MethodName) ({ cls := "TalkingPlots$Scribe", name := "here", desc := "()I" } : Jvm.MethodName)) ∈ lw_all := lw_g (lw_at lw_m3 108 rfl) rfl
theorem q699 : (Jvm.Cond.selects "TalkingPlots$Sexton" ({ cls := "TalkingPlots$Scribe", name := "isGood", desc := "()Z" } : Jvm.MethodName) ({ cls := "TalkingPlots$Scribe", name := "isGood", desc := "()Z" } : Jvm.MethodName)) ∈ lw_all := lw_g (lw_at lw_m3 114 rfl) rfl
theorem q705 : (Jvm.Cond.selects "TalkingPlots$Sexton" ({ cls := "TalkingPlots$Scribe", name := "sees", desc := "(II)Z" } : Jvm.MethodName) ({ cls := "TalkingPlots$Scribe", name := "sees", desc := "(II)Z" } : Jvm.MethodName)) ∈ lw_all := lw_g (lw_at lw_m3 120 rfl) rfl
theorem q711 : (Jvm.Cond.selects "TalkingPlots$Sexton" ({ cls := "TalkingPlots$Scribe", name := "bad", desc := "(II)V" } : Jvm.MethodName) ({ cls := "TalkingPlots$Scribe", name := "bad", desc := "(II)V" } : Jvm.MethodName)) ∈ lw_all := lw_g (lw_at lw_m3 126 rfl) rfl
theorem q714 : (Jvm.Cond.methodLink "TalkingPlots$Sexton" (23 : Nat) ({ cls := "TalkingPlots$Sexton", name := "isGood", desc := "()Z" } : Jvm.MethodName)) ∈ lw_all := lw_g (lw_at lw_m3 129 rfl) rfl
theorem q715 : (Jvm.Cond.sameMethod "TalkingPlots$Sexton" "TalkingPlots$Scribe" "isGood" "()Z") ∈ lw_all := lw_g (lw_at lw_m3 130 rfl) rfl
theorem q717 : (Jvm.Cond.selects "TalkingPlots$Sexton" ({ cls := "TalkingPlots$Sexton", name := "isGood", desc := "()Z" } : Jvm.MethodName) ({ cls := "TalkingPlots$Scribe", name := "isGood", desc := "()Z" } : Jvm.MethodName)) ∈ lw_all := lw_g (lw_at lw_m3 132 rfl) rfl
theorem q718 : (Jvm.Cond.methodLink "TalkingPlots$Sexton" (30 : Nat) ({ cls := "TalkingPlots$Sexton", name := "bad", desc := "(II)V" } : Jvm.MethodName)) ∈ lw_all := lw_g (lw_at lw_m3 133 rfl) rfl
theorem q719 : (Jvm.Cond.sameMethod "TalkingPlots$Sexton" "TalkingPlots$Scribe" "bad" "(II)V") ∈ lw_all := lw_g (lw_at lw_m3 134 rfl) rfl
theorem q721 : (Jvm.Cond.selects "TalkingPlots$Sexton" ({ cls := "TalkingPlots$Sexton", name := "bad", desc := "(II)V" } : Jvm.MethodName) ({ cls := "TalkingPlots$Scribe", name := "bad", desc := "(II)V" } : Jvm.MethodName)) ∈ lw_all := lw_g (lw_at lw_m3 136 rfl) rfl
theorem q722 : (Jvm.Cond.methodLinkNest "TalkingPlots$Sexton" (58 : Nat) ({ cls := "TalkingPlots", name := "isTold", desc := "(I)Z" } : Jvm.MethodName) "TalkingPlots") ∈ lw_tbl := lw_at lw_m3 137 rfl
theorem q726 : (Jvm.Cond.methodLink "TalkingPlots$Sexton" (77 : Nat) ({ cls := "TalkingPlots$Sexton", name := "does", desc := "(I)V" } : Jvm.MethodName)) ∈ lw_all := lw_g (lw_at lw_m3 141 rfl) rfl
theorem q727 : (Jvm.Cond.privateMethod ({ cls := "TalkingPlots$Sexton", name := "does", desc := "(I)V" } : Jvm.MethodName)) ∈ lw_tbl := lw_at lw_m3 142 rfl
theorem q728 : (Jvm.Cond.instanceMethod ({ cls := "TalkingPlots$Sexton", name := "does", desc := "(I)V" } : Jvm.MethodName)) ∈ lw_all := lw_g (lw_at lw_m3 143 rfl) rfl
theorem q729 : (Jvm.Cond.code ({ cls := "TalkingPlots$Sexton", name := "does", desc := "(I)V" } : Jvm.MethodName) prog_13_method_5_code (4 : Nat) (Option.none : Option Jvm.ClassFile.FieldType)) ∈ lw_all := lw_g (lw_at lw_m3 144 rfl) rfl
theorem q730 : (Jvm.Cond.methodLink "TalkingPlots$Sexton" (27 : Nat) ({ cls := "TalkingPlots$Sexton", name := "here", desc := "()I" } : Jvm.MethodName)) ∈ lw_all := lw_g (lw_at lw_m3 145 rfl) rfl
theorem q731 : (Jvm.Cond.sameMethod "TalkingPlots$Sexton" "TalkingPlots$Scribe" "here" "()I") ∈ lw_all := lw_g (lw_at lw_m3 146 rfl) rfl
theorem q733 : (Jvm.Cond.selects "TalkingPlots$Sexton" ({ cls := "TalkingPlots$Sexton", name := "here", desc := "()I" } : Jvm.MethodName) ({ cls := "TalkingPlots$Scribe", name := "here", desc := "()I" } : Jvm.MethodName)) ∈ lw_all := lw_g (lw_at lw_m3 148 rfl) rfl
theorem q734 : (Jvm.Cond.methodLink "TalkingPlots$Sexton" (34 : Nat) ({ cls := "TalkingPlots$Sexton", name := "goes", desc := "()V" } : Jvm.MethodName)) ∈ lw_all := lw_g (lw_at lw_m3 149 rfl) rfl
theorem q735 : (Jvm.Cond.sameMethod "TalkingPlots$Sexton" "TalkingPlots$Scribe" "goes" "()V") ∈ lw_all := lw_g (lw_at lw_m3 150 rfl) rfl
theorem q737 : (Jvm.Cond.selects "TalkingPlots$Sexton" ({ cls := "TalkingPlots$Sexton", name := "goes", desc := "()V" } : Jvm.MethodName) ({ cls := "TalkingPlots$Scribe", name := "goes", desc := "()V" } : Jvm.MethodName)) ∈ lw_all := lw_g (lw_at lw_m3 152 rfl) rfl
theorem q740 : (Jvm.Cond.methodLink "TalkingPlots$Sexton" (65 : Nat) ({ cls := "TalkingPlots$Sexton", name := "lays", desc := "(I)V" } : Jvm.MethodName)) ∈ lw_all := lw_g (lw_at lw_m3 155 rfl) rfl
theorem q741 : (Jvm.Cond.privateMethod ({ cls := "TalkingPlots$Sexton", name := "lays", desc := "(I)V" } : Jvm.MethodName)) ∈ lw_tbl := lw_at lw_m3 156 rfl
theorem q742 : (Jvm.Cond.instanceMethod ({ cls := "TalkingPlots$Sexton", name := "lays", desc := "(I)V" } : Jvm.MethodName)) ∈ lw_all := lw_g (lw_at lw_m3 157 rfl) rfl
theorem q743 : (Jvm.Cond.code ({ cls := "TalkingPlots$Sexton", name := "lays", desc := "(I)V" } : Jvm.MethodName) prog_13_method_2_code (7 : Nat) (Option.none : Option Jvm.ClassFile.FieldType)) ∈ lw_all := lw_g (lw_at lw_m3 158 rfl) rfl
theorem q744 : (Jvm.Cond.methodLink "TalkingPlots$Sexton" (42 : Nat) ({ cls := "TalkingPlots$Yard", name := "whoLiesAt", desc := "(I)I" } : Jvm.MethodName)) ∈ lw_all := lw_g (lw_at lw_m3 159 rfl) rfl
theorem q752 : (Jvm.Cond.methodLink "TalkingPlots$Sexton" (69 : Nat) ({ cls := "TalkingPlots$Sexton", name := "changes", desc := "(LTalkingPlots$Person;)V" } : Jvm.MethodName)) ∈ lw_all := lw_g (lw_at lw_m3 167 rfl) rfl
theorem q753 : (Jvm.Cond.privateMethod ({ cls := "TalkingPlots$Sexton", name := "changes", desc := "(LTalkingPlots$Person;)V" } : Jvm.MethodName)) ∈ lw_tbl := lw_at lw_m3 168 rfl
theorem q754 : (Jvm.Cond.instanceMethod ({ cls := "TalkingPlots$Sexton", name := "changes", desc := "(LTalkingPlots$Person;)V" } : Jvm.MethodName)) ∈ lw_all := lw_g (lw_at lw_m3 169 rfl) rfl
theorem q755 : (Jvm.Cond.code ({ cls := "TalkingPlots$Sexton", name := "changes", desc := "(LTalkingPlots$Person;)V" } : Jvm.MethodName) prog_13_method_3_code (5 : Nat) (Option.none : Option Jvm.ClassFile.FieldType)) ∈ lw_all := lw_g (lw_at lw_m3 170 rfl) rfl
theorem q756 : (Jvm.Cond.methodLink "TalkingPlots$Sexton" (73 : Nat) ({ cls := "TalkingPlots$Sexton", name := "topic", desc := "(LTalkingPlots$Person;Z)V" } : Jvm.MethodName)) ∈ lw_all := lw_g (lw_at lw_m3 171 rfl) rfl
theorem q757 : (Jvm.Cond.privateMethod ({ cls := "TalkingPlots$Sexton", name := "topic", desc := "(LTalkingPlots$Person;Z)V" } : Jvm.MethodName)) ∈ lw_tbl := lw_at lw_m3 172 rfl
theorem q758 : (Jvm.Cond.instanceMethod ({ cls := "TalkingPlots$Sexton", name := "topic", desc := "(LTalkingPlots$Person;Z)V" } : Jvm.MethodName)) ∈ lw_all := lw_g (lw_at lw_m3 173 rfl) rfl
theorem q759 : (Jvm.Cond.code ({ cls := "TalkingPlots$Sexton", name := "topic", desc := "(LTalkingPlots$Person;Z)V" } : Jvm.MethodName) prog_13_method_4_code (4 : Nat) (Option.none : Option Jvm.ClassFile.FieldType)) ∈ lw_all := lw_g (lw_at lw_m3 174 rfl) rfl
theorem in_X17 : ∀ w ∈ wsX170, w ∈ lw_all := lw_in wsX170 [655, 657, 659, 661, 663, 653] (by decide +kernel) (by decide +kernel)
/-! TalkingPlots$Warden -/
set_option maxRecDepth 100000
def RX18 : String := "TalkingPlots$Warden"
def TX18 : u_T := fun k => match k with
  | 0 => ("TalkingPlots$Scribe", "n", "I", true)
  | 1 => ("TalkingPlots$Scribe", "at", "I", false)
  | 2 => ("TalkingPlots$Scribe", "fault", "I", false)
  | 3 => ("TalkingPlots$Scribe", "place", "I", false)
  | 4 => ("TalkingPlots$Scribe", "this$0", "LTalkingPlots;", true)
  | 5 => ("TalkingPlots$Warden", "who", "[I", true)
  | 6 => ("TalkingPlots$Warden", "whom", "[I", true)
  | 7 => ("TalkingPlots$Warden", "what", "[I", true)
  | _ => ("TalkingPlots$Warden", "this$0", "LTalkingPlots;", true)
def tyX18 : Nat → FieldType := fun k => match k with
  | 0 => .int
  | 1 => .int
  | 2 => .int
  | 3 => .int
  | 4 => .object "TalkingPlots"
  | 5 => .array .int
  | 6 => .array .int
  | 7 => .array .int
  | _ => .object "TalkingPlots"
abbrev wsX180 : List Cond := u_ws RX18 TX18 9
-- two fields of one name: no nmX18
theorem tyX18_ok : ∀ k, k < 9 → parseFieldDescriptor (TX18 k).2.2.1 = some (tyX18 k) := by decide +kernel
abbrev cX18_line : ByteArray := prog_17_method_2_code
def yX18_line : MethodName := ⟨RX18, "line", "(I)V"⟩
def dkwX18_line_7 : List UInt8 := [180, 0, 15, 27, 29, 79, 42, 180, 0, 19, 27, 21, 7, 79, 42, 180, 0, 22, 27, 21, 4, 79, 177]
abbrev dktX18_line_7 : List UInt8 := dkwX18_line_7 ++ []
def dkwX18_line_6 : List UInt8 := [21, 7, 160, 0, 11, 42, 16, 6, 21, 6, 182, 0, 37, 42, 182, 0, 33, 154, 0, 4, 177, 42]
abbrev dktX18_line_6 : List UInt8 := dkwX18_line_6 ++ dktX18_line_7
def dkwX18_line_5 : List UInt8 := [16, 16, 182, 0, 29, 167, 0, 4, 29, 54, 7, 42, 182, 0, 33, 153, 0, 22, 21, 5, 153, 0, 17, 29]
abbrev dktX18_line_5 : List UInt8 := dkwX18_line_5 ++ dktX18_line_6
def dkwX18_line_4 : List UInt8 := [182, 0, 44, 42, 182, 0, 25, 54, 6, 21, 5, 153, 0, 21, 42, 182, 0, 33, 153, 0, 14, 42, 16, 97]
abbrev dktX18_line_4 : List UInt8 := dkwX18_line_4 ++ dktX18_line_5
def dkwX18_line_3 : List UInt8 := [21, 4, 16, 35, 159, 0, 19, 21, 4, 16, 46, 159, 0, 12, 42, 4, 42, 182, 0, 25, 182, 0, 37, 42]
abbrev dktX18_line_3 : List UInt8 := dkwX18_line_3 ++ dktX18_line_4
def dkwX18_line_2 : List UInt8 := [16, 45, 160, 0, 7, 4, 167, 0, 4, 3, 54, 5, 42, 182, 0, 33, 153, 0, 31, 21, 5, 154, 0, 26]
abbrev dktX18_line_2 : List UInt8 := dkwX18_line_2 ++ dktX18_line_3
def dkwX18_line_1 : List UInt8 := [160, 0, 9, 42, 7, 28, 182, 0, 37, 42, 182, 0, 41, 54, 4, 21, 4, 16, 43, 159, 0, 10, 21, 4]
abbrev dktX18_line_1 : List UInt8 := dkwX18_line_1 ++ dktX18_line_2
def dkwX18_line_0 : List UInt8 := [42, 182, 0, 25, 61, 42, 16, 97, 16, 16, 182, 0, 29, 62, 42, 182, 0, 33, 153, 0, 15, 27, 16, 24]
abbrev dktX18_line_0 : List UInt8 := dkwX18_line_0 ++ dktX18_line_1
theorem dksX18_line_0 : cX18_line.data.toList.drop 0 = dktX18_line_0 := by decide +kernel
theorem dksX18_line_1 : cX18_line.data.toList.drop 24 = dktX18_line_1 := dk_seg dksX18_line_0 24 rfl rfl
theorem dksX18_line_2 : cX18_line.data.toList.drop 48 = dktX18_line_2 := dk_seg dksX18_line_1 24 rfl rfl
theorem dksX18_line_3 : cX18_line.data.toList.drop 72 = dktX18_line_3 := dk_seg dksX18_line_2 24 rfl rfl
theorem dksX18_line_4 : cX18_line.data.toList.drop 96 = dktX18_line_4 := dk_seg dksX18_line_3 24 rfl rfl
theorem dksX18_line_5 : cX18_line.data.toList.drop 120 = dktX18_line_5 := dk_seg dksX18_line_4 24 rfl rfl
theorem dksX18_line_6 : cX18_line.data.toList.drop 144 = dktX18_line_6 := dk_seg dksX18_line_5 24 rfl rfl
theorem dksX18_line_7 : cX18_line.data.toList.drop 166 = dktX18_line_7 := dk_seg dksX18_line_6 22 rfl rfl
theorem dX18_line_0 : decode cX18_line 0 = .ok (.aload_n 0, 1) := dk_42 (dk_at dksX18_line_0 0 rfl rfl)
theorem dX18_line_1 : decode cX18_line 1 = .ok (.invokevirtual 25, 3) := dk_182 0 25 (dk_at dksX18_line_0 1 rfl rfl)
theorem dX18_line_4 : decode cX18_line 4 = .ok (.istore_n 2, 1) := dk_61 (dk_at dksX18_line_0 4 rfl rfl)
theorem dX18_line_5 : decode cX18_line 5 = .ok (.aload_n 0, 1) := dk_42 (dk_at dksX18_line_0 5 rfl rfl)
theorem dX18_line_6 : decode cX18_line 6 = .ok (.bipush 97, 2) := dk_16 97 (dk_at dksX18_line_0 6 rfl rfl)
theorem dX18_line_8 : decode cX18_line 8 = .ok (.bipush 16, 2) := dk_16 16 (dk_at dksX18_line_0 8 rfl rfl)
theorem dX18_line_10 : decode cX18_line 10 = .ok (.invokevirtual 29, 3) := dk_182 0 29 (dk_at dksX18_line_0 10 rfl rfl)
theorem dX18_line_13 : decode cX18_line 13 = .ok (.istore_n 3, 1) := dk_62 (dk_at dksX18_line_0 13 rfl rfl)
theorem dX18_line_14 : decode cX18_line 14 = .ok (.aload_n 0, 1) := dk_42 (dk_at dksX18_line_0 14 rfl rfl)
theorem dX18_line_15 : decode cX18_line 15 = .ok (.invokevirtual 33, 3) := dk_182 0 33 (dk_at dksX18_line_0 15 rfl rfl)
theorem dX18_line_18 : decode cX18_line 18 = .ok (.ifCond .eq 15, 3) := dk_153 0 15 (dk_at dksX18_line_0 18 rfl rfl)
theorem dX18_line_21 : decode cX18_line 21 = .ok (.iload_n 1, 1) := dk_27 (dk_at dksX18_line_0 21 rfl rfl)
theorem dX18_line_22 : decode cX18_line 22 = .ok (.bipush 24, 2) := dk_16 24 (dk_at dksX18_line_0 22 rfl rfl)
theorem dX18_line_24 : decode cX18_line 24 = .ok (.if_icmp .ne 9, 3) := dk_160 0 9 (dk_at dksX18_line_1 0 rfl rfl)
theorem dX18_line_27 : decode cX18_line 27 = .ok (.aload_n 0, 1) := dk_42 (dk_at dksX18_line_1 3 rfl rfl)
theorem dX18_line_28 : decode cX18_line 28 = .ok (.iconst 4, 1) := dk_7 (dk_at dksX18_line_1 4 rfl rfl)
theorem dX18_line_29 : decode cX18_line 29 = .ok (.iload_n 2, 1) := dk_28 (dk_at dksX18_line_1 5 rfl rfl)
theorem dX18_line_30 : decode cX18_line 30 = .ok (.invokevirtual 37, 3) := dk_182 0 37 (dk_at dksX18_line_1 6 rfl rfl)
theorem dX18_line_33 : decode cX18_line 33 = .ok (.aload_n 0, 1) := dk_42 (dk_at dksX18_line_1 9 rfl rfl)
theorem dX18_line_34 : decode cX18_line 34 = .ok (.invokevirtual 41, 3) := dk_182 0 41 (dk_at dksX18_line_1 10 rfl rfl)
theorem dX18_line_37 : decode cX18_line 37 = .ok (.istore 4, 2) := dk_54 4 (dk_at dksX18_line_1 13 rfl rfl)
theorem dX18_line_39 : decode cX18_line 39 = .ok (.iload 4, 2) := dk_21 4 (dk_at dksX18_line_1 15 rfl rfl)
theorem dX18_line_41 : decode cX18_line 41 = .ok (.bipush 43, 2) := dk_16 43 (dk_at dksX18_line_1 17 rfl rfl)
theorem dX18_line_43 : decode cX18_line 43 = .ok (.if_icmp .eq 10, 3) := dk_159 0 10 (dk_at dksX18_line_1 19 rfl rfl)
theorem dX18_line_46 : decode cX18_line 46 = .ok (.iload 4, 2) := dk_21 4 (dk_at dksX18_line_1 22 rfl rfl)
theorem dX18_line_48 : decode cX18_line 48 = .ok (.bipush 45, 2) := dk_16 45 (dk_at dksX18_line_2 0 rfl rfl)
theorem dX18_line_50 : decode cX18_line 50 = .ok (.if_icmp .ne 7, 3) := dk_160 0 7 (dk_at dksX18_line_2 2 rfl rfl)
theorem dX18_line_53 : decode cX18_line 53 = .ok (.iconst 1, 1) := dk_4 (dk_at dksX18_line_2 5 rfl rfl)
theorem dX18_line_54 : decode cX18_line 54 = .ok (.goto 4, 3) := dk_167 0 4 (dk_at dksX18_line_2 6 rfl rfl)
theorem dX18_line_57 : decode cX18_line 57 = .ok (.iconst 0, 1) := dk_3 (dk_at dksX18_line_2 9 rfl rfl)
theorem dX18_line_58 : decode cX18_line 58 = .ok (.istore 5, 2) := dk_54 5 (dk_at dksX18_line_2 10 rfl rfl)
theorem dX18_line_60 : decode cX18_line 60 = .ok (.aload_n 0, 1) := dk_42 (dk_at dksX18_line_2 12 rfl rfl)
theorem dX18_line_61 : decode cX18_line 61 = .ok (.invokevirtual 33, 3) := dk_182 0 33 (dk_at dksX18_line_2 13 rfl rfl)
theorem dX18_line_64 : decode cX18_line 64 = .ok (.ifCond .eq 31, 3) := dk_153 0 31 (dk_at dksX18_line_2 16 rfl rfl)
theorem dX18_line_67 : decode cX18_line 67 = .ok (.iload 5, 2) := dk_21 5 (dk_at dksX18_line_2 19 rfl rfl)
theorem dX18_line_69 : decode cX18_line 69 = .ok (.ifCond .ne 26, 3) := dk_154 0 26 (dk_at dksX18_line_2 21 rfl rfl)
theorem dX18_line_72 : decode cX18_line 72 = .ok (.iload 4, 2) := dk_21 4 (dk_at dksX18_line_3 0 rfl rfl)
theorem dX18_line_74 : decode cX18_line 74 = .ok (.bipush 35, 2) := dk_16 35 (dk_at dksX18_line_3 2 rfl rfl)
theorem dX18_line_76 : decode cX18_line 76 = .ok (.if_icmp .eq 19, 3) := dk_159 0 19 (dk_at dksX18_line_3 4 rfl rfl)
theorem dX18_line_79 : decode cX18_line 79 = .ok (.iload 4, 2) := dk_21 4 (dk_at dksX18_line_3 7 rfl rfl)
theorem dX18_line_81 : decode cX18_line 81 = .ok (.bipush 46, 2) := dk_16 46 (dk_at dksX18_line_3 9 rfl rfl)
theorem dX18_line_83 : decode cX18_line 83 = .ok (.if_icmp .eq 12, 3) := dk_159 0 12 (dk_at dksX18_line_3 11 rfl rfl)
theorem dX18_line_86 : decode cX18_line 86 = .ok (.aload_n 0, 1) := dk_42 (dk_at dksX18_line_3 14 rfl rfl)
theorem dX18_line_87 : decode cX18_line 87 = .ok (.iconst 1, 1) := dk_4 (dk_at dksX18_line_3 15 rfl rfl)
theorem dX18_line_88 : decode cX18_line 88 = .ok (.aload_n 0, 1) := dk_42 (dk_at dksX18_line_3 16 rfl rfl)
theorem dX18_line_89 : decode cX18_line 89 = .ok (.invokevirtual 25, 3) := dk_182 0 25 (dk_at dksX18_line_3 17 rfl rfl)
theorem dX18_line_92 : decode cX18_line 92 = .ok (.invokevirtual 37, 3) := dk_182 0 37 (dk_at dksX18_line_3 20 rfl rfl)
theorem dX18_line_95 : decode cX18_line 95 = .ok (.aload_n 0, 1) := dk_42 (dk_at dksX18_line_3 23 rfl rfl)
theorem dX18_line_96 : decode cX18_line 96 = .ok (.invokevirtual 44, 3) := dk_182 0 44 (dk_at dksX18_line_4 0 rfl rfl)
theorem dX18_line_99 : decode cX18_line 99 = .ok (.aload_n 0, 1) := dk_42 (dk_at dksX18_line_4 3 rfl rfl)
theorem dX18_line_100 : decode cX18_line 100 = .ok (.invokevirtual 25, 3) := dk_182 0 25 (dk_at dksX18_line_4 4 rfl rfl)
theorem dX18_line_103 : decode cX18_line 103 = .ok (.istore 6, 2) := dk_54 6 (dk_at dksX18_line_4 7 rfl rfl)
theorem dX18_line_105 : decode cX18_line 105 = .ok (.iload 5, 2) := dk_21 5 (dk_at dksX18_line_4 9 rfl rfl)
theorem dX18_line_107 : decode cX18_line 107 = .ok (.ifCond .eq 21, 3) := dk_153 0 21 (dk_at dksX18_line_4 11 rfl rfl)
theorem dX18_line_110 : decode cX18_line 110 = .ok (.aload_n 0, 1) := dk_42 (dk_at dksX18_line_4 14 rfl rfl)
theorem dX18_line_111 : decode cX18_line 111 = .ok (.invokevirtual 33, 3) := dk_182 0 33 (dk_at dksX18_line_4 15 rfl rfl)
theorem dX18_line_114 : decode cX18_line 114 = .ok (.ifCond .eq 14, 3) := dk_153 0 14 (dk_at dksX18_line_4 18 rfl rfl)
theorem dX18_line_117 : decode cX18_line 117 = .ok (.aload_n 0, 1) := dk_42 (dk_at dksX18_line_4 21 rfl rfl)
theorem dX18_line_118 : decode cX18_line 118 = .ok (.bipush 97, 2) := dk_16 97 (dk_at dksX18_line_4 22 rfl rfl)
theorem dX18_line_120 : decode cX18_line 120 = .ok (.bipush 16, 2) := dk_16 16 (dk_at dksX18_line_5 0 rfl rfl)
theorem dX18_line_122 : decode cX18_line 122 = .ok (.invokevirtual 29, 3) := dk_182 0 29 (dk_at dksX18_line_5 2 rfl rfl)
theorem dX18_line_125 : decode cX18_line 125 = .ok (.goto 4, 3) := dk_167 0 4 (dk_at dksX18_line_5 5 rfl rfl)
theorem dX18_line_128 : decode cX18_line 128 = .ok (.iload_n 3, 1) := dk_29 (dk_at dksX18_line_5 8 rfl rfl)
theorem dX18_line_129 : decode cX18_line 129 = .ok (.istore 7, 2) := dk_54 7 (dk_at dksX18_line_5 9 rfl rfl)
theorem dX18_line_131 : decode cX18_line 131 = .ok (.aload_n 0, 1) := dk_42 (dk_at dksX18_line_5 11 rfl rfl)
theorem dX18_line_132 : decode cX18_line 132 = .ok (.invokevirtual 33, 3) := dk_182 0 33 (dk_at dksX18_line_5 12 rfl rfl)
theorem dX18_line_135 : decode cX18_line 135 = .ok (.ifCond .eq 22, 3) := dk_153 0 22 (dk_at dksX18_line_5 15 rfl rfl)
theorem dX18_line_138 : decode cX18_line 138 = .ok (.iload 5, 2) := dk_21 5 (dk_at dksX18_line_5 18 rfl rfl)
theorem dX18_line_140 : decode cX18_line 140 = .ok (.ifCond .eq 17, 3) := dk_153 0 17 (dk_at dksX18_line_5 20 rfl rfl)
theorem dX18_line_143 : decode cX18_line 143 = .ok (.iload_n 3, 1) := dk_29 (dk_at dksX18_line_5 23 rfl rfl)
theorem dX18_line_144 : decode cX18_line 144 = .ok (.iload 7, 2) := dk_21 7 (dk_at dksX18_line_6 0 rfl rfl)
theorem dX18_line_146 : decode cX18_line 146 = .ok (.if_icmp .ne 11, 3) := dk_160 0 11 (dk_at dksX18_line_6 2 rfl rfl)
theorem dX18_line_149 : decode cX18_line 149 = .ok (.aload_n 0, 1) := dk_42 (dk_at dksX18_line_6 5 rfl rfl)
theorem dX18_line_150 : decode cX18_line 150 = .ok (.bipush 6, 2) := dk_16 6 (dk_at dksX18_line_6 6 rfl rfl)
theorem dX18_line_152 : decode cX18_line 152 = .ok (.iload 6, 2) := dk_21 6 (dk_at dksX18_line_6 8 rfl rfl)
theorem dX18_line_154 : decode cX18_line 154 = .ok (.invokevirtual 37, 3) := dk_182 0 37 (dk_at dksX18_line_6 10 rfl rfl)
theorem dX18_line_157 : decode cX18_line 157 = .ok (.aload_n 0, 1) := dk_42 (dk_at dksX18_line_6 13 rfl rfl)
theorem dX18_line_158 : decode cX18_line 158 = .ok (.invokevirtual 33, 3) := dk_182 0 33 (dk_at dksX18_line_6 14 rfl rfl)
theorem dX18_line_161 : decode cX18_line 161 = .ok (.ifCond .ne 4, 3) := dk_154 0 4 (dk_at dksX18_line_6 17 rfl rfl)
theorem dX18_line_164 : decode cX18_line 164 = .ok (.return_, 1) := dk_177 (dk_at dksX18_line_6 20 rfl rfl)
theorem dX18_line_165 : decode cX18_line 165 = .ok (.aload_n 0, 1) := dk_42 (dk_at dksX18_line_6 21 rfl rfl)
theorem dX18_line_166 : decode cX18_line 166 = .ok (.getfield 15, 3) := dk_180 0 15 (dk_at dksX18_line_7 0 rfl rfl)
theorem dX18_line_169 : decode cX18_line 169 = .ok (.iload_n 1, 1) := dk_27 (dk_at dksX18_line_7 3 rfl rfl)
theorem dX18_line_170 : decode cX18_line 170 = .ok (.iload_n 3, 1) := dk_29 (dk_at dksX18_line_7 4 rfl rfl)
theorem dX18_line_171 : decode cX18_line 171 = .ok (.iastore, 1) := dk_79 (dk_at dksX18_line_7 5 rfl rfl)
theorem dX18_line_172 : decode cX18_line 172 = .ok (.aload_n 0, 1) := dk_42 (dk_at dksX18_line_7 6 rfl rfl)
theorem dX18_line_173 : decode cX18_line 173 = .ok (.getfield 19, 3) := dk_180 0 19 (dk_at dksX18_line_7 7 rfl rfl)
theorem dX18_line_176 : decode cX18_line 176 = .ok (.iload_n 1, 1) := dk_27 (dk_at dksX18_line_7 10 rfl rfl)
theorem dX18_line_177 : decode cX18_line 177 = .ok (.iload 7, 2) := dk_21 7 (dk_at dksX18_line_7 11 rfl rfl)
theorem dX18_line_179 : decode cX18_line 179 = .ok (.iastore, 1) := dk_79 (dk_at dksX18_line_7 13 rfl rfl)
theorem dX18_line_180 : decode cX18_line 180 = .ok (.aload_n 0, 1) := dk_42 (dk_at dksX18_line_7 14 rfl rfl)
theorem dX18_line_181 : decode cX18_line 181 = .ok (.getfield 22, 3) := dk_180 0 22 (dk_at dksX18_line_7 15 rfl rfl)
theorem dX18_line_184 : decode cX18_line 184 = .ok (.iload_n 1, 1) := dk_27 (dk_at dksX18_line_7 18 rfl rfl)
theorem dX18_line_185 : decode cX18_line 185 = .ok (.iload 4, 2) := dk_21 4 (dk_at dksX18_line_7 19 rfl rfl)
theorem dX18_line_187 : decode cX18_line 187 = .ok (.iastore, 1) := dk_79 (dk_at dksX18_line_7 21 rfl rfl)
theorem dX18_line_188 : decode cX18_line 188 = .ok (.return_, 1) := dk_177 (dk_at dksX18_line_7 22 rfl rfl)
abbrev cX18_init : ByteArray := prog_17_method_1_code
def yX18_init : MethodName := ⟨RX18, "<init>", "(LTalkingPlots;I)V"⟩
def dkwX18_init_1 : List UInt8 := [181, 0, 19, 42, 16, 24, 188, 10, 181, 0, 22, 177]
abbrev dktX18_init_1 : List UInt8 := dkwX18_init_1 ++ []
def dkwX18_init_0 : List UInt8 := [42, 43, 181, 0, 3, 42, 43, 28, 183, 0, 9, 42, 16, 24, 188, 10, 181, 0, 15, 42, 16, 24, 188, 10]
abbrev dktX18_init_0 : List UInt8 := dkwX18_init_0 ++ dktX18_init_1
theorem dksX18_init_0 : cX18_init.data.toList.drop 0 = dktX18_init_0 := by decide +kernel
theorem dksX18_init_1 : cX18_init.data.toList.drop 24 = dktX18_init_1 := dk_seg dksX18_init_0 24 rfl rfl
theorem dX18_init_0 : decode cX18_init 0 = .ok (.aload_n 0, 1) := dk_42 (dk_at dksX18_init_0 0 rfl rfl)
theorem dX18_init_1 : decode cX18_init 1 = .ok (.aload_n 1, 1) := dk_43 (dk_at dksX18_init_0 1 rfl rfl)
theorem dX18_init_2 : decode cX18_init 2 = .ok (.putfield 3, 3) := dk_181 0 3 (dk_at dksX18_init_0 2 rfl rfl)
theorem dX18_init_5 : decode cX18_init 5 = .ok (.aload_n 0, 1) := dk_42 (dk_at dksX18_init_0 5 rfl rfl)
theorem dX18_init_6 : decode cX18_init 6 = .ok (.aload_n 1, 1) := dk_43 (dk_at dksX18_init_0 6 rfl rfl)
theorem dX18_init_7 : decode cX18_init 7 = .ok (.iload_n 2, 1) := dk_28 (dk_at dksX18_init_0 7 rfl rfl)
theorem dX18_init_8 : decode cX18_init 8 = .ok (.invokespecial 9, 3) := dk_183 0 9 (dk_at dksX18_init_0 8 rfl rfl)
theorem dX18_init_11 : decode cX18_init 11 = .ok (.aload_n 0, 1) := dk_42 (dk_at dksX18_init_0 11 rfl rfl)
theorem dX18_init_12 : decode cX18_init 12 = .ok (.bipush 24, 2) := dk_16 24 (dk_at dksX18_init_0 12 rfl rfl)
theorem dX18_init_14 : decode cX18_init 14 = .ok (.newarray .int, 2) := dk_188_10 (dk_at dksX18_init_0 14 rfl rfl)
theorem dX18_init_16 : decode cX18_init 16 = .ok (.putfield 15, 3) := dk_181 0 15 (dk_at dksX18_init_0 16 rfl rfl)
theorem dX18_init_19 : decode cX18_init 19 = .ok (.aload_n 0, 1) := dk_42 (dk_at dksX18_init_0 19 rfl rfl)
theorem dX18_init_20 : decode cX18_init 20 = .ok (.bipush 24, 2) := dk_16 24 (dk_at dksX18_init_0 20 rfl rfl)
theorem dX18_init_22 : decode cX18_init 22 = .ok (.newarray .int, 2) := dk_188_10 (dk_at dksX18_init_0 22 rfl rfl)
theorem dX18_init_24 : decode cX18_init 24 = .ok (.putfield 19, 3) := dk_181 0 19 (dk_at dksX18_init_1 0 rfl rfl)
theorem dX18_init_27 : decode cX18_init 27 = .ok (.aload_n 0, 1) := dk_42 (dk_at dksX18_init_1 3 rfl rfl)
theorem dX18_init_28 : decode cX18_init 28 = .ok (.bipush 24, 2) := dk_16 24 (dk_at dksX18_init_1 4 rfl rfl)
theorem dX18_init_30 : decode cX18_init 30 = .ok (.newarray .int, 2) := dk_188_10 (dk_at dksX18_init_1 6 rfl rfl)
theorem dX18_init_32 : decode cX18_init 32 = .ok (.putfield 22, 3) := dk_181 0 22 (dk_at dksX18_init_1 8 rfl rfl)
theorem dX18_init_35 : decode cX18_init 35 = .ok (.return_, 1) := dk_177 (dk_at dksX18_init_1 11 rfl rfl)
theorem q130 : (Jvm.Cond.initialized "TalkingPlots$Warden") ∈ lw_all := lw_g (lw_at lw_m1 25 rfl) rfl
theorem q694 : (Jvm.Cond.selects "TalkingPlots$Warden" ({ cls := "TalkingPlots$Scribe", name := "here", desc := "()I" } : Jvm.MethodName) ({ cls := "TalkingPlots$Scribe", name := "here", desc := "()I" } : Jvm.MethodName)) ∈ lw_all := lw_g (lw_at lw_m3 109 rfl) rfl
theorem q700 : (Jvm.Cond.selects "TalkingPlots$Warden" ({ cls := "TalkingPlots$Scribe", name := "isGood", desc := "()Z" } : Jvm.MethodName) ({ cls := "TalkingPlots$Scribe", name := "isGood", desc := "()Z" } : Jvm.MethodName)) ∈ lw_all := lw_g (lw_at lw_m3 115 rfl) rfl
theorem q706 : (Jvm.Cond.selects "TalkingPlots$Warden" ({ cls := "TalkingPlots$Scribe", name := "sees", desc := "(II)Z" } : Jvm.MethodName) ({ cls := "TalkingPlots$Scribe", name := "sees", desc := "(II)Z" } : Jvm.MethodName)) ∈ lw_all := lw_g (lw_at lw_m3 121 rfl) rfl
theorem q712 : (Jvm.Cond.selects "TalkingPlots$Warden" ({ cls := "TalkingPlots$Scribe", name := "bad", desc := "(II)V" } : Jvm.MethodName) ({ cls := "TalkingPlots$Scribe", name := "bad", desc := "(II)V" } : Jvm.MethodName)) ∈ lw_all := lw_g (lw_at lw_m3 127 rfl) rfl
theorem q760 : (Jvm.Cond.selects "TalkingPlots$Warden" ({ cls := "TalkingPlots$Scribe", name := "line", desc := "(I)V" } : Jvm.MethodName) ({ cls := "TalkingPlots$Warden", name := "line", desc := "(I)V" } : Jvm.MethodName)) ∈ lw_all := lw_g (lw_at lw_m3 175 rfl) rfl
theorem q761 : (Jvm.Cond.instanceMethod ({ cls := "TalkingPlots$Warden", name := "line", desc := "(I)V" } : Jvm.MethodName)) ∈ lw_all := lw_g (lw_at lw_m3 176 rfl) rfl
theorem q762 : (Jvm.Cond.code ({ cls := "TalkingPlots$Warden", name := "line", desc := "(I)V" } : Jvm.MethodName) prog_17_method_2_code (8 : Nat) (Option.none : Option Jvm.ClassFile.FieldType)) ∈ lw_all := lw_g (lw_at lw_m3 177 rfl) rfl
theorem q763 : (Jvm.Cond.methodLink "TalkingPlots$Warden" (25 : Nat) ({ cls := "TalkingPlots$Warden", name := "place", desc := "()I" } : Jvm.MethodName)) ∈ lw_all := lw_g (lw_at lw_m3 178 rfl) rfl
theorem q764 : (Jvm.Cond.sameMethod "TalkingPlots$Warden" "TalkingPlots$Scribe" "place" "()I") ∈ lw_all := lw_g (lw_at lw_m3 179 rfl) rfl
theorem q765 : (Jvm.Cond.selects "TalkingPlots$Warden" ({ cls := "TalkingPlots$Warden", name := "place", desc := "()I" } : Jvm.MethodName) ({ cls := "TalkingPlots$Scribe", name := "place", desc := "()I" } : Jvm.MethodName)) ∈ lw_all := lw_g (lw_at lw_m3 180 rfl) rfl
theorem q766 : (Jvm.Cond.methodLink "TalkingPlots$Warden" (29 : Nat) ({ cls := "TalkingPlots$Warden", name := "sign", desc := "(II)I" } : Jvm.MethodName)) ∈ lw_all := lw_g (lw_at lw_m3 181 rfl) rfl
theorem q767 : (Jvm.Cond.sameMethod "TalkingPlots$Warden" "TalkingPlots$Scribe" "sign" "(II)I") ∈ lw_all := lw_g (lw_at lw_m3 182 rfl) rfl
theorem q768 : (Jvm.Cond.selects "TalkingPlots$Warden" ({ cls := "TalkingPlots$Warden", name := "sign", desc := "(II)I" } : Jvm.MethodName) ({ cls := "TalkingPlots$Scribe", name := "sign", desc := "(II)I" } : Jvm.MethodName)) ∈ lw_all := lw_g (lw_at lw_m3 183 rfl) rfl
theorem q769 : (Jvm.Cond.methodLink "TalkingPlots$Warden" (33 : Nat) ({ cls := "TalkingPlots$Warden", name := "isGood", desc := "()Z" } : Jvm.MethodName)) ∈ lw_all := lw_g (lw_at lw_m3 184 rfl) rfl
theorem q770 : (Jvm.Cond.sameMethod "TalkingPlots$Warden" "TalkingPlots$Scribe" "isGood" "()Z") ∈ lw_all := lw_g (lw_at lw_m3 185 rfl) rfl
theorem q771 : (Jvm.Cond.selects "TalkingPlots$Warden" ({ cls := "TalkingPlots$Warden", name := "isGood", desc := "()Z" } : Jvm.MethodName) ({ cls := "TalkingPlots$Scribe", name := "isGood", desc := "()Z" } : Jvm.MethodName)) ∈ lw_all := lw_g (lw_at lw_m3 186 rfl) rfl
theorem q772 : (Jvm.Cond.methodLink "TalkingPlots$Warden" (37 : Nat) ({ cls := "TalkingPlots$Warden", name := "bad", desc := "(II)V" } : Jvm.MethodName)) ∈ lw_all := lw_g (lw_at lw_m3 187 rfl) rfl
theorem q773 : (Jvm.Cond.sameMethod "TalkingPlots$Warden" "TalkingPlots$Scribe" "bad" "(II)V") ∈ lw_all := lw_g (lw_at lw_m3 188 rfl) rfl
theorem q774 : (Jvm.Cond.selects "TalkingPlots$Warden" ({ cls := "TalkingPlots$Warden", name := "bad", desc := "(II)V" } : Jvm.MethodName) ({ cls := "TalkingPlots$Scribe", name := "bad", desc := "(II)V" } : Jvm.MethodName)) ∈ lw_all := lw_g (lw_at lw_m3 189 rfl) rfl
theorem q775 : (Jvm.Cond.methodLink "TalkingPlots$Warden" (41 : Nat) ({ cls := "TalkingPlots$Warden", name := "here", desc := "()I" } : Jvm.MethodName)) ∈ lw_all := lw_g (lw_at lw_m3 190 rfl) rfl
theorem q776 : (Jvm.Cond.sameMethod "TalkingPlots$Warden" "TalkingPlots$Scribe" "here" "()I") ∈ lw_all := lw_g (lw_at lw_m3 191 rfl) rfl
theorem q777 : (Jvm.Cond.selects "TalkingPlots$Warden" ({ cls := "TalkingPlots$Warden", name := "here", desc := "()I" } : Jvm.MethodName) ({ cls := "TalkingPlots$Scribe", name := "here", desc := "()I" } : Jvm.MethodName)) ∈ lw_all := lw_g (lw_at lw_m3 192 rfl) rfl
theorem q778 : (Jvm.Cond.methodLink "TalkingPlots$Warden" (44 : Nat) ({ cls := "TalkingPlots$Warden", name := "goes", desc := "()V" } : Jvm.MethodName)) ∈ lw_all := lw_g (lw_at lw_m3 193 rfl) rfl
theorem q779 : (Jvm.Cond.sameMethod "TalkingPlots$Warden" "TalkingPlots$Scribe" "goes" "()V") ∈ lw_all := lw_g (lw_at lw_m3 194 rfl) rfl
theorem q780 : (Jvm.Cond.selects "TalkingPlots$Warden" ({ cls := "TalkingPlots$Warden", name := "goes", desc := "()V" } : Jvm.MethodName) ({ cls := "TalkingPlots$Scribe", name := "goes", desc := "()V" } : Jvm.MethodName)) ∈ lw_all := lw_g (lw_at lw_m3 195 rfl) rfl
theorem q786 : (Jvm.Cond.instantiable "TalkingPlots$Warden" (9 : Nat)) ∈ lw_all := lw_g (lw_at lw_m3 201 rfl) rfl
theorem q788 : (Jvm.Cond.instanceMethod ({ cls := "TalkingPlots$Warden", name := "<init>", desc := "(LTalkingPlots;I)V" } : Jvm.MethodName)) ∈ lw_all := lw_g (lw_at lw_m3 203 rfl) rfl
theorem q789 : (Jvm.Cond.code ({ cls := "TalkingPlots$Warden", name := "<init>", desc := "(LTalkingPlots;I)V" } : Jvm.MethodName) prog_17_method_1_code (3 : Nat) (Option.none : Option Jvm.ClassFile.FieldType)) ∈ lw_all := lw_g (lw_at lw_m3 204 rfl) rfl
theorem q790 : (Jvm.Cond.methodLink "TalkingPlots$Warden" (9 : Nat) ({ cls := "TalkingPlots$Scribe", name := "<init>", desc := "(LTalkingPlots;I)V" } : Jvm.MethodName)) ∈ lw_all := lw_g (lw_at lw_m3 205 rfl) rfl
theorem q791 : (Jvm.Cond.fieldLink "TalkingPlots$Warden" (15 : Nat) "TalkingPlots$Warden" "who" "[I") ∈ lw_all := lw_g (lw_at lw_m3 206 rfl) rfl
theorem q793 : (Jvm.Cond.fieldLink "TalkingPlots$Warden" (19 : Nat) "TalkingPlots$Warden" "whom" "[I") ∈ lw_all := lw_g (lw_at lw_m3 208 rfl) rfl
theorem q795 : (Jvm.Cond.fieldLink "TalkingPlots$Warden" (22 : Nat) "TalkingPlots$Warden" "what" "[I") ∈ lw_all := lw_g (lw_at lw_m3 210 rfl) rfl
theorem q797 : (Jvm.Cond.fieldLink "TalkingPlots$Warden" (3 : Nat) "TalkingPlots$Warden" "this$0" "LTalkingPlots;") ∈ lw_all := lw_g (lw_at lw_m3 212 rfl) rfl
theorem q798 : (Jvm.Cond.laysFinal "TalkingPlots$Warden" "TalkingPlots$Warden" "who" "[I") ∈ lw_all := lw_g (lw_at lw_m3 213 rfl) rfl
theorem q799 : (Jvm.Cond.soleField "TalkingPlots$Warden" "who") ∈ lw_all := lw_g (lw_at lw_m3 214 rfl) rfl
theorem q800 : (Jvm.Cond.laysFinal "TalkingPlots$Warden" "TalkingPlots$Warden" "whom" "[I") ∈ lw_all := lw_g (lw_at lw_m3 215 rfl) rfl
theorem q801 : (Jvm.Cond.soleField "TalkingPlots$Warden" "whom") ∈ lw_all := lw_g (lw_at lw_m3 216 rfl) rfl
theorem q802 : (Jvm.Cond.laysFinal "TalkingPlots$Warden" "TalkingPlots$Warden" "what" "[I") ∈ lw_all := lw_g (lw_at lw_m3 217 rfl) rfl
theorem q803 : (Jvm.Cond.soleField "TalkingPlots$Warden" "what") ∈ lw_all := lw_g (lw_at lw_m3 218 rfl) rfl
theorem q804 : (Jvm.Cond.laysFinal "TalkingPlots$Warden" "TalkingPlots$Warden" "this$0" "LTalkingPlots;") ∈ lw_all := lw_g (lw_at lw_m3 219 rfl) rfl
theorem q805 : (Jvm.Cond.soleField "TalkingPlots$Warden" "this$0") ∈ lw_all := lw_g (lw_at lw_m3 220 rfl) rfl
theorem q806 : (Jvm.Cond.laysFinal "TalkingPlots$Warden" "TalkingPlots$Scribe" "n" "I") ∈ lw_all := lw_g (lw_at lw_m3 221 rfl) rfl
theorem q807 : (Jvm.Cond.lays "TalkingPlots$Warden" "TalkingPlots$Scribe" "at" "I") ∈ lw_all := lw_g (lw_at lw_m3 222 rfl) rfl
theorem q808 : (Jvm.Cond.lays "TalkingPlots$Warden" "TalkingPlots$Scribe" "fault" "I") ∈ lw_all := lw_g (lw_at lw_m3 223 rfl) rfl
theorem q809 : (Jvm.Cond.lays "TalkingPlots$Warden" "TalkingPlots$Scribe" "place" "I") ∈ lw_all := lw_g (lw_at lw_m3 224 rfl) rfl
theorem q810 : (Jvm.Cond.laysFinal "TalkingPlots$Warden" "TalkingPlots$Scribe" "this$0" "LTalkingPlots;") ∈ lw_all := lw_g (lw_at lw_m3 225 rfl) rfl
theorem q811 : (Jvm.Cond.superclass "TalkingPlots$Warden" "TalkingPlots$Scribe") ∈ lw_all := lw_g (lw_at lw_m3 226 rfl) rfl
theorem q813 : (Jvm.Cond.sameMethod "TalkingPlots$Warden" "TalkingPlots$Scribe" "read" "()I") ∈ lw_all := lw_g (lw_at lw_m3 228 rfl) rfl
theorem q814 : (Jvm.Cond.selects "TalkingPlots$Warden" ({ cls := "TalkingPlots$Warden", name := "read", desc := "()I" } : Jvm.MethodName) ({ cls := "TalkingPlots$Scribe", name := "read", desc := "()I" } : Jvm.MethodName)) ∈ lw_all := lw_g (lw_at lw_m3 229 rfl) rfl
theorem in_X18 : ∀ w ∈ wsX180, w ∈ lw_all := lw_in wsX180 [806, 807, 808, 809, 810, 798, 800, 802, 804] (by decide +kernel) (by decide +kernel)
