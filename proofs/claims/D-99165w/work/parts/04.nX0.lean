/-! TalkingPlots -/
set_option maxRecDepth 100000
def RX0 : String := "TalkingPlots"
def TX0 : u_T := fun k => match k with
  | 0 => ("TalkingPlots", "moment", "LTalkingPlots$Moment;", true)
  | 1 => ("TalkingPlots", "yard", "LTalkingPlots$Yard;", true)
  | 2 => ("TalkingPlots", "then", "LTalkingPlots$Yard;", true)
  | 3 => ("TalkingPlots", "kept", "LTalkingPlots$Yard;", true)
  | 4 => ("TalkingPlots", "tape", "[B", true)
  | 5 => ("TalkingPlots", "law", "LTalkingPlots$Text;", false)
  | 6 => ("TalkingPlots", "taped", "I", false)
  | 7 => ("TalkingPlots", "isKept", "Z", false)
  | 8 => ("TalkingPlots", "wisher", "[I", true)
  | 9 => ("TalkingPlots", "wished", "[I", true)
  | 10 => ("TalkingPlots", "signs", "[I", true)
  | 11 => ("TalkingPlots", "wishes", "I", false)
  | 12 => ("TalkingPlots", "row", "[I", true)
  | 13 => ("TalkingPlots", "bestRow", "[I", true)
  | 14 => ("TalkingPlots", "bestTalk", "I", false)
  | 15 => ("TalkingPlots", "goodRows", "I", false)
  | 16 => ("TalkingPlots", "said", "[I", true)
  | 17 => ("TalkingPlots", "couple", "[I", true)
  | 18 => ("TalkingPlots", "longest", "[I", true)
  | _ => ("TalkingPlots", "steps", "[I", true)
def tyX0 : Nat → FieldType := fun k => match k with
  | 0 => .object "TalkingPlots$Moment"
  | 1 => .object "TalkingPlots$Yard"
  | 2 => .object "TalkingPlots$Yard"
  | 3 => .object "TalkingPlots$Yard"
  | 4 => .array .byte
  | 5 => .object "TalkingPlots$Text"
  | 6 => .int
  | 7 => .boolean
  | 8 => .array .int
  | 9 => .array .int
  | 10 => .array .int
  | 11 => .int
  | 12 => .array .int
  | 13 => .array .int
  | 14 => .int
  | 15 => .int
  | 16 => .array .int
  | 17 => .array .int
  | 18 => .array .int
  | _ => .array .int
abbrev wsX00 : List Cond := u_ws RX0 TX0 20
set_option maxRecDepth 100000 in
theorem nmX0 : ∀ a, a < 20 → ∀ b, b < 20 → a ≠ b → (TX0 a).2.1 ≠ (TX0 b).2.1 := by decide +kernel
set_option maxRecDepth 100000 in
theorem tyX0_ok : ∀ k, k < 20 → parseFieldDescriptor (TX0 k).2.2.1 = some (tyX0 k) := by decide +kernel
abbrev cX0_init : ByteArray := prog_1_method_9_code
def yX0_init : MethodName := ⟨RX0, "<init>", "()V"⟩
def dkwX0_init_6 : List UInt8 := [42, 180, 0, 63, 4, 181, 0, 105, 177]
abbrev dktX0_init_6 : List UInt8 := dkwX0_init_6 ++ []
def dkwX0_init_5 : List UInt8 := [42, 16, 10, 188, 10, 181, 0, 96, 42, 16, 20, 188, 10, 181, 0, 99, 42, 16, 60, 188, 10, 181, 0, 102]
abbrev dktX0_init_5 : List UInt8 := dkwX0_init_5 ++ dktX0_init_6
def dkwX0_init_4 : List UInt8 := [16, 7, 188, 10, 181, 0, 87, 42, 16, 7, 188, 10, 181, 0, 90, 42, 17, 4, 0, 188, 10, 181, 0, 93]
abbrev dktX0_init_4 : List UInt8 := dkwX0_init_4 ++ dktX0_init_5
def dkwX0_init_3 : List UInt8 := [16, 24, 188, 10, 181, 0, 78, 42, 16, 24, 188, 10, 181, 0, 81, 42, 16, 24, 188, 10, 181, 0, 84, 42]
abbrev dktX0_init_3 : List UInt8 := dkwX0_init_3 ++ dktX0_init_4
def dkwX0_init_2 : List UInt8 := [181, 0, 70, 42, 17, 1, 4, 188, 8, 181, 0, 73, 42, 187, 0, 41, 89, 183, 0, 77, 181, 0, 32, 42]
abbrev dktX0_init_2 : List UInt8 := dkwX0_init_2 ++ dktX0_init_3
def dkwX0_init_1 : List UInt8 := [181, 0, 63, 42, 187, 0, 58, 89, 42, 183, 0, 60, 181, 0, 67, 42, 187, 0, 58, 89, 42, 183, 0, 60]
abbrev dktX0_init_1 : List UInt8 := dkwX0_init_1 ++ dktX0_init_2
def dkwX0_init_0 : List UInt8 := [42, 183, 0, 49, 42, 187, 0, 55, 89, 183, 0, 57, 181, 0, 36, 42, 187, 0, 58, 89, 42, 183, 0, 60]
abbrev dktX0_init_0 : List UInt8 := dkwX0_init_0 ++ dktX0_init_1
theorem dksX0_init_0 : cX0_init.data.toList.drop 0 = dktX0_init_0 := by decide +kernel
theorem dksX0_init_1 : cX0_init.data.toList.drop 24 = dktX0_init_1 := dk_seg dksX0_init_0 24 rfl rfl
theorem dksX0_init_2 : cX0_init.data.toList.drop 48 = dktX0_init_2 := dk_seg dksX0_init_1 24 rfl rfl
theorem dksX0_init_3 : cX0_init.data.toList.drop 72 = dktX0_init_3 := dk_seg dksX0_init_2 24 rfl rfl
theorem dksX0_init_4 : cX0_init.data.toList.drop 96 = dktX0_init_4 := dk_seg dksX0_init_3 24 rfl rfl
theorem dksX0_init_5 : cX0_init.data.toList.drop 120 = dktX0_init_5 := dk_seg dksX0_init_4 24 rfl rfl
theorem dksX0_init_6 : cX0_init.data.toList.drop 144 = dktX0_init_6 := dk_seg dksX0_init_5 24 rfl rfl
theorem dX0_init_0 : decode cX0_init 0 = .ok (.aload_n 0, 1) := dk_42 (dk_at dksX0_init_0 0 rfl rfl)
theorem dX0_init_1 : decode cX0_init 1 = .ok (.invokespecial 49, 3) := dk_183 0 49 (dk_at dksX0_init_0 1 rfl rfl)
theorem dX0_init_4 : decode cX0_init 4 = .ok (.aload_n 0, 1) := dk_42 (dk_at dksX0_init_0 4 rfl rfl)
theorem dX0_init_5 : decode cX0_init 5 = .ok (.new 55, 3) := dk_187 0 55 (dk_at dksX0_init_0 5 rfl rfl)
theorem dX0_init_8 : decode cX0_init 8 = .ok (.dup, 1) := dk_89 (dk_at dksX0_init_0 8 rfl rfl)
theorem dX0_init_9 : decode cX0_init 9 = .ok (.invokespecial 57, 3) := dk_183 0 57 (dk_at dksX0_init_0 9 rfl rfl)
theorem dX0_init_12 : decode cX0_init 12 = .ok (.putfield 36, 3) := dk_181 0 36 (dk_at dksX0_init_0 12 rfl rfl)
theorem dX0_init_15 : decode cX0_init 15 = .ok (.aload_n 0, 1) := dk_42 (dk_at dksX0_init_0 15 rfl rfl)
theorem dX0_init_16 : decode cX0_init 16 = .ok (.new 58, 3) := dk_187 0 58 (dk_at dksX0_init_0 16 rfl rfl)
theorem dX0_init_19 : decode cX0_init 19 = .ok (.dup, 1) := dk_89 (dk_at dksX0_init_0 19 rfl rfl)
theorem dX0_init_20 : decode cX0_init 20 = .ok (.aload_n 0, 1) := dk_42 (dk_at dksX0_init_0 20 rfl rfl)
theorem dX0_init_21 : decode cX0_init 21 = .ok (.invokespecial 60, 3) := dk_183 0 60 (dk_at dksX0_init_0 21 rfl rfl)
theorem dX0_init_24 : decode cX0_init 24 = .ok (.putfield 63, 3) := dk_181 0 63 (dk_at dksX0_init_1 0 rfl rfl)
theorem dX0_init_27 : decode cX0_init 27 = .ok (.aload_n 0, 1) := dk_42 (dk_at dksX0_init_1 3 rfl rfl)
theorem dX0_init_28 : decode cX0_init 28 = .ok (.new 58, 3) := dk_187 0 58 (dk_at dksX0_init_1 4 rfl rfl)
theorem dX0_init_31 : decode cX0_init 31 = .ok (.dup, 1) := dk_89 (dk_at dksX0_init_1 7 rfl rfl)
theorem dX0_init_32 : decode cX0_init 32 = .ok (.aload_n 0, 1) := dk_42 (dk_at dksX0_init_1 8 rfl rfl)
theorem dX0_init_33 : decode cX0_init 33 = .ok (.invokespecial 60, 3) := dk_183 0 60 (dk_at dksX0_init_1 9 rfl rfl)
theorem dX0_init_36 : decode cX0_init 36 = .ok (.putfield 67, 3) := dk_181 0 67 (dk_at dksX0_init_1 12 rfl rfl)
theorem dX0_init_39 : decode cX0_init 39 = .ok (.aload_n 0, 1) := dk_42 (dk_at dksX0_init_1 15 rfl rfl)
theorem dX0_init_40 : decode cX0_init 40 = .ok (.new 58, 3) := dk_187 0 58 (dk_at dksX0_init_1 16 rfl rfl)
theorem dX0_init_43 : decode cX0_init 43 = .ok (.dup, 1) := dk_89 (dk_at dksX0_init_1 19 rfl rfl)
theorem dX0_init_44 : decode cX0_init 44 = .ok (.aload_n 0, 1) := dk_42 (dk_at dksX0_init_1 20 rfl rfl)
theorem dX0_init_45 : decode cX0_init 45 = .ok (.invokespecial 60, 3) := dk_183 0 60 (dk_at dksX0_init_1 21 rfl rfl)
theorem dX0_init_48 : decode cX0_init 48 = .ok (.putfield 70, 3) := dk_181 0 70 (dk_at dksX0_init_2 0 rfl rfl)
theorem dX0_init_51 : decode cX0_init 51 = .ok (.aload_n 0, 1) := dk_42 (dk_at dksX0_init_2 3 rfl rfl)
theorem dX0_init_52 : decode cX0_init 52 = .ok (.sipush 260, 3) := dk_17 1 4 (dk_at dksX0_init_2 4 rfl rfl)
theorem dX0_init_55 : decode cX0_init 55 = .ok (.newarray .byte, 2) := dk_188_8 (dk_at dksX0_init_2 7 rfl rfl)
theorem dX0_init_57 : decode cX0_init 57 = .ok (.putfield 73, 3) := dk_181 0 73 (dk_at dksX0_init_2 9 rfl rfl)
theorem dX0_init_60 : decode cX0_init 60 = .ok (.aload_n 0, 1) := dk_42 (dk_at dksX0_init_2 12 rfl rfl)
theorem dX0_init_61 : decode cX0_init 61 = .ok (.new 41, 3) := dk_187 0 41 (dk_at dksX0_init_2 13 rfl rfl)
theorem dX0_init_64 : decode cX0_init 64 = .ok (.dup, 1) := dk_89 (dk_at dksX0_init_2 16 rfl rfl)
theorem dX0_init_65 : decode cX0_init 65 = .ok (.invokespecial 77, 3) := dk_183 0 77 (dk_at dksX0_init_2 17 rfl rfl)
theorem dX0_init_68 : decode cX0_init 68 = .ok (.putfield 32, 3) := dk_181 0 32 (dk_at dksX0_init_2 20 rfl rfl)
theorem dX0_init_71 : decode cX0_init 71 = .ok (.aload_n 0, 1) := dk_42 (dk_at dksX0_init_2 23 rfl rfl)
theorem dX0_init_72 : decode cX0_init 72 = .ok (.bipush 24, 2) := dk_16 24 (dk_at dksX0_init_3 0 rfl rfl)
theorem dX0_init_74 : decode cX0_init 74 = .ok (.newarray .int, 2) := dk_188_10 (dk_at dksX0_init_3 2 rfl rfl)
theorem dX0_init_76 : decode cX0_init 76 = .ok (.putfield 78, 3) := dk_181 0 78 (dk_at dksX0_init_3 4 rfl rfl)
theorem dX0_init_79 : decode cX0_init 79 = .ok (.aload_n 0, 1) := dk_42 (dk_at dksX0_init_3 7 rfl rfl)
theorem dX0_init_80 : decode cX0_init 80 = .ok (.bipush 24, 2) := dk_16 24 (dk_at dksX0_init_3 8 rfl rfl)
theorem dX0_init_82 : decode cX0_init 82 = .ok (.newarray .int, 2) := dk_188_10 (dk_at dksX0_init_3 10 rfl rfl)
theorem dX0_init_84 : decode cX0_init 84 = .ok (.putfield 81, 3) := dk_181 0 81 (dk_at dksX0_init_3 12 rfl rfl)
theorem dX0_init_87 : decode cX0_init 87 = .ok (.aload_n 0, 1) := dk_42 (dk_at dksX0_init_3 15 rfl rfl)
theorem dX0_init_88 : decode cX0_init 88 = .ok (.bipush 24, 2) := dk_16 24 (dk_at dksX0_init_3 16 rfl rfl)
theorem dX0_init_90 : decode cX0_init 90 = .ok (.newarray .int, 2) := dk_188_10 (dk_at dksX0_init_3 18 rfl rfl)
theorem dX0_init_92 : decode cX0_init 92 = .ok (.putfield 84, 3) := dk_181 0 84 (dk_at dksX0_init_3 20 rfl rfl)
theorem dX0_init_95 : decode cX0_init 95 = .ok (.aload_n 0, 1) := dk_42 (dk_at dksX0_init_3 23 rfl rfl)
theorem dX0_init_96 : decode cX0_init 96 = .ok (.bipush 7, 2) := dk_16 7 (dk_at dksX0_init_4 0 rfl rfl)
theorem dX0_init_98 : decode cX0_init 98 = .ok (.newarray .int, 2) := dk_188_10 (dk_at dksX0_init_4 2 rfl rfl)
theorem dX0_init_100 : decode cX0_init 100 = .ok (.putfield 87, 3) := dk_181 0 87 (dk_at dksX0_init_4 4 rfl rfl)
theorem dX0_init_103 : decode cX0_init 103 = .ok (.aload_n 0, 1) := dk_42 (dk_at dksX0_init_4 7 rfl rfl)
theorem dX0_init_104 : decode cX0_init 104 = .ok (.bipush 7, 2) := dk_16 7 (dk_at dksX0_init_4 8 rfl rfl)
theorem dX0_init_106 : decode cX0_init 106 = .ok (.newarray .int, 2) := dk_188_10 (dk_at dksX0_init_4 10 rfl rfl)
theorem dX0_init_108 : decode cX0_init 108 = .ok (.putfield 90, 3) := dk_181 0 90 (dk_at dksX0_init_4 12 rfl rfl)
theorem dX0_init_111 : decode cX0_init 111 = .ok (.aload_n 0, 1) := dk_42 (dk_at dksX0_init_4 15 rfl rfl)
theorem dX0_init_112 : decode cX0_init 112 = .ok (.sipush 1024, 3) := dk_17 4 0 (dk_at dksX0_init_4 16 rfl rfl)
theorem dX0_init_115 : decode cX0_init 115 = .ok (.newarray .int, 2) := dk_188_10 (dk_at dksX0_init_4 19 rfl rfl)
theorem dX0_init_117 : decode cX0_init 117 = .ok (.putfield 93, 3) := dk_181 0 93 (dk_at dksX0_init_4 21 rfl rfl)
theorem dX0_init_120 : decode cX0_init 120 = .ok (.aload_n 0, 1) := dk_42 (dk_at dksX0_init_5 0 rfl rfl)
theorem dX0_init_121 : decode cX0_init 121 = .ok (.bipush 10, 2) := dk_16 10 (dk_at dksX0_init_5 1 rfl rfl)
theorem dX0_init_123 : decode cX0_init 123 = .ok (.newarray .int, 2) := dk_188_10 (dk_at dksX0_init_5 3 rfl rfl)
theorem dX0_init_125 : decode cX0_init 125 = .ok (.putfield 96, 3) := dk_181 0 96 (dk_at dksX0_init_5 5 rfl rfl)
theorem dX0_init_128 : decode cX0_init 128 = .ok (.aload_n 0, 1) := dk_42 (dk_at dksX0_init_5 8 rfl rfl)
theorem dX0_init_129 : decode cX0_init 129 = .ok (.bipush 20, 2) := dk_16 20 (dk_at dksX0_init_5 9 rfl rfl)
theorem dX0_init_131 : decode cX0_init 131 = .ok (.newarray .int, 2) := dk_188_10 (dk_at dksX0_init_5 11 rfl rfl)
theorem dX0_init_133 : decode cX0_init 133 = .ok (.putfield 99, 3) := dk_181 0 99 (dk_at dksX0_init_5 13 rfl rfl)
theorem dX0_init_136 : decode cX0_init 136 = .ok (.aload_n 0, 1) := dk_42 (dk_at dksX0_init_5 16 rfl rfl)
theorem dX0_init_137 : decode cX0_init 137 = .ok (.bipush 60, 2) := dk_16 60 (dk_at dksX0_init_5 17 rfl rfl)
theorem dX0_init_139 : decode cX0_init 139 = .ok (.newarray .int, 2) := dk_188_10 (dk_at dksX0_init_5 19 rfl rfl)
theorem dX0_init_141 : decode cX0_init 141 = .ok (.putfield 102, 3) := dk_181 0 102 (dk_at dksX0_init_5 21 rfl rfl)
theorem dX0_init_144 : decode cX0_init 144 = .ok (.aload_n 0, 1) := dk_42 (dk_at dksX0_init_6 0 rfl rfl)
theorem dX0_init_145 : decode cX0_init 145 = .ok (.getfield 63, 3) := dk_180 0 63 (dk_at dksX0_init_6 1 rfl rfl)
theorem dX0_init_148 : decode cX0_init 148 = .ok (.iconst 1, 1) := dk_4 (dk_at dksX0_init_6 4 rfl rfl)
theorem dX0_init_149 : decode cX0_init 149 = .ok (.putfield 105, 3) := dk_181 0 105 (dk_at dksX0_init_6 5 rfl rfl)
theorem dX0_init_152 : decode cX0_init 152 = .ok (.return_, 1) := dk_177 (dk_at dksX0_init_6 8 rfl rfl)
abbrev cX0_person : ByteArray := prog_1_method_11_code
def yX0_person : MethodName := ⟨RX0, "person", "(III)Z"⟩
def dkwX0_person_2 : List UInt8 := [181, 0, 113, 25, 4, 28, 181, 0, 124, 25, 4, 29, 181, 0, 127, 25, 4, 2, 181, 0, 130, 4, 172]
abbrev dktX0_person_2 : List UInt8 := dkwX0_person_2 ++ []
def dkwX0_person_1 : List UInt8 := [184, 0, 120, 154, 0, 5, 3, 172, 42, 180, 0, 63, 180, 0, 109, 27, 50, 58, 4, 25, 4, 4]
abbrev dktX0_person_1 : List UInt8 := dkwX0_person_1 ++ dktX0_person_2
def dkwX0_person_0 : List UInt8 := [27, 16, 16, 184, 0, 25, 153, 0, 22, 28, 18, 119, 184, 0, 25, 153, 0, 13, 29, 3, 16, 99]
abbrev dktX0_person_0 : List UInt8 := dkwX0_person_0 ++ dktX0_person_1
theorem dksX0_person_0 : cX0_person.data.toList.drop 0 = dktX0_person_0 := by decide +kernel
theorem dksX0_person_1 : cX0_person.data.toList.drop 22 = dktX0_person_1 := dk_seg dksX0_person_0 22 rfl rfl
theorem dksX0_person_2 : cX0_person.data.toList.drop 44 = dktX0_person_2 := dk_seg dksX0_person_1 22 rfl rfl
theorem dX0_person_0 : decode cX0_person 0 = .ok (.iload_n 1, 1) := dk_27 (dk_at dksX0_person_0 0 rfl rfl)
theorem dX0_person_1 : decode cX0_person 1 = .ok (.bipush 16, 2) := dk_16 16 (dk_at dksX0_person_0 1 rfl rfl)
theorem dX0_person_3 : decode cX0_person 3 = .ok (.invokestatic 25, 3) := dk_184 0 25 (dk_at dksX0_person_0 3 rfl rfl)
theorem dX0_person_6 : decode cX0_person 6 = .ok (.ifCond .eq 22, 3) := dk_153 0 22 (dk_at dksX0_person_0 6 rfl rfl)
theorem dX0_person_9 : decode cX0_person 9 = .ok (.iload_n 2, 1) := dk_28 (dk_at dksX0_person_0 9 rfl rfl)
theorem dX0_person_10 : decode cX0_person 10 = .ok (.ldc 119, 2) := dk_18 119 (dk_at dksX0_person_0 10 rfl rfl)
theorem dX0_person_12 : decode cX0_person 12 = .ok (.invokestatic 25, 3) := dk_184 0 25 (dk_at dksX0_person_0 12 rfl rfl)
theorem dX0_person_15 : decode cX0_person 15 = .ok (.ifCond .eq 13, 3) := dk_153 0 13 (dk_at dksX0_person_0 15 rfl rfl)
theorem dX0_person_18 : decode cX0_person 18 = .ok (.iload_n 3, 1) := dk_29 (dk_at dksX0_person_0 18 rfl rfl)
theorem dX0_person_19 : decode cX0_person 19 = .ok (.iconst 0, 1) := dk_3 (dk_at dksX0_person_0 19 rfl rfl)
theorem dX0_person_20 : decode cX0_person 20 = .ok (.bipush 99, 2) := dk_16 99 (dk_at dksX0_person_0 20 rfl rfl)
theorem dX0_person_22 : decode cX0_person 22 = .ok (.invokestatic 120, 3) := dk_184 0 120 (dk_at dksX0_person_1 0 rfl rfl)
theorem dX0_person_25 : decode cX0_person 25 = .ok (.ifCond .ne 5, 3) := dk_154 0 5 (dk_at dksX0_person_1 3 rfl rfl)
theorem dX0_person_28 : decode cX0_person 28 = .ok (.iconst 0, 1) := dk_3 (dk_at dksX0_person_1 6 rfl rfl)
theorem dX0_person_29 : decode cX0_person 29 = .ok (.ireturn, 1) := dk_172 (dk_at dksX0_person_1 7 rfl rfl)
theorem dX0_person_30 : decode cX0_person 30 = .ok (.aload_n 0, 1) := dk_42 (dk_at dksX0_person_1 8 rfl rfl)
theorem dX0_person_31 : decode cX0_person 31 = .ok (.getfield 63, 3) := dk_180 0 63 (dk_at dksX0_person_1 9 rfl rfl)
theorem dX0_person_34 : decode cX0_person 34 = .ok (.getfield 109, 3) := dk_180 0 109 (dk_at dksX0_person_1 12 rfl rfl)
theorem dX0_person_37 : decode cX0_person 37 = .ok (.iload_n 1, 1) := dk_27 (dk_at dksX0_person_1 15 rfl rfl)
theorem dX0_person_38 : decode cX0_person 38 = .ok (.aaload, 1) := dk_50 (dk_at dksX0_person_1 16 rfl rfl)
theorem dX0_person_39 : decode cX0_person 39 = .ok (.astore 4, 2) := dk_58 4 (dk_at dksX0_person_1 17 rfl rfl)
theorem dX0_person_41 : decode cX0_person 41 = .ok (.aload 4, 2) := dk_25 4 (dk_at dksX0_person_1 19 rfl rfl)
theorem dX0_person_43 : decode cX0_person 43 = .ok (.iconst 1, 1) := dk_4 (dk_at dksX0_person_1 21 rfl rfl)
theorem dX0_person_44 : decode cX0_person 44 = .ok (.putfield 113, 3) := dk_181 0 113 (dk_at dksX0_person_2 0 rfl rfl)
theorem dX0_person_47 : decode cX0_person 47 = .ok (.aload 4, 2) := dk_25 4 (dk_at dksX0_person_2 3 rfl rfl)
theorem dX0_person_49 : decode cX0_person 49 = .ok (.iload_n 2, 1) := dk_28 (dk_at dksX0_person_2 5 rfl rfl)
theorem dX0_person_50 : decode cX0_person 50 = .ok (.putfield 124, 3) := dk_181 0 124 (dk_at dksX0_person_2 6 rfl rfl)
theorem dX0_person_53 : decode cX0_person 53 = .ok (.aload 4, 2) := dk_25 4 (dk_at dksX0_person_2 9 rfl rfl)
theorem dX0_person_55 : decode cX0_person 55 = .ok (.iload_n 3, 1) := dk_29 (dk_at dksX0_person_2 11 rfl rfl)
theorem dX0_person_56 : decode cX0_person 56 = .ok (.putfield 127, 3) := dk_181 0 127 (dk_at dksX0_person_2 12 rfl rfl)
theorem dX0_person_59 : decode cX0_person 59 = .ok (.aload 4, 2) := dk_25 4 (dk_at dksX0_person_2 15 rfl rfl)
theorem dX0_person_61 : decode cX0_person 61 = .ok (.iconst (-1), 1) := dk_2 (dk_at dksX0_person_2 17 rfl rfl)
theorem dX0_person_62 : decode cX0_person 62 = .ok (.putfield 130, 3) := dk_181 0 130 (dk_at dksX0_person_2 18 rfl rfl)
theorem dX0_person_65 : decode cX0_person 65 = .ok (.iconst 1, 1) := dk_4 (dk_at dksX0_person_2 21 rfl rfl)
theorem dX0_person_66 : decode cX0_person 66 = .ok (.ireturn, 1) := dk_172 (dk_at dksX0_person_2 22 rfl rfl)
abbrev cX0_in : ByteArray := prog_1_method_1_code
def yX0_in : MethodName := ⟨RX0, "in", "(II)Z"⟩
def dkwX0_in_0 : List UInt8 := [26, 155, 0, 12, 26, 27, 162, 0, 7, 4, 167, 0, 4, 3, 172]
abbrev dktX0_in_0 : List UInt8 := dkwX0_in_0 ++ []
theorem dksX0_in_0 : cX0_in.data.toList.drop 0 = dktX0_in_0 := by decide +kernel
theorem dX0_in_0 : decode cX0_in 0 = .ok (.iload_n 0, 1) := dk_26 (dk_at dksX0_in_0 0 rfl rfl)
theorem dX0_in_1 : decode cX0_in 1 = .ok (.ifCond .lt 12, 3) := dk_155 0 12 (dk_at dksX0_in_0 1 rfl rfl)
theorem dX0_in_4 : decode cX0_in 4 = .ok (.iload_n 0, 1) := dk_26 (dk_at dksX0_in_0 4 rfl rfl)
theorem dX0_in_5 : decode cX0_in 5 = .ok (.iload_n 1, 1) := dk_27 (dk_at dksX0_in_0 5 rfl rfl)
theorem dX0_in_6 : decode cX0_in 6 = .ok (.if_icmp .ge 7, 3) := dk_162 0 7 (dk_at dksX0_in_0 6 rfl rfl)
theorem dX0_in_9 : decode cX0_in 9 = .ok (.iconst 1, 1) := dk_4 (dk_at dksX0_in_0 9 rfl rfl)
theorem dX0_in_10 : decode cX0_in 10 = .ok (.goto 4, 3) := dk_167 0 4 (dk_at dksX0_in_0 10 rfl rfl)
theorem dX0_in_13 : decode cX0_in 13 = .ok (.iconst 0, 1) := dk_3 (dk_at dksX0_in_0 13 rfl rfl)
theorem dX0_in_14 : decode cX0_in 14 = .ok (.ireturn, 1) := dk_172 (dk_at dksX0_in_0 14 rfl rfl)
abbrev cX0_within : ByteArray := prog_1_method_2_code
def yX0_within : MethodName := ⟨RX0, "within", "(III)Z"⟩
def dkwX0_within_0 : List UInt8 := [26, 27, 161, 0, 12, 26, 28, 163, 0, 7, 4, 167, 0, 4, 3, 172]
abbrev dktX0_within_0 : List UInt8 := dkwX0_within_0 ++ []
theorem dksX0_within_0 : cX0_within.data.toList.drop 0 = dktX0_within_0 := by decide +kernel
theorem dX0_within_0 : decode cX0_within 0 = .ok (.iload_n 0, 1) := dk_26 (dk_at dksX0_within_0 0 rfl rfl)
theorem dX0_within_1 : decode cX0_within 1 = .ok (.iload_n 1, 1) := dk_27 (dk_at dksX0_within_0 1 rfl rfl)
theorem dX0_within_2 : decode cX0_within 2 = .ok (.if_icmp .lt 12, 3) := dk_161 0 12 (dk_at dksX0_within_0 2 rfl rfl)
theorem dX0_within_5 : decode cX0_within 5 = .ok (.iload_n 0, 1) := dk_26 (dk_at dksX0_within_0 5 rfl rfl)
theorem dX0_within_6 : decode cX0_within 6 = .ok (.iload_n 2, 1) := dk_28 (dk_at dksX0_within_0 6 rfl rfl)
theorem dX0_within_7 : decode cX0_within 7 = .ok (.if_icmp .gt 7, 3) := dk_163 0 7 (dk_at dksX0_within_0 7 rfl rfl)
theorem dX0_within_10 : decode cX0_within 10 = .ok (.iconst 1, 1) := dk_4 (dk_at dksX0_within_0 10 rfl rfl)
theorem dX0_within_11 : decode cX0_within 11 = .ok (.goto 4, 3) := dk_167 0 4 (dk_at dksX0_within_0 11 rfl rfl)
theorem dX0_within_14 : decode cX0_within 14 = .ok (.iconst 0, 1) := dk_3 (dk_at dksX0_within_0 14 rfl rfl)
theorem dX0_within_15 : decode cX0_within 15 = .ok (.ireturn, 1) := dk_172 (dk_at dksX0_within_0 15 rfl rfl)
abbrev cX0_feed : ByteArray := prog_1_method_13_code
def yX0_feed : MethodName := ⟨RX0, "feed", "(IIIII)I"⟩
def dkwX0_feed_2 : List UInt8 := [172]
abbrev dktX0_feed_2 : List UInt8 := dkwX0_feed_2 ++ []
def dkwX0_feed_1 : List UInt8 := [182, 0, 136, 42, 29, 182, 0, 136, 42, 21, 4, 182, 0, 136, 42, 21, 5, 182, 0, 136, 42, 180, 0, 133]
abbrev dktX0_feed_1 : List UInt8 := dkwX0_feed_1 ++ dktX0_feed_2
def dkwX0_feed_0 : List UInt8 := [42, 180, 0, 133, 16, 20, 96, 17, 1, 4, 164, 0, 5, 2, 172, 42, 27, 182, 0, 136, 42, 28]
abbrev dktX0_feed_0 : List UInt8 := dkwX0_feed_0 ++ dktX0_feed_1
theorem dksX0_feed_0 : cX0_feed.data.toList.drop 0 = dktX0_feed_0 := by decide +kernel
theorem dksX0_feed_1 : cX0_feed.data.toList.drop 22 = dktX0_feed_1 := dk_seg dksX0_feed_0 22 rfl rfl
theorem dksX0_feed_2 : cX0_feed.data.toList.drop 46 = dktX0_feed_2 := dk_seg dksX0_feed_1 24 rfl rfl
theorem dX0_feed_0 : decode cX0_feed 0 = .ok (.aload_n 0, 1) := dk_42 (dk_at dksX0_feed_0 0 rfl rfl)
theorem dX0_feed_1 : decode cX0_feed 1 = .ok (.getfield 133, 3) := dk_180 0 133 (dk_at dksX0_feed_0 1 rfl rfl)
theorem dX0_feed_4 : decode cX0_feed 4 = .ok (.bipush 20, 2) := dk_16 20 (dk_at dksX0_feed_0 4 rfl rfl)
theorem dX0_feed_6 : decode cX0_feed 6 = .ok (.iadd, 1) := dk_96 (dk_at dksX0_feed_0 6 rfl rfl)
theorem dX0_feed_7 : decode cX0_feed 7 = .ok (.sipush 260, 3) := dk_17 1 4 (dk_at dksX0_feed_0 7 rfl rfl)
theorem dX0_feed_10 : decode cX0_feed 10 = .ok (.if_icmp .le 5, 3) := dk_164 0 5 (dk_at dksX0_feed_0 10 rfl rfl)
theorem dX0_feed_13 : decode cX0_feed 13 = .ok (.iconst (-1), 1) := dk_2 (dk_at dksX0_feed_0 13 rfl rfl)
theorem dX0_feed_14 : decode cX0_feed 14 = .ok (.ireturn, 1) := dk_172 (dk_at dksX0_feed_0 14 rfl rfl)
theorem dX0_feed_15 : decode cX0_feed 15 = .ok (.aload_n 0, 1) := dk_42 (dk_at dksX0_feed_0 15 rfl rfl)
theorem dX0_feed_16 : decode cX0_feed 16 = .ok (.iload_n 1, 1) := dk_27 (dk_at dksX0_feed_0 16 rfl rfl)
theorem dX0_feed_17 : decode cX0_feed 17 = .ok (.invokevirtual 136, 3) := dk_182 0 136 (dk_at dksX0_feed_0 17 rfl rfl)
theorem dX0_feed_20 : decode cX0_feed 20 = .ok (.aload_n 0, 1) := dk_42 (dk_at dksX0_feed_0 20 rfl rfl)
theorem dX0_feed_21 : decode cX0_feed 21 = .ok (.iload_n 2, 1) := dk_28 (dk_at dksX0_feed_0 21 rfl rfl)
theorem dX0_feed_22 : decode cX0_feed 22 = .ok (.invokevirtual 136, 3) := dk_182 0 136 (dk_at dksX0_feed_1 0 rfl rfl)
theorem dX0_feed_25 : decode cX0_feed 25 = .ok (.aload_n 0, 1) := dk_42 (dk_at dksX0_feed_1 3 rfl rfl)
theorem dX0_feed_26 : decode cX0_feed 26 = .ok (.iload_n 3, 1) := dk_29 (dk_at dksX0_feed_1 4 rfl rfl)
theorem dX0_feed_27 : decode cX0_feed 27 = .ok (.invokevirtual 136, 3) := dk_182 0 136 (dk_at dksX0_feed_1 5 rfl rfl)
theorem dX0_feed_30 : decode cX0_feed 30 = .ok (.aload_n 0, 1) := dk_42 (dk_at dksX0_feed_1 8 rfl rfl)
theorem dX0_feed_31 : decode cX0_feed 31 = .ok (.iload 4, 2) := dk_21 4 (dk_at dksX0_feed_1 9 rfl rfl)
theorem dX0_feed_33 : decode cX0_feed 33 = .ok (.invokevirtual 136, 3) := dk_182 0 136 (dk_at dksX0_feed_1 11 rfl rfl)
theorem dX0_feed_36 : decode cX0_feed 36 = .ok (.aload_n 0, 1) := dk_42 (dk_at dksX0_feed_1 14 rfl rfl)
theorem dX0_feed_37 : decode cX0_feed 37 = .ok (.iload 5, 2) := dk_21 5 (dk_at dksX0_feed_1 15 rfl rfl)
theorem dX0_feed_39 : decode cX0_feed 39 = .ok (.invokevirtual 136, 3) := dk_182 0 136 (dk_at dksX0_feed_1 17 rfl rfl)
theorem dX0_feed_42 : decode cX0_feed 42 = .ok (.aload_n 0, 1) := dk_42 (dk_at dksX0_feed_1 20 rfl rfl)
theorem dX0_feed_43 : decode cX0_feed 43 = .ok (.getfield 133, 3) := dk_180 0 133 (dk_at dksX0_feed_1 21 rfl rfl)
theorem dX0_feed_46 : decode cX0_feed 46 = .ok (.ireturn, 1) := dk_172 (dk_at dksX0_feed_2 0 rfl rfl)
abbrev cX0_push : ByteArray := prog_1_method_12_code
def yX0_push : MethodName := ⟨RX0, "push", "(I)V"⟩
def dkwX0_push_1 : List UInt8 := [180, 0, 133, 4, 96, 181, 0, 133, 132, 2, 248, 167, 255, 226, 177]
abbrev dktX0_push_1 : List UInt8 := dkwX0_push_1 ++ []
def dkwX0_push_0 : List UInt8 := [16, 24, 61, 28, 155, 0, 32, 42, 180, 0, 73, 42, 180, 0, 133, 27, 28, 122, 145, 84, 42, 89]
abbrev dktX0_push_0 : List UInt8 := dkwX0_push_0 ++ dktX0_push_1
theorem dksX0_push_0 : cX0_push.data.toList.drop 0 = dktX0_push_0 := by decide +kernel
theorem dksX0_push_1 : cX0_push.data.toList.drop 22 = dktX0_push_1 := dk_seg dksX0_push_0 22 rfl rfl
theorem dX0_push_0 : decode cX0_push 0 = .ok (.bipush 24, 2) := dk_16 24 (dk_at dksX0_push_0 0 rfl rfl)
theorem dX0_push_2 : decode cX0_push 2 = .ok (.istore_n 2, 1) := dk_61 (dk_at dksX0_push_0 2 rfl rfl)
theorem dX0_push_3 : decode cX0_push 3 = .ok (.iload_n 2, 1) := dk_28 (dk_at dksX0_push_0 3 rfl rfl)
theorem dX0_push_4 : decode cX0_push 4 = .ok (.ifCond .lt 32, 3) := dk_155 0 32 (dk_at dksX0_push_0 4 rfl rfl)
theorem dX0_push_7 : decode cX0_push 7 = .ok (.aload_n 0, 1) := dk_42 (dk_at dksX0_push_0 7 rfl rfl)
theorem dX0_push_8 : decode cX0_push 8 = .ok (.getfield 73, 3) := dk_180 0 73 (dk_at dksX0_push_0 8 rfl rfl)
theorem dX0_push_11 : decode cX0_push 11 = .ok (.aload_n 0, 1) := dk_42 (dk_at dksX0_push_0 11 rfl rfl)
theorem dX0_push_12 : decode cX0_push 12 = .ok (.getfield 133, 3) := dk_180 0 133 (dk_at dksX0_push_0 12 rfl rfl)
theorem dX0_push_15 : decode cX0_push 15 = .ok (.iload_n 1, 1) := dk_27 (dk_at dksX0_push_0 15 rfl rfl)
theorem dX0_push_16 : decode cX0_push 16 = .ok (.iload_n 2, 1) := dk_28 (dk_at dksX0_push_0 16 rfl rfl)
theorem dX0_push_17 : decode cX0_push 17 = .ok (.ishr, 1) := dk_122 (dk_at dksX0_push_0 17 rfl rfl)
theorem dX0_push_18 : decode cX0_push 18 = .ok (.i2b, 1) := dk_145 (dk_at dksX0_push_0 18 rfl rfl)
theorem dX0_push_19 : decode cX0_push 19 = .ok (.bastore, 1) := dk_84 (dk_at dksX0_push_0 19 rfl rfl)
theorem dX0_push_20 : decode cX0_push 20 = .ok (.aload_n 0, 1) := dk_42 (dk_at dksX0_push_0 20 rfl rfl)
theorem dX0_push_21 : decode cX0_push 21 = .ok (.dup, 1) := dk_89 (dk_at dksX0_push_0 21 rfl rfl)
theorem dX0_push_22 : decode cX0_push 22 = .ok (.getfield 133, 3) := dk_180 0 133 (dk_at dksX0_push_1 0 rfl rfl)
theorem dX0_push_25 : decode cX0_push 25 = .ok (.iconst 1, 1) := dk_4 (dk_at dksX0_push_1 3 rfl rfl)
theorem dX0_push_26 : decode cX0_push 26 = .ok (.iadd, 1) := dk_96 (dk_at dksX0_push_1 4 rfl rfl)
theorem dX0_push_27 : decode cX0_push 27 = .ok (.putfield 133, 3) := dk_181 0 133 (dk_at dksX0_push_1 5 rfl rfl)
theorem dX0_push_30 : decode cX0_push 30 = .ok (.iinc 2 (-8), 3) := dk_132 2 248 (dk_at dksX0_push_1 8 rfl rfl)
theorem dX0_push_33 : decode cX0_push 33 = .ok (.goto (-30), 3) := dk_167 255 226 (dk_at dksX0_push_1 11 rfl rfl)
theorem dX0_push_36 : decode cX0_push 36 = .ok (.return_, 1) := dk_177 (dk_at dksX0_push_1 14 rfl rfl)
abbrev cX0_law : ByteArray := prog_1_method_14_code
def yX0_law : MethodName := ⟨RX0, "law", "(I)I"⟩
def dkwX0_law_2 : List UInt8 := [180, 0, 149, 181, 0, 32, 29, 172]
abbrev dktX0_law_2 : List UInt8 := dkwX0_law_2 ++ []
def dkwX0_law_1 : List UInt8 := [181, 0, 133, 187, 0, 140, 89, 42, 27, 183, 0, 142, 77, 44, 182, 0, 145, 62, 29, 155, 0, 11, 42, 44]
abbrev dktX0_law_1 : List UInt8 := dkwX0_law_1 ++ dktX0_law_2
def dkwX0_law_0 : List UInt8 := [27, 4, 17, 0, 240, 184, 0, 120, 153, 0, 11, 27, 42, 180, 0, 133, 164, 0, 5, 2, 172, 42, 3]
abbrev dktX0_law_0 : List UInt8 := dkwX0_law_0 ++ dktX0_law_1
theorem dksX0_law_0 : cX0_law.data.toList.drop 0 = dktX0_law_0 := by decide +kernel
theorem dksX0_law_1 : cX0_law.data.toList.drop 23 = dktX0_law_1 := dk_seg dksX0_law_0 23 rfl rfl
theorem dksX0_law_2 : cX0_law.data.toList.drop 47 = dktX0_law_2 := dk_seg dksX0_law_1 24 rfl rfl
theorem dX0_law_0 : decode cX0_law 0 = .ok (.iload_n 1, 1) := dk_27 (dk_at dksX0_law_0 0 rfl rfl)
theorem dX0_law_1 : decode cX0_law 1 = .ok (.iconst 1, 1) := dk_4 (dk_at dksX0_law_0 1 rfl rfl)
theorem dX0_law_2 : decode cX0_law 2 = .ok (.sipush 240, 3) := dk_17 0 240 (dk_at dksX0_law_0 2 rfl rfl)
theorem dX0_law_5 : decode cX0_law 5 = .ok (.invokestatic 120, 3) := dk_184 0 120 (dk_at dksX0_law_0 5 rfl rfl)
theorem dX0_law_8 : decode cX0_law 8 = .ok (.ifCond .eq 11, 3) := dk_153 0 11 (dk_at dksX0_law_0 8 rfl rfl)
theorem dX0_law_11 : decode cX0_law 11 = .ok (.iload_n 1, 1) := dk_27 (dk_at dksX0_law_0 11 rfl rfl)
theorem dX0_law_12 : decode cX0_law 12 = .ok (.aload_n 0, 1) := dk_42 (dk_at dksX0_law_0 12 rfl rfl)
theorem dX0_law_13 : decode cX0_law 13 = .ok (.getfield 133, 3) := dk_180 0 133 (dk_at dksX0_law_0 13 rfl rfl)
theorem dX0_law_16 : decode cX0_law 16 = .ok (.if_icmp .le 5, 3) := dk_164 0 5 (dk_at dksX0_law_0 16 rfl rfl)
theorem dX0_law_19 : decode cX0_law 19 = .ok (.iconst (-1), 1) := dk_2 (dk_at dksX0_law_0 19 rfl rfl)
theorem dX0_law_20 : decode cX0_law 20 = .ok (.ireturn, 1) := dk_172 (dk_at dksX0_law_0 20 rfl rfl)
theorem dX0_law_21 : decode cX0_law 21 = .ok (.aload_n 0, 1) := dk_42 (dk_at dksX0_law_0 21 rfl rfl)
theorem dX0_law_22 : decode cX0_law 22 = .ok (.iconst 0, 1) := dk_3 (dk_at dksX0_law_0 22 rfl rfl)
theorem dX0_law_23 : decode cX0_law 23 = .ok (.putfield 133, 3) := dk_181 0 133 (dk_at dksX0_law_1 0 rfl rfl)
theorem dX0_law_26 : decode cX0_law 26 = .ok (.new 140, 3) := dk_187 0 140 (dk_at dksX0_law_1 3 rfl rfl)
theorem dX0_law_29 : decode cX0_law 29 = .ok (.dup, 1) := dk_89 (dk_at dksX0_law_1 6 rfl rfl)
theorem dX0_law_30 : decode cX0_law 30 = .ok (.aload_n 0, 1) := dk_42 (dk_at dksX0_law_1 7 rfl rfl)
theorem dX0_law_31 : decode cX0_law 31 = .ok (.iload_n 1, 1) := dk_27 (dk_at dksX0_law_1 8 rfl rfl)
theorem dX0_law_32 : decode cX0_law 32 = .ok (.invokespecial 142, 3) := dk_183 0 142 (dk_at dksX0_law_1 9 rfl rfl)
theorem dX0_law_35 : decode cX0_law 35 = .ok (.astore_n 2, 1) := dk_77 (dk_at dksX0_law_1 12 rfl rfl)
theorem dX0_law_36 : decode cX0_law 36 = .ok (.aload_n 2, 1) := dk_44 (dk_at dksX0_law_1 13 rfl rfl)
theorem dX0_law_37 : decode cX0_law 37 = .ok (.invokevirtual 145, 3) := dk_182 0 145 (dk_at dksX0_law_1 14 rfl rfl)
theorem dX0_law_40 : decode cX0_law 40 = .ok (.istore_n 3, 1) := dk_62 (dk_at dksX0_law_1 17 rfl rfl)
theorem dX0_law_41 : decode cX0_law 41 = .ok (.iload_n 3, 1) := dk_29 (dk_at dksX0_law_1 18 rfl rfl)
theorem dX0_law_42 : decode cX0_law 42 = .ok (.ifCond .lt 11, 3) := dk_155 0 11 (dk_at dksX0_law_1 19 rfl rfl)
theorem dX0_law_45 : decode cX0_law 45 = .ok (.aload_n 0, 1) := dk_42 (dk_at dksX0_law_1 22 rfl rfl)
theorem dX0_law_46 : decode cX0_law 46 = .ok (.aload_n 2, 1) := dk_44 (dk_at dksX0_law_1 23 rfl rfl)
theorem dX0_law_47 : decode cX0_law 47 = .ok (.getfield 149, 3) := dk_180 0 149 (dk_at dksX0_law_2 0 rfl rfl)
theorem dX0_law_50 : decode cX0_law 50 = .ok (.putfield 32, 3) := dk_181 0 32 (dk_at dksX0_law_2 3 rfl rfl)
theorem dX0_law_53 : decode cX0_law 53 = .ok (.iload_n 3, 1) := dk_29 (dk_at dksX0_law_2 6 rfl rfl)
theorem dX0_law_54 : decode cX0_law 54 = .ok (.ireturn, 1) := dk_172 (dk_at dksX0_law_2 7 rfl rfl)
abbrev cX0_burials : ByteArray := prog_1_method_15_code
def yX0_burials : MethodName := ⟨RX0, "burials", "(I)I"⟩
def dkwX0_burials_3 : List UInt8 := [21, 4, 172]
abbrev dktX0_burials_3 : List UInt8 := dkwX0_burials_3 ++ []
def dkwX0_burials_2 : List UInt8 := [78, 45, 182, 0, 159, 54, 4, 21, 4, 155, 0, 15, 42, 180, 0, 63, 42, 180, 0, 67, 182, 0, 152, 77]
abbrev dktX0_burials_2 : List UInt8 := dkwX0_burials_2 ++ dktX0_burials_3
def dkwX0_burials_1 : List UInt8 := [181, 0, 133, 42, 180, 0, 67, 42, 180, 0, 63, 182, 0, 152, 77, 187, 0, 156, 89, 42, 27, 183, 0, 158]
abbrev dktX0_burials_1 : List UInt8 := dkwX0_burials_1 ++ dktX0_burials_2
def dkwX0_burials_0 : List UInt8 := [27, 4, 16, 120, 184, 0, 120, 153, 0, 11, 27, 42, 180, 0, 133, 164, 0, 5, 2, 172, 42, 3]
abbrev dktX0_burials_0 : List UInt8 := dkwX0_burials_0 ++ dktX0_burials_1
theorem dksX0_burials_0 : cX0_burials.data.toList.drop 0 = dktX0_burials_0 := by decide +kernel
theorem dksX0_burials_1 : cX0_burials.data.toList.drop 22 = dktX0_burials_1 := dk_seg dksX0_burials_0 22 rfl rfl
theorem dksX0_burials_2 : cX0_burials.data.toList.drop 46 = dktX0_burials_2 := dk_seg dksX0_burials_1 24 rfl rfl
theorem dksX0_burials_3 : cX0_burials.data.toList.drop 70 = dktX0_burials_3 := dk_seg dksX0_burials_2 24 rfl rfl
theorem dX0_burials_0 : decode cX0_burials 0 = .ok (.iload_n 1, 1) := dk_27 (dk_at dksX0_burials_0 0 rfl rfl)
theorem dX0_burials_1 : decode cX0_burials 1 = .ok (.iconst 1, 1) := dk_4 (dk_at dksX0_burials_0 1 rfl rfl)
theorem dX0_burials_2 : decode cX0_burials 2 = .ok (.bipush 120, 2) := dk_16 120 (dk_at dksX0_burials_0 2 rfl rfl)
theorem dX0_burials_4 : decode cX0_burials 4 = .ok (.invokestatic 120, 3) := dk_184 0 120 (dk_at dksX0_burials_0 4 rfl rfl)
theorem dX0_burials_7 : decode cX0_burials 7 = .ok (.ifCond .eq 11, 3) := dk_153 0 11 (dk_at dksX0_burials_0 7 rfl rfl)
theorem dX0_burials_10 : decode cX0_burials 10 = .ok (.iload_n 1, 1) := dk_27 (dk_at dksX0_burials_0 10 rfl rfl)
theorem dX0_burials_11 : decode cX0_burials 11 = .ok (.aload_n 0, 1) := dk_42 (dk_at dksX0_burials_0 11 rfl rfl)
theorem dX0_burials_12 : decode cX0_burials 12 = .ok (.getfield 133, 3) := dk_180 0 133 (dk_at dksX0_burials_0 12 rfl rfl)
theorem dX0_burials_15 : decode cX0_burials 15 = .ok (.if_icmp .le 5, 3) := dk_164 0 5 (dk_at dksX0_burials_0 15 rfl rfl)
theorem dX0_burials_18 : decode cX0_burials 18 = .ok (.iconst (-1), 1) := dk_2 (dk_at dksX0_burials_0 18 rfl rfl)
theorem dX0_burials_19 : decode cX0_burials 19 = .ok (.ireturn, 1) := dk_172 (dk_at dksX0_burials_0 19 rfl rfl)
theorem dX0_burials_20 : decode cX0_burials 20 = .ok (.aload_n 0, 1) := dk_42 (dk_at dksX0_burials_0 20 rfl rfl)
theorem dX0_burials_21 : decode cX0_burials 21 = .ok (.iconst 0, 1) := dk_3 (dk_at dksX0_burials_0 21 rfl rfl)
theorem dX0_burials_22 : decode cX0_burials 22 = .ok (.putfield 133, 3) := dk_181 0 133 (dk_at dksX0_burials_1 0 rfl rfl)
theorem dX0_burials_25 : decode cX0_burials 25 = .ok (.aload_n 0, 1) := dk_42 (dk_at dksX0_burials_1 3 rfl rfl)
theorem dX0_burials_26 : decode cX0_burials 26 = .ok (.getfield 67, 3) := dk_180 0 67 (dk_at dksX0_burials_1 4 rfl rfl)
theorem dX0_burials_29 : decode cX0_burials 29 = .ok (.aload_n 0, 1) := dk_42 (dk_at dksX0_burials_1 7 rfl rfl)
theorem dX0_burials_30 : decode cX0_burials 30 = .ok (.getfield 63, 3) := dk_180 0 63 (dk_at dksX0_burials_1 8 rfl rfl)
theorem dX0_burials_33 : decode cX0_burials 33 = .ok (.invokevirtual 152, 3) := dk_182 0 152 (dk_at dksX0_burials_1 11 rfl rfl)
theorem dX0_burials_36 : decode cX0_burials 36 = .ok (.astore_n 2, 1) := dk_77 (dk_at dksX0_burials_1 14 rfl rfl)
theorem dX0_burials_37 : decode cX0_burials 37 = .ok (.new 156, 3) := dk_187 0 156 (dk_at dksX0_burials_1 15 rfl rfl)
theorem dX0_burials_40 : decode cX0_burials 40 = .ok (.dup, 1) := dk_89 (dk_at dksX0_burials_1 18 rfl rfl)
theorem dX0_burials_41 : decode cX0_burials 41 = .ok (.aload_n 0, 1) := dk_42 (dk_at dksX0_burials_1 19 rfl rfl)
theorem dX0_burials_42 : decode cX0_burials 42 = .ok (.iload_n 1, 1) := dk_27 (dk_at dksX0_burials_1 20 rfl rfl)
theorem dX0_burials_43 : decode cX0_burials 43 = .ok (.invokespecial 158, 3) := dk_183 0 158 (dk_at dksX0_burials_1 21 rfl rfl)
theorem dX0_burials_46 : decode cX0_burials 46 = .ok (.astore_n 3, 1) := dk_78 (dk_at dksX0_burials_2 0 rfl rfl)
theorem dX0_burials_47 : decode cX0_burials 47 = .ok (.aload_n 3, 1) := dk_45 (dk_at dksX0_burials_2 1 rfl rfl)
theorem dX0_burials_48 : decode cX0_burials 48 = .ok (.invokevirtual 159, 3) := dk_182 0 159 (dk_at dksX0_burials_2 2 rfl rfl)
theorem dX0_burials_51 : decode cX0_burials 51 = .ok (.istore 4, 2) := dk_54 4 (dk_at dksX0_burials_2 5 rfl rfl)
theorem dX0_burials_53 : decode cX0_burials 53 = .ok (.iload 4, 2) := dk_21 4 (dk_at dksX0_burials_2 7 rfl rfl)
theorem dX0_burials_55 : decode cX0_burials 55 = .ok (.ifCond .lt 15, 3) := dk_155 0 15 (dk_at dksX0_burials_2 9 rfl rfl)
theorem dX0_burials_58 : decode cX0_burials 58 = .ok (.aload_n 0, 1) := dk_42 (dk_at dksX0_burials_2 12 rfl rfl)
theorem dX0_burials_59 : decode cX0_burials 59 = .ok (.getfield 63, 3) := dk_180 0 63 (dk_at dksX0_burials_2 13 rfl rfl)
theorem dX0_burials_62 : decode cX0_burials 62 = .ok (.aload_n 0, 1) := dk_42 (dk_at dksX0_burials_2 16 rfl rfl)
theorem dX0_burials_63 : decode cX0_burials 63 = .ok (.getfield 67, 3) := dk_180 0 67 (dk_at dksX0_burials_2 17 rfl rfl)
theorem dX0_burials_66 : decode cX0_burials 66 = .ok (.invokevirtual 152, 3) := dk_182 0 152 (dk_at dksX0_burials_2 20 rfl rfl)
theorem dX0_burials_69 : decode cX0_burials 69 = .ok (.astore_n 2, 1) := dk_77 (dk_at dksX0_burials_2 23 rfl rfl)
theorem dX0_burials_70 : decode cX0_burials 70 = .ok (.iload 4, 2) := dk_21 4 (dk_at dksX0_burials_3 0 rfl rfl)
theorem dX0_burials_72 : decode cX0_burials 72 = .ok (.ireturn, 1) := dk_172 (dk_at dksX0_burials_3 2 rfl rfl)
abbrev cX0_isTold : ByteArray := prog_1_method_10_code
def yX0_isTold : MethodName := ⟨RX0, "isTold", "(I)Z"⟩
def dkwX0_isTold_1 : List UInt8 := [4, 167, 0, 4, 3, 172]
abbrev dktX0_isTold_1 : List UInt8 := dkwX0_isTold_1 ++ []
def dkwX0_isTold_0 : List UInt8 := [27, 16, 16, 184, 0, 25, 153, 0, 22, 42, 180, 0, 63, 180, 0, 109, 27, 50, 180, 0, 113, 153, 0, 7]
abbrev dktX0_isTold_0 : List UInt8 := dkwX0_isTold_0 ++ dktX0_isTold_1
theorem dksX0_isTold_0 : cX0_isTold.data.toList.drop 0 = dktX0_isTold_0 := by decide +kernel
theorem dksX0_isTold_1 : cX0_isTold.data.toList.drop 24 = dktX0_isTold_1 := dk_seg dksX0_isTold_0 24 rfl rfl
theorem dX0_isTold_0 : decode cX0_isTold 0 = .ok (.iload_n 1, 1) := dk_27 (dk_at dksX0_isTold_0 0 rfl rfl)
theorem dX0_isTold_1 : decode cX0_isTold 1 = .ok (.bipush 16, 2) := dk_16 16 (dk_at dksX0_isTold_0 1 rfl rfl)
theorem dX0_isTold_3 : decode cX0_isTold 3 = .ok (.invokestatic 25, 3) := dk_184 0 25 (dk_at dksX0_isTold_0 3 rfl rfl)
theorem dX0_isTold_6 : decode cX0_isTold 6 = .ok (.ifCond .eq 22, 3) := dk_153 0 22 (dk_at dksX0_isTold_0 6 rfl rfl)
theorem dX0_isTold_9 : decode cX0_isTold 9 = .ok (.aload_n 0, 1) := dk_42 (dk_at dksX0_isTold_0 9 rfl rfl)
theorem dX0_isTold_10 : decode cX0_isTold 10 = .ok (.getfield 63, 3) := dk_180 0 63 (dk_at dksX0_isTold_0 10 rfl rfl)
theorem dX0_isTold_13 : decode cX0_isTold 13 = .ok (.getfield 109, 3) := dk_180 0 109 (dk_at dksX0_isTold_0 13 rfl rfl)
theorem dX0_isTold_16 : decode cX0_isTold 16 = .ok (.iload_n 1, 1) := dk_27 (dk_at dksX0_isTold_0 16 rfl rfl)
theorem dX0_isTold_17 : decode cX0_isTold 17 = .ok (.aaload, 1) := dk_50 (dk_at dksX0_isTold_0 17 rfl rfl)
theorem dX0_isTold_18 : decode cX0_isTold 18 = .ok (.getfield 113, 3) := dk_180 0 113 (dk_at dksX0_isTold_0 18 rfl rfl)
theorem dX0_isTold_21 : decode cX0_isTold 21 = .ok (.ifCond .eq 7, 3) := dk_153 0 7 (dk_at dksX0_isTold_0 21 rfl rfl)
theorem dX0_isTold_24 : decode cX0_isTold 24 = .ok (.iconst 1, 1) := dk_4 (dk_at dksX0_isTold_1 0 rfl rfl)
theorem dX0_isTold_25 : decode cX0_isTold 25 = .ok (.goto 4, 3) := dk_167 0 4 (dk_at dksX0_isTold_1 1 rfl rfl)
theorem dX0_isTold_28 : decode cX0_isTold 28 = .ok (.iconst 0, 1) := dk_3 (dk_at dksX0_isTold_1 4 rfl rfl)
theorem dX0_isTold_29 : decode cX0_isTold 29 = .ok (.ireturn, 1) := dk_172 (dk_at dksX0_isTold_1 5 rfl rfl)
abbrev cX0_wishes : ByteArray := prog_1_method_16_code
def yX0_wishes : MethodName := ⟨RX0, "wishes", "(I)I"⟩
def dkwX0_wishes_4 : List UInt8 := [44, 180, 0, 173, 21, 4, 46, 79, 132, 4, 1, 167, 255, 205, 29, 172]
abbrev dktX0_wishes_4 : List UInt8 := dkwX0_wishes_4 ++ []
def dkwX0_wishes_3 : List UInt8 := [21, 4, 46, 79, 42, 180, 0, 81, 21, 4, 44, 180, 0, 170, 21, 4, 46, 79, 42, 180, 0, 84, 21, 4]
abbrev dktX0_wishes_3 : List UInt8 := dkwX0_wishes_3 ++ dktX0_wishes_4
def dkwX0_wishes_2 : List UInt8 := [42, 29, 181, 0, 164, 3, 54, 4, 21, 4, 29, 162, 0, 51, 42, 180, 0, 78, 21, 4, 44, 180, 0, 167]
abbrev dktX0_wishes_2 : List UInt8 := dkwX0_wishes_2 ++ dktX0_wishes_3
def dkwX0_wishes_1 : List UInt8 := [181, 0, 133, 187, 0, 160, 89, 42, 27, 183, 0, 162, 77, 44, 182, 0, 163, 62, 29, 156, 0, 5, 29, 172]
abbrev dktX0_wishes_1 : List UInt8 := dkwX0_wishes_1 ++ dktX0_wishes_2
def dkwX0_wishes_0 : List UInt8 := [27, 4, 16, 120, 184, 0, 120, 153, 0, 11, 27, 42, 180, 0, 133, 164, 0, 5, 2, 172, 42, 3]
abbrev dktX0_wishes_0 : List UInt8 := dkwX0_wishes_0 ++ dktX0_wishes_1
theorem dksX0_wishes_0 : cX0_wishes.data.toList.drop 0 = dktX0_wishes_0 := by decide +kernel
theorem dksX0_wishes_1 : cX0_wishes.data.toList.drop 22 = dktX0_wishes_1 := dk_seg dksX0_wishes_0 22 rfl rfl
theorem dksX0_wishes_2 : cX0_wishes.data.toList.drop 46 = dktX0_wishes_2 := dk_seg dksX0_wishes_1 24 rfl rfl
theorem dksX0_wishes_3 : cX0_wishes.data.toList.drop 70 = dktX0_wishes_3 := dk_seg dksX0_wishes_2 24 rfl rfl
theorem dksX0_wishes_4 : cX0_wishes.data.toList.drop 94 = dktX0_wishes_4 := dk_seg dksX0_wishes_3 24 rfl rfl
theorem dX0_wishes_0 : decode cX0_wishes 0 = .ok (.iload_n 1, 1) := dk_27 (dk_at dksX0_wishes_0 0 rfl rfl)
theorem dX0_wishes_1 : decode cX0_wishes 1 = .ok (.iconst 1, 1) := dk_4 (dk_at dksX0_wishes_0 1 rfl rfl)
theorem dX0_wishes_2 : decode cX0_wishes 2 = .ok (.bipush 120, 2) := dk_16 120 (dk_at dksX0_wishes_0 2 rfl rfl)
theorem dX0_wishes_4 : decode cX0_wishes 4 = .ok (.invokestatic 120, 3) := dk_184 0 120 (dk_at dksX0_wishes_0 4 rfl rfl)
theorem dX0_wishes_7 : decode cX0_wishes 7 = .ok (.ifCond .eq 11, 3) := dk_153 0 11 (dk_at dksX0_wishes_0 7 rfl rfl)
theorem dX0_wishes_10 : decode cX0_wishes 10 = .ok (.iload_n 1, 1) := dk_27 (dk_at dksX0_wishes_0 10 rfl rfl)
theorem dX0_wishes_11 : decode cX0_wishes 11 = .ok (.aload_n 0, 1) := dk_42 (dk_at dksX0_wishes_0 11 rfl rfl)
theorem dX0_wishes_12 : decode cX0_wishes 12 = .ok (.getfield 133, 3) := dk_180 0 133 (dk_at dksX0_wishes_0 12 rfl rfl)
theorem dX0_wishes_15 : decode cX0_wishes 15 = .ok (.if_icmp .le 5, 3) := dk_164 0 5 (dk_at dksX0_wishes_0 15 rfl rfl)
theorem dX0_wishes_18 : decode cX0_wishes 18 = .ok (.iconst (-1), 1) := dk_2 (dk_at dksX0_wishes_0 18 rfl rfl)
theorem dX0_wishes_19 : decode cX0_wishes 19 = .ok (.ireturn, 1) := dk_172 (dk_at dksX0_wishes_0 19 rfl rfl)
theorem dX0_wishes_20 : decode cX0_wishes 20 = .ok (.aload_n 0, 1) := dk_42 (dk_at dksX0_wishes_0 20 rfl rfl)
theorem dX0_wishes_21 : decode cX0_wishes 21 = .ok (.iconst 0, 1) := dk_3 (dk_at dksX0_wishes_0 21 rfl rfl)
theorem dX0_wishes_22 : decode cX0_wishes 22 = .ok (.putfield 133, 3) := dk_181 0 133 (dk_at dksX0_wishes_1 0 rfl rfl)
theorem dX0_wishes_25 : decode cX0_wishes 25 = .ok (.new 160, 3) := dk_187 0 160 (dk_at dksX0_wishes_1 3 rfl rfl)
theorem dX0_wishes_28 : decode cX0_wishes 28 = .ok (.dup, 1) := dk_89 (dk_at dksX0_wishes_1 6 rfl rfl)
theorem dX0_wishes_29 : decode cX0_wishes 29 = .ok (.aload_n 0, 1) := dk_42 (dk_at dksX0_wishes_1 7 rfl rfl)
theorem dX0_wishes_30 : decode cX0_wishes 30 = .ok (.iload_n 1, 1) := dk_27 (dk_at dksX0_wishes_1 8 rfl rfl)
theorem dX0_wishes_31 : decode cX0_wishes 31 = .ok (.invokespecial 162, 3) := dk_183 0 162 (dk_at dksX0_wishes_1 9 rfl rfl)
theorem dX0_wishes_34 : decode cX0_wishes 34 = .ok (.astore_n 2, 1) := dk_77 (dk_at dksX0_wishes_1 12 rfl rfl)
theorem dX0_wishes_35 : decode cX0_wishes 35 = .ok (.aload_n 2, 1) := dk_44 (dk_at dksX0_wishes_1 13 rfl rfl)
theorem dX0_wishes_36 : decode cX0_wishes 36 = .ok (.invokevirtual 163, 3) := dk_182 0 163 (dk_at dksX0_wishes_1 14 rfl rfl)
theorem dX0_wishes_39 : decode cX0_wishes 39 = .ok (.istore_n 3, 1) := dk_62 (dk_at dksX0_wishes_1 17 rfl rfl)
theorem dX0_wishes_40 : decode cX0_wishes 40 = .ok (.iload_n 3, 1) := dk_29 (dk_at dksX0_wishes_1 18 rfl rfl)
theorem dX0_wishes_41 : decode cX0_wishes 41 = .ok (.ifCond .ge 5, 3) := dk_156 0 5 (dk_at dksX0_wishes_1 19 rfl rfl)
theorem dX0_wishes_44 : decode cX0_wishes 44 = .ok (.iload_n 3, 1) := dk_29 (dk_at dksX0_wishes_1 22 rfl rfl)
theorem dX0_wishes_45 : decode cX0_wishes 45 = .ok (.ireturn, 1) := dk_172 (dk_at dksX0_wishes_1 23 rfl rfl)
theorem dX0_wishes_46 : decode cX0_wishes 46 = .ok (.aload_n 0, 1) := dk_42 (dk_at dksX0_wishes_2 0 rfl rfl)
theorem dX0_wishes_47 : decode cX0_wishes 47 = .ok (.iload_n 3, 1) := dk_29 (dk_at dksX0_wishes_2 1 rfl rfl)
theorem dX0_wishes_48 : decode cX0_wishes 48 = .ok (.putfield 164, 3) := dk_181 0 164 (dk_at dksX0_wishes_2 2 rfl rfl)
theorem dX0_wishes_51 : decode cX0_wishes 51 = .ok (.iconst 0, 1) := dk_3 (dk_at dksX0_wishes_2 5 rfl rfl)
theorem dX0_wishes_52 : decode cX0_wishes 52 = .ok (.istore 4, 2) := dk_54 4 (dk_at dksX0_wishes_2 6 rfl rfl)
theorem dX0_wishes_54 : decode cX0_wishes 54 = .ok (.iload 4, 2) := dk_21 4 (dk_at dksX0_wishes_2 8 rfl rfl)
theorem dX0_wishes_56 : decode cX0_wishes 56 = .ok (.iload_n 3, 1) := dk_29 (dk_at dksX0_wishes_2 10 rfl rfl)
theorem dX0_wishes_57 : decode cX0_wishes 57 = .ok (.if_icmp .ge 51, 3) := dk_162 0 51 (dk_at dksX0_wishes_2 11 rfl rfl)
theorem dX0_wishes_60 : decode cX0_wishes 60 = .ok (.aload_n 0, 1) := dk_42 (dk_at dksX0_wishes_2 14 rfl rfl)
theorem dX0_wishes_61 : decode cX0_wishes 61 = .ok (.getfield 78, 3) := dk_180 0 78 (dk_at dksX0_wishes_2 15 rfl rfl)
theorem dX0_wishes_64 : decode cX0_wishes 64 = .ok (.iload 4, 2) := dk_21 4 (dk_at dksX0_wishes_2 18 rfl rfl)
theorem dX0_wishes_66 : decode cX0_wishes 66 = .ok (.aload_n 2, 1) := dk_44 (dk_at dksX0_wishes_2 20 rfl rfl)
theorem dX0_wishes_67 : decode cX0_wishes 67 = .ok (.getfield 167, 3) := dk_180 0 167 (dk_at dksX0_wishes_2 21 rfl rfl)
theorem dX0_wishes_70 : decode cX0_wishes 70 = .ok (.iload 4, 2) := dk_21 4 (dk_at dksX0_wishes_3 0 rfl rfl)
theorem dX0_wishes_72 : decode cX0_wishes 72 = .ok (.iaload, 1) := dk_46 (dk_at dksX0_wishes_3 2 rfl rfl)
theorem dX0_wishes_73 : decode cX0_wishes 73 = .ok (.iastore, 1) := dk_79 (dk_at dksX0_wishes_3 3 rfl rfl)
theorem dX0_wishes_74 : decode cX0_wishes 74 = .ok (.aload_n 0, 1) := dk_42 (dk_at dksX0_wishes_3 4 rfl rfl)
theorem dX0_wishes_75 : decode cX0_wishes 75 = .ok (.getfield 81, 3) := dk_180 0 81 (dk_at dksX0_wishes_3 5 rfl rfl)
theorem dX0_wishes_78 : decode cX0_wishes 78 = .ok (.iload 4, 2) := dk_21 4 (dk_at dksX0_wishes_3 8 rfl rfl)
theorem dX0_wishes_80 : decode cX0_wishes 80 = .ok (.aload_n 2, 1) := dk_44 (dk_at dksX0_wishes_3 10 rfl rfl)
theorem dX0_wishes_81 : decode cX0_wishes 81 = .ok (.getfield 170, 3) := dk_180 0 170 (dk_at dksX0_wishes_3 11 rfl rfl)
theorem dX0_wishes_84 : decode cX0_wishes 84 = .ok (.iload 4, 2) := dk_21 4 (dk_at dksX0_wishes_3 14 rfl rfl)
theorem dX0_wishes_86 : decode cX0_wishes 86 = .ok (.iaload, 1) := dk_46 (dk_at dksX0_wishes_3 16 rfl rfl)
theorem dX0_wishes_87 : decode cX0_wishes 87 = .ok (.iastore, 1) := dk_79 (dk_at dksX0_wishes_3 17 rfl rfl)
theorem dX0_wishes_88 : decode cX0_wishes 88 = .ok (.aload_n 0, 1) := dk_42 (dk_at dksX0_wishes_3 18 rfl rfl)
theorem dX0_wishes_89 : decode cX0_wishes 89 = .ok (.getfield 84, 3) := dk_180 0 84 (dk_at dksX0_wishes_3 19 rfl rfl)
theorem dX0_wishes_92 : decode cX0_wishes 92 = .ok (.iload 4, 2) := dk_21 4 (dk_at dksX0_wishes_3 22 rfl rfl)
theorem dX0_wishes_94 : decode cX0_wishes 94 = .ok (.aload_n 2, 1) := dk_44 (dk_at dksX0_wishes_4 0 rfl rfl)
theorem dX0_wishes_95 : decode cX0_wishes 95 = .ok (.getfield 173, 3) := dk_180 0 173 (dk_at dksX0_wishes_4 1 rfl rfl)
theorem dX0_wishes_98 : decode cX0_wishes 98 = .ok (.iload 4, 2) := dk_21 4 (dk_at dksX0_wishes_4 4 rfl rfl)
theorem dX0_wishes_100 : decode cX0_wishes 100 = .ok (.iaload, 1) := dk_46 (dk_at dksX0_wishes_4 6 rfl rfl)
theorem dX0_wishes_101 : decode cX0_wishes 101 = .ok (.iastore, 1) := dk_79 (dk_at dksX0_wishes_4 7 rfl rfl)
theorem dX0_wishes_102 : decode cX0_wishes 102 = .ok (.iinc 4 1, 3) := dk_132 4 1 (dk_at dksX0_wishes_4 8 rfl rfl)
theorem dX0_wishes_105 : decode cX0_wishes 105 = .ok (.goto (-51), 3) := dk_167 255 205 (dk_at dksX0_wishes_4 11 rfl rfl)
theorem dX0_wishes_108 : decode cX0_wishes 108 = .ok (.iload_n 3, 1) := dk_29 (dk_at dksX0_wishes_4 14 rfl rfl)
theorem dX0_wishes_109 : decode cX0_wishes 109 = .ok (.ireturn, 1) := dk_172 (dk_at dksX0_wishes_4 15 rfl rfl)
abbrev cX0_nights : ByteArray := prog_1_method_17_code
def yX0_nights : MethodName := ⟨RX0, "nights", "(I)I"⟩
def dkwX0_nights_1 : List UInt8 := [167, 0, 4, 2, 172]
abbrev dktX0_nights_1 : List UInt8 := dkwX0_nights_1 ++ []
def dkwX0_nights_0 : List UInt8 := [27, 4, 17, 0, 240, 184, 0, 120, 153, 0, 17, 42, 180, 0, 63, 27, 182, 0, 176, 180, 0, 180]
abbrev dktX0_nights_0 : List UInt8 := dkwX0_nights_0 ++ dktX0_nights_1
theorem dksX0_nights_0 : cX0_nights.data.toList.drop 0 = dktX0_nights_0 := by decide +kernel
theorem dksX0_nights_1 : cX0_nights.data.toList.drop 22 = dktX0_nights_1 := dk_seg dksX0_nights_0 22 rfl rfl
theorem dX0_nights_0 : decode cX0_nights 0 = .ok (.iload_n 1, 1) := dk_27 (dk_at dksX0_nights_0 0 rfl rfl)
theorem dX0_nights_1 : decode cX0_nights 1 = .ok (.iconst 1, 1) := dk_4 (dk_at dksX0_nights_0 1 rfl rfl)
theorem dX0_nights_2 : decode cX0_nights 2 = .ok (.sipush 240, 3) := dk_17 0 240 (dk_at dksX0_nights_0 2 rfl rfl)
theorem dX0_nights_5 : decode cX0_nights 5 = .ok (.invokestatic 120, 3) := dk_184 0 120 (dk_at dksX0_nights_0 5 rfl rfl)
theorem dX0_nights_8 : decode cX0_nights 8 = .ok (.ifCond .eq 17, 3) := dk_153 0 17 (dk_at dksX0_nights_0 8 rfl rfl)
theorem dX0_nights_11 : decode cX0_nights 11 = .ok (.aload_n 0, 1) := dk_42 (dk_at dksX0_nights_0 11 rfl rfl)
theorem dX0_nights_12 : decode cX0_nights 12 = .ok (.getfield 63, 3) := dk_180 0 63 (dk_at dksX0_nights_0 12 rfl rfl)
theorem dX0_nights_15 : decode cX0_nights 15 = .ok (.iload_n 1, 1) := dk_27 (dk_at dksX0_nights_0 15 rfl rfl)
theorem dX0_nights_16 : decode cX0_nights 16 = .ok (.invokevirtual 176, 3) := dk_182 0 176 (dk_at dksX0_nights_0 16 rfl rfl)
theorem dX0_nights_19 : decode cX0_nights 19 = .ok (.getfield 180, 3) := dk_180 0 180 (dk_at dksX0_nights_0 19 rfl rfl)
theorem dX0_nights_22 : decode cX0_nights 22 = .ok (.goto 4, 3) := dk_167 0 4 (dk_at dksX0_nights_1 0 rfl rfl)
theorem dX0_nights_25 : decode cX0_nights 25 = .ok (.iconst (-1), 1) := dk_2 (dk_at dksX0_nights_1 3 rfl rfl)
theorem dX0_nights_26 : decode cX0_nights 26 = .ok (.ireturn, 1) := dk_172 (dk_at dksX0_nights_1 4 rfl rfl)
abbrev cX0_areNext : ByteArray := prog_1_method_7_code
def yX0_areNext : MethodName := ⟨RX0, "areNext", "(II)Z"⟩
def dkwX0_areNext_1 : List UInt8 := [3, 172]
abbrev dktX0_areNext_1 : List UInt8 := dkwX0_areNext_1 ++ []
def dkwX0_areNext_0 : List UInt8 := [3, 61, 28, 7, 162, 0, 20, 26, 28, 184, 0, 29, 27, 160, 0, 5, 4, 172, 132, 2, 1, 167, 255, 237]
abbrev dktX0_areNext_0 : List UInt8 := dkwX0_areNext_0 ++ dktX0_areNext_1
theorem dksX0_areNext_0 : cX0_areNext.data.toList.drop 0 = dktX0_areNext_0 := by decide +kernel
theorem dksX0_areNext_1 : cX0_areNext.data.toList.drop 24 = dktX0_areNext_1 := dk_seg dksX0_areNext_0 24 rfl rfl
theorem dX0_areNext_0 : decode cX0_areNext 0 = .ok (.iconst 0, 1) := dk_3 (dk_at dksX0_areNext_0 0 rfl rfl)
theorem dX0_areNext_1 : decode cX0_areNext 1 = .ok (.istore_n 2, 1) := dk_61 (dk_at dksX0_areNext_0 1 rfl rfl)
theorem dX0_areNext_2 : decode cX0_areNext 2 = .ok (.iload_n 2, 1) := dk_28 (dk_at dksX0_areNext_0 2 rfl rfl)
theorem dX0_areNext_3 : decode cX0_areNext 3 = .ok (.iconst 4, 1) := dk_7 (dk_at dksX0_areNext_0 3 rfl rfl)
theorem dX0_areNext_4 : decode cX0_areNext 4 = .ok (.if_icmp .ge 20, 3) := dk_162 0 20 (dk_at dksX0_areNext_0 4 rfl rfl)
theorem dX0_areNext_7 : decode cX0_areNext 7 = .ok (.iload_n 0, 1) := dk_26 (dk_at dksX0_areNext_0 7 rfl rfl)
theorem dX0_areNext_8 : decode cX0_areNext 8 = .ok (.iload_n 2, 1) := dk_28 (dk_at dksX0_areNext_0 8 rfl rfl)
theorem dX0_areNext_9 : decode cX0_areNext 9 = .ok (.invokestatic 29, 3) := dk_184 0 29 (dk_at dksX0_areNext_0 9 rfl rfl)
theorem dX0_areNext_12 : decode cX0_areNext 12 = .ok (.iload_n 1, 1) := dk_27 (dk_at dksX0_areNext_0 12 rfl rfl)
theorem dX0_areNext_13 : decode cX0_areNext 13 = .ok (.if_icmp .ne 5, 3) := dk_160 0 5 (dk_at dksX0_areNext_0 13 rfl rfl)
theorem dX0_areNext_16 : decode cX0_areNext 16 = .ok (.iconst 1, 1) := dk_4 (dk_at dksX0_areNext_0 16 rfl rfl)
theorem dX0_areNext_17 : decode cX0_areNext 17 = .ok (.ireturn, 1) := dk_172 (dk_at dksX0_areNext_0 17 rfl rfl)
theorem dX0_areNext_18 : decode cX0_areNext 18 = .ok (.iinc 2 1, 3) := dk_132 2 1 (dk_at dksX0_areNext_0 18 rfl rfl)
theorem dX0_areNext_21 : decode cX0_areNext 21 = .ok (.goto (-19), 3) := dk_167 255 237 (dk_at dksX0_areNext_0 21 rfl rfl)
theorem dX0_areNext_24 : decode cX0_areNext 24 = .ok (.iconst 0, 1) := dk_3 (dk_at dksX0_areNext_1 0 rfl rfl)
theorem dX0_areNext_25 : decode cX0_areNext 25 = .ok (.ireturn, 1) := dk_172 (dk_at dksX0_areNext_1 1 rfl rfl)
abbrev cX0_next : ByteArray := prog_1_method_6_code
def yX0_next : MethodName := ⟨RX0, "next", "(II)I"⟩
def dkwX0_next_2 : List UInt8 := [167, 0, 4, 2, 172]
abbrev dktX0_next_2 : List UInt8 := dkwX0_next_2 ++ []
def dkwX0_next_1 : List UInt8 := [16, 10, 184, 0, 25, 153, 0, 21, 29, 16, 6, 184, 0, 25, 153, 0, 12, 16, 10, 29, 104, 28, 96]
abbrev dktX0_next_1 : List UInt8 := dkwX0_next_1 ++ dktX0_next_2
def dkwX0_next_0 : List UInt8 := [26, 16, 10, 112, 178, 0, 18, 27, 46, 96, 61, 26, 16, 10, 108, 178, 0, 22, 27, 46, 96, 62, 28]
abbrev dktX0_next_0 : List UInt8 := dkwX0_next_0 ++ dktX0_next_1
theorem dksX0_next_0 : cX0_next.data.toList.drop 0 = dktX0_next_0 := by decide +kernel
theorem dksX0_next_1 : cX0_next.data.toList.drop 23 = dktX0_next_1 := dk_seg dksX0_next_0 23 rfl rfl
theorem dksX0_next_2 : cX0_next.data.toList.drop 46 = dktX0_next_2 := dk_seg dksX0_next_1 23 rfl rfl
theorem dX0_next_0 : decode cX0_next 0 = .ok (.iload_n 0, 1) := dk_26 (dk_at dksX0_next_0 0 rfl rfl)
theorem dX0_next_1 : decode cX0_next 1 = .ok (.bipush 10, 2) := dk_16 10 (dk_at dksX0_next_0 1 rfl rfl)
theorem dX0_next_3 : decode cX0_next 3 = .ok (.irem, 1) := dk_112 (dk_at dksX0_next_0 3 rfl rfl)
theorem dX0_next_4 : decode cX0_next 4 = .ok (.getstatic 18, 3) := dk_178 0 18 (dk_at dksX0_next_0 4 rfl rfl)
theorem dX0_next_7 : decode cX0_next 7 = .ok (.iload_n 1, 1) := dk_27 (dk_at dksX0_next_0 7 rfl rfl)
theorem dX0_next_8 : decode cX0_next 8 = .ok (.iaload, 1) := dk_46 (dk_at dksX0_next_0 8 rfl rfl)
theorem dX0_next_9 : decode cX0_next 9 = .ok (.iadd, 1) := dk_96 (dk_at dksX0_next_0 9 rfl rfl)
theorem dX0_next_10 : decode cX0_next 10 = .ok (.istore_n 2, 1) := dk_61 (dk_at dksX0_next_0 10 rfl rfl)
theorem dX0_next_11 : decode cX0_next 11 = .ok (.iload_n 0, 1) := dk_26 (dk_at dksX0_next_0 11 rfl rfl)
theorem dX0_next_12 : decode cX0_next 12 = .ok (.bipush 10, 2) := dk_16 10 (dk_at dksX0_next_0 12 rfl rfl)
theorem dX0_next_14 : decode cX0_next 14 = .ok (.idiv, 1) := dk_108 (dk_at dksX0_next_0 14 rfl rfl)
theorem dX0_next_15 : decode cX0_next 15 = .ok (.getstatic 22, 3) := dk_178 0 22 (dk_at dksX0_next_0 15 rfl rfl)
theorem dX0_next_18 : decode cX0_next 18 = .ok (.iload_n 1, 1) := dk_27 (dk_at dksX0_next_0 18 rfl rfl)
theorem dX0_next_19 : decode cX0_next 19 = .ok (.iaload, 1) := dk_46 (dk_at dksX0_next_0 19 rfl rfl)
theorem dX0_next_20 : decode cX0_next 20 = .ok (.iadd, 1) := dk_96 (dk_at dksX0_next_0 20 rfl rfl)
theorem dX0_next_21 : decode cX0_next 21 = .ok (.istore_n 3, 1) := dk_62 (dk_at dksX0_next_0 21 rfl rfl)
theorem dX0_next_22 : decode cX0_next 22 = .ok (.iload_n 2, 1) := dk_28 (dk_at dksX0_next_0 22 rfl rfl)
theorem dX0_next_23 : decode cX0_next 23 = .ok (.bipush 10, 2) := dk_16 10 (dk_at dksX0_next_1 0 rfl rfl)
theorem dX0_next_25 : decode cX0_next 25 = .ok (.invokestatic 25, 3) := dk_184 0 25 (dk_at dksX0_next_1 2 rfl rfl)
theorem dX0_next_28 : decode cX0_next 28 = .ok (.ifCond .eq 21, 3) := dk_153 0 21 (dk_at dksX0_next_1 5 rfl rfl)
theorem dX0_next_31 : decode cX0_next 31 = .ok (.iload_n 3, 1) := dk_29 (dk_at dksX0_next_1 8 rfl rfl)
theorem dX0_next_32 : decode cX0_next 32 = .ok (.bipush 6, 2) := dk_16 6 (dk_at dksX0_next_1 9 rfl rfl)
theorem dX0_next_34 : decode cX0_next 34 = .ok (.invokestatic 25, 3) := dk_184 0 25 (dk_at dksX0_next_1 11 rfl rfl)
theorem dX0_next_37 : decode cX0_next 37 = .ok (.ifCond .eq 12, 3) := dk_153 0 12 (dk_at dksX0_next_1 14 rfl rfl)
theorem dX0_next_40 : decode cX0_next 40 = .ok (.bipush 10, 2) := dk_16 10 (dk_at dksX0_next_1 17 rfl rfl)
theorem dX0_next_42 : decode cX0_next 42 = .ok (.iload_n 3, 1) := dk_29 (dk_at dksX0_next_1 19 rfl rfl)
theorem dX0_next_43 : decode cX0_next 43 = .ok (.imul, 1) := dk_104 (dk_at dksX0_next_1 20 rfl rfl)
theorem dX0_next_44 : decode cX0_next 44 = .ok (.iload_n 2, 1) := dk_28 (dk_at dksX0_next_1 21 rfl rfl)
theorem dX0_next_45 : decode cX0_next 45 = .ok (.iadd, 1) := dk_96 (dk_at dksX0_next_1 22 rfl rfl)
theorem dX0_next_46 : decode cX0_next 46 = .ok (.goto 4, 3) := dk_167 0 4 (dk_at dksX0_next_2 0 rfl rfl)
theorem dX0_next_49 : decode cX0_next 49 = .ok (.iconst (-1), 1) := dk_2 (dk_at dksX0_next_2 3 rfl rfl)
theorem dX0_next_50 : decode cX0_next 50 = .ok (.ireturn, 1) := dk_172 (dk_at dksX0_next_2 4 rfl rfl)
abbrev cX0_has : ByteArray := prog_1_method_3_code
def yX0_has : MethodName := ⟨RX0, "has", "(II)Z"⟩
def dkwX0_has_0 : List UInt8 := [26, 27, 122, 4, 126, 4, 160, 0, 7, 4, 167, 0, 4, 3, 172]
abbrev dktX0_has_0 : List UInt8 := dkwX0_has_0 ++ []
theorem dksX0_has_0 : cX0_has.data.toList.drop 0 = dktX0_has_0 := by decide +kernel
theorem dX0_has_0 : decode cX0_has 0 = .ok (.iload_n 0, 1) := dk_26 (dk_at dksX0_has_0 0 rfl rfl)
theorem dX0_has_1 : decode cX0_has 1 = .ok (.iload_n 1, 1) := dk_27 (dk_at dksX0_has_0 1 rfl rfl)
theorem dX0_has_2 : decode cX0_has 2 = .ok (.ishr, 1) := dk_122 (dk_at dksX0_has_0 2 rfl rfl)
theorem dX0_has_3 : decode cX0_has 3 = .ok (.iconst 1, 1) := dk_4 (dk_at dksX0_has_0 3 rfl rfl)
theorem dX0_has_4 : decode cX0_has 4 = .ok (.iand, 1) := dk_126 (dk_at dksX0_has_0 4 rfl rfl)
theorem dX0_has_5 : decode cX0_has 5 = .ok (.iconst 1, 1) := dk_4 (dk_at dksX0_has_0 5 rfl rfl)
theorem dX0_has_6 : decode cX0_has 6 = .ok (.if_icmp .ne 7, 3) := dk_160 0 7 (dk_at dksX0_has_0 6 rfl rfl)
theorem dX0_has_9 : decode cX0_has 9 = .ok (.iconst 1, 1) := dk_4 (dk_at dksX0_has_0 9 rfl rfl)
theorem dX0_has_10 : decode cX0_has 10 = .ok (.goto 4, 3) := dk_167 0 4 (dk_at dksX0_has_0 10 rfl rfl)
theorem dX0_has_13 : decode cX0_has 13 = .ok (.iconst 0, 1) := dk_3 (dk_at dksX0_has_0 13 rfl rfl)
theorem dX0_has_14 : decode cX0_has 14 = .ok (.ireturn, 1) := dk_172 (dk_at dksX0_has_0 14 rfl rfl)
abbrev cX0_tells : ByteArray := prog_1_method_8_code
def yX0_tells : MethodName := ⟨RX0, "tells", "(II)I"⟩
def dkwX0_tells_0 : List UInt8 := [42, 180, 0, 32, 27, 42, 180, 0, 36, 182, 0, 40, 28, 184, 0, 46, 172]
abbrev dktX0_tells_0 : List UInt8 := dkwX0_tells_0 ++ []
theorem dksX0_tells_0 : cX0_tells.data.toList.drop 0 = dktX0_tells_0 := by decide +kernel
theorem dX0_tells_0 : decode cX0_tells 0 = .ok (.aload_n 0, 1) := dk_42 (dk_at dksX0_tells_0 0 rfl rfl)
theorem dX0_tells_1 : decode cX0_tells 1 = .ok (.getfield 32, 3) := dk_180 0 32 (dk_at dksX0_tells_0 1 rfl rfl)
theorem dX0_tells_4 : decode cX0_tells 4 = .ok (.iload_n 1, 1) := dk_27 (dk_at dksX0_tells_0 4 rfl rfl)
theorem dX0_tells_5 : decode cX0_tells 5 = .ok (.aload_n 0, 1) := dk_42 (dk_at dksX0_tells_0 5 rfl rfl)
theorem dX0_tells_6 : decode cX0_tells 6 = .ok (.getfield 36, 3) := dk_180 0 36 (dk_at dksX0_tells_0 6 rfl rfl)
theorem dX0_tells_9 : decode cX0_tells 9 = .ok (.invokevirtual 40, 3) := dk_182 0 40 (dk_at dksX0_tells_0 9 rfl rfl)
theorem dX0_tells_12 : decode cX0_tells 12 = .ok (.iload_n 2, 1) := dk_28 (dk_at dksX0_tells_0 12 rfl rfl)
theorem dX0_tells_13 : decode cX0_tells 13 = .ok (.invokestatic 46, 3) := dk_184 0 46 (dk_at dksX0_tells_0 13 rfl rfl)
theorem dX0_tells_16 : decode cX0_tells 16 = .ok (.ireturn, 1) := dk_172 (dk_at dksX0_tells_0 16 rfl rfl)
abbrev cX0_held : ByteArray := prog_1_method_4_code
def yX0_held : MethodName := ⟨RX0, "held", "(II)I"⟩
def dkwX0_held_0 : List UInt8 := [3, 27, 26, 184, 0, 1, 184, 0, 7, 172]
abbrev dktX0_held_0 : List UInt8 := dkwX0_held_0 ++ []
theorem dksX0_held_0 : cX0_held.data.toList.drop 0 = dktX0_held_0 := by decide +kernel
theorem dX0_held_0 : decode cX0_held 0 = .ok (.iconst 0, 1) := dk_3 (dk_at dksX0_held_0 0 rfl rfl)
theorem dX0_held_1 : decode cX0_held 1 = .ok (.iload_n 1, 1) := dk_27 (dk_at dksX0_held_0 1 rfl rfl)
theorem dX0_held_2 : decode cX0_held 2 = .ok (.iload_n 0, 1) := dk_26 (dk_at dksX0_held_0 2 rfl rfl)
theorem dX0_held_3 : decode cX0_held 3 = .ok (.invokestatic 1, 3) := dk_184 0 1 (dk_at dksX0_held_0 3 rfl rfl)
theorem dX0_held_6 : decode cX0_held 6 = .ok (.invokestatic 7, 3) := dk_184 0 7 (dk_at dksX0_held_0 6 rfl rfl)
theorem dX0_held_9 : decode cX0_held 9 = .ok (.ireturn, 1) := dk_172 (dk_at dksX0_held_0 9 rfl rfl)
abbrev cX0_tried : ByteArray := prog_1_method_19_code
def yX0_tried : MethodName := ⟨RX0, "tried", "(II)I"⟩
def dkwX0_tried_6 : List UInt8 := [167, 0, 21, 42, 180, 0, 67, 180, 0, 109, 28, 16, 30, 100, 50, 180, 0, 124, 184, 0, 197, 172]
abbrev dktX0_tried_6 : List UInt8 := dkwX0_tried_6 ++ []
def dkwX0_tried_5 : List UInt8 := [172, 28, 16, 30, 162, 0, 21, 42, 180, 0, 67, 180, 0, 109, 28, 16, 10, 100, 50, 180, 0, 127]
abbrev dktX0_tried_5 : List UInt8 := dkwX0_tried_5 ++ dktX0_tried_6
def dkwX0_tried_4 : List UInt8 := [42, 180, 0, 67, 180, 0, 180, 172, 42, 180, 0, 67, 180, 0, 190, 172, 42, 42, 180, 0, 67, 182, 0, 193]
abbrev dktX0_tried_4 : List UInt8 := dkwX0_tried_4 ++ dktX0_tried_5
def dkwX0_tried_3 : List UInt8 := [170, 0, 0, 0, 0, 0, 0, 53, 0, 0, 0, 0, 0, 0, 0, 2, 0, 0, 0, 28, 0, 0, 0, 36, 0, 0, 0, 44]
abbrev dktX0_tried_3 : List UInt8 := dkwX0_tried_3 ++ dktX0_tried_4
def dkwX0_tried_2 : List UInt8 := [180, 0, 63, 182, 0, 152, 27, 182, 0, 176, 87, 28]
abbrev dktX0_tried_2 : List UInt8 := dkwX0_tried_2 ++ dktX0_tried_3
def dkwX0_tried_1 : List UInt8 := [182, 0, 187, 154, 0, 16, 42, 28, 16, 30, 100, 182, 0, 187, 154, 0, 5, 2, 172, 42, 180, 0, 67, 42]
abbrev dktX0_tried_1 : List UInt8 := dkwX0_tried_1 ++ dktX0_tried_2
def dkwX0_tried_0 : List UInt8 := [27, 4, 17, 0, 240, 184, 0, 120, 153, 0, 33, 28, 6, 184, 0, 25, 154, 0, 27, 42, 28, 16, 10, 100]
abbrev dktX0_tried_0 : List UInt8 := dkwX0_tried_0 ++ dktX0_tried_1
theorem dksX0_tried_0 : cX0_tried.data.toList.drop 0 = dktX0_tried_0 := by decide +kernel
theorem dksX0_tried_1 : cX0_tried.data.toList.drop 24 = dktX0_tried_1 := dk_seg dksX0_tried_0 24 rfl rfl
theorem dksX0_tried_2 : cX0_tried.data.toList.drop 48 = dktX0_tried_2 := dk_seg dksX0_tried_1 24 rfl rfl
theorem dksX0_tried_3 : cX0_tried.data.toList.drop 60 = dktX0_tried_3 := dk_seg dksX0_tried_2 12 rfl rfl
theorem dksX0_tried_4 : cX0_tried.data.toList.drop 88 = dktX0_tried_4 := dk_seg dksX0_tried_3 28 rfl rfl
theorem dksX0_tried_5 : cX0_tried.data.toList.drop 112 = dktX0_tried_5 := dk_seg dksX0_tried_4 24 rfl rfl
theorem dksX0_tried_6 : cX0_tried.data.toList.drop 134 = dktX0_tried_6 := dk_seg dksX0_tried_5 22 rfl rfl
theorem dX0_tried_0 : decode cX0_tried 0 = .ok (.iload_n 1, 1) := dk_27 (dk_at dksX0_tried_0 0 rfl rfl)
theorem dX0_tried_1 : decode cX0_tried 1 = .ok (.iconst 1, 1) := dk_4 (dk_at dksX0_tried_0 1 rfl rfl)
theorem dX0_tried_2 : decode cX0_tried 2 = .ok (.sipush 240, 3) := dk_17 0 240 (dk_at dksX0_tried_0 2 rfl rfl)
theorem dX0_tried_5 : decode cX0_tried 5 = .ok (.invokestatic 120, 3) := dk_184 0 120 (dk_at dksX0_tried_0 5 rfl rfl)
theorem dX0_tried_8 : decode cX0_tried 8 = .ok (.ifCond .eq 33, 3) := dk_153 0 33 (dk_at dksX0_tried_0 8 rfl rfl)
theorem dX0_tried_11 : decode cX0_tried 11 = .ok (.iload_n 2, 1) := dk_28 (dk_at dksX0_tried_0 11 rfl rfl)
theorem dX0_tried_12 : decode cX0_tried 12 = .ok (.iconst 3, 1) := dk_6 (dk_at dksX0_tried_0 12 rfl rfl)
theorem dX0_tried_13 : decode cX0_tried 13 = .ok (.invokestatic 25, 3) := dk_184 0 25 (dk_at dksX0_tried_0 13 rfl rfl)
theorem dX0_tried_16 : decode cX0_tried 16 = .ok (.ifCond .ne 27, 3) := dk_154 0 27 (dk_at dksX0_tried_0 16 rfl rfl)
theorem dX0_tried_19 : decode cX0_tried 19 = .ok (.aload_n 0, 1) := dk_42 (dk_at dksX0_tried_0 19 rfl rfl)
theorem dX0_tried_20 : decode cX0_tried 20 = .ok (.iload_n 2, 1) := dk_28 (dk_at dksX0_tried_0 20 rfl rfl)
theorem dX0_tried_21 : decode cX0_tried 21 = .ok (.bipush 10, 2) := dk_16 10 (dk_at dksX0_tried_0 21 rfl rfl)
theorem dX0_tried_23 : decode cX0_tried 23 = .ok (.isub, 1) := dk_100 (dk_at dksX0_tried_0 23 rfl rfl)
theorem dX0_tried_24 : decode cX0_tried 24 = .ok (.invokevirtual 187, 3) := dk_182 0 187 (dk_at dksX0_tried_1 0 rfl rfl)
theorem dX0_tried_27 : decode cX0_tried 27 = .ok (.ifCond .ne 16, 3) := dk_154 0 16 (dk_at dksX0_tried_1 3 rfl rfl)
theorem dX0_tried_30 : decode cX0_tried 30 = .ok (.aload_n 0, 1) := dk_42 (dk_at dksX0_tried_1 6 rfl rfl)
theorem dX0_tried_31 : decode cX0_tried 31 = .ok (.iload_n 2, 1) := dk_28 (dk_at dksX0_tried_1 7 rfl rfl)
theorem dX0_tried_32 : decode cX0_tried 32 = .ok (.bipush 30, 2) := dk_16 30 (dk_at dksX0_tried_1 8 rfl rfl)
theorem dX0_tried_34 : decode cX0_tried 34 = .ok (.isub, 1) := dk_100 (dk_at dksX0_tried_1 10 rfl rfl)
theorem dX0_tried_35 : decode cX0_tried 35 = .ok (.invokevirtual 187, 3) := dk_182 0 187 (dk_at dksX0_tried_1 11 rfl rfl)
theorem dX0_tried_38 : decode cX0_tried 38 = .ok (.ifCond .ne 5, 3) := dk_154 0 5 (dk_at dksX0_tried_1 14 rfl rfl)
theorem dX0_tried_41 : decode cX0_tried 41 = .ok (.iconst (-1), 1) := dk_2 (dk_at dksX0_tried_1 17 rfl rfl)
theorem dX0_tried_42 : decode cX0_tried 42 = .ok (.ireturn, 1) := dk_172 (dk_at dksX0_tried_1 18 rfl rfl)
theorem dX0_tried_43 : decode cX0_tried 43 = .ok (.aload_n 0, 1) := dk_42 (dk_at dksX0_tried_1 19 rfl rfl)
theorem dX0_tried_44 : decode cX0_tried 44 = .ok (.getfield 67, 3) := dk_180 0 67 (dk_at dksX0_tried_1 20 rfl rfl)
theorem dX0_tried_47 : decode cX0_tried 47 = .ok (.aload_n 0, 1) := dk_42 (dk_at dksX0_tried_1 23 rfl rfl)
theorem dX0_tried_48 : decode cX0_tried 48 = .ok (.getfield 63, 3) := dk_180 0 63 (dk_at dksX0_tried_2 0 rfl rfl)
theorem dX0_tried_51 : decode cX0_tried 51 = .ok (.invokevirtual 152, 3) := dk_182 0 152 (dk_at dksX0_tried_2 3 rfl rfl)
theorem dX0_tried_54 : decode cX0_tried 54 = .ok (.iload_n 1, 1) := dk_27 (dk_at dksX0_tried_2 6 rfl rfl)
theorem dX0_tried_55 : decode cX0_tried 55 = .ok (.invokevirtual 176, 3) := dk_182 0 176 (dk_at dksX0_tried_2 7 rfl rfl)
theorem dX0_tried_58 : decode cX0_tried 58 = .ok (.pop, 1) := dk_87 (dk_at dksX0_tried_2 10 rfl rfl)
theorem dX0_tried_59 : decode cX0_tried 59 = .ok (.iload_n 2, 1) := dk_28 (dk_at dksX0_tried_2 11 rfl rfl)
theorem dX0_tried_60 : decode cX0_tried 60 = .ok (.tableswitch 53 0 2 #[28, 36, 44], 28) := by decide +kernel
theorem dX0_tried_88 : decode cX0_tried 88 = .ok (.aload_n 0, 1) := dk_42 (dk_at dksX0_tried_4 0 rfl rfl)
theorem dX0_tried_89 : decode cX0_tried 89 = .ok (.getfield 67, 3) := dk_180 0 67 (dk_at dksX0_tried_4 1 rfl rfl)
theorem dX0_tried_92 : decode cX0_tried 92 = .ok (.getfield 180, 3) := dk_180 0 180 (dk_at dksX0_tried_4 4 rfl rfl)
theorem dX0_tried_95 : decode cX0_tried 95 = .ok (.ireturn, 1) := dk_172 (dk_at dksX0_tried_4 7 rfl rfl)
theorem dX0_tried_96 : decode cX0_tried 96 = .ok (.aload_n 0, 1) := dk_42 (dk_at dksX0_tried_4 8 rfl rfl)
theorem dX0_tried_97 : decode cX0_tried 97 = .ok (.getfield 67, 3) := dk_180 0 67 (dk_at dksX0_tried_4 9 rfl rfl)
theorem dX0_tried_100 : decode cX0_tried 100 = .ok (.getfield 190, 3) := dk_180 0 190 (dk_at dksX0_tried_4 12 rfl rfl)
theorem dX0_tried_103 : decode cX0_tried 103 = .ok (.ireturn, 1) := dk_172 (dk_at dksX0_tried_4 15 rfl rfl)
theorem dX0_tried_104 : decode cX0_tried 104 = .ok (.aload_n 0, 1) := dk_42 (dk_at dksX0_tried_4 16 rfl rfl)
theorem dX0_tried_105 : decode cX0_tried 105 = .ok (.aload_n 0, 1) := dk_42 (dk_at dksX0_tried_4 17 rfl rfl)
theorem dX0_tried_106 : decode cX0_tried 106 = .ok (.getfield 67, 3) := dk_180 0 67 (dk_at dksX0_tried_4 18 rfl rfl)
theorem dX0_tried_109 : decode cX0_tried 109 = .ok (.invokevirtual 193, 3) := dk_182 0 193 (dk_at dksX0_tried_4 21 rfl rfl)
theorem dX0_tried_112 : decode cX0_tried 112 = .ok (.ireturn, 1) := dk_172 (dk_at dksX0_tried_5 0 rfl rfl)
theorem dX0_tried_113 : decode cX0_tried 113 = .ok (.iload_n 2, 1) := dk_28 (dk_at dksX0_tried_5 1 rfl rfl)
theorem dX0_tried_114 : decode cX0_tried 114 = .ok (.bipush 30, 2) := dk_16 30 (dk_at dksX0_tried_5 2 rfl rfl)
theorem dX0_tried_116 : decode cX0_tried 116 = .ok (.if_icmp .ge 21, 3) := dk_162 0 21 (dk_at dksX0_tried_5 4 rfl rfl)
theorem dX0_tried_119 : decode cX0_tried 119 = .ok (.aload_n 0, 1) := dk_42 (dk_at dksX0_tried_5 7 rfl rfl)
theorem dX0_tried_120 : decode cX0_tried 120 = .ok (.getfield 67, 3) := dk_180 0 67 (dk_at dksX0_tried_5 8 rfl rfl)
theorem dX0_tried_123 : decode cX0_tried 123 = .ok (.getfield 109, 3) := dk_180 0 109 (dk_at dksX0_tried_5 11 rfl rfl)
theorem dX0_tried_126 : decode cX0_tried 126 = .ok (.iload_n 2, 1) := dk_28 (dk_at dksX0_tried_5 14 rfl rfl)
theorem dX0_tried_127 : decode cX0_tried 127 = .ok (.bipush 10, 2) := dk_16 10 (dk_at dksX0_tried_5 15 rfl rfl)
theorem dX0_tried_129 : decode cX0_tried 129 = .ok (.isub, 1) := dk_100 (dk_at dksX0_tried_5 17 rfl rfl)
theorem dX0_tried_130 : decode cX0_tried 130 = .ok (.aaload, 1) := dk_50 (dk_at dksX0_tried_5 18 rfl rfl)
theorem dX0_tried_131 : decode cX0_tried 131 = .ok (.getfield 127, 3) := dk_180 0 127 (dk_at dksX0_tried_5 19 rfl rfl)
theorem dX0_tried_134 : decode cX0_tried 134 = .ok (.goto 21, 3) := dk_167 0 21 (dk_at dksX0_tried_6 0 rfl rfl)
theorem dX0_tried_137 : decode cX0_tried 137 = .ok (.aload_n 0, 1) := dk_42 (dk_at dksX0_tried_6 3 rfl rfl)
theorem dX0_tried_138 : decode cX0_tried 138 = .ok (.getfield 67, 3) := dk_180 0 67 (dk_at dksX0_tried_6 4 rfl rfl)
theorem dX0_tried_141 : decode cX0_tried 141 = .ok (.getfield 109, 3) := dk_180 0 109 (dk_at dksX0_tried_6 7 rfl rfl)
theorem dX0_tried_144 : decode cX0_tried 144 = .ok (.iload_n 2, 1) := dk_28 (dk_at dksX0_tried_6 10 rfl rfl)
theorem dX0_tried_145 : decode cX0_tried 145 = .ok (.bipush 30, 2) := dk_16 30 (dk_at dksX0_tried_6 11 rfl rfl)
theorem dX0_tried_147 : decode cX0_tried 147 = .ok (.isub, 1) := dk_100 (dk_at dksX0_tried_6 13 rfl rfl)
theorem dX0_tried_148 : decode cX0_tried 148 = .ok (.aaload, 1) := dk_50 (dk_at dksX0_tried_6 14 rfl rfl)
theorem dX0_tried_149 : decode cX0_tried 149 = .ok (.getfield 124, 3) := dk_180 0 124 (dk_at dksX0_tried_6 15 rfl rfl)
theorem dX0_tried_152 : decode cX0_tried 152 = .ok (.invokestatic 197, 3) := dk_184 0 197 (dk_at dksX0_tried_6 18 rfl rfl)
theorem dX0_tried_155 : decode cX0_tried 155 = .ok (.ireturn, 1) := dk_172 (dk_at dksX0_tried_6 21 rfl rfl)
abbrev cX0_silentIn : ByteArray := prog_1_method_18_code
def yX0_silentIn : MethodName := ⟨RX0, "silentIn", "(LTalkingPlots$Yard;)I"⟩
def dkwX0_silentIn_2 : List UInt8 := [3, 96, 61, 132, 5, 1, 167, 255, 216, 28, 172]
abbrev dktX0_silentIn_2 : List UInt8 := dkwX0_silentIn_2 ++ []
def dkwX0_silentIn_1 : List UInt8 := [50, 58, 6, 28, 25, 6, 182, 0, 183, 153, 0, 15, 25, 6, 180, 0, 127, 154, 0, 7, 4, 167, 0, 4]
abbrev dktX0_silentIn_1 : List UInt8 := dkwX0_silentIn_1 ++ dktX0_silentIn_2
def dkwX0_silentIn_0 : List UInt8 := [3, 61, 43, 180, 0, 109, 78, 45, 190, 54, 4, 3, 54, 5, 21, 5, 21, 4, 162, 0, 39, 45, 21, 5]
abbrev dktX0_silentIn_0 : List UInt8 := dkwX0_silentIn_0 ++ dktX0_silentIn_1
theorem dksX0_silentIn_0 : cX0_silentIn.data.toList.drop 0 = dktX0_silentIn_0 := by decide +kernel
theorem dksX0_silentIn_1 : cX0_silentIn.data.toList.drop 24 = dktX0_silentIn_1 := dk_seg dksX0_silentIn_0 24 rfl rfl
theorem dksX0_silentIn_2 : cX0_silentIn.data.toList.drop 48 = dktX0_silentIn_2 := dk_seg dksX0_silentIn_1 24 rfl rfl
theorem dX0_silentIn_0 : decode cX0_silentIn 0 = .ok (.iconst 0, 1) := dk_3 (dk_at dksX0_silentIn_0 0 rfl rfl)
theorem dX0_silentIn_1 : decode cX0_silentIn 1 = .ok (.istore_n 2, 1) := dk_61 (dk_at dksX0_silentIn_0 1 rfl rfl)
theorem dX0_silentIn_2 : decode cX0_silentIn 2 = .ok (.aload_n 1, 1) := dk_43 (dk_at dksX0_silentIn_0 2 rfl rfl)
theorem dX0_silentIn_3 : decode cX0_silentIn 3 = .ok (.getfield 109, 3) := dk_180 0 109 (dk_at dksX0_silentIn_0 3 rfl rfl)
theorem dX0_silentIn_6 : decode cX0_silentIn 6 = .ok (.astore_n 3, 1) := dk_78 (dk_at dksX0_silentIn_0 6 rfl rfl)
theorem dX0_silentIn_7 : decode cX0_silentIn 7 = .ok (.aload_n 3, 1) := dk_45 (dk_at dksX0_silentIn_0 7 rfl rfl)
theorem dX0_silentIn_8 : decode cX0_silentIn 8 = .ok (.arraylength, 1) := dk_190 (dk_at dksX0_silentIn_0 8 rfl rfl)
theorem dX0_silentIn_9 : decode cX0_silentIn 9 = .ok (.istore 4, 2) := dk_54 4 (dk_at dksX0_silentIn_0 9 rfl rfl)
theorem dX0_silentIn_11 : decode cX0_silentIn 11 = .ok (.iconst 0, 1) := dk_3 (dk_at dksX0_silentIn_0 11 rfl rfl)
theorem dX0_silentIn_12 : decode cX0_silentIn 12 = .ok (.istore 5, 2) := dk_54 5 (dk_at dksX0_silentIn_0 12 rfl rfl)
theorem dX0_silentIn_14 : decode cX0_silentIn 14 = .ok (.iload 5, 2) := dk_21 5 (dk_at dksX0_silentIn_0 14 rfl rfl)
theorem dX0_silentIn_16 : decode cX0_silentIn 16 = .ok (.iload 4, 2) := dk_21 4 (dk_at dksX0_silentIn_0 16 rfl rfl)
theorem dX0_silentIn_18 : decode cX0_silentIn 18 = .ok (.if_icmp .ge 39, 3) := dk_162 0 39 (dk_at dksX0_silentIn_0 18 rfl rfl)
theorem dX0_silentIn_21 : decode cX0_silentIn 21 = .ok (.aload_n 3, 1) := dk_45 (dk_at dksX0_silentIn_0 21 rfl rfl)
theorem dX0_silentIn_22 : decode cX0_silentIn 22 = .ok (.iload 5, 2) := dk_21 5 (dk_at dksX0_silentIn_0 22 rfl rfl)
theorem dX0_silentIn_24 : decode cX0_silentIn 24 = .ok (.aaload, 1) := dk_50 (dk_at dksX0_silentIn_1 0 rfl rfl)
theorem dX0_silentIn_25 : decode cX0_silentIn 25 = .ok (.astore 6, 2) := dk_58 6 (dk_at dksX0_silentIn_1 1 rfl rfl)
theorem dX0_silentIn_27 : decode cX0_silentIn 27 = .ok (.iload_n 2, 1) := dk_28 (dk_at dksX0_silentIn_1 3 rfl rfl)
theorem dX0_silentIn_28 : decode cX0_silentIn 28 = .ok (.aload 6, 2) := dk_25 6 (dk_at dksX0_silentIn_1 4 rfl rfl)
theorem dX0_silentIn_30 : decode cX0_silentIn 30 = .ok (.invokevirtual 183, 3) := dk_182 0 183 (dk_at dksX0_silentIn_1 6 rfl rfl)
theorem dX0_silentIn_33 : decode cX0_silentIn 33 = .ok (.ifCond .eq 15, 3) := dk_153 0 15 (dk_at dksX0_silentIn_1 9 rfl rfl)
theorem dX0_silentIn_36 : decode cX0_silentIn 36 = .ok (.aload 6, 2) := dk_25 6 (dk_at dksX0_silentIn_1 12 rfl rfl)
theorem dX0_silentIn_38 : decode cX0_silentIn 38 = .ok (.getfield 127, 3) := dk_180 0 127 (dk_at dksX0_silentIn_1 14 rfl rfl)
theorem dX0_silentIn_41 : decode cX0_silentIn 41 = .ok (.ifCond .ne 7, 3) := dk_154 0 7 (dk_at dksX0_silentIn_1 17 rfl rfl)
theorem dX0_silentIn_44 : decode cX0_silentIn 44 = .ok (.iconst 1, 1) := dk_4 (dk_at dksX0_silentIn_1 20 rfl rfl)
theorem dX0_silentIn_45 : decode cX0_silentIn 45 = .ok (.goto 4, 3) := dk_167 0 4 (dk_at dksX0_silentIn_1 21 rfl rfl)
theorem dX0_silentIn_48 : decode cX0_silentIn 48 = .ok (.iconst 0, 1) := dk_3 (dk_at dksX0_silentIn_2 0 rfl rfl)
theorem dX0_silentIn_49 : decode cX0_silentIn 49 = .ok (.iadd, 1) := dk_96 (dk_at dksX0_silentIn_2 1 rfl rfl)
theorem dX0_silentIn_50 : decode cX0_silentIn 50 = .ok (.istore_n 2, 1) := dk_61 (dk_at dksX0_silentIn_2 2 rfl rfl)
theorem dX0_silentIn_51 : decode cX0_silentIn 51 = .ok (.iinc 5 1, 3) := dk_132 5 1 (dk_at dksX0_silentIn_2 3 rfl rfl)
theorem dX0_silentIn_54 : decode cX0_silentIn 54 = .ok (.goto (-40), 3) := dk_167 255 216 (dk_at dksX0_silentIn_2 6 rfl rfl)
theorem dX0_silentIn_57 : decode cX0_silentIn 57 = .ok (.iload_n 2, 1) := dk_28 (dk_at dksX0_silentIn_2 9 rfl rfl)
theorem dX0_silentIn_58 : decode cX0_silentIn 58 = .ok (.ireturn, 1) := dk_172 (dk_at dksX0_silentIn_2 10 rfl rfl)
abbrev cX0_personIs : ByteArray := prog_1_method_21_code
def yX0_personIs : MethodName := ⟨RX0, "personIs", "(II)I"⟩
def dkwX0_personIs_3 : List UInt8 := [180, 0, 130, 172, 42, 180, 0, 63, 27, 182, 0, 200, 172, 42, 27, 182, 0, 203, 172, 2, 172]
abbrev dktX0_personIs_3 : List UInt8 := dkwX0_personIs_3 ++ []
def dkwX0_personIs_2 : List UInt8 := [45, 180, 0, 124, 172, 45, 180, 0, 127, 172, 45, 180, 0, 130, 2, 160, 0, 8, 16, 254, 167, 0, 7, 45]
abbrev dktX0_personIs_2 : List UInt8 := dkwX0_personIs_2 ++ dktX0_personIs_3
def dkwX0_personIs_1 : List UInt8 := [170, 0, 0, 0, 0, 0, 78, 0, 0, 0, 0, 0, 0, 0, 4, 0, 0, 0, 35, 0, 0, 0, 40, 0, 0, 0, 45, 0, 0, 0, 63, 0, 0, 0, 72]
abbrev dktX0_personIs_1 : List UInt8 := dkwX0_personIs_1 ++ dktX0_personIs_2
def dkwX0_personIs_0 : List UInt8 := [42, 27, 182, 0, 187, 154, 0, 5, 2, 172, 42, 180, 0, 63, 180, 0, 109, 27, 50, 78, 28]
abbrev dktX0_personIs_0 : List UInt8 := dkwX0_personIs_0 ++ dktX0_personIs_1
theorem dksX0_personIs_0 : cX0_personIs.data.toList.drop 0 = dktX0_personIs_0 := by decide +kernel
theorem dksX0_personIs_1 : cX0_personIs.data.toList.drop 21 = dktX0_personIs_1 := dk_seg dksX0_personIs_0 21 rfl rfl
theorem dksX0_personIs_2 : cX0_personIs.data.toList.drop 56 = dktX0_personIs_2 := dk_seg dksX0_personIs_1 35 rfl rfl
theorem dksX0_personIs_3 : cX0_personIs.data.toList.drop 80 = dktX0_personIs_3 := dk_seg dksX0_personIs_2 24 rfl rfl
theorem dX0_personIs_0 : decode cX0_personIs 0 = .ok (.aload_n 0, 1) := dk_42 (dk_at dksX0_personIs_0 0 rfl rfl)
theorem dX0_personIs_1 : decode cX0_personIs 1 = .ok (.iload_n 1, 1) := dk_27 (dk_at dksX0_personIs_0 1 rfl rfl)
theorem dX0_personIs_2 : decode cX0_personIs 2 = .ok (.invokevirtual 187, 3) := dk_182 0 187 (dk_at dksX0_personIs_0 2 rfl rfl)
theorem dX0_personIs_5 : decode cX0_personIs 5 = .ok (.ifCond .ne 5, 3) := dk_154 0 5 (dk_at dksX0_personIs_0 5 rfl rfl)
theorem dX0_personIs_8 : decode cX0_personIs 8 = .ok (.iconst (-1), 1) := dk_2 (dk_at dksX0_personIs_0 8 rfl rfl)
theorem dX0_personIs_9 : decode cX0_personIs 9 = .ok (.ireturn, 1) := dk_172 (dk_at dksX0_personIs_0 9 rfl rfl)
theorem dX0_personIs_10 : decode cX0_personIs 10 = .ok (.aload_n 0, 1) := dk_42 (dk_at dksX0_personIs_0 10 rfl rfl)
theorem dX0_personIs_11 : decode cX0_personIs 11 = .ok (.getfield 63, 3) := dk_180 0 63 (dk_at dksX0_personIs_0 11 rfl rfl)
theorem dX0_personIs_14 : decode cX0_personIs 14 = .ok (.getfield 109, 3) := dk_180 0 109 (dk_at dksX0_personIs_0 14 rfl rfl)
theorem dX0_personIs_17 : decode cX0_personIs 17 = .ok (.iload_n 1, 1) := dk_27 (dk_at dksX0_personIs_0 17 rfl rfl)
theorem dX0_personIs_18 : decode cX0_personIs 18 = .ok (.aaload, 1) := dk_50 (dk_at dksX0_personIs_0 18 rfl rfl)
theorem dX0_personIs_19 : decode cX0_personIs 19 = .ok (.astore_n 3, 1) := dk_78 (dk_at dksX0_personIs_0 19 rfl rfl)
theorem dX0_personIs_20 : decode cX0_personIs 20 = .ok (.iload_n 2, 1) := dk_28 (dk_at dksX0_personIs_0 20 rfl rfl)
theorem dX0_personIs_21 : decode cX0_personIs 21 = .ok (.tableswitch 78 0 4 #[35, 40, 45, 63, 72], 35) := by decide +kernel
theorem dX0_personIs_56 : decode cX0_personIs 56 = .ok (.aload_n 3, 1) := dk_45 (dk_at dksX0_personIs_2 0 rfl rfl)
theorem dX0_personIs_57 : decode cX0_personIs 57 = .ok (.getfield 124, 3) := dk_180 0 124 (dk_at dksX0_personIs_2 1 rfl rfl)
theorem dX0_personIs_60 : decode cX0_personIs 60 = .ok (.ireturn, 1) := dk_172 (dk_at dksX0_personIs_2 4 rfl rfl)
theorem dX0_personIs_61 : decode cX0_personIs 61 = .ok (.aload_n 3, 1) := dk_45 (dk_at dksX0_personIs_2 5 rfl rfl)
theorem dX0_personIs_62 : decode cX0_personIs 62 = .ok (.getfield 127, 3) := dk_180 0 127 (dk_at dksX0_personIs_2 6 rfl rfl)
theorem dX0_personIs_65 : decode cX0_personIs 65 = .ok (.ireturn, 1) := dk_172 (dk_at dksX0_personIs_2 9 rfl rfl)
theorem dX0_personIs_66 : decode cX0_personIs 66 = .ok (.aload_n 3, 1) := dk_45 (dk_at dksX0_personIs_2 10 rfl rfl)
theorem dX0_personIs_67 : decode cX0_personIs 67 = .ok (.getfield 130, 3) := dk_180 0 130 (dk_at dksX0_personIs_2 11 rfl rfl)
theorem dX0_personIs_70 : decode cX0_personIs 70 = .ok (.iconst (-1), 1) := dk_2 (dk_at dksX0_personIs_2 14 rfl rfl)
theorem dX0_personIs_71 : decode cX0_personIs 71 = .ok (.if_icmp .ne 8, 3) := dk_160 0 8 (dk_at dksX0_personIs_2 15 rfl rfl)
theorem dX0_personIs_74 : decode cX0_personIs 74 = .ok (.bipush (-2), 2) := dk_16 254 (dk_at dksX0_personIs_2 18 rfl rfl)
theorem dX0_personIs_76 : decode cX0_personIs 76 = .ok (.goto 7, 3) := dk_167 0 7 (dk_at dksX0_personIs_2 20 rfl rfl)
theorem dX0_personIs_79 : decode cX0_personIs 79 = .ok (.aload_n 3, 1) := dk_45 (dk_at dksX0_personIs_2 23 rfl rfl)
theorem dX0_personIs_80 : decode cX0_personIs 80 = .ok (.getfield 130, 3) := dk_180 0 130 (dk_at dksX0_personIs_3 0 rfl rfl)
theorem dX0_personIs_83 : decode cX0_personIs 83 = .ok (.ireturn, 1) := dk_172 (dk_at dksX0_personIs_3 3 rfl rfl)
theorem dX0_personIs_84 : decode cX0_personIs 84 = .ok (.aload_n 0, 1) := dk_42 (dk_at dksX0_personIs_3 4 rfl rfl)
theorem dX0_personIs_85 : decode cX0_personIs 85 = .ok (.getfield 63, 3) := dk_180 0 63 (dk_at dksX0_personIs_3 5 rfl rfl)
theorem dX0_personIs_88 : decode cX0_personIs 88 = .ok (.iload_n 1, 1) := dk_27 (dk_at dksX0_personIs_3 8 rfl rfl)
theorem dX0_personIs_89 : decode cX0_personIs 89 = .ok (.invokevirtual 200, 3) := dk_182 0 200 (dk_at dksX0_personIs_3 9 rfl rfl)
theorem dX0_personIs_92 : decode cX0_personIs 92 = .ok (.ireturn, 1) := dk_172 (dk_at dksX0_personIs_3 12 rfl rfl)
theorem dX0_personIs_93 : decode cX0_personIs 93 = .ok (.aload_n 0, 1) := dk_42 (dk_at dksX0_personIs_3 13 rfl rfl)
theorem dX0_personIs_94 : decode cX0_personIs 94 = .ok (.iload_n 1, 1) := dk_27 (dk_at dksX0_personIs_3 14 rfl rfl)
theorem dX0_personIs_95 : decode cX0_personIs 95 = .ok (.invokevirtual 203, 3) := dk_182 0 203 (dk_at dksX0_personIs_3 15 rfl rfl)
theorem dX0_personIs_98 : decode cX0_personIs 98 = .ok (.ireturn, 1) := dk_172 (dk_at dksX0_personIs_3 18 rfl rfl)
theorem dX0_personIs_99 : decode cX0_personIs 99 = .ok (.iconst (-1), 1) := dk_2 (dk_at dksX0_personIs_3 19 rfl rfl)
theorem dX0_personIs_100 : decode cX0_personIs 100 = .ok (.ireturn, 1) := dk_172 (dk_at dksX0_personIs_3 20 rfl rfl)
abbrev cX0_rank : ByteArray := prog_1_method_20_code
def yX0_rank : MethodName := ⟨RX0, "rank", "(I)I"⟩
def dkwX0_rank_3 : List UInt8 := [167, 0, 4, 3, 96, 61, 132, 3, 1, 167, 255, 184, 28, 172]
abbrev dktX0_rank_3 : List UInt8 := dkwX0_rank_3 ++ []
def dkwX0_rank_2 : List UInt8 := [182, 0, 187, 153, 0, 22, 21, 4, 157, 0, 13, 21, 4, 154, 0, 12, 29, 27, 162, 0, 7, 4]
abbrev dktX0_rank_2 : List UInt8 := dkwX0_rank_2 ++ dktX0_rank_3
def dkwX0_rank_1 : List UInt8 := [180, 0, 63, 180, 0, 109, 27, 50, 180, 0, 127, 100, 54, 4, 28, 29, 27, 159, 0, 30, 42, 29]
abbrev dktX0_rank_1 : List UInt8 := dkwX0_rank_1 ++ dktX0_rank_2
def dkwX0_rank_0 : List UInt8 := [3, 61, 3, 62, 29, 16, 16, 162, 0, 72, 42, 180, 0, 63, 180, 0, 109, 29, 50, 180, 0, 127, 42]
abbrev dktX0_rank_0 : List UInt8 := dkwX0_rank_0 ++ dktX0_rank_1
theorem dksX0_rank_0 : cX0_rank.data.toList.drop 0 = dktX0_rank_0 := by decide +kernel
theorem dksX0_rank_1 : cX0_rank.data.toList.drop 23 = dktX0_rank_1 := dk_seg dksX0_rank_0 23 rfl rfl
theorem dksX0_rank_2 : cX0_rank.data.toList.drop 45 = dktX0_rank_2 := dk_seg dksX0_rank_1 22 rfl rfl
theorem dksX0_rank_3 : cX0_rank.data.toList.drop 67 = dktX0_rank_3 := dk_seg dksX0_rank_2 22 rfl rfl
theorem dX0_rank_0 : decode cX0_rank 0 = .ok (.iconst 0, 1) := dk_3 (dk_at dksX0_rank_0 0 rfl rfl)
theorem dX0_rank_1 : decode cX0_rank 1 = .ok (.istore_n 2, 1) := dk_61 (dk_at dksX0_rank_0 1 rfl rfl)
theorem dX0_rank_2 : decode cX0_rank 2 = .ok (.iconst 0, 1) := dk_3 (dk_at dksX0_rank_0 2 rfl rfl)
theorem dX0_rank_3 : decode cX0_rank 3 = .ok (.istore_n 3, 1) := dk_62 (dk_at dksX0_rank_0 3 rfl rfl)
theorem dX0_rank_4 : decode cX0_rank 4 = .ok (.iload_n 3, 1) := dk_29 (dk_at dksX0_rank_0 4 rfl rfl)
theorem dX0_rank_5 : decode cX0_rank 5 = .ok (.bipush 16, 2) := dk_16 16 (dk_at dksX0_rank_0 5 rfl rfl)
theorem dX0_rank_7 : decode cX0_rank 7 = .ok (.if_icmp .ge 72, 3) := dk_162 0 72 (dk_at dksX0_rank_0 7 rfl rfl)
theorem dX0_rank_10 : decode cX0_rank 10 = .ok (.aload_n 0, 1) := dk_42 (dk_at dksX0_rank_0 10 rfl rfl)
theorem dX0_rank_11 : decode cX0_rank 11 = .ok (.getfield 63, 3) := dk_180 0 63 (dk_at dksX0_rank_0 11 rfl rfl)
theorem dX0_rank_14 : decode cX0_rank 14 = .ok (.getfield 109, 3) := dk_180 0 109 (dk_at dksX0_rank_0 14 rfl rfl)
theorem dX0_rank_17 : decode cX0_rank 17 = .ok (.iload_n 3, 1) := dk_29 (dk_at dksX0_rank_0 17 rfl rfl)
theorem dX0_rank_18 : decode cX0_rank 18 = .ok (.aaload, 1) := dk_50 (dk_at dksX0_rank_0 18 rfl rfl)
theorem dX0_rank_19 : decode cX0_rank 19 = .ok (.getfield 127, 3) := dk_180 0 127 (dk_at dksX0_rank_0 19 rfl rfl)
theorem dX0_rank_22 : decode cX0_rank 22 = .ok (.aload_n 0, 1) := dk_42 (dk_at dksX0_rank_0 22 rfl rfl)
theorem dX0_rank_23 : decode cX0_rank 23 = .ok (.getfield 63, 3) := dk_180 0 63 (dk_at dksX0_rank_1 0 rfl rfl)
theorem dX0_rank_26 : decode cX0_rank 26 = .ok (.getfield 109, 3) := dk_180 0 109 (dk_at dksX0_rank_1 3 rfl rfl)
theorem dX0_rank_29 : decode cX0_rank 29 = .ok (.iload_n 1, 1) := dk_27 (dk_at dksX0_rank_1 6 rfl rfl)
theorem dX0_rank_30 : decode cX0_rank 30 = .ok (.aaload, 1) := dk_50 (dk_at dksX0_rank_1 7 rfl rfl)
theorem dX0_rank_31 : decode cX0_rank 31 = .ok (.getfield 127, 3) := dk_180 0 127 (dk_at dksX0_rank_1 8 rfl rfl)
theorem dX0_rank_34 : decode cX0_rank 34 = .ok (.isub, 1) := dk_100 (dk_at dksX0_rank_1 11 rfl rfl)
theorem dX0_rank_35 : decode cX0_rank 35 = .ok (.istore 4, 2) := dk_54 4 (dk_at dksX0_rank_1 12 rfl rfl)
theorem dX0_rank_37 : decode cX0_rank 37 = .ok (.iload_n 2, 1) := dk_28 (dk_at dksX0_rank_1 14 rfl rfl)
theorem dX0_rank_38 : decode cX0_rank 38 = .ok (.iload_n 3, 1) := dk_29 (dk_at dksX0_rank_1 15 rfl rfl)
theorem dX0_rank_39 : decode cX0_rank 39 = .ok (.iload_n 1, 1) := dk_27 (dk_at dksX0_rank_1 16 rfl rfl)
theorem dX0_rank_40 : decode cX0_rank 40 = .ok (.if_icmp .eq 30, 3) := dk_159 0 30 (dk_at dksX0_rank_1 17 rfl rfl)
theorem dX0_rank_43 : decode cX0_rank 43 = .ok (.aload_n 0, 1) := dk_42 (dk_at dksX0_rank_1 20 rfl rfl)
theorem dX0_rank_44 : decode cX0_rank 44 = .ok (.iload_n 3, 1) := dk_29 (dk_at dksX0_rank_1 21 rfl rfl)
theorem dX0_rank_45 : decode cX0_rank 45 = .ok (.invokevirtual 187, 3) := dk_182 0 187 (dk_at dksX0_rank_2 0 rfl rfl)
theorem dX0_rank_48 : decode cX0_rank 48 = .ok (.ifCond .eq 22, 3) := dk_153 0 22 (dk_at dksX0_rank_2 3 rfl rfl)
theorem dX0_rank_51 : decode cX0_rank 51 = .ok (.iload 4, 2) := dk_21 4 (dk_at dksX0_rank_2 6 rfl rfl)
theorem dX0_rank_53 : decode cX0_rank 53 = .ok (.ifCond .gt 13, 3) := dk_157 0 13 (dk_at dksX0_rank_2 8 rfl rfl)
theorem dX0_rank_56 : decode cX0_rank 56 = .ok (.iload 4, 2) := dk_21 4 (dk_at dksX0_rank_2 11 rfl rfl)
theorem dX0_rank_58 : decode cX0_rank 58 = .ok (.ifCond .ne 12, 3) := dk_154 0 12 (dk_at dksX0_rank_2 13 rfl rfl)
theorem dX0_rank_61 : decode cX0_rank 61 = .ok (.iload_n 3, 1) := dk_29 (dk_at dksX0_rank_2 16 rfl rfl)
theorem dX0_rank_62 : decode cX0_rank 62 = .ok (.iload_n 1, 1) := dk_27 (dk_at dksX0_rank_2 17 rfl rfl)
theorem dX0_rank_63 : decode cX0_rank 63 = .ok (.if_icmp .ge 7, 3) := dk_162 0 7 (dk_at dksX0_rank_2 18 rfl rfl)
theorem dX0_rank_66 : decode cX0_rank 66 = .ok (.iconst 1, 1) := dk_4 (dk_at dksX0_rank_2 21 rfl rfl)
theorem dX0_rank_67 : decode cX0_rank 67 = .ok (.goto 4, 3) := dk_167 0 4 (dk_at dksX0_rank_3 0 rfl rfl)
theorem dX0_rank_70 : decode cX0_rank 70 = .ok (.iconst 0, 1) := dk_3 (dk_at dksX0_rank_3 3 rfl rfl)
theorem dX0_rank_71 : decode cX0_rank 71 = .ok (.iadd, 1) := dk_96 (dk_at dksX0_rank_3 4 rfl rfl)
theorem dX0_rank_72 : decode cX0_rank 72 = .ok (.istore_n 2, 1) := dk_61 (dk_at dksX0_rank_3 5 rfl rfl)
theorem dX0_rank_73 : decode cX0_rank 73 = .ok (.iinc 3 1, 3) := dk_132 3 1 (dk_at dksX0_rank_3 6 rfl rfl)
theorem dX0_rank_76 : decode cX0_rank 76 = .ok (.goto (-72), 3) := dk_167 255 184 (dk_at dksX0_rank_3 9 rfl rfl)
theorem dX0_rank_79 : decode cX0_rank 79 = .ok (.iload_n 2, 1) := dk_28 (dk_at dksX0_rank_3 12 rfl rfl)
theorem dX0_rank_80 : decode cX0_rank 80 = .ok (.ireturn, 1) := dk_172 (dk_at dksX0_rank_3 13 rfl rfl)
abbrev cX0_talk : ByteArray := prog_1_method_22_code
def yX0_talk : MethodName := ⟨RX0, "talk", "(II)I"⟩
def dkwX0_talk_2 : List UInt8 := [17, 252, 24, 172]
abbrev dktX0_talk_2 : List UInt8 := dkwX0_talk_2 ++ []
def dkwX0_talk_1 : List UInt8 := [180, 0, 63, 180, 0, 109, 27, 50, 42, 180, 0, 63, 180, 0, 109, 28, 50, 182, 0, 206, 167, 0, 6]
abbrev dktX0_talk_1 : List UInt8 := dkwX0_talk_1 ++ dktX0_talk_2
def dkwX0_talk_0 : List UInt8 := [42, 27, 182, 0, 187, 153, 0, 40, 42, 28, 182, 0, 187, 153, 0, 32, 27, 28, 159, 0, 27, 42]
abbrev dktX0_talk_0 : List UInt8 := dkwX0_talk_0 ++ dktX0_talk_1
theorem dksX0_talk_0 : cX0_talk.data.toList.drop 0 = dktX0_talk_0 := by decide +kernel
theorem dksX0_talk_1 : cX0_talk.data.toList.drop 22 = dktX0_talk_1 := dk_seg dksX0_talk_0 22 rfl rfl
theorem dksX0_talk_2 : cX0_talk.data.toList.drop 45 = dktX0_talk_2 := dk_seg dksX0_talk_1 23 rfl rfl
theorem dX0_talk_0 : decode cX0_talk 0 = .ok (.aload_n 0, 1) := dk_42 (dk_at dksX0_talk_0 0 rfl rfl)
theorem dX0_talk_1 : decode cX0_talk 1 = .ok (.iload_n 1, 1) := dk_27 (dk_at dksX0_talk_0 1 rfl rfl)
theorem dX0_talk_2 : decode cX0_talk 2 = .ok (.invokevirtual 187, 3) := dk_182 0 187 (dk_at dksX0_talk_0 2 rfl rfl)
theorem dX0_talk_5 : decode cX0_talk 5 = .ok (.ifCond .eq 40, 3) := dk_153 0 40 (dk_at dksX0_talk_0 5 rfl rfl)
theorem dX0_talk_8 : decode cX0_talk 8 = .ok (.aload_n 0, 1) := dk_42 (dk_at dksX0_talk_0 8 rfl rfl)
theorem dX0_talk_9 : decode cX0_talk 9 = .ok (.iload_n 2, 1) := dk_28 (dk_at dksX0_talk_0 9 rfl rfl)
theorem dX0_talk_10 : decode cX0_talk 10 = .ok (.invokevirtual 187, 3) := dk_182 0 187 (dk_at dksX0_talk_0 10 rfl rfl)
theorem dX0_talk_13 : decode cX0_talk 13 = .ok (.ifCond .eq 32, 3) := dk_153 0 32 (dk_at dksX0_talk_0 13 rfl rfl)
theorem dX0_talk_16 : decode cX0_talk 16 = .ok (.iload_n 1, 1) := dk_27 (dk_at dksX0_talk_0 16 rfl rfl)
theorem dX0_talk_17 : decode cX0_talk 17 = .ok (.iload_n 2, 1) := dk_28 (dk_at dksX0_talk_0 17 rfl rfl)
theorem dX0_talk_18 : decode cX0_talk 18 = .ok (.if_icmp .eq 27, 3) := dk_159 0 27 (dk_at dksX0_talk_0 18 rfl rfl)
theorem dX0_talk_21 : decode cX0_talk 21 = .ok (.aload_n 0, 1) := dk_42 (dk_at dksX0_talk_0 21 rfl rfl)
theorem dX0_talk_22 : decode cX0_talk 22 = .ok (.getfield 63, 3) := dk_180 0 63 (dk_at dksX0_talk_1 0 rfl rfl)
theorem dX0_talk_25 : decode cX0_talk 25 = .ok (.getfield 109, 3) := dk_180 0 109 (dk_at dksX0_talk_1 3 rfl rfl)
theorem dX0_talk_28 : decode cX0_talk 28 = .ok (.iload_n 1, 1) := dk_27 (dk_at dksX0_talk_1 6 rfl rfl)
theorem dX0_talk_29 : decode cX0_talk 29 = .ok (.aaload, 1) := dk_50 (dk_at dksX0_talk_1 7 rfl rfl)
theorem dX0_talk_30 : decode cX0_talk 30 = .ok (.aload_n 0, 1) := dk_42 (dk_at dksX0_talk_1 8 rfl rfl)
theorem dX0_talk_31 : decode cX0_talk 31 = .ok (.getfield 63, 3) := dk_180 0 63 (dk_at dksX0_talk_1 9 rfl rfl)
theorem dX0_talk_34 : decode cX0_talk 34 = .ok (.getfield 109, 3) := dk_180 0 109 (dk_at dksX0_talk_1 12 rfl rfl)
theorem dX0_talk_37 : decode cX0_talk 37 = .ok (.iload_n 2, 1) := dk_28 (dk_at dksX0_talk_1 15 rfl rfl)
theorem dX0_talk_38 : decode cX0_talk 38 = .ok (.aaload, 1) := dk_50 (dk_at dksX0_talk_1 16 rfl rfl)
theorem dX0_talk_39 : decode cX0_talk 39 = .ok (.invokevirtual 206, 3) := dk_182 0 206 (dk_at dksX0_talk_1 17 rfl rfl)
theorem dX0_talk_42 : decode cX0_talk 42 = .ok (.goto 6, 3) := dk_167 0 6 (dk_at dksX0_talk_1 20 rfl rfl)
theorem dX0_talk_45 : decode cX0_talk 45 = .ok (.sipush (-1000), 3) := dk_17 252 24 (dk_at dksX0_talk_2 0 rfl rfl)
theorem dX0_talk_48 : decode cX0_talk 48 = .ok (.ireturn, 1) := dk_172 (dk_at dksX0_talk_2 3 rfl rfl)
abbrev cX0_yardTalk : ByteArray := prog_1_method_23_code
def yX0_yardTalk : MethodName := ⟨RX0, "yardTalk", "()I"⟩
def dkwX0_yardTalk_0 : List UInt8 := [42, 180, 0, 63, 182, 0, 210, 172]
abbrev dktX0_yardTalk_0 : List UInt8 := dkwX0_yardTalk_0 ++ []
theorem dksX0_yardTalk_0 : cX0_yardTalk.data.toList.drop 0 = dktX0_yardTalk_0 := by decide +kernel
theorem dX0_yardTalk_0 : decode cX0_yardTalk 0 = .ok (.aload_n 0, 1) := dk_42 (dk_at dksX0_yardTalk_0 0 rfl rfl)
theorem dX0_yardTalk_1 : decode cX0_yardTalk 1 = .ok (.getfield 63, 3) := dk_180 0 63 (dk_at dksX0_yardTalk_0 1 rfl rfl)
theorem dX0_yardTalk_4 : decode cX0_yardTalk 4 = .ok (.invokevirtual 210, 3) := dk_182 0 210 (dk_at dksX0_yardTalk_0 4 rfl rfl)
theorem dX0_yardTalk_7 : decode cX0_yardTalk 7 = .ok (.ireturn, 1) := dk_172 (dk_at dksX0_yardTalk_0 7 rfl rfl)
abbrev cX0_best : ByteArray := prog_1_method_25_code
def yX0_best : MethodName := ⟨RX0, "best", "(II)I"⟩
def dkwX0_best_4 : List UInt8 := [27, 29, 182, 0, 221, 172]
abbrev dktX0_best_4 : List UInt8 := dkwX0_best_4 ++ []
def dkwX0_best_3 : List UInt8 := [182, 0, 221, 164, 0, 6, 21, 4, 62, 132, 4, 1, 167, 255, 199, 28, 154, 0, 7, 29, 167, 0, 9, 42]
abbrev dktX0_best_3 : List UInt8 := dkwX0_best_3 ++ dktX0_best_4
def dkwX0_best_2 : List UInt8 := [159, 0, 9, 21, 5, 27, 160, 0, 27, 29, 2, 159, 0, 19, 42, 27, 21, 4, 182, 0, 221, 42, 27, 29]
abbrev dktX0_best_2 : List UInt8 := dkwX0_best_2 ++ dktX0_best_3
def dkwX0_best_1 : List UInt8 := [54, 4, 21, 4, 16, 60, 162, 0, 56, 42, 180, 0, 63, 21, 4, 182, 0, 218, 54, 5, 21, 5, 2]
abbrev dktX0_best_1 : List UInt8 := dkwX0_best_1 ++ dktX0_best_2
def dkwX0_best_0 : List UInt8 := [42, 27, 182, 0, 187, 153, 0, 11, 28, 5, 184, 0, 25, 154, 0, 7, 17, 252, 24, 172, 2, 62, 3]
abbrev dktX0_best_0 : List UInt8 := dkwX0_best_0 ++ dktX0_best_1
theorem dksX0_best_0 : cX0_best.data.toList.drop 0 = dktX0_best_0 := by decide +kernel
theorem dksX0_best_1 : cX0_best.data.toList.drop 23 = dktX0_best_1 := dk_seg dksX0_best_0 23 rfl rfl
theorem dksX0_best_2 : cX0_best.data.toList.drop 46 = dktX0_best_2 := dk_seg dksX0_best_1 23 rfl rfl
theorem dksX0_best_3 : cX0_best.data.toList.drop 70 = dktX0_best_3 := dk_seg dksX0_best_2 24 rfl rfl
theorem dksX0_best_4 : cX0_best.data.toList.drop 94 = dktX0_best_4 := dk_seg dksX0_best_3 24 rfl rfl
theorem dX0_best_0 : decode cX0_best 0 = .ok (.aload_n 0, 1) := dk_42 (dk_at dksX0_best_0 0 rfl rfl)
theorem dX0_best_1 : decode cX0_best 1 = .ok (.iload_n 1, 1) := dk_27 (dk_at dksX0_best_0 1 rfl rfl)
theorem dX0_best_2 : decode cX0_best 2 = .ok (.invokevirtual 187, 3) := dk_182 0 187 (dk_at dksX0_best_0 2 rfl rfl)
theorem dX0_best_5 : decode cX0_best 5 = .ok (.ifCond .eq 11, 3) := dk_153 0 11 (dk_at dksX0_best_0 5 rfl rfl)
theorem dX0_best_8 : decode cX0_best 8 = .ok (.iload_n 2, 1) := dk_28 (dk_at dksX0_best_0 8 rfl rfl)
theorem dX0_best_9 : decode cX0_best 9 = .ok (.iconst 2, 1) := dk_5 (dk_at dksX0_best_0 9 rfl rfl)
theorem dX0_best_10 : decode cX0_best 10 = .ok (.invokestatic 25, 3) := dk_184 0 25 (dk_at dksX0_best_0 10 rfl rfl)
theorem dX0_best_13 : decode cX0_best 13 = .ok (.ifCond .ne 7, 3) := dk_154 0 7 (dk_at dksX0_best_0 13 rfl rfl)
theorem dX0_best_16 : decode cX0_best 16 = .ok (.sipush (-1000), 3) := dk_17 252 24 (dk_at dksX0_best_0 16 rfl rfl)
theorem dX0_best_19 : decode cX0_best 19 = .ok (.ireturn, 1) := dk_172 (dk_at dksX0_best_0 19 rfl rfl)
theorem dX0_best_20 : decode cX0_best 20 = .ok (.iconst (-1), 1) := dk_2 (dk_at dksX0_best_0 20 rfl rfl)
theorem dX0_best_21 : decode cX0_best 21 = .ok (.istore_n 3, 1) := dk_62 (dk_at dksX0_best_0 21 rfl rfl)
theorem dX0_best_22 : decode cX0_best 22 = .ok (.iconst 0, 1) := dk_3 (dk_at dksX0_best_0 22 rfl rfl)
theorem dX0_best_23 : decode cX0_best 23 = .ok (.istore 4, 2) := dk_54 4 (dk_at dksX0_best_1 0 rfl rfl)
theorem dX0_best_25 : decode cX0_best 25 = .ok (.iload 4, 2) := dk_21 4 (dk_at dksX0_best_1 2 rfl rfl)
theorem dX0_best_27 : decode cX0_best 27 = .ok (.bipush 60, 2) := dk_16 60 (dk_at dksX0_best_1 4 rfl rfl)
theorem dX0_best_29 : decode cX0_best 29 = .ok (.if_icmp .ge 56, 3) := dk_162 0 56 (dk_at dksX0_best_1 6 rfl rfl)
theorem dX0_best_32 : decode cX0_best 32 = .ok (.aload_n 0, 1) := dk_42 (dk_at dksX0_best_1 9 rfl rfl)
theorem dX0_best_33 : decode cX0_best 33 = .ok (.getfield 63, 3) := dk_180 0 63 (dk_at dksX0_best_1 10 rfl rfl)
theorem dX0_best_36 : decode cX0_best 36 = .ok (.iload 4, 2) := dk_21 4 (dk_at dksX0_best_1 13 rfl rfl)
theorem dX0_best_38 : decode cX0_best 38 = .ok (.invokevirtual 218, 3) := dk_182 0 218 (dk_at dksX0_best_1 15 rfl rfl)
theorem dX0_best_41 : decode cX0_best 41 = .ok (.istore 5, 2) := dk_54 5 (dk_at dksX0_best_1 18 rfl rfl)
theorem dX0_best_43 : decode cX0_best 43 = .ok (.iload 5, 2) := dk_21 5 (dk_at dksX0_best_1 20 rfl rfl)
theorem dX0_best_45 : decode cX0_best 45 = .ok (.iconst (-1), 1) := dk_2 (dk_at dksX0_best_1 22 rfl rfl)
theorem dX0_best_46 : decode cX0_best 46 = .ok (.if_icmp .eq 9, 3) := dk_159 0 9 (dk_at dksX0_best_2 0 rfl rfl)
theorem dX0_best_49 : decode cX0_best 49 = .ok (.iload 5, 2) := dk_21 5 (dk_at dksX0_best_2 3 rfl rfl)
theorem dX0_best_51 : decode cX0_best 51 = .ok (.iload_n 1, 1) := dk_27 (dk_at dksX0_best_2 5 rfl rfl)
theorem dX0_best_52 : decode cX0_best 52 = .ok (.if_icmp .ne 27, 3) := dk_160 0 27 (dk_at dksX0_best_2 6 rfl rfl)
theorem dX0_best_55 : decode cX0_best 55 = .ok (.iload_n 3, 1) := dk_29 (dk_at dksX0_best_2 9 rfl rfl)
theorem dX0_best_56 : decode cX0_best 56 = .ok (.iconst (-1), 1) := dk_2 (dk_at dksX0_best_2 10 rfl rfl)
theorem dX0_best_57 : decode cX0_best 57 = .ok (.if_icmp .eq 19, 3) := dk_159 0 19 (dk_at dksX0_best_2 11 rfl rfl)
theorem dX0_best_60 : decode cX0_best 60 = .ok (.aload_n 0, 1) := dk_42 (dk_at dksX0_best_2 14 rfl rfl)
theorem dX0_best_61 : decode cX0_best 61 = .ok (.iload_n 1, 1) := dk_27 (dk_at dksX0_best_2 15 rfl rfl)
theorem dX0_best_62 : decode cX0_best 62 = .ok (.iload 4, 2) := dk_21 4 (dk_at dksX0_best_2 16 rfl rfl)
theorem dX0_best_64 : decode cX0_best 64 = .ok (.invokevirtual 221, 3) := dk_182 0 221 (dk_at dksX0_best_2 18 rfl rfl)
theorem dX0_best_67 : decode cX0_best 67 = .ok (.aload_n 0, 1) := dk_42 (dk_at dksX0_best_2 21 rfl rfl)
theorem dX0_best_68 : decode cX0_best 68 = .ok (.iload_n 1, 1) := dk_27 (dk_at dksX0_best_2 22 rfl rfl)
theorem dX0_best_69 : decode cX0_best 69 = .ok (.iload_n 3, 1) := dk_29 (dk_at dksX0_best_2 23 rfl rfl)
theorem dX0_best_70 : decode cX0_best 70 = .ok (.invokevirtual 221, 3) := dk_182 0 221 (dk_at dksX0_best_3 0 rfl rfl)
theorem dX0_best_73 : decode cX0_best 73 = .ok (.if_icmp .le 6, 3) := dk_164 0 6 (dk_at dksX0_best_3 3 rfl rfl)
theorem dX0_best_76 : decode cX0_best 76 = .ok (.iload 4, 2) := dk_21 4 (dk_at dksX0_best_3 6 rfl rfl)
theorem dX0_best_78 : decode cX0_best 78 = .ok (.istore_n 3, 1) := dk_62 (dk_at dksX0_best_3 8 rfl rfl)
theorem dX0_best_79 : decode cX0_best 79 = .ok (.iinc 4 1, 3) := dk_132 4 1 (dk_at dksX0_best_3 9 rfl rfl)
theorem dX0_best_82 : decode cX0_best 82 = .ok (.goto (-57), 3) := dk_167 255 199 (dk_at dksX0_best_3 12 rfl rfl)
theorem dX0_best_85 : decode cX0_best 85 = .ok (.iload_n 2, 1) := dk_28 (dk_at dksX0_best_3 15 rfl rfl)
theorem dX0_best_86 : decode cX0_best 86 = .ok (.ifCond .ne 7, 3) := dk_154 0 7 (dk_at dksX0_best_3 16 rfl rfl)
theorem dX0_best_89 : decode cX0_best 89 = .ok (.iload_n 3, 1) := dk_29 (dk_at dksX0_best_3 19 rfl rfl)
theorem dX0_best_90 : decode cX0_best 90 = .ok (.goto 9, 3) := dk_167 0 9 (dk_at dksX0_best_3 20 rfl rfl)
theorem dX0_best_93 : decode cX0_best 93 = .ok (.aload_n 0, 1) := dk_42 (dk_at dksX0_best_3 23 rfl rfl)
theorem dX0_best_94 : decode cX0_best 94 = .ok (.iload_n 1, 1) := dk_27 (dk_at dksX0_best_4 0 rfl rfl)
theorem dX0_best_95 : decode cX0_best 95 = .ok (.iload_n 3, 1) := dk_29 (dk_at dksX0_best_4 1 rfl rfl)
theorem dX0_best_96 : decode cX0_best 96 = .ok (.invokevirtual 221, 3) := dk_182 0 221 (dk_at dksX0_best_4 2 rfl rfl)
theorem dX0_best_99 : decode cX0_best 99 = .ok (.ireturn, 1) := dk_172 (dk_at dksX0_best_4 5 rfl rfl)
abbrev cX0_talkAt : ByteArray := prog_1_method_24_code
def yX0_talkAt : MethodName := ⟨RX0, "talkAt", "(II)I"⟩
def dkwX0_talkAt_0 : List UInt8 := [42, 180, 0, 63, 27, 42, 180, 0, 63, 28, 182, 0, 212, 182, 0, 215, 172]
abbrev dktX0_talkAt_0 : List UInt8 := dkwX0_talkAt_0 ++ []
theorem dksX0_talkAt_0 : cX0_talkAt.data.toList.drop 0 = dktX0_talkAt_0 := by decide +kernel
theorem dX0_talkAt_0 : decode cX0_talkAt 0 = .ok (.aload_n 0, 1) := dk_42 (dk_at dksX0_talkAt_0 0 rfl rfl)
theorem dX0_talkAt_1 : decode cX0_talkAt 1 = .ok (.getfield 63, 3) := dk_180 0 63 (dk_at dksX0_talkAt_0 1 rfl rfl)
theorem dX0_talkAt_4 : decode cX0_talkAt 4 = .ok (.iload_n 1, 1) := dk_27 (dk_at dksX0_talkAt_0 4 rfl rfl)
theorem dX0_talkAt_5 : decode cX0_talkAt 5 = .ok (.aload_n 0, 1) := dk_42 (dk_at dksX0_talkAt_0 5 rfl rfl)
theorem dX0_talkAt_6 : decode cX0_talkAt 6 = .ok (.getfield 63, 3) := dk_180 0 63 (dk_at dksX0_talkAt_0 6 rfl rfl)
theorem dX0_talkAt_9 : decode cX0_talkAt 9 = .ok (.iload_n 2, 1) := dk_28 (dk_at dksX0_talkAt_0 9 rfl rfl)
theorem dX0_talkAt_10 : decode cX0_talkAt 10 = .ok (.invokevirtual 212, 3) := dk_182 0 212 (dk_at dksX0_talkAt_0 10 rfl rfl)
theorem dX0_talkAt_13 : decode cX0_talkAt 13 = .ok (.invokevirtual 215, 3) := dk_182 0 215 (dk_at dksX0_talkAt_0 13 rfl rfl)
theorem dX0_talkAt_16 : decode cX0_talkAt 16 = .ok (.ireturn, 1) := dk_172 (dk_at dksX0_talkAt_0 16 rfl rfl)
abbrev cX0_move : ByteArray := prog_1_method_27_code
def yX0_move : MethodName := ⟨RX0, "move", "(I)I"⟩
def dkwX0_move_6 : List UInt8 := [28, 29, 21, 4, 27, 184, 0, 224, 172]
abbrev dktX0_move_6 : List UInt8 := dkwX0_move_6 ++ []
def dkwX0_move_5 : List UInt8 := [21, 5, 21, 7, 182, 0, 221, 21, 6, 100, 54, 4, 132, 7, 1, 167, 255, 195, 132, 5, 1, 167, 255, 139]
abbrev dktX0_move_5 : List UInt8 := dkwX0_move_5 ++ dktX0_move_6
def dkwX0_move_4 : List UInt8 := [21, 7, 182, 0, 221, 21, 6, 100, 21, 4, 163, 0, 6, 167, 0, 22, 21, 5, 61, 21, 7, 62, 42]
abbrev dktX0_move_4 : List UInt8 := dkwX0_move_4 ++ dktX0_move_5
def dkwX0_move_3 : List UInt8 := [21, 7, 16, 60, 162, 0, 60, 42, 180, 0, 63, 21, 7, 182, 0, 218, 2, 160, 0, 41, 42, 21, 5]
abbrev dktX0_move_3 : List UInt8 := dkwX0_move_3 ++ dktX0_move_4
def dkwX0_move_2 : List UInt8 := [21, 5, 42, 180, 0, 63, 180, 0, 109, 21, 5, 50, 180, 0, 130, 182, 0, 221, 54, 6, 3, 54, 7]
abbrev dktX0_move_2 : List UInt8 := dkwX0_move_2 ++ dktX0_move_3
def dkwX0_move_1 : List UInt8 := [162, 0, 116, 42, 180, 0, 63, 180, 0, 109, 21, 5, 50, 182, 0, 183, 154, 0, 6, 167, 0, 91, 42]
abbrev dktX0_move_1 : List UInt8 := dkwX0_move_1 ++ dktX0_move_2
def dkwX0_move_0 : List UInt8 := [27, 6, 184, 0, 25, 154, 0, 5, 2, 172, 2, 61, 2, 62, 3, 54, 4, 3, 54, 5, 21, 5, 16, 16]
abbrev dktX0_move_0 : List UInt8 := dkwX0_move_0 ++ dktX0_move_1
theorem dksX0_move_0 : cX0_move.data.toList.drop 0 = dktX0_move_0 := by decide +kernel
theorem dksX0_move_1 : cX0_move.data.toList.drop 24 = dktX0_move_1 := dk_seg dksX0_move_0 24 rfl rfl
theorem dksX0_move_2 : cX0_move.data.toList.drop 47 = dktX0_move_2 := dk_seg dksX0_move_1 23 rfl rfl
theorem dksX0_move_3 : cX0_move.data.toList.drop 70 = dktX0_move_3 := dk_seg dksX0_move_2 23 rfl rfl
theorem dksX0_move_4 : cX0_move.data.toList.drop 93 = dktX0_move_4 := dk_seg dksX0_move_3 23 rfl rfl
theorem dksX0_move_5 : cX0_move.data.toList.drop 116 = dktX0_move_5 := dk_seg dksX0_move_4 23 rfl rfl
theorem dksX0_move_6 : cX0_move.data.toList.drop 140 = dktX0_move_6 := dk_seg dksX0_move_5 24 rfl rfl
theorem dX0_move_0 : decode cX0_move 0 = .ok (.iload_n 1, 1) := dk_27 (dk_at dksX0_move_0 0 rfl rfl)
theorem dX0_move_1 : decode cX0_move 1 = .ok (.iconst 3, 1) := dk_6 (dk_at dksX0_move_0 1 rfl rfl)
theorem dX0_move_2 : decode cX0_move 2 = .ok (.invokestatic 25, 3) := dk_184 0 25 (dk_at dksX0_move_0 2 rfl rfl)
theorem dX0_move_5 : decode cX0_move 5 = .ok (.ifCond .ne 5, 3) := dk_154 0 5 (dk_at dksX0_move_0 5 rfl rfl)
theorem dX0_move_8 : decode cX0_move 8 = .ok (.iconst (-1), 1) := dk_2 (dk_at dksX0_move_0 8 rfl rfl)
theorem dX0_move_9 : decode cX0_move 9 = .ok (.ireturn, 1) := dk_172 (dk_at dksX0_move_0 9 rfl rfl)
theorem dX0_move_10 : decode cX0_move 10 = .ok (.iconst (-1), 1) := dk_2 (dk_at dksX0_move_0 10 rfl rfl)
theorem dX0_move_11 : decode cX0_move 11 = .ok (.istore_n 2, 1) := dk_61 (dk_at dksX0_move_0 11 rfl rfl)
theorem dX0_move_12 : decode cX0_move 12 = .ok (.iconst (-1), 1) := dk_2 (dk_at dksX0_move_0 12 rfl rfl)
theorem dX0_move_13 : decode cX0_move 13 = .ok (.istore_n 3, 1) := dk_62 (dk_at dksX0_move_0 13 rfl rfl)
theorem dX0_move_14 : decode cX0_move 14 = .ok (.iconst 0, 1) := dk_3 (dk_at dksX0_move_0 14 rfl rfl)
theorem dX0_move_15 : decode cX0_move 15 = .ok (.istore 4, 2) := dk_54 4 (dk_at dksX0_move_0 15 rfl rfl)
theorem dX0_move_17 : decode cX0_move 17 = .ok (.iconst 0, 1) := dk_3 (dk_at dksX0_move_0 17 rfl rfl)
theorem dX0_move_18 : decode cX0_move 18 = .ok (.istore 5, 2) := dk_54 5 (dk_at dksX0_move_0 18 rfl rfl)
theorem dX0_move_20 : decode cX0_move 20 = .ok (.iload 5, 2) := dk_21 5 (dk_at dksX0_move_0 20 rfl rfl)
theorem dX0_move_22 : decode cX0_move 22 = .ok (.bipush 16, 2) := dk_16 16 (dk_at dksX0_move_0 22 rfl rfl)
theorem dX0_move_24 : decode cX0_move 24 = .ok (.if_icmp .ge 116, 3) := dk_162 0 116 (dk_at dksX0_move_1 0 rfl rfl)
theorem dX0_move_27 : decode cX0_move 27 = .ok (.aload_n 0, 1) := dk_42 (dk_at dksX0_move_1 3 rfl rfl)
theorem dX0_move_28 : decode cX0_move 28 = .ok (.getfield 63, 3) := dk_180 0 63 (dk_at dksX0_move_1 4 rfl rfl)
theorem dX0_move_31 : decode cX0_move 31 = .ok (.getfield 109, 3) := dk_180 0 109 (dk_at dksX0_move_1 7 rfl rfl)
theorem dX0_move_34 : decode cX0_move 34 = .ok (.iload 5, 2) := dk_21 5 (dk_at dksX0_move_1 10 rfl rfl)
theorem dX0_move_36 : decode cX0_move 36 = .ok (.aaload, 1) := dk_50 (dk_at dksX0_move_1 12 rfl rfl)
theorem dX0_move_37 : decode cX0_move 37 = .ok (.invokevirtual 183, 3) := dk_182 0 183 (dk_at dksX0_move_1 13 rfl rfl)
theorem dX0_move_40 : decode cX0_move 40 = .ok (.ifCond .ne 6, 3) := dk_154 0 6 (dk_at dksX0_move_1 16 rfl rfl)
theorem dX0_move_43 : decode cX0_move 43 = .ok (.goto 91, 3) := dk_167 0 91 (dk_at dksX0_move_1 19 rfl rfl)
theorem dX0_move_46 : decode cX0_move 46 = .ok (.aload_n 0, 1) := dk_42 (dk_at dksX0_move_1 22 rfl rfl)
theorem dX0_move_47 : decode cX0_move 47 = .ok (.iload 5, 2) := dk_21 5 (dk_at dksX0_move_2 0 rfl rfl)
theorem dX0_move_49 : decode cX0_move 49 = .ok (.aload_n 0, 1) := dk_42 (dk_at dksX0_move_2 2 rfl rfl)
theorem dX0_move_50 : decode cX0_move 50 = .ok (.getfield 63, 3) := dk_180 0 63 (dk_at dksX0_move_2 3 rfl rfl)
theorem dX0_move_53 : decode cX0_move 53 = .ok (.getfield 109, 3) := dk_180 0 109 (dk_at dksX0_move_2 6 rfl rfl)
theorem dX0_move_56 : decode cX0_move 56 = .ok (.iload 5, 2) := dk_21 5 (dk_at dksX0_move_2 9 rfl rfl)
theorem dX0_move_58 : decode cX0_move 58 = .ok (.aaload, 1) := dk_50 (dk_at dksX0_move_2 11 rfl rfl)
theorem dX0_move_59 : decode cX0_move 59 = .ok (.getfield 130, 3) := dk_180 0 130 (dk_at dksX0_move_2 12 rfl rfl)
theorem dX0_move_62 : decode cX0_move 62 = .ok (.invokevirtual 221, 3) := dk_182 0 221 (dk_at dksX0_move_2 15 rfl rfl)
theorem dX0_move_65 : decode cX0_move 65 = .ok (.istore 6, 2) := dk_54 6 (dk_at dksX0_move_2 18 rfl rfl)
theorem dX0_move_67 : decode cX0_move 67 = .ok (.iconst 0, 1) := dk_3 (dk_at dksX0_move_2 20 rfl rfl)
theorem dX0_move_68 : decode cX0_move 68 = .ok (.istore 7, 2) := dk_54 7 (dk_at dksX0_move_2 21 rfl rfl)
theorem dX0_move_70 : decode cX0_move 70 = .ok (.iload 7, 2) := dk_21 7 (dk_at dksX0_move_3 0 rfl rfl)
theorem dX0_move_72 : decode cX0_move 72 = .ok (.bipush 60, 2) := dk_16 60 (dk_at dksX0_move_3 2 rfl rfl)
theorem dX0_move_74 : decode cX0_move 74 = .ok (.if_icmp .ge 60, 3) := dk_162 0 60 (dk_at dksX0_move_3 4 rfl rfl)
theorem dX0_move_77 : decode cX0_move 77 = .ok (.aload_n 0, 1) := dk_42 (dk_at dksX0_move_3 7 rfl rfl)
theorem dX0_move_78 : decode cX0_move 78 = .ok (.getfield 63, 3) := dk_180 0 63 (dk_at dksX0_move_3 8 rfl rfl)
theorem dX0_move_81 : decode cX0_move 81 = .ok (.iload 7, 2) := dk_21 7 (dk_at dksX0_move_3 11 rfl rfl)
theorem dX0_move_83 : decode cX0_move 83 = .ok (.invokevirtual 218, 3) := dk_182 0 218 (dk_at dksX0_move_3 13 rfl rfl)
theorem dX0_move_86 : decode cX0_move 86 = .ok (.iconst (-1), 1) := dk_2 (dk_at dksX0_move_3 16 rfl rfl)
theorem dX0_move_87 : decode cX0_move 87 = .ok (.if_icmp .ne 41, 3) := dk_160 0 41 (dk_at dksX0_move_3 17 rfl rfl)
theorem dX0_move_90 : decode cX0_move 90 = .ok (.aload_n 0, 1) := dk_42 (dk_at dksX0_move_3 20 rfl rfl)
theorem dX0_move_91 : decode cX0_move 91 = .ok (.iload 5, 2) := dk_21 5 (dk_at dksX0_move_3 21 rfl rfl)
theorem dX0_move_93 : decode cX0_move 93 = .ok (.iload 7, 2) := dk_21 7 (dk_at dksX0_move_4 0 rfl rfl)
theorem dX0_move_95 : decode cX0_move 95 = .ok (.invokevirtual 221, 3) := dk_182 0 221 (dk_at dksX0_move_4 2 rfl rfl)
theorem dX0_move_98 : decode cX0_move 98 = .ok (.iload 6, 2) := dk_21 6 (dk_at dksX0_move_4 5 rfl rfl)
theorem dX0_move_100 : decode cX0_move 100 = .ok (.isub, 1) := dk_100 (dk_at dksX0_move_4 7 rfl rfl)
theorem dX0_move_101 : decode cX0_move 101 = .ok (.iload 4, 2) := dk_21 4 (dk_at dksX0_move_4 8 rfl rfl)
theorem dX0_move_103 : decode cX0_move 103 = .ok (.if_icmp .gt 6, 3) := dk_163 0 6 (dk_at dksX0_move_4 10 rfl rfl)
theorem dX0_move_106 : decode cX0_move 106 = .ok (.goto 22, 3) := dk_167 0 22 (dk_at dksX0_move_4 13 rfl rfl)
theorem dX0_move_109 : decode cX0_move 109 = .ok (.iload 5, 2) := dk_21 5 (dk_at dksX0_move_4 16 rfl rfl)
theorem dX0_move_111 : decode cX0_move 111 = .ok (.istore_n 2, 1) := dk_61 (dk_at dksX0_move_4 18 rfl rfl)
theorem dX0_move_112 : decode cX0_move 112 = .ok (.iload 7, 2) := dk_21 7 (dk_at dksX0_move_4 19 rfl rfl)
theorem dX0_move_114 : decode cX0_move 114 = .ok (.istore_n 3, 1) := dk_62 (dk_at dksX0_move_4 21 rfl rfl)
theorem dX0_move_115 : decode cX0_move 115 = .ok (.aload_n 0, 1) := dk_42 (dk_at dksX0_move_4 22 rfl rfl)
theorem dX0_move_116 : decode cX0_move 116 = .ok (.iload 5, 2) := dk_21 5 (dk_at dksX0_move_5 0 rfl rfl)
theorem dX0_move_118 : decode cX0_move 118 = .ok (.iload 7, 2) := dk_21 7 (dk_at dksX0_move_5 2 rfl rfl)
theorem dX0_move_120 : decode cX0_move 120 = .ok (.invokevirtual 221, 3) := dk_182 0 221 (dk_at dksX0_move_5 4 rfl rfl)
theorem dX0_move_123 : decode cX0_move 123 = .ok (.iload 6, 2) := dk_21 6 (dk_at dksX0_move_5 7 rfl rfl)
theorem dX0_move_125 : decode cX0_move 125 = .ok (.isub, 1) := dk_100 (dk_at dksX0_move_5 9 rfl rfl)
theorem dX0_move_126 : decode cX0_move 126 = .ok (.istore 4, 2) := dk_54 4 (dk_at dksX0_move_5 10 rfl rfl)
theorem dX0_move_128 : decode cX0_move 128 = .ok (.iinc 7 1, 3) := dk_132 7 1 (dk_at dksX0_move_5 12 rfl rfl)
theorem dX0_move_131 : decode cX0_move 131 = .ok (.goto (-61), 3) := dk_167 255 195 (dk_at dksX0_move_5 15 rfl rfl)
theorem dX0_move_134 : decode cX0_move 134 = .ok (.iinc 5 1, 3) := dk_132 5 1 (dk_at dksX0_move_5 18 rfl rfl)
theorem dX0_move_137 : decode cX0_move 137 = .ok (.goto (-117), 3) := dk_167 255 139 (dk_at dksX0_move_5 21 rfl rfl)
theorem dX0_move_140 : decode cX0_move 140 = .ok (.iload_n 2, 1) := dk_28 (dk_at dksX0_move_6 0 rfl rfl)
theorem dX0_move_141 : decode cX0_move 141 = .ok (.iload_n 3, 1) := dk_29 (dk_at dksX0_move_6 1 rfl rfl)
theorem dX0_move_142 : decode cX0_move 142 = .ok (.iload 4, 2) := dk_21 4 (dk_at dksX0_move_6 2 rfl rfl)
theorem dX0_move_144 : decode cX0_move 144 = .ok (.iload_n 1, 1) := dk_27 (dk_at dksX0_move_6 4 rfl rfl)
theorem dX0_move_145 : decode cX0_move 145 = .ok (.invokestatic 224, 3) := dk_184 0 224 (dk_at dksX0_move_6 5 rfl rfl)
theorem dX0_move_148 : decode cX0_move 148 = .ok (.ireturn, 1) := dk_172 (dk_at dksX0_move_6 8 rfl rfl)
abbrev cX0_told : ByteArray := prog_1_method_26_code
def yX0_told : MethodName := ⟨RX0, "told", "(IIII)I"⟩
def dkwX0_told_1 : List UInt8 := [167, 0, 4, 28, 172]
abbrev dktX0_told_1 : List UInt8 := dkwX0_told_1 ++ []
def dkwX0_told_0 : List UInt8 := [28, 154, 0, 8, 16, 254, 167, 0, 21, 29, 154, 0, 7, 26, 167, 0, 13, 29, 4, 160, 0, 7, 27]
abbrev dktX0_told_0 : List UInt8 := dkwX0_told_0 ++ dktX0_told_1
theorem dksX0_told_0 : cX0_told.data.toList.drop 0 = dktX0_told_0 := by decide +kernel
theorem dksX0_told_1 : cX0_told.data.toList.drop 23 = dktX0_told_1 := dk_seg dksX0_told_0 23 rfl rfl
theorem dX0_told_0 : decode cX0_told 0 = .ok (.iload_n 2, 1) := dk_28 (dk_at dksX0_told_0 0 rfl rfl)
theorem dX0_told_1 : decode cX0_told 1 = .ok (.ifCond .ne 8, 3) := dk_154 0 8 (dk_at dksX0_told_0 1 rfl rfl)
theorem dX0_told_4 : decode cX0_told 4 = .ok (.bipush (-2), 2) := dk_16 254 (dk_at dksX0_told_0 4 rfl rfl)
theorem dX0_told_6 : decode cX0_told 6 = .ok (.goto 21, 3) := dk_167 0 21 (dk_at dksX0_told_0 6 rfl rfl)
theorem dX0_told_9 : decode cX0_told 9 = .ok (.iload_n 3, 1) := dk_29 (dk_at dksX0_told_0 9 rfl rfl)
theorem dX0_told_10 : decode cX0_told 10 = .ok (.ifCond .ne 7, 3) := dk_154 0 7 (dk_at dksX0_told_0 10 rfl rfl)
theorem dX0_told_13 : decode cX0_told 13 = .ok (.iload_n 0, 1) := dk_26 (dk_at dksX0_told_0 13 rfl rfl)
theorem dX0_told_14 : decode cX0_told 14 = .ok (.goto 13, 3) := dk_167 0 13 (dk_at dksX0_told_0 14 rfl rfl)
theorem dX0_told_17 : decode cX0_told 17 = .ok (.iload_n 3, 1) := dk_29 (dk_at dksX0_told_0 17 rfl rfl)
theorem dX0_told_18 : decode cX0_told 18 = .ok (.iconst 1, 1) := dk_4 (dk_at dksX0_told_0 18 rfl rfl)
theorem dX0_told_19 : decode cX0_told 19 = .ok (.if_icmp .ne 7, 3) := dk_160 0 7 (dk_at dksX0_told_0 19 rfl rfl)
theorem dX0_told_22 : decode cX0_told 22 = .ok (.iload_n 1, 1) := dk_27 (dk_at dksX0_told_0 22 rfl rfl)
theorem dX0_told_23 : decode cX0_told 23 = .ok (.goto 4, 3) := dk_167 0 4 (dk_at dksX0_told_1 0 rfl rfl)
theorem dX0_told_26 : decode cX0_told 26 = .ok (.iload_n 2, 1) := dk_28 (dk_at dksX0_told_1 3 rfl rfl)
theorem dX0_told_27 : decode cX0_told 27 = .ok (.ireturn, 1) := dk_172 (dk_at dksX0_told_1 4 rfl rfl)
abbrev cX0_change : ByteArray := prog_1_method_29_code
def yX0_change : MethodName := ⟨RX0, "change", "(I)I"⟩
def dkwX0_change_6 : List UInt8 := [132, 7, 1, 167, 255, 155, 132, 6, 1, 167, 255, 136, 28, 29, 21, 4, 27, 184, 0, 224, 172]
abbrev dktX0_change_6 : List UInt8 := dkwX0_change_6 ++ []
def dkwX0_change_5 : List UInt8 := [182, 0, 228, 21, 10, 21, 4, 163, 0, 6, 167, 0, 13, 21, 6, 61, 21, 7, 62, 21, 10, 54, 4]
abbrev dktX0_change_5 : List UInt8 := dkwX0_change_5 ++ dktX0_change_6
def dkwX0_change_4 : List UInt8 := [25, 8, 25, 9, 182, 0, 228, 42, 180, 0, 63, 182, 0, 210, 21, 5, 100, 54, 10, 42, 25, 8, 25, 9]
abbrev dktX0_change_4 : List UInt8 := dkwX0_change_4 ++ dktX0_change_5
def dkwX0_change_3 : List UInt8 := [50, 58, 9, 25, 8, 182, 0, 183, 153, 0, 62, 25, 9, 182, 0, 183, 154, 0, 6, 167, 0, 51, 42]
abbrev dktX0_change_3 : List UInt8 := dkwX0_change_3 ++ dktX0_change_4
def dkwX0_change_2 : List UInt8 := [162, 0, 100, 42, 180, 0, 63, 180, 0, 109, 21, 6, 50, 58, 8, 42, 180, 0, 63, 180, 0, 109, 21, 7]
abbrev dktX0_change_2 : List UInt8 := dkwX0_change_2 ++ dktX0_change_3
def dkwX0_change_1 : List UInt8 := [54, 5, 3, 54, 6, 21, 6, 16, 16, 162, 0, 119, 21, 6, 4, 96, 54, 7, 21, 7, 16, 16]
abbrev dktX0_change_1 : List UInt8 := dkwX0_change_1 ++ dktX0_change_2
def dkwX0_change_0 : List UInt8 := [27, 6, 184, 0, 25, 154, 0, 5, 2, 172, 2, 61, 2, 62, 3, 54, 4, 42, 180, 0, 63, 182, 0, 210]
abbrev dktX0_change_0 : List UInt8 := dkwX0_change_0 ++ dktX0_change_1
theorem dksX0_change_0 : cX0_change.data.toList.drop 0 = dktX0_change_0 := by decide +kernel
theorem dksX0_change_1 : cX0_change.data.toList.drop 24 = dktX0_change_1 := dk_seg dksX0_change_0 24 rfl rfl
theorem dksX0_change_2 : cX0_change.data.toList.drop 46 = dktX0_change_2 := dk_seg dksX0_change_1 22 rfl rfl
theorem dksX0_change_3 : cX0_change.data.toList.drop 70 = dktX0_change_3 := dk_seg dksX0_change_2 24 rfl rfl
theorem dksX0_change_4 : cX0_change.data.toList.drop 93 = dktX0_change_4 := dk_seg dksX0_change_3 23 rfl rfl
theorem dksX0_change_5 : cX0_change.data.toList.drop 117 = dktX0_change_5 := dk_seg dksX0_change_4 24 rfl rfl
theorem dksX0_change_6 : cX0_change.data.toList.drop 140 = dktX0_change_6 := dk_seg dksX0_change_5 23 rfl rfl
theorem dX0_change_0 : decode cX0_change 0 = .ok (.iload_n 1, 1) := dk_27 (dk_at dksX0_change_0 0 rfl rfl)
theorem dX0_change_1 : decode cX0_change 1 = .ok (.iconst 3, 1) := dk_6 (dk_at dksX0_change_0 1 rfl rfl)
theorem dX0_change_2 : decode cX0_change 2 = .ok (.invokestatic 25, 3) := dk_184 0 25 (dk_at dksX0_change_0 2 rfl rfl)
theorem dX0_change_5 : decode cX0_change 5 = .ok (.ifCond .ne 5, 3) := dk_154 0 5 (dk_at dksX0_change_0 5 rfl rfl)
theorem dX0_change_8 : decode cX0_change 8 = .ok (.iconst (-1), 1) := dk_2 (dk_at dksX0_change_0 8 rfl rfl)
theorem dX0_change_9 : decode cX0_change 9 = .ok (.ireturn, 1) := dk_172 (dk_at dksX0_change_0 9 rfl rfl)
theorem dX0_change_10 : decode cX0_change 10 = .ok (.iconst (-1), 1) := dk_2 (dk_at dksX0_change_0 10 rfl rfl)
theorem dX0_change_11 : decode cX0_change 11 = .ok (.istore_n 2, 1) := dk_61 (dk_at dksX0_change_0 11 rfl rfl)
theorem dX0_change_12 : decode cX0_change 12 = .ok (.iconst (-1), 1) := dk_2 (dk_at dksX0_change_0 12 rfl rfl)
theorem dX0_change_13 : decode cX0_change 13 = .ok (.istore_n 3, 1) := dk_62 (dk_at dksX0_change_0 13 rfl rfl)
theorem dX0_change_14 : decode cX0_change 14 = .ok (.iconst 0, 1) := dk_3 (dk_at dksX0_change_0 14 rfl rfl)
theorem dX0_change_15 : decode cX0_change 15 = .ok (.istore 4, 2) := dk_54 4 (dk_at dksX0_change_0 15 rfl rfl)
theorem dX0_change_17 : decode cX0_change 17 = .ok (.aload_n 0, 1) := dk_42 (dk_at dksX0_change_0 17 rfl rfl)
theorem dX0_change_18 : decode cX0_change 18 = .ok (.getfield 63, 3) := dk_180 0 63 (dk_at dksX0_change_0 18 rfl rfl)
theorem dX0_change_21 : decode cX0_change 21 = .ok (.invokevirtual 210, 3) := dk_182 0 210 (dk_at dksX0_change_0 21 rfl rfl)
theorem dX0_change_24 : decode cX0_change 24 = .ok (.istore 5, 2) := dk_54 5 (dk_at dksX0_change_1 0 rfl rfl)
theorem dX0_change_26 : decode cX0_change 26 = .ok (.iconst 0, 1) := dk_3 (dk_at dksX0_change_1 2 rfl rfl)
theorem dX0_change_27 : decode cX0_change 27 = .ok (.istore 6, 2) := dk_54 6 (dk_at dksX0_change_1 3 rfl rfl)
theorem dX0_change_29 : decode cX0_change 29 = .ok (.iload 6, 2) := dk_21 6 (dk_at dksX0_change_1 5 rfl rfl)
theorem dX0_change_31 : decode cX0_change 31 = .ok (.bipush 16, 2) := dk_16 16 (dk_at dksX0_change_1 7 rfl rfl)
theorem dX0_change_33 : decode cX0_change 33 = .ok (.if_icmp .ge 119, 3) := dk_162 0 119 (dk_at dksX0_change_1 9 rfl rfl)
theorem dX0_change_36 : decode cX0_change 36 = .ok (.iload 6, 2) := dk_21 6 (dk_at dksX0_change_1 12 rfl rfl)
theorem dX0_change_38 : decode cX0_change 38 = .ok (.iconst 1, 1) := dk_4 (dk_at dksX0_change_1 14 rfl rfl)
theorem dX0_change_39 : decode cX0_change 39 = .ok (.iadd, 1) := dk_96 (dk_at dksX0_change_1 15 rfl rfl)
theorem dX0_change_40 : decode cX0_change 40 = .ok (.istore 7, 2) := dk_54 7 (dk_at dksX0_change_1 16 rfl rfl)
theorem dX0_change_42 : decode cX0_change 42 = .ok (.iload 7, 2) := dk_21 7 (dk_at dksX0_change_1 18 rfl rfl)
theorem dX0_change_44 : decode cX0_change 44 = .ok (.bipush 16, 2) := dk_16 16 (dk_at dksX0_change_1 20 rfl rfl)
theorem dX0_change_46 : decode cX0_change 46 = .ok (.if_icmp .ge 100, 3) := dk_162 0 100 (dk_at dksX0_change_2 0 rfl rfl)
theorem dX0_change_49 : decode cX0_change 49 = .ok (.aload_n 0, 1) := dk_42 (dk_at dksX0_change_2 3 rfl rfl)
theorem dX0_change_50 : decode cX0_change 50 = .ok (.getfield 63, 3) := dk_180 0 63 (dk_at dksX0_change_2 4 rfl rfl)
theorem dX0_change_53 : decode cX0_change 53 = .ok (.getfield 109, 3) := dk_180 0 109 (dk_at dksX0_change_2 7 rfl rfl)
theorem dX0_change_56 : decode cX0_change 56 = .ok (.iload 6, 2) := dk_21 6 (dk_at dksX0_change_2 10 rfl rfl)
theorem dX0_change_58 : decode cX0_change 58 = .ok (.aaload, 1) := dk_50 (dk_at dksX0_change_2 12 rfl rfl)
theorem dX0_change_59 : decode cX0_change 59 = .ok (.astore 8, 2) := dk_58 8 (dk_at dksX0_change_2 13 rfl rfl)
theorem dX0_change_61 : decode cX0_change 61 = .ok (.aload_n 0, 1) := dk_42 (dk_at dksX0_change_2 15 rfl rfl)
theorem dX0_change_62 : decode cX0_change 62 = .ok (.getfield 63, 3) := dk_180 0 63 (dk_at dksX0_change_2 16 rfl rfl)
theorem dX0_change_65 : decode cX0_change 65 = .ok (.getfield 109, 3) := dk_180 0 109 (dk_at dksX0_change_2 19 rfl rfl)
theorem dX0_change_68 : decode cX0_change 68 = .ok (.iload 7, 2) := dk_21 7 (dk_at dksX0_change_2 22 rfl rfl)
theorem dX0_change_70 : decode cX0_change 70 = .ok (.aaload, 1) := dk_50 (dk_at dksX0_change_3 0 rfl rfl)
theorem dX0_change_71 : decode cX0_change 71 = .ok (.astore 9, 2) := dk_58 9 (dk_at dksX0_change_3 1 rfl rfl)
theorem dX0_change_73 : decode cX0_change 73 = .ok (.aload 8, 2) := dk_25 8 (dk_at dksX0_change_3 3 rfl rfl)
theorem dX0_change_75 : decode cX0_change 75 = .ok (.invokevirtual 183, 3) := dk_182 0 183 (dk_at dksX0_change_3 5 rfl rfl)
theorem dX0_change_78 : decode cX0_change 78 = .ok (.ifCond .eq 62, 3) := dk_153 0 62 (dk_at dksX0_change_3 8 rfl rfl)
theorem dX0_change_81 : decode cX0_change 81 = .ok (.aload 9, 2) := dk_25 9 (dk_at dksX0_change_3 11 rfl rfl)
theorem dX0_change_83 : decode cX0_change 83 = .ok (.invokevirtual 183, 3) := dk_182 0 183 (dk_at dksX0_change_3 13 rfl rfl)
theorem dX0_change_86 : decode cX0_change 86 = .ok (.ifCond .ne 6, 3) := dk_154 0 6 (dk_at dksX0_change_3 16 rfl rfl)
theorem dX0_change_89 : decode cX0_change 89 = .ok (.goto 51, 3) := dk_167 0 51 (dk_at dksX0_change_3 19 rfl rfl)
theorem dX0_change_92 : decode cX0_change 92 = .ok (.aload_n 0, 1) := dk_42 (dk_at dksX0_change_3 22 rfl rfl)
theorem dX0_change_93 : decode cX0_change 93 = .ok (.aload 8, 2) := dk_25 8 (dk_at dksX0_change_4 0 rfl rfl)
theorem dX0_change_95 : decode cX0_change 95 = .ok (.aload 9, 2) := dk_25 9 (dk_at dksX0_change_4 2 rfl rfl)
theorem dX0_change_97 : decode cX0_change 97 = .ok (.invokevirtual 228, 3) := dk_182 0 228 (dk_at dksX0_change_4 4 rfl rfl)
theorem dX0_change_100 : decode cX0_change 100 = .ok (.aload_n 0, 1) := dk_42 (dk_at dksX0_change_4 7 rfl rfl)
theorem dX0_change_101 : decode cX0_change 101 = .ok (.getfield 63, 3) := dk_180 0 63 (dk_at dksX0_change_4 8 rfl rfl)
theorem dX0_change_104 : decode cX0_change 104 = .ok (.invokevirtual 210, 3) := dk_182 0 210 (dk_at dksX0_change_4 11 rfl rfl)
theorem dX0_change_107 : decode cX0_change 107 = .ok (.iload 5, 2) := dk_21 5 (dk_at dksX0_change_4 14 rfl rfl)
theorem dX0_change_109 : decode cX0_change 109 = .ok (.isub, 1) := dk_100 (dk_at dksX0_change_4 16 rfl rfl)
theorem dX0_change_110 : decode cX0_change 110 = .ok (.istore 10, 2) := dk_54 10 (dk_at dksX0_change_4 17 rfl rfl)
theorem dX0_change_112 : decode cX0_change 112 = .ok (.aload_n 0, 1) := dk_42 (dk_at dksX0_change_4 19 rfl rfl)
theorem dX0_change_113 : decode cX0_change 113 = .ok (.aload 8, 2) := dk_25 8 (dk_at dksX0_change_4 20 rfl rfl)
theorem dX0_change_115 : decode cX0_change 115 = .ok (.aload 9, 2) := dk_25 9 (dk_at dksX0_change_4 22 rfl rfl)
theorem dX0_change_117 : decode cX0_change 117 = .ok (.invokevirtual 228, 3) := dk_182 0 228 (dk_at dksX0_change_5 0 rfl rfl)
theorem dX0_change_120 : decode cX0_change 120 = .ok (.iload 10, 2) := dk_21 10 (dk_at dksX0_change_5 3 rfl rfl)
theorem dX0_change_122 : decode cX0_change 122 = .ok (.iload 4, 2) := dk_21 4 (dk_at dksX0_change_5 5 rfl rfl)
theorem dX0_change_124 : decode cX0_change 124 = .ok (.if_icmp .gt 6, 3) := dk_163 0 6 (dk_at dksX0_change_5 7 rfl rfl)
theorem dX0_change_127 : decode cX0_change 127 = .ok (.goto 13, 3) := dk_167 0 13 (dk_at dksX0_change_5 10 rfl rfl)
theorem dX0_change_130 : decode cX0_change 130 = .ok (.iload 6, 2) := dk_21 6 (dk_at dksX0_change_5 13 rfl rfl)
theorem dX0_change_132 : decode cX0_change 132 = .ok (.istore_n 2, 1) := dk_61 (dk_at dksX0_change_5 15 rfl rfl)
theorem dX0_change_133 : decode cX0_change 133 = .ok (.iload 7, 2) := dk_21 7 (dk_at dksX0_change_5 16 rfl rfl)
theorem dX0_change_135 : decode cX0_change 135 = .ok (.istore_n 3, 1) := dk_62 (dk_at dksX0_change_5 18 rfl rfl)
theorem dX0_change_136 : decode cX0_change 136 = .ok (.iload 10, 2) := dk_21 10 (dk_at dksX0_change_5 19 rfl rfl)
theorem dX0_change_138 : decode cX0_change 138 = .ok (.istore 4, 2) := dk_54 4 (dk_at dksX0_change_5 21 rfl rfl)
theorem dX0_change_140 : decode cX0_change 140 = .ok (.iinc 7 1, 3) := dk_132 7 1 (dk_at dksX0_change_6 0 rfl rfl)
theorem dX0_change_143 : decode cX0_change 143 = .ok (.goto (-101), 3) := dk_167 255 155 (dk_at dksX0_change_6 3 rfl rfl)
theorem dX0_change_146 : decode cX0_change 146 = .ok (.iinc 6 1, 3) := dk_132 6 1 (dk_at dksX0_change_6 6 rfl rfl)
theorem dX0_change_149 : decode cX0_change 149 = .ok (.goto (-120), 3) := dk_167 255 136 (dk_at dksX0_change_6 9 rfl rfl)
theorem dX0_change_152 : decode cX0_change 152 = .ok (.iload_n 2, 1) := dk_28 (dk_at dksX0_change_6 12 rfl rfl)
theorem dX0_change_153 : decode cX0_change 153 = .ok (.iload_n 3, 1) := dk_29 (dk_at dksX0_change_6 13 rfl rfl)
theorem dX0_change_154 : decode cX0_change 154 = .ok (.iload 4, 2) := dk_21 4 (dk_at dksX0_change_6 14 rfl rfl)
theorem dX0_change_156 : decode cX0_change 156 = .ok (.iload_n 1, 1) := dk_27 (dk_at dksX0_change_6 16 rfl rfl)
theorem dX0_change_157 : decode cX0_change 157 = .ok (.invokestatic 224, 3) := dk_184 0 224 (dk_at dksX0_change_6 17 rfl rfl)
theorem dX0_change_160 : decode cX0_change 160 = .ok (.ireturn, 1) := dk_172 (dk_at dksX0_change_6 20 rfl rfl)
abbrev cX0_swaps : ByteArray := prog_1_method_28_code
def yX0_swaps : MethodName := ⟨RX0, "swaps", "(LTalkingPlots$Person;LTalkingPlots$Person;)V"⟩
def dkwX0_swaps_0 : List UInt8 := [43, 180, 0, 130, 62, 43, 44, 180, 0, 130, 181, 0, 130, 44, 29, 181, 0, 130, 177]
abbrev dktX0_swaps_0 : List UInt8 := dkwX0_swaps_0 ++ []
theorem dksX0_swaps_0 : cX0_swaps.data.toList.drop 0 = dktX0_swaps_0 := by decide +kernel
theorem dX0_swaps_0 : decode cX0_swaps 0 = .ok (.aload_n 1, 1) := dk_43 (dk_at dksX0_swaps_0 0 rfl rfl)
theorem dX0_swaps_1 : decode cX0_swaps 1 = .ok (.getfield 130, 3) := dk_180 0 130 (dk_at dksX0_swaps_0 1 rfl rfl)
theorem dX0_swaps_4 : decode cX0_swaps 4 = .ok (.istore_n 3, 1) := dk_62 (dk_at dksX0_swaps_0 4 rfl rfl)
theorem dX0_swaps_5 : decode cX0_swaps 5 = .ok (.aload_n 1, 1) := dk_43 (dk_at dksX0_swaps_0 5 rfl rfl)
theorem dX0_swaps_6 : decode cX0_swaps 6 = .ok (.aload_n 2, 1) := dk_44 (dk_at dksX0_swaps_0 6 rfl rfl)
theorem dX0_swaps_7 : decode cX0_swaps 7 = .ok (.getfield 130, 3) := dk_180 0 130 (dk_at dksX0_swaps_0 7 rfl rfl)
theorem dX0_swaps_10 : decode cX0_swaps 10 = .ok (.putfield 130, 3) := dk_181 0 130 (dk_at dksX0_swaps_0 10 rfl rfl)
theorem dX0_swaps_13 : decode cX0_swaps 13 = .ok (.aload_n 2, 1) := dk_44 (dk_at dksX0_swaps_0 13 rfl rfl)
theorem dX0_swaps_14 : decode cX0_swaps 14 = .ok (.iload_n 3, 1) := dk_29 (dk_at dksX0_swaps_0 14 rfl rfl)
theorem dX0_swaps_15 : decode cX0_swaps 15 = .ok (.putfield 130, 3) := dk_181 0 130 (dk_at dksX0_swaps_0 15 rfl rfl)
theorem dX0_swaps_18 : decode cX0_swaps 18 = .ok (.return_, 1) := dk_177 (dk_at dksX0_swaps_0 18 rfl rfl)
abbrev cX0_hold : ByteArray := prog_1_method_32_code
def yX0_hold : MethodName := ⟨RX0, "hold", "(I)I"⟩
def dkwX0_hold_2 : List UInt8 := [21, 4, 62, 132, 4, 1, 167, 255, 220, 27, 154, 0, 7, 28, 167, 0, 4, 29, 172]
abbrev dktX0_hold_2 : List UInt8 := dkwX0_hold_2 ++ []
def dkwX0_hold_1 : List UInt8 := [162, 0, 33, 42, 21, 4, 182, 0, 238, 153, 0, 9, 132, 2, 1, 167, 0, 12, 29, 16, 254, 160, 0, 6]
abbrev dktX0_hold_1 : List UInt8 := dkwX0_hold_1 ++ dktX0_hold_2
def dkwX0_hold_0 : List UInt8 := [27, 5, 184, 0, 25, 154, 0, 5, 2, 172, 3, 61, 16, 254, 62, 3, 54, 4, 21, 4, 42, 180, 0, 164]
abbrev dktX0_hold_0 : List UInt8 := dkwX0_hold_0 ++ dktX0_hold_1
theorem dksX0_hold_0 : cX0_hold.data.toList.drop 0 = dktX0_hold_0 := by decide +kernel
theorem dksX0_hold_1 : cX0_hold.data.toList.drop 24 = dktX0_hold_1 := dk_seg dksX0_hold_0 24 rfl rfl
theorem dksX0_hold_2 : cX0_hold.data.toList.drop 48 = dktX0_hold_2 := dk_seg dksX0_hold_1 24 rfl rfl
theorem dX0_hold_0 : decode cX0_hold 0 = .ok (.iload_n 1, 1) := dk_27 (dk_at dksX0_hold_0 0 rfl rfl)
theorem dX0_hold_1 : decode cX0_hold 1 = .ok (.iconst 2, 1) := dk_5 (dk_at dksX0_hold_0 1 rfl rfl)
theorem dX0_hold_2 : decode cX0_hold 2 = .ok (.invokestatic 25, 3) := dk_184 0 25 (dk_at dksX0_hold_0 2 rfl rfl)
theorem dX0_hold_5 : decode cX0_hold 5 = .ok (.ifCond .ne 5, 3) := dk_154 0 5 (dk_at dksX0_hold_0 5 rfl rfl)
theorem dX0_hold_8 : decode cX0_hold 8 = .ok (.iconst (-1), 1) := dk_2 (dk_at dksX0_hold_0 8 rfl rfl)
theorem dX0_hold_9 : decode cX0_hold 9 = .ok (.ireturn, 1) := dk_172 (dk_at dksX0_hold_0 9 rfl rfl)
theorem dX0_hold_10 : decode cX0_hold 10 = .ok (.iconst 0, 1) := dk_3 (dk_at dksX0_hold_0 10 rfl rfl)
theorem dX0_hold_11 : decode cX0_hold 11 = .ok (.istore_n 2, 1) := dk_61 (dk_at dksX0_hold_0 11 rfl rfl)
theorem dX0_hold_12 : decode cX0_hold 12 = .ok (.bipush (-2), 2) := dk_16 254 (dk_at dksX0_hold_0 12 rfl rfl)
theorem dX0_hold_14 : decode cX0_hold 14 = .ok (.istore_n 3, 1) := dk_62 (dk_at dksX0_hold_0 14 rfl rfl)
theorem dX0_hold_15 : decode cX0_hold 15 = .ok (.iconst 0, 1) := dk_3 (dk_at dksX0_hold_0 15 rfl rfl)
theorem dX0_hold_16 : decode cX0_hold 16 = .ok (.istore 4, 2) := dk_54 4 (dk_at dksX0_hold_0 16 rfl rfl)
theorem dX0_hold_18 : decode cX0_hold 18 = .ok (.iload 4, 2) := dk_21 4 (dk_at dksX0_hold_0 18 rfl rfl)
theorem dX0_hold_20 : decode cX0_hold 20 = .ok (.aload_n 0, 1) := dk_42 (dk_at dksX0_hold_0 20 rfl rfl)
theorem dX0_hold_21 : decode cX0_hold 21 = .ok (.getfield 164, 3) := dk_180 0 164 (dk_at dksX0_hold_0 21 rfl rfl)
theorem dX0_hold_24 : decode cX0_hold 24 = .ok (.if_icmp .ge 33, 3) := dk_162 0 33 (dk_at dksX0_hold_1 0 rfl rfl)
theorem dX0_hold_27 : decode cX0_hold 27 = .ok (.aload_n 0, 1) := dk_42 (dk_at dksX0_hold_1 3 rfl rfl)
theorem dX0_hold_28 : decode cX0_hold 28 = .ok (.iload 4, 2) := dk_21 4 (dk_at dksX0_hold_1 4 rfl rfl)
theorem dX0_hold_30 : decode cX0_hold 30 = .ok (.invokevirtual 238, 3) := dk_182 0 238 (dk_at dksX0_hold_1 6 rfl rfl)
theorem dX0_hold_33 : decode cX0_hold 33 = .ok (.ifCond .eq 9, 3) := dk_153 0 9 (dk_at dksX0_hold_1 9 rfl rfl)
theorem dX0_hold_36 : decode cX0_hold 36 = .ok (.iinc 2 1, 3) := dk_132 2 1 (dk_at dksX0_hold_1 12 rfl rfl)
theorem dX0_hold_39 : decode cX0_hold 39 = .ok (.goto 12, 3) := dk_167 0 12 (dk_at dksX0_hold_1 15 rfl rfl)
theorem dX0_hold_42 : decode cX0_hold 42 = .ok (.iload_n 3, 1) := dk_29 (dk_at dksX0_hold_1 18 rfl rfl)
theorem dX0_hold_43 : decode cX0_hold 43 = .ok (.bipush (-2), 2) := dk_16 254 (dk_at dksX0_hold_1 19 rfl rfl)
theorem dX0_hold_45 : decode cX0_hold 45 = .ok (.if_icmp .ne 6, 3) := dk_160 0 6 (dk_at dksX0_hold_1 21 rfl rfl)
theorem dX0_hold_48 : decode cX0_hold 48 = .ok (.iload 4, 2) := dk_21 4 (dk_at dksX0_hold_2 0 rfl rfl)
theorem dX0_hold_50 : decode cX0_hold 50 = .ok (.istore_n 3, 1) := dk_62 (dk_at dksX0_hold_2 2 rfl rfl)
theorem dX0_hold_51 : decode cX0_hold 51 = .ok (.iinc 4 1, 3) := dk_132 4 1 (dk_at dksX0_hold_2 3 rfl rfl)
theorem dX0_hold_54 : decode cX0_hold 54 = .ok (.goto (-36), 3) := dk_167 255 220 (dk_at dksX0_hold_2 6 rfl rfl)
theorem dX0_hold_57 : decode cX0_hold 57 = .ok (.iload_n 1, 1) := dk_27 (dk_at dksX0_hold_2 9 rfl rfl)
theorem dX0_hold_58 : decode cX0_hold 58 = .ok (.ifCond .ne 7, 3) := dk_154 0 7 (dk_at dksX0_hold_2 10 rfl rfl)
theorem dX0_hold_61 : decode cX0_hold 61 = .ok (.iload_n 2, 1) := dk_28 (dk_at dksX0_hold_2 13 rfl rfl)
theorem dX0_hold_62 : decode cX0_hold 62 = .ok (.goto 4, 3) := dk_167 0 4 (dk_at dksX0_hold_2 14 rfl rfl)
theorem dX0_hold_65 : decode cX0_hold 65 = .ok (.iload_n 3, 1) := dk_29 (dk_at dksX0_hold_2 17 rfl rfl)
theorem dX0_hold_66 : decode cX0_hold 66 = .ok (.ireturn, 1) := dk_172 (dk_at dksX0_hold_2 18 rfl rfl)
abbrev cX0_holds : ByteArray := prog_1_method_31_code
def yX0_holds : MethodName := ⟨RX0, "holds", "(I)Z"⟩
def dkwX0_holds_5 : List UInt8 := [167, 0, 4, 3, 172, 44, 182, 0, 183, 153, 0, 11, 29, 154, 0, 7, 4, 167, 0, 4, 3, 172]
abbrev dktX0_holds_5 : List UInt8 := dkwX0_holds_5 ++ []
def dkwX0_holds_4 : List UInt8 := [4, 167, 0, 4, 3, 172, 44, 182, 0, 183, 153, 0, 17, 44, 180, 0, 130, 184, 0, 235, 153, 0, 7, 4]
abbrev dktX0_holds_4 : List UInt8 := dkwX0_holds_4 ++ dktX0_holds_5
def dkwX0_holds_3 : List UInt8 := [29, 42, 180, 0, 81, 27, 46, 184, 0, 232, 172, 29, 42, 180, 0, 81, 27, 46, 184, 0, 232, 154, 0, 7]
abbrev dktX0_holds_3 : List UInt8 := dkwX0_holds_3 ++ dktX0_holds_4
def dkwX0_holds_2 : List UInt8 := [171, 0, 0, 0, 86, 0, 0, 0, 3, 0, 0, 0, 35, 0, 0, 0, 63, 0, 0, 0, 43, 0, 0, 0, 33, 0, 0, 0, 45, 0, 0, 0, 44]
abbrev dktX0_holds_2 : List UInt8 := dkwX0_holds_2 ++ dktX0_holds_3
def dkwX0_holds_1 : List UInt8 := [46, 182, 0, 200, 62, 42, 180, 0, 84, 27, 46]
abbrev dktX0_holds_1 : List UInt8 := dkwX0_holds_1 ++ dktX0_holds_2
def dkwX0_holds_0 : List UInt8 := [42, 180, 0, 63, 180, 0, 109, 42, 180, 0, 78, 27, 46, 50, 77, 42, 180, 0, 63, 42, 180, 0, 78, 27]
abbrev dktX0_holds_0 : List UInt8 := dkwX0_holds_0 ++ dktX0_holds_1
theorem dksX0_holds_0 : cX0_holds.data.toList.drop 0 = dktX0_holds_0 := by decide +kernel
theorem dksX0_holds_1 : cX0_holds.data.toList.drop 24 = dktX0_holds_1 := dk_seg dksX0_holds_0 24 rfl rfl
theorem dksX0_holds_2 : cX0_holds.data.toList.drop 35 = dktX0_holds_2 := dk_seg dksX0_holds_1 11 rfl rfl
theorem dksX0_holds_3 : cX0_holds.data.toList.drop 68 = dktX0_holds_3 := dk_seg dksX0_holds_2 33 rfl rfl
theorem dksX0_holds_4 : cX0_holds.data.toList.drop 92 = dktX0_holds_4 := dk_seg dksX0_holds_3 24 rfl rfl
theorem dksX0_holds_5 : cX0_holds.data.toList.drop 116 = dktX0_holds_5 := dk_seg dksX0_holds_4 24 rfl rfl
theorem dX0_holds_0 : decode cX0_holds 0 = .ok (.aload_n 0, 1) := dk_42 (dk_at dksX0_holds_0 0 rfl rfl)
theorem dX0_holds_1 : decode cX0_holds 1 = .ok (.getfield 63, 3) := dk_180 0 63 (dk_at dksX0_holds_0 1 rfl rfl)
theorem dX0_holds_4 : decode cX0_holds 4 = .ok (.getfield 109, 3) := dk_180 0 109 (dk_at dksX0_holds_0 4 rfl rfl)
theorem dX0_holds_7 : decode cX0_holds 7 = .ok (.aload_n 0, 1) := dk_42 (dk_at dksX0_holds_0 7 rfl rfl)
theorem dX0_holds_8 : decode cX0_holds 8 = .ok (.getfield 78, 3) := dk_180 0 78 (dk_at dksX0_holds_0 8 rfl rfl)
theorem dX0_holds_11 : decode cX0_holds 11 = .ok (.iload_n 1, 1) := dk_27 (dk_at dksX0_holds_0 11 rfl rfl)
theorem dX0_holds_12 : decode cX0_holds 12 = .ok (.iaload, 1) := dk_46 (dk_at dksX0_holds_0 12 rfl rfl)
theorem dX0_holds_13 : decode cX0_holds 13 = .ok (.aaload, 1) := dk_50 (dk_at dksX0_holds_0 13 rfl rfl)
theorem dX0_holds_14 : decode cX0_holds 14 = .ok (.astore_n 2, 1) := dk_77 (dk_at dksX0_holds_0 14 rfl rfl)
theorem dX0_holds_15 : decode cX0_holds 15 = .ok (.aload_n 0, 1) := dk_42 (dk_at dksX0_holds_0 15 rfl rfl)
theorem dX0_holds_16 : decode cX0_holds 16 = .ok (.getfield 63, 3) := dk_180 0 63 (dk_at dksX0_holds_0 16 rfl rfl)
theorem dX0_holds_19 : decode cX0_holds 19 = .ok (.aload_n 0, 1) := dk_42 (dk_at dksX0_holds_0 19 rfl rfl)
theorem dX0_holds_20 : decode cX0_holds 20 = .ok (.getfield 78, 3) := dk_180 0 78 (dk_at dksX0_holds_0 20 rfl rfl)
theorem dX0_holds_23 : decode cX0_holds 23 = .ok (.iload_n 1, 1) := dk_27 (dk_at dksX0_holds_0 23 rfl rfl)
theorem dX0_holds_24 : decode cX0_holds 24 = .ok (.iaload, 1) := dk_46 (dk_at dksX0_holds_1 0 rfl rfl)
theorem dX0_holds_25 : decode cX0_holds 25 = .ok (.invokevirtual 200, 3) := dk_182 0 200 (dk_at dksX0_holds_1 1 rfl rfl)
theorem dX0_holds_28 : decode cX0_holds 28 = .ok (.istore_n 3, 1) := dk_62 (dk_at dksX0_holds_1 4 rfl rfl)
theorem dX0_holds_29 : decode cX0_holds 29 = .ok (.aload_n 0, 1) := dk_42 (dk_at dksX0_holds_1 5 rfl rfl)
theorem dX0_holds_30 : decode cX0_holds 30 = .ok (.getfield 84, 3) := dk_180 0 84 (dk_at dksX0_holds_1 6 rfl rfl)
theorem dX0_holds_33 : decode cX0_holds 33 = .ok (.iload_n 1, 1) := dk_27 (dk_at dksX0_holds_1 9 rfl rfl)
theorem dX0_holds_34 : decode cX0_holds 34 = .ok (.iaload, 1) := dk_46 (dk_at dksX0_holds_1 10 rfl rfl)
theorem dX0_holds_35 : decode cX0_holds 35 = .ok (.lookupswitch 86 #[(35, 63), (43, 33), (45, 44)], 33) := by decide +kernel
theorem dX0_holds_68 : decode cX0_holds 68 = .ok (.iload_n 3, 1) := dk_29 (dk_at dksX0_holds_3 0 rfl rfl)
theorem dX0_holds_69 : decode cX0_holds 69 = .ok (.aload_n 0, 1) := dk_42 (dk_at dksX0_holds_3 1 rfl rfl)
theorem dX0_holds_70 : decode cX0_holds 70 = .ok (.getfield 81, 3) := dk_180 0 81 (dk_at dksX0_holds_3 2 rfl rfl)
theorem dX0_holds_73 : decode cX0_holds 73 = .ok (.iload_n 1, 1) := dk_27 (dk_at dksX0_holds_3 5 rfl rfl)
theorem dX0_holds_74 : decode cX0_holds 74 = .ok (.iaload, 1) := dk_46 (dk_at dksX0_holds_3 6 rfl rfl)
theorem dX0_holds_75 : decode cX0_holds 75 = .ok (.invokestatic 232, 3) := dk_184 0 232 (dk_at dksX0_holds_3 7 rfl rfl)
theorem dX0_holds_78 : decode cX0_holds 78 = .ok (.ireturn, 1) := dk_172 (dk_at dksX0_holds_3 10 rfl rfl)
theorem dX0_holds_79 : decode cX0_holds 79 = .ok (.iload_n 3, 1) := dk_29 (dk_at dksX0_holds_3 11 rfl rfl)
theorem dX0_holds_80 : decode cX0_holds 80 = .ok (.aload_n 0, 1) := dk_42 (dk_at dksX0_holds_3 12 rfl rfl)
theorem dX0_holds_81 : decode cX0_holds 81 = .ok (.getfield 81, 3) := dk_180 0 81 (dk_at dksX0_holds_3 13 rfl rfl)
theorem dX0_holds_84 : decode cX0_holds 84 = .ok (.iload_n 1, 1) := dk_27 (dk_at dksX0_holds_3 16 rfl rfl)
theorem dX0_holds_85 : decode cX0_holds 85 = .ok (.iaload, 1) := dk_46 (dk_at dksX0_holds_3 17 rfl rfl)
theorem dX0_holds_86 : decode cX0_holds 86 = .ok (.invokestatic 232, 3) := dk_184 0 232 (dk_at dksX0_holds_3 18 rfl rfl)
theorem dX0_holds_89 : decode cX0_holds 89 = .ok (.ifCond .ne 7, 3) := dk_154 0 7 (dk_at dksX0_holds_3 21 rfl rfl)
theorem dX0_holds_92 : decode cX0_holds 92 = .ok (.iconst 1, 1) := dk_4 (dk_at dksX0_holds_4 0 rfl rfl)
theorem dX0_holds_93 : decode cX0_holds 93 = .ok (.goto 4, 3) := dk_167 0 4 (dk_at dksX0_holds_4 1 rfl rfl)
theorem dX0_holds_96 : decode cX0_holds 96 = .ok (.iconst 0, 1) := dk_3 (dk_at dksX0_holds_4 4 rfl rfl)
theorem dX0_holds_97 : decode cX0_holds 97 = .ok (.ireturn, 1) := dk_172 (dk_at dksX0_holds_4 5 rfl rfl)
theorem dX0_holds_98 : decode cX0_holds 98 = .ok (.aload_n 2, 1) := dk_44 (dk_at dksX0_holds_4 6 rfl rfl)
theorem dX0_holds_99 : decode cX0_holds 99 = .ok (.invokevirtual 183, 3) := dk_182 0 183 (dk_at dksX0_holds_4 7 rfl rfl)
theorem dX0_holds_102 : decode cX0_holds 102 = .ok (.ifCond .eq 17, 3) := dk_153 0 17 (dk_at dksX0_holds_4 10 rfl rfl)
theorem dX0_holds_105 : decode cX0_holds 105 = .ok (.aload_n 2, 1) := dk_44 (dk_at dksX0_holds_4 13 rfl rfl)
theorem dX0_holds_106 : decode cX0_holds 106 = .ok (.getfield 130, 3) := dk_180 0 130 (dk_at dksX0_holds_4 14 rfl rfl)
theorem dX0_holds_109 : decode cX0_holds 109 = .ok (.invokestatic 235, 3) := dk_184 0 235 (dk_at dksX0_holds_4 17 rfl rfl)
theorem dX0_holds_112 : decode cX0_holds 112 = .ok (.ifCond .eq 7, 3) := dk_153 0 7 (dk_at dksX0_holds_4 20 rfl rfl)
theorem dX0_holds_115 : decode cX0_holds 115 = .ok (.iconst 1, 1) := dk_4 (dk_at dksX0_holds_4 23 rfl rfl)
theorem dX0_holds_116 : decode cX0_holds 116 = .ok (.goto 4, 3) := dk_167 0 4 (dk_at dksX0_holds_5 0 rfl rfl)
theorem dX0_holds_119 : decode cX0_holds 119 = .ok (.iconst 0, 1) := dk_3 (dk_at dksX0_holds_5 3 rfl rfl)
theorem dX0_holds_120 : decode cX0_holds 120 = .ok (.ireturn, 1) := dk_172 (dk_at dksX0_holds_5 4 rfl rfl)
theorem dX0_holds_121 : decode cX0_holds 121 = .ok (.aload_n 2, 1) := dk_44 (dk_at dksX0_holds_5 5 rfl rfl)
theorem dX0_holds_122 : decode cX0_holds 122 = .ok (.invokevirtual 183, 3) := dk_182 0 183 (dk_at dksX0_holds_5 6 rfl rfl)
theorem dX0_holds_125 : decode cX0_holds 125 = .ok (.ifCond .eq 11, 3) := dk_153 0 11 (dk_at dksX0_holds_5 9 rfl rfl)
theorem dX0_holds_128 : decode cX0_holds 128 = .ok (.iload_n 3, 1) := dk_29 (dk_at dksX0_holds_5 12 rfl rfl)
theorem dX0_holds_129 : decode cX0_holds 129 = .ok (.ifCond .ne 7, 3) := dk_154 0 7 (dk_at dksX0_holds_5 13 rfl rfl)
theorem dX0_holds_132 : decode cX0_holds 132 = .ok (.iconst 1, 1) := dk_4 (dk_at dksX0_holds_5 16 rfl rfl)
theorem dX0_holds_133 : decode cX0_holds 133 = .ok (.goto 4, 3) := dk_167 0 4 (dk_at dksX0_holds_5 17 rfl rfl)
theorem dX0_holds_136 : decode cX0_holds 136 = .ok (.iconst 0, 1) := dk_3 (dk_at dksX0_holds_5 20 rfl rfl)
theorem dX0_holds_137 : decode cX0_holds 137 = .ok (.ireturn, 1) := dk_172 (dk_at dksX0_holds_5 21 rfl rfl)
abbrev cX0_isWall : ByteArray := prog_1_method_30_code
def yX0_isWall : MethodName := ⟨RX0, "isWall", "(I)Z"⟩
def dkwX0_isWall_1 : List UInt8 := [16, 10, 108, 8, 160, 0, 7, 4, 167, 0, 4, 3, 172]
abbrev dktX0_isWall_1 : List UInt8 := dkwX0_isWall_1 ++ []
def dkwX0_isWall_0 : List UInt8 := [26, 16, 10, 112, 153, 0, 27, 26, 16, 10, 112, 16, 9, 159, 0, 18, 26, 16, 10, 108, 153, 0, 11, 26]
abbrev dktX0_isWall_0 : List UInt8 := dkwX0_isWall_0 ++ dktX0_isWall_1
theorem dksX0_isWall_0 : cX0_isWall.data.toList.drop 0 = dktX0_isWall_0 := by decide +kernel
theorem dksX0_isWall_1 : cX0_isWall.data.toList.drop 24 = dktX0_isWall_1 := dk_seg dksX0_isWall_0 24 rfl rfl
theorem dX0_isWall_0 : decode cX0_isWall 0 = .ok (.iload_n 0, 1) := dk_26 (dk_at dksX0_isWall_0 0 rfl rfl)
theorem dX0_isWall_1 : decode cX0_isWall 1 = .ok (.bipush 10, 2) := dk_16 10 (dk_at dksX0_isWall_0 1 rfl rfl)
theorem dX0_isWall_3 : decode cX0_isWall 3 = .ok (.irem, 1) := dk_112 (dk_at dksX0_isWall_0 3 rfl rfl)
theorem dX0_isWall_4 : decode cX0_isWall 4 = .ok (.ifCond .eq 27, 3) := dk_153 0 27 (dk_at dksX0_isWall_0 4 rfl rfl)
theorem dX0_isWall_7 : decode cX0_isWall 7 = .ok (.iload_n 0, 1) := dk_26 (dk_at dksX0_isWall_0 7 rfl rfl)
theorem dX0_isWall_8 : decode cX0_isWall 8 = .ok (.bipush 10, 2) := dk_16 10 (dk_at dksX0_isWall_0 8 rfl rfl)
theorem dX0_isWall_10 : decode cX0_isWall 10 = .ok (.irem, 1) := dk_112 (dk_at dksX0_isWall_0 10 rfl rfl)
theorem dX0_isWall_11 : decode cX0_isWall 11 = .ok (.bipush 9, 2) := dk_16 9 (dk_at dksX0_isWall_0 11 rfl rfl)
theorem dX0_isWall_13 : decode cX0_isWall 13 = .ok (.if_icmp .eq 18, 3) := dk_159 0 18 (dk_at dksX0_isWall_0 13 rfl rfl)
theorem dX0_isWall_16 : decode cX0_isWall 16 = .ok (.iload_n 0, 1) := dk_26 (dk_at dksX0_isWall_0 16 rfl rfl)
theorem dX0_isWall_17 : decode cX0_isWall 17 = .ok (.bipush 10, 2) := dk_16 10 (dk_at dksX0_isWall_0 17 rfl rfl)
theorem dX0_isWall_19 : decode cX0_isWall 19 = .ok (.idiv, 1) := dk_108 (dk_at dksX0_isWall_0 19 rfl rfl)
theorem dX0_isWall_20 : decode cX0_isWall 20 = .ok (.ifCond .eq 11, 3) := dk_153 0 11 (dk_at dksX0_isWall_0 20 rfl rfl)
theorem dX0_isWall_23 : decode cX0_isWall 23 = .ok (.iload_n 0, 1) := dk_26 (dk_at dksX0_isWall_0 23 rfl rfl)
theorem dX0_isWall_24 : decode cX0_isWall 24 = .ok (.bipush 10, 2) := dk_16 10 (dk_at dksX0_isWall_1 0 rfl rfl)
theorem dX0_isWall_26 : decode cX0_isWall 26 = .ok (.idiv, 1) := dk_108 (dk_at dksX0_isWall_1 2 rfl rfl)
theorem dX0_isWall_27 : decode cX0_isWall 27 = .ok (.iconst 5, 1) := dk_8 (dk_at dksX0_isWall_1 3 rfl rfl)
theorem dX0_isWall_28 : decode cX0_isWall 28 = .ok (.if_icmp .ne 7, 3) := dk_160 0 7 (dk_at dksX0_isWall_1 4 rfl rfl)
theorem dX0_isWall_31 : decode cX0_isWall 31 = .ok (.iconst 1, 1) := dk_4 (dk_at dksX0_isWall_1 7 rfl rfl)
theorem dX0_isWall_32 : decode cX0_isWall 32 = .ok (.goto 4, 3) := dk_167 0 4 (dk_at dksX0_isWall_1 8 rfl rfl)
theorem dX0_isWall_35 : decode cX0_isWall 35 = .ok (.iconst 0, 1) := dk_3 (dk_at dksX0_isWall_1 11 rfl rfl)
theorem dX0_isWall_36 : decode cX0_isWall 36 = .ok (.ireturn, 1) := dk_172 (dk_at dksX0_isWall_1 12 rfl rfl)
abbrev cX0_row : ByteArray := prog_1_method_37_code
def yX0_row : MethodName := ⟨RX0, "row", "(II)I"⟩
def dkwX0_row_5 : List UInt8 := [29, 162, 0, 12, 42, 180, 0, 90, 28, 46, 167, 0, 5, 16, 252, 172]
abbrev dktX0_row_5 : List UInt8 := dkwX0_row_5 ++ []
def dkwX0_row_4 : List UInt8 := [160, 0, 10, 42, 180, 1, 1, 167, 0, 32, 28, 16, 101, 160, 0, 10, 42, 180, 0, 251, 167, 0, 19, 28]
abbrev dktX0_row_4 : List UInt8 := dkwX0_row_4 ++ dktX0_row_5
def dkwX0_row_3 : List UInt8 := [19, 1, 10, 181, 1, 1, 42, 3, 181, 0, 251, 42, 3, 29, 27, 3, 3, 182, 1, 4, 28, 16, 100]
abbrev dktX0_row_3 : List UInt8 := dkwX0_row_3 ++ dktX0_row_4
def dkwX0_row_2 : List UInt8 := [42, 180, 0, 63, 182, 1, 8, 2, 130, 126, 153, 0, 6, 16, 254, 172, 27, 184, 0, 197, 62, 42]
abbrev dktX0_row_2 : List UInt8 := dkwX0_row_2 ++ dktX0_row_3
def dkwX0_row_1 : List UInt8 := [16, 100, 16, 101, 184, 0, 120, 154, 0, 16, 28, 16, 7, 184, 0, 25, 154, 0, 7, 17, 252, 24, 172, 27]
abbrev dktX0_row_1 : List UInt8 := dkwX0_row_1 ++ dktX0_row_2
def dkwX0_row_0 : List UInt8 := [27, 18, 119, 184, 0, 25, 153, 0, 36, 27, 184, 0, 197, 5, 16, 7, 184, 0, 120, 153, 0, 23, 28]
abbrev dktX0_row_0 : List UInt8 := dkwX0_row_0 ++ dktX0_row_1
theorem dksX0_row_0 : cX0_row.data.toList.drop 0 = dktX0_row_0 := by decide +kernel
theorem dksX0_row_1 : cX0_row.data.toList.drop 23 = dktX0_row_1 := dk_seg dksX0_row_0 23 rfl rfl
theorem dksX0_row_2 : cX0_row.data.toList.drop 47 = dktX0_row_2 := dk_seg dksX0_row_1 24 rfl rfl
theorem dksX0_row_3 : cX0_row.data.toList.drop 69 = dktX0_row_3 := dk_seg dksX0_row_2 22 rfl rfl
theorem dksX0_row_4 : cX0_row.data.toList.drop 92 = dktX0_row_4 := dk_seg dksX0_row_3 23 rfl rfl
theorem dksX0_row_5 : cX0_row.data.toList.drop 116 = dktX0_row_5 := dk_seg dksX0_row_4 24 rfl rfl
theorem dX0_row_0 : decode cX0_row 0 = .ok (.iload_n 1, 1) := dk_27 (dk_at dksX0_row_0 0 rfl rfl)
theorem dX0_row_1 : decode cX0_row 1 = .ok (.ldc 119, 2) := dk_18 119 (dk_at dksX0_row_0 1 rfl rfl)
theorem dX0_row_3 : decode cX0_row 3 = .ok (.invokestatic 25, 3) := dk_184 0 25 (dk_at dksX0_row_0 3 rfl rfl)
theorem dX0_row_6 : decode cX0_row 6 = .ok (.ifCond .eq 36, 3) := dk_153 0 36 (dk_at dksX0_row_0 6 rfl rfl)
theorem dX0_row_9 : decode cX0_row 9 = .ok (.iload_n 1, 1) := dk_27 (dk_at dksX0_row_0 9 rfl rfl)
theorem dX0_row_10 : decode cX0_row 10 = .ok (.invokestatic 197, 3) := dk_184 0 197 (dk_at dksX0_row_0 10 rfl rfl)
theorem dX0_row_13 : decode cX0_row 13 = .ok (.iconst 2, 1) := dk_5 (dk_at dksX0_row_0 13 rfl rfl)
theorem dX0_row_14 : decode cX0_row 14 = .ok (.bipush 7, 2) := dk_16 7 (dk_at dksX0_row_0 14 rfl rfl)
theorem dX0_row_16 : decode cX0_row 16 = .ok (.invokestatic 120, 3) := dk_184 0 120 (dk_at dksX0_row_0 16 rfl rfl)
theorem dX0_row_19 : decode cX0_row 19 = .ok (.ifCond .eq 23, 3) := dk_153 0 23 (dk_at dksX0_row_0 19 rfl rfl)
theorem dX0_row_22 : decode cX0_row 22 = .ok (.iload_n 2, 1) := dk_28 (dk_at dksX0_row_0 22 rfl rfl)
theorem dX0_row_23 : decode cX0_row 23 = .ok (.bipush 100, 2) := dk_16 100 (dk_at dksX0_row_1 0 rfl rfl)
theorem dX0_row_25 : decode cX0_row 25 = .ok (.bipush 101, 2) := dk_16 101 (dk_at dksX0_row_1 2 rfl rfl)
theorem dX0_row_27 : decode cX0_row 27 = .ok (.invokestatic 120, 3) := dk_184 0 120 (dk_at dksX0_row_1 4 rfl rfl)
theorem dX0_row_30 : decode cX0_row 30 = .ok (.ifCond .ne 16, 3) := dk_154 0 16 (dk_at dksX0_row_1 7 rfl rfl)
theorem dX0_row_33 : decode cX0_row 33 = .ok (.iload_n 2, 1) := dk_28 (dk_at dksX0_row_1 10 rfl rfl)
theorem dX0_row_34 : decode cX0_row 34 = .ok (.bipush 7, 2) := dk_16 7 (dk_at dksX0_row_1 11 rfl rfl)
theorem dX0_row_36 : decode cX0_row 36 = .ok (.invokestatic 25, 3) := dk_184 0 25 (dk_at dksX0_row_1 13 rfl rfl)
theorem dX0_row_39 : decode cX0_row 39 = .ok (.ifCond .ne 7, 3) := dk_154 0 7 (dk_at dksX0_row_1 16 rfl rfl)
theorem dX0_row_42 : decode cX0_row 42 = .ok (.sipush (-1000), 3) := dk_17 252 24 (dk_at dksX0_row_1 19 rfl rfl)
theorem dX0_row_45 : decode cX0_row 45 = .ok (.ireturn, 1) := dk_172 (dk_at dksX0_row_1 22 rfl rfl)
theorem dX0_row_46 : decode cX0_row 46 = .ok (.iload_n 1, 1) := dk_27 (dk_at dksX0_row_1 23 rfl rfl)
theorem dX0_row_47 : decode cX0_row 47 = .ok (.aload_n 0, 1) := dk_42 (dk_at dksX0_row_2 0 rfl rfl)
theorem dX0_row_48 : decode cX0_row 48 = .ok (.getfield 63, 3) := dk_180 0 63 (dk_at dksX0_row_2 1 rfl rfl)
theorem dX0_row_51 : decode cX0_row 51 = .ok (.invokevirtual 264, 3) := dk_182 1 8 (dk_at dksX0_row_2 4 rfl rfl)
theorem dX0_row_54 : decode cX0_row 54 = .ok (.iconst (-1), 1) := dk_2 (dk_at dksX0_row_2 7 rfl rfl)
theorem dX0_row_55 : decode cX0_row 55 = .ok (.ixor, 1) := dk_130 (dk_at dksX0_row_2 8 rfl rfl)
theorem dX0_row_56 : decode cX0_row 56 = .ok (.iand, 1) := dk_126 (dk_at dksX0_row_2 9 rfl rfl)
theorem dX0_row_57 : decode cX0_row 57 = .ok (.ifCond .eq 6, 3) := dk_153 0 6 (dk_at dksX0_row_2 10 rfl rfl)
theorem dX0_row_60 : decode cX0_row 60 = .ok (.bipush (-2), 2) := dk_16 254 (dk_at dksX0_row_2 13 rfl rfl)
theorem dX0_row_62 : decode cX0_row 62 = .ok (.ireturn, 1) := dk_172 (dk_at dksX0_row_2 15 rfl rfl)
theorem dX0_row_63 : decode cX0_row 63 = .ok (.iload_n 1, 1) := dk_27 (dk_at dksX0_row_2 16 rfl rfl)
theorem dX0_row_64 : decode cX0_row 64 = .ok (.invokestatic 197, 3) := dk_184 0 197 (dk_at dksX0_row_2 17 rfl rfl)
theorem dX0_row_67 : decode cX0_row 67 = .ok (.istore_n 3, 1) := dk_62 (dk_at dksX0_row_2 20 rfl rfl)
theorem dX0_row_68 : decode cX0_row 68 = .ok (.aload_n 0, 1) := dk_42 (dk_at dksX0_row_2 21 rfl rfl)
theorem dX0_row_69 : decode cX0_row 69 = .ok (.ldc_w 266, 3) := dk_19 1 10 (dk_at dksX0_row_3 0 rfl rfl)
theorem dX0_row_72 : decode cX0_row 72 = .ok (.putfield 257, 3) := dk_181 1 1 (dk_at dksX0_row_3 3 rfl rfl)
theorem dX0_row_75 : decode cX0_row 75 = .ok (.aload_n 0, 1) := dk_42 (dk_at dksX0_row_3 6 rfl rfl)
theorem dX0_row_76 : decode cX0_row 76 = .ok (.iconst 0, 1) := dk_3 (dk_at dksX0_row_3 7 rfl rfl)
theorem dX0_row_77 : decode cX0_row 77 = .ok (.putfield 251, 3) := dk_181 0 251 (dk_at dksX0_row_3 8 rfl rfl)
theorem dX0_row_80 : decode cX0_row 80 = .ok (.aload_n 0, 1) := dk_42 (dk_at dksX0_row_3 11 rfl rfl)
theorem dX0_row_81 : decode cX0_row 81 = .ok (.iconst 0, 1) := dk_3 (dk_at dksX0_row_3 12 rfl rfl)
theorem dX0_row_82 : decode cX0_row 82 = .ok (.iload_n 3, 1) := dk_29 (dk_at dksX0_row_3 13 rfl rfl)
theorem dX0_row_83 : decode cX0_row 83 = .ok (.iload_n 1, 1) := dk_27 (dk_at dksX0_row_3 14 rfl rfl)
theorem dX0_row_84 : decode cX0_row 84 = .ok (.iconst 0, 1) := dk_3 (dk_at dksX0_row_3 15 rfl rfl)
theorem dX0_row_85 : decode cX0_row 85 = .ok (.iconst 0, 1) := dk_3 (dk_at dksX0_row_3 16 rfl rfl)
theorem dX0_row_86 : decode cX0_row 86 = .ok (.invokevirtual 260, 3) := dk_182 1 4 (dk_at dksX0_row_3 17 rfl rfl)
theorem dX0_row_89 : decode cX0_row 89 = .ok (.iload_n 2, 1) := dk_28 (dk_at dksX0_row_3 20 rfl rfl)
theorem dX0_row_90 : decode cX0_row 90 = .ok (.bipush 100, 2) := dk_16 100 (dk_at dksX0_row_3 21 rfl rfl)
theorem dX0_row_92 : decode cX0_row 92 = .ok (.if_icmp .ne 10, 3) := dk_160 0 10 (dk_at dksX0_row_4 0 rfl rfl)
theorem dX0_row_95 : decode cX0_row 95 = .ok (.aload_n 0, 1) := dk_42 (dk_at dksX0_row_4 3 rfl rfl)
theorem dX0_row_96 : decode cX0_row 96 = .ok (.getfield 257, 3) := dk_180 1 1 (dk_at dksX0_row_4 4 rfl rfl)
theorem dX0_row_99 : decode cX0_row 99 = .ok (.goto 32, 3) := dk_167 0 32 (dk_at dksX0_row_4 7 rfl rfl)
theorem dX0_row_102 : decode cX0_row 102 = .ok (.iload_n 2, 1) := dk_28 (dk_at dksX0_row_4 10 rfl rfl)
theorem dX0_row_103 : decode cX0_row 103 = .ok (.bipush 101, 2) := dk_16 101 (dk_at dksX0_row_4 11 rfl rfl)
theorem dX0_row_105 : decode cX0_row 105 = .ok (.if_icmp .ne 10, 3) := dk_160 0 10 (dk_at dksX0_row_4 13 rfl rfl)
theorem dX0_row_108 : decode cX0_row 108 = .ok (.aload_n 0, 1) := dk_42 (dk_at dksX0_row_4 16 rfl rfl)
theorem dX0_row_109 : decode cX0_row 109 = .ok (.getfield 251, 3) := dk_180 0 251 (dk_at dksX0_row_4 17 rfl rfl)
theorem dX0_row_112 : decode cX0_row 112 = .ok (.goto 19, 3) := dk_167 0 19 (dk_at dksX0_row_4 20 rfl rfl)
theorem dX0_row_115 : decode cX0_row 115 = .ok (.iload_n 2, 1) := dk_28 (dk_at dksX0_row_4 23 rfl rfl)
theorem dX0_row_116 : decode cX0_row 116 = .ok (.iload_n 3, 1) := dk_29 (dk_at dksX0_row_5 0 rfl rfl)
theorem dX0_row_117 : decode cX0_row 117 = .ok (.if_icmp .ge 12, 3) := dk_162 0 12 (dk_at dksX0_row_5 1 rfl rfl)
theorem dX0_row_120 : decode cX0_row 120 = .ok (.aload_n 0, 1) := dk_42 (dk_at dksX0_row_5 4 rfl rfl)
theorem dX0_row_121 : decode cX0_row 121 = .ok (.getfield 90, 3) := dk_180 0 90 (dk_at dksX0_row_5 5 rfl rfl)
theorem dX0_row_124 : decode cX0_row 124 = .ok (.iload_n 2, 1) := dk_28 (dk_at dksX0_row_5 8 rfl rfl)
theorem dX0_row_125 : decode cX0_row 125 = .ok (.iaload, 1) := dk_46 (dk_at dksX0_row_5 9 rfl rfl)
theorem dX0_row_126 : decode cX0_row 126 = .ok (.goto 5, 3) := dk_167 0 5 (dk_at dksX0_row_5 10 rfl rfl)
theorem dX0_row_129 : decode cX0_row 129 = .ok (.bipush (-4), 2) := dk_16 252 (dk_at dksX0_row_5 13 rfl rfl)
theorem dX0_row_131 : decode cX0_row 131 = .ok (.ireturn, 1) := dk_172 (dk_at dksX0_row_5 15 rfl rfl)
abbrev cX0_stands : ByteArray := prog_1_method_36_code
def yX0_stands : MethodName := ⟨RX0, "stands", "(IIIII)V"⟩
def dkwX0_stands_7 : List UInt8 := [182, 1, 4, 132, 6, 1, 167, 255, 165, 177]
abbrev dktX0_stands_7 : List UInt8 := dkwX0_stands_7 ++ []
def dkwX0_stands_6 : List UInt8 := [21, 6, 50, 42, 180, 0, 63, 180, 0, 109, 42, 180, 0, 87, 27, 4, 100, 46, 50, 182, 0, 206, 96]
abbrev dktX0_stands_6 : List UInt8 := dkwX0_stands_6 ++ dktX0_stands_7
def dkwX0_stands_5 : List UInt8 := [21, 4, 4, 21, 6, 120, 128, 27, 154, 0, 7, 3, 167, 0, 35, 21, 5, 42, 180, 0, 63, 180, 0, 109]
abbrev dktX0_stands_5 : List UInt8 := dkwX0_stands_5 ++ dktX0_stands_6
def dkwX0_stands_4 : List UInt8 := [184, 0, 232, 154, 0, 6, 167, 0, 67, 42, 180, 0, 87, 27, 21, 6, 79, 42, 27, 4, 96, 28, 29]
abbrev dktX0_stands_4 : List UInt8 := dkwX0_stands_4 ++ dktX0_stands_5
def dkwX0_stands_3 : List UInt8 := [167, 255, 233, 177, 3, 54, 6, 21, 6, 16, 16, 162, 0, 90, 29, 21, 4, 2, 130, 126, 21, 6]
abbrev dktX0_stands_3 : List UInt8 := dkwX0_stands_3 ++ dktX0_stands_4
def dkwX0_stands_2 : List UInt8 := [21, 6, 28, 162, 0, 23, 42, 180, 0, 90, 21, 6, 42, 180, 0, 87, 21, 6, 46, 79, 132, 6, 1]
abbrev dktX0_stands_2 : List UInt8 := dkwX0_stands_2 ++ dktX0_stands_3
def dkwX0_stands_1 : List UInt8 := [96, 181, 0, 251, 21, 5, 42, 180, 1, 1, 163, 0, 4, 177, 42, 21, 5, 181, 1, 1, 3, 54, 6]
abbrev dktX0_stands_1 : List UInt8 := dkwX0_stands_1 ++ dktX0_stands_2
def dkwX0_stands_0 : List UInt8 := [27, 28, 160, 0, 72, 42, 89, 180, 0, 251, 42, 29, 28, 182, 0, 254, 153, 0, 7, 4, 167, 0, 4, 3]
abbrev dktX0_stands_0 : List UInt8 := dkwX0_stands_0 ++ dktX0_stands_1
theorem dksX0_stands_0 : cX0_stands.data.toList.drop 0 = dktX0_stands_0 := by decide +kernel
theorem dksX0_stands_1 : cX0_stands.data.toList.drop 24 = dktX0_stands_1 := dk_seg dksX0_stands_0 24 rfl rfl
theorem dksX0_stands_2 : cX0_stands.data.toList.drop 47 = dktX0_stands_2 := dk_seg dksX0_stands_1 23 rfl rfl
theorem dksX0_stands_3 : cX0_stands.data.toList.drop 70 = dktX0_stands_3 := dk_seg dksX0_stands_2 23 rfl rfl
theorem dksX0_stands_4 : cX0_stands.data.toList.drop 92 = dktX0_stands_4 := dk_seg dksX0_stands_3 22 rfl rfl
theorem dksX0_stands_5 : cX0_stands.data.toList.drop 115 = dktX0_stands_5 := dk_seg dksX0_stands_4 23 rfl rfl
theorem dksX0_stands_6 : cX0_stands.data.toList.drop 139 = dktX0_stands_6 := dk_seg dksX0_stands_5 24 rfl rfl
theorem dksX0_stands_7 : cX0_stands.data.toList.drop 162 = dktX0_stands_7 := dk_seg dksX0_stands_6 23 rfl rfl
theorem dX0_stands_0 : decode cX0_stands 0 = .ok (.iload_n 1, 1) := dk_27 (dk_at dksX0_stands_0 0 rfl rfl)
theorem dX0_stands_1 : decode cX0_stands 1 = .ok (.iload_n 2, 1) := dk_28 (dk_at dksX0_stands_0 1 rfl rfl)
theorem dX0_stands_2 : decode cX0_stands 2 = .ok (.if_icmp .ne 72, 3) := dk_160 0 72 (dk_at dksX0_stands_0 2 rfl rfl)
theorem dX0_stands_5 : decode cX0_stands 5 = .ok (.aload_n 0, 1) := dk_42 (dk_at dksX0_stands_0 5 rfl rfl)
theorem dX0_stands_6 : decode cX0_stands 6 = .ok (.dup, 1) := dk_89 (dk_at dksX0_stands_0 6 rfl rfl)
theorem dX0_stands_7 : decode cX0_stands 7 = .ok (.getfield 251, 3) := dk_180 0 251 (dk_at dksX0_stands_0 7 rfl rfl)
theorem dX0_stands_10 : decode cX0_stands 10 = .ok (.aload_n 0, 1) := dk_42 (dk_at dksX0_stands_0 10 rfl rfl)
theorem dX0_stands_11 : decode cX0_stands 11 = .ok (.iload_n 3, 1) := dk_29 (dk_at dksX0_stands_0 11 rfl rfl)
theorem dX0_stands_12 : decode cX0_stands 12 = .ok (.iload_n 2, 1) := dk_28 (dk_at dksX0_stands_0 12 rfl rfl)
theorem dX0_stands_13 : decode cX0_stands 13 = .ok (.invokevirtual 254, 3) := dk_182 0 254 (dk_at dksX0_stands_0 13 rfl rfl)
theorem dX0_stands_16 : decode cX0_stands 16 = .ok (.ifCond .eq 7, 3) := dk_153 0 7 (dk_at dksX0_stands_0 16 rfl rfl)
theorem dX0_stands_19 : decode cX0_stands 19 = .ok (.iconst 1, 1) := dk_4 (dk_at dksX0_stands_0 19 rfl rfl)
theorem dX0_stands_20 : decode cX0_stands 20 = .ok (.goto 4, 3) := dk_167 0 4 (dk_at dksX0_stands_0 20 rfl rfl)
theorem dX0_stands_23 : decode cX0_stands 23 = .ok (.iconst 0, 1) := dk_3 (dk_at dksX0_stands_0 23 rfl rfl)
theorem dX0_stands_24 : decode cX0_stands 24 = .ok (.iadd, 1) := dk_96 (dk_at dksX0_stands_1 0 rfl rfl)
theorem dX0_stands_25 : decode cX0_stands 25 = .ok (.putfield 251, 3) := dk_181 0 251 (dk_at dksX0_stands_1 1 rfl rfl)
theorem dX0_stands_28 : decode cX0_stands 28 = .ok (.iload 5, 2) := dk_21 5 (dk_at dksX0_stands_1 4 rfl rfl)
theorem dX0_stands_30 : decode cX0_stands 30 = .ok (.aload_n 0, 1) := dk_42 (dk_at dksX0_stands_1 6 rfl rfl)
theorem dX0_stands_31 : decode cX0_stands 31 = .ok (.getfield 257, 3) := dk_180 1 1 (dk_at dksX0_stands_1 7 rfl rfl)
theorem dX0_stands_34 : decode cX0_stands 34 = .ok (.if_icmp .gt 4, 3) := dk_163 0 4 (dk_at dksX0_stands_1 10 rfl rfl)
theorem dX0_stands_37 : decode cX0_stands 37 = .ok (.return_, 1) := dk_177 (dk_at dksX0_stands_1 13 rfl rfl)
theorem dX0_stands_38 : decode cX0_stands 38 = .ok (.aload_n 0, 1) := dk_42 (dk_at dksX0_stands_1 14 rfl rfl)
theorem dX0_stands_39 : decode cX0_stands 39 = .ok (.iload 5, 2) := dk_21 5 (dk_at dksX0_stands_1 15 rfl rfl)
theorem dX0_stands_41 : decode cX0_stands 41 = .ok (.putfield 257, 3) := dk_181 1 1 (dk_at dksX0_stands_1 17 rfl rfl)
theorem dX0_stands_44 : decode cX0_stands 44 = .ok (.iconst 0, 1) := dk_3 (dk_at dksX0_stands_1 20 rfl rfl)
theorem dX0_stands_45 : decode cX0_stands 45 = .ok (.istore 6, 2) := dk_54 6 (dk_at dksX0_stands_1 21 rfl rfl)
theorem dX0_stands_47 : decode cX0_stands 47 = .ok (.iload 6, 2) := dk_21 6 (dk_at dksX0_stands_2 0 rfl rfl)
theorem dX0_stands_49 : decode cX0_stands 49 = .ok (.iload_n 2, 1) := dk_28 (dk_at dksX0_stands_2 2 rfl rfl)
theorem dX0_stands_50 : decode cX0_stands 50 = .ok (.if_icmp .ge 23, 3) := dk_162 0 23 (dk_at dksX0_stands_2 3 rfl rfl)
theorem dX0_stands_53 : decode cX0_stands 53 = .ok (.aload_n 0, 1) := dk_42 (dk_at dksX0_stands_2 6 rfl rfl)
theorem dX0_stands_54 : decode cX0_stands 54 = .ok (.getfield 90, 3) := dk_180 0 90 (dk_at dksX0_stands_2 7 rfl rfl)
theorem dX0_stands_57 : decode cX0_stands 57 = .ok (.iload 6, 2) := dk_21 6 (dk_at dksX0_stands_2 10 rfl rfl)
theorem dX0_stands_59 : decode cX0_stands 59 = .ok (.aload_n 0, 1) := dk_42 (dk_at dksX0_stands_2 12 rfl rfl)
theorem dX0_stands_60 : decode cX0_stands 60 = .ok (.getfield 87, 3) := dk_180 0 87 (dk_at dksX0_stands_2 13 rfl rfl)
theorem dX0_stands_63 : decode cX0_stands 63 = .ok (.iload 6, 2) := dk_21 6 (dk_at dksX0_stands_2 16 rfl rfl)
theorem dX0_stands_65 : decode cX0_stands 65 = .ok (.iaload, 1) := dk_46 (dk_at dksX0_stands_2 18 rfl rfl)
theorem dX0_stands_66 : decode cX0_stands 66 = .ok (.iastore, 1) := dk_79 (dk_at dksX0_stands_2 19 rfl rfl)
theorem dX0_stands_67 : decode cX0_stands 67 = .ok (.iinc 6 1, 3) := dk_132 6 1 (dk_at dksX0_stands_2 20 rfl rfl)
theorem dX0_stands_70 : decode cX0_stands 70 = .ok (.goto (-23), 3) := dk_167 255 233 (dk_at dksX0_stands_3 0 rfl rfl)
theorem dX0_stands_73 : decode cX0_stands 73 = .ok (.return_, 1) := dk_177 (dk_at dksX0_stands_3 3 rfl rfl)
theorem dX0_stands_74 : decode cX0_stands 74 = .ok (.iconst 0, 1) := dk_3 (dk_at dksX0_stands_3 4 rfl rfl)
theorem dX0_stands_75 : decode cX0_stands 75 = .ok (.istore 6, 2) := dk_54 6 (dk_at dksX0_stands_3 5 rfl rfl)
theorem dX0_stands_77 : decode cX0_stands 77 = .ok (.iload 6, 2) := dk_21 6 (dk_at dksX0_stands_3 7 rfl rfl)
theorem dX0_stands_79 : decode cX0_stands 79 = .ok (.bipush 16, 2) := dk_16 16 (dk_at dksX0_stands_3 9 rfl rfl)
theorem dX0_stands_81 : decode cX0_stands 81 = .ok (.if_icmp .ge 90, 3) := dk_162 0 90 (dk_at dksX0_stands_3 11 rfl rfl)
theorem dX0_stands_84 : decode cX0_stands 84 = .ok (.iload_n 3, 1) := dk_29 (dk_at dksX0_stands_3 14 rfl rfl)
theorem dX0_stands_85 : decode cX0_stands 85 = .ok (.iload 4, 2) := dk_21 4 (dk_at dksX0_stands_3 15 rfl rfl)
theorem dX0_stands_87 : decode cX0_stands 87 = .ok (.iconst (-1), 1) := dk_2 (dk_at dksX0_stands_3 17 rfl rfl)
theorem dX0_stands_88 : decode cX0_stands 88 = .ok (.ixor, 1) := dk_130 (dk_at dksX0_stands_3 18 rfl rfl)
theorem dX0_stands_89 : decode cX0_stands 89 = .ok (.iand, 1) := dk_126 (dk_at dksX0_stands_3 19 rfl rfl)
theorem dX0_stands_90 : decode cX0_stands 90 = .ok (.iload 6, 2) := dk_21 6 (dk_at dksX0_stands_3 20 rfl rfl)
theorem dX0_stands_92 : decode cX0_stands 92 = .ok (.invokestatic 232, 3) := dk_184 0 232 (dk_at dksX0_stands_4 0 rfl rfl)
theorem dX0_stands_95 : decode cX0_stands 95 = .ok (.ifCond .ne 6, 3) := dk_154 0 6 (dk_at dksX0_stands_4 3 rfl rfl)
theorem dX0_stands_98 : decode cX0_stands 98 = .ok (.goto 67, 3) := dk_167 0 67 (dk_at dksX0_stands_4 6 rfl rfl)
theorem dX0_stands_101 : decode cX0_stands 101 = .ok (.aload_n 0, 1) := dk_42 (dk_at dksX0_stands_4 9 rfl rfl)
theorem dX0_stands_102 : decode cX0_stands 102 = .ok (.getfield 87, 3) := dk_180 0 87 (dk_at dksX0_stands_4 10 rfl rfl)
theorem dX0_stands_105 : decode cX0_stands 105 = .ok (.iload_n 1, 1) := dk_27 (dk_at dksX0_stands_4 13 rfl rfl)
theorem dX0_stands_106 : decode cX0_stands 106 = .ok (.iload 6, 2) := dk_21 6 (dk_at dksX0_stands_4 14 rfl rfl)
theorem dX0_stands_108 : decode cX0_stands 108 = .ok (.iastore, 1) := dk_79 (dk_at dksX0_stands_4 16 rfl rfl)
theorem dX0_stands_109 : decode cX0_stands 109 = .ok (.aload_n 0, 1) := dk_42 (dk_at dksX0_stands_4 17 rfl rfl)
theorem dX0_stands_110 : decode cX0_stands 110 = .ok (.iload_n 1, 1) := dk_27 (dk_at dksX0_stands_4 18 rfl rfl)
theorem dX0_stands_111 : decode cX0_stands 111 = .ok (.iconst 1, 1) := dk_4 (dk_at dksX0_stands_4 19 rfl rfl)
theorem dX0_stands_112 : decode cX0_stands 112 = .ok (.iadd, 1) := dk_96 (dk_at dksX0_stands_4 20 rfl rfl)
theorem dX0_stands_113 : decode cX0_stands 113 = .ok (.iload_n 2, 1) := dk_28 (dk_at dksX0_stands_4 21 rfl rfl)
theorem dX0_stands_114 : decode cX0_stands 114 = .ok (.iload_n 3, 1) := dk_29 (dk_at dksX0_stands_4 22 rfl rfl)
theorem dX0_stands_115 : decode cX0_stands 115 = .ok (.iload 4, 2) := dk_21 4 (dk_at dksX0_stands_5 0 rfl rfl)
theorem dX0_stands_117 : decode cX0_stands 117 = .ok (.iconst 1, 1) := dk_4 (dk_at dksX0_stands_5 2 rfl rfl)
theorem dX0_stands_118 : decode cX0_stands 118 = .ok (.iload 6, 2) := dk_21 6 (dk_at dksX0_stands_5 3 rfl rfl)
theorem dX0_stands_120 : decode cX0_stands 120 = .ok (.ishl, 1) := dk_120 (dk_at dksX0_stands_5 5 rfl rfl)
theorem dX0_stands_121 : decode cX0_stands 121 = .ok (.ior, 1) := dk_128 (dk_at dksX0_stands_5 6 rfl rfl)
theorem dX0_stands_122 : decode cX0_stands 122 = .ok (.iload_n 1, 1) := dk_27 (dk_at dksX0_stands_5 7 rfl rfl)
theorem dX0_stands_123 : decode cX0_stands 123 = .ok (.ifCond .ne 7, 3) := dk_154 0 7 (dk_at dksX0_stands_5 8 rfl rfl)
theorem dX0_stands_126 : decode cX0_stands 126 = .ok (.iconst 0, 1) := dk_3 (dk_at dksX0_stands_5 11 rfl rfl)
theorem dX0_stands_127 : decode cX0_stands 127 = .ok (.goto 35, 3) := dk_167 0 35 (dk_at dksX0_stands_5 12 rfl rfl)
theorem dX0_stands_130 : decode cX0_stands 130 = .ok (.iload 5, 2) := dk_21 5 (dk_at dksX0_stands_5 15 rfl rfl)
theorem dX0_stands_132 : decode cX0_stands 132 = .ok (.aload_n 0, 1) := dk_42 (dk_at dksX0_stands_5 17 rfl rfl)
theorem dX0_stands_133 : decode cX0_stands 133 = .ok (.getfield 63, 3) := dk_180 0 63 (dk_at dksX0_stands_5 18 rfl rfl)
theorem dX0_stands_136 : decode cX0_stands 136 = .ok (.getfield 109, 3) := dk_180 0 109 (dk_at dksX0_stands_5 21 rfl rfl)
theorem dX0_stands_139 : decode cX0_stands 139 = .ok (.iload 6, 2) := dk_21 6 (dk_at dksX0_stands_6 0 rfl rfl)
theorem dX0_stands_141 : decode cX0_stands 141 = .ok (.aaload, 1) := dk_50 (dk_at dksX0_stands_6 2 rfl rfl)
theorem dX0_stands_142 : decode cX0_stands 142 = .ok (.aload_n 0, 1) := dk_42 (dk_at dksX0_stands_6 3 rfl rfl)
theorem dX0_stands_143 : decode cX0_stands 143 = .ok (.getfield 63, 3) := dk_180 0 63 (dk_at dksX0_stands_6 4 rfl rfl)
theorem dX0_stands_146 : decode cX0_stands 146 = .ok (.getfield 109, 3) := dk_180 0 109 (dk_at dksX0_stands_6 7 rfl rfl)
theorem dX0_stands_149 : decode cX0_stands 149 = .ok (.aload_n 0, 1) := dk_42 (dk_at dksX0_stands_6 10 rfl rfl)
theorem dX0_stands_150 : decode cX0_stands 150 = .ok (.getfield 87, 3) := dk_180 0 87 (dk_at dksX0_stands_6 11 rfl rfl)
theorem dX0_stands_153 : decode cX0_stands 153 = .ok (.iload_n 1, 1) := dk_27 (dk_at dksX0_stands_6 14 rfl rfl)
theorem dX0_stands_154 : decode cX0_stands 154 = .ok (.iconst 1, 1) := dk_4 (dk_at dksX0_stands_6 15 rfl rfl)
theorem dX0_stands_155 : decode cX0_stands 155 = .ok (.isub, 1) := dk_100 (dk_at dksX0_stands_6 16 rfl rfl)
theorem dX0_stands_156 : decode cX0_stands 156 = .ok (.iaload, 1) := dk_46 (dk_at dksX0_stands_6 17 rfl rfl)
theorem dX0_stands_157 : decode cX0_stands 157 = .ok (.aaload, 1) := dk_50 (dk_at dksX0_stands_6 18 rfl rfl)
theorem dX0_stands_158 : decode cX0_stands 158 = .ok (.invokevirtual 206, 3) := dk_182 0 206 (dk_at dksX0_stands_6 19 rfl rfl)
theorem dX0_stands_161 : decode cX0_stands 161 = .ok (.iadd, 1) := dk_96 (dk_at dksX0_stands_6 22 rfl rfl)
theorem dX0_stands_162 : decode cX0_stands 162 = .ok (.invokevirtual 260, 3) := dk_182 1 4 (dk_at dksX0_stands_7 0 rfl rfl)
theorem dX0_stands_165 : decode cX0_stands 165 = .ok (.iinc 6 1, 3) := dk_132 6 1 (dk_at dksX0_stands_7 3 rfl rfl)
theorem dX0_stands_168 : decode cX0_stands 168 = .ok (.goto (-91), 3) := dk_167 255 165 (dk_at dksX0_stands_7 6 rfl rfl)
theorem dX0_stands_171 : decode cX0_stands 171 = .ok (.return_, 1) := dk_177 (dk_at dksX0_stands_7 9 rfl rfl)
abbrev cX0_allHold : ByteArray := prog_1_method_35_code
def yX0_allHold : MethodName := ⟨RX0, "allHold", "(II)Z"⟩
def dkwX0_allHold_2 : List UInt8 := [132, 3, 1, 167, 255, 208, 4, 172]
abbrev dktX0_allHold_2 : List UInt8 := dkwX0_allHold_2 ++ []
def dkwX0_allHold_1 : List UInt8 := [42, 180, 0, 81, 29, 46, 184, 0, 232, 153, 0, 14, 42, 29, 28, 182, 0, 248, 154, 0, 5, 3, 172]
abbrev dktX0_allHold_1 : List UInt8 := dkwX0_allHold_1 ++ dktX0_allHold_2
def dkwX0_allHold_0 : List UInt8 := [3, 62, 29, 42, 180, 0, 164, 162, 0, 46, 27, 42, 180, 0, 78, 29, 46, 184, 0, 232, 153, 0, 27, 27]
abbrev dktX0_allHold_0 : List UInt8 := dkwX0_allHold_0 ++ dktX0_allHold_1
theorem dksX0_allHold_0 : cX0_allHold.data.toList.drop 0 = dktX0_allHold_0 := by decide +kernel
theorem dksX0_allHold_1 : cX0_allHold.data.toList.drop 24 = dktX0_allHold_1 := dk_seg dksX0_allHold_0 24 rfl rfl
theorem dksX0_allHold_2 : cX0_allHold.data.toList.drop 47 = dktX0_allHold_2 := dk_seg dksX0_allHold_1 23 rfl rfl
theorem dX0_allHold_0 : decode cX0_allHold 0 = .ok (.iconst 0, 1) := dk_3 (dk_at dksX0_allHold_0 0 rfl rfl)
theorem dX0_allHold_1 : decode cX0_allHold 1 = .ok (.istore_n 3, 1) := dk_62 (dk_at dksX0_allHold_0 1 rfl rfl)
theorem dX0_allHold_2 : decode cX0_allHold 2 = .ok (.iload_n 3, 1) := dk_29 (dk_at dksX0_allHold_0 2 rfl rfl)
theorem dX0_allHold_3 : decode cX0_allHold 3 = .ok (.aload_n 0, 1) := dk_42 (dk_at dksX0_allHold_0 3 rfl rfl)
theorem dX0_allHold_4 : decode cX0_allHold 4 = .ok (.getfield 164, 3) := dk_180 0 164 (dk_at dksX0_allHold_0 4 rfl rfl)
theorem dX0_allHold_7 : decode cX0_allHold 7 = .ok (.if_icmp .ge 46, 3) := dk_162 0 46 (dk_at dksX0_allHold_0 7 rfl rfl)
theorem dX0_allHold_10 : decode cX0_allHold 10 = .ok (.iload_n 1, 1) := dk_27 (dk_at dksX0_allHold_0 10 rfl rfl)
theorem dX0_allHold_11 : decode cX0_allHold 11 = .ok (.aload_n 0, 1) := dk_42 (dk_at dksX0_allHold_0 11 rfl rfl)
theorem dX0_allHold_12 : decode cX0_allHold 12 = .ok (.getfield 78, 3) := dk_180 0 78 (dk_at dksX0_allHold_0 12 rfl rfl)
theorem dX0_allHold_15 : decode cX0_allHold 15 = .ok (.iload_n 3, 1) := dk_29 (dk_at dksX0_allHold_0 15 rfl rfl)
theorem dX0_allHold_16 : decode cX0_allHold 16 = .ok (.iaload, 1) := dk_46 (dk_at dksX0_allHold_0 16 rfl rfl)
theorem dX0_allHold_17 : decode cX0_allHold 17 = .ok (.invokestatic 232, 3) := dk_184 0 232 (dk_at dksX0_allHold_0 17 rfl rfl)
theorem dX0_allHold_20 : decode cX0_allHold 20 = .ok (.ifCond .eq 27, 3) := dk_153 0 27 (dk_at dksX0_allHold_0 20 rfl rfl)
theorem dX0_allHold_23 : decode cX0_allHold 23 = .ok (.iload_n 1, 1) := dk_27 (dk_at dksX0_allHold_0 23 rfl rfl)
theorem dX0_allHold_24 : decode cX0_allHold 24 = .ok (.aload_n 0, 1) := dk_42 (dk_at dksX0_allHold_1 0 rfl rfl)
theorem dX0_allHold_25 : decode cX0_allHold 25 = .ok (.getfield 81, 3) := dk_180 0 81 (dk_at dksX0_allHold_1 1 rfl rfl)
theorem dX0_allHold_28 : decode cX0_allHold 28 = .ok (.iload_n 3, 1) := dk_29 (dk_at dksX0_allHold_1 4 rfl rfl)
theorem dX0_allHold_29 : decode cX0_allHold 29 = .ok (.iaload, 1) := dk_46 (dk_at dksX0_allHold_1 5 rfl rfl)
theorem dX0_allHold_30 : decode cX0_allHold 30 = .ok (.invokestatic 232, 3) := dk_184 0 232 (dk_at dksX0_allHold_1 6 rfl rfl)
theorem dX0_allHold_33 : decode cX0_allHold 33 = .ok (.ifCond .eq 14, 3) := dk_153 0 14 (dk_at dksX0_allHold_1 9 rfl rfl)
theorem dX0_allHold_36 : decode cX0_allHold 36 = .ok (.aload_n 0, 1) := dk_42 (dk_at dksX0_allHold_1 12 rfl rfl)
theorem dX0_allHold_37 : decode cX0_allHold 37 = .ok (.iload_n 3, 1) := dk_29 (dk_at dksX0_allHold_1 13 rfl rfl)
theorem dX0_allHold_38 : decode cX0_allHold 38 = .ok (.iload_n 2, 1) := dk_28 (dk_at dksX0_allHold_1 14 rfl rfl)
theorem dX0_allHold_39 : decode cX0_allHold 39 = .ok (.invokevirtual 248, 3) := dk_182 0 248 (dk_at dksX0_allHold_1 15 rfl rfl)
theorem dX0_allHold_42 : decode cX0_allHold 42 = .ok (.ifCond .ne 5, 3) := dk_154 0 5 (dk_at dksX0_allHold_1 18 rfl rfl)
theorem dX0_allHold_45 : decode cX0_allHold 45 = .ok (.iconst 0, 1) := dk_3 (dk_at dksX0_allHold_1 21 rfl rfl)
theorem dX0_allHold_46 : decode cX0_allHold 46 = .ok (.ireturn, 1) := dk_172 (dk_at dksX0_allHold_1 22 rfl rfl)
theorem dX0_allHold_47 : decode cX0_allHold 47 = .ok (.iinc 3 1, 3) := dk_132 3 1 (dk_at dksX0_allHold_2 0 rfl rfl)
theorem dX0_allHold_50 : decode cX0_allHold 50 = .ok (.goto (-48), 3) := dk_167 255 208 (dk_at dksX0_allHold_2 3 rfl rfl)
theorem dX0_allHold_53 : decode cX0_allHold 53 = .ok (.iconst 1, 1) := dk_4 (dk_at dksX0_allHold_2 6 rfl rfl)
theorem dX0_allHold_54 : decode cX0_allHold 54 = .ok (.ireturn, 1) := dk_172 (dk_at dksX0_allHold_2 7 rfl rfl)
abbrev cX0_holdsIn : ByteArray := prog_1_method_34_code
def yX0_holdsIn : MethodName := ⟨RX0, "holdsIn", "(II)Z"⟩
def dkwX0_holdsIn_4 : List UInt8 := [153, 0, 10, 29, 28, 4, 100, 160, 0, 7, 4, 167, 0, 4, 3, 172]
abbrev dktX0_holdsIn_4 : List UInt8 := dkwX0_holdsIn_4 ++ []
def dkwX0_holdsIn_3 : List UInt8 := [4, 159, 0, 7, 4, 167, 0, 34, 3, 167, 0, 30, 42, 180, 0, 84, 27, 46, 16, 35, 160, 0, 18, 29]
abbrev dktX0_holdsIn_3 : List UInt8 := dkwX0_holdsIn_3 ++ dktX0_holdsIn_4
def dkwX0_holdsIn_2 : List UInt8 := [160, 0, 7, 4, 167, 0, 59, 3, 167, 0, 55, 42, 180, 0, 84, 27, 46, 16, 45, 160, 0, 17, 21, 4]
abbrev dktX0_holdsIn_2 : List UInt8 := dkwX0_holdsIn_2 ++ dktX0_holdsIn_3
def dkwX0_holdsIn_1 : List UInt8 := [46, 184, 0, 241, 100, 184, 0, 245, 54, 4, 42, 180, 0, 84, 27, 46, 16, 43, 160, 0, 17, 21, 4, 4]
abbrev dktX0_holdsIn_1 : List UInt8 := dkwX0_holdsIn_1 ++ dktX0_holdsIn_2
def dkwX0_holdsIn_0 : List UInt8 := [42, 180, 0, 87, 42, 180, 0, 78, 27, 46, 184, 0, 241, 62, 29, 42, 180, 0, 87, 42, 180, 0, 81, 27]
abbrev dktX0_holdsIn_0 : List UInt8 := dkwX0_holdsIn_0 ++ dktX0_holdsIn_1
theorem dksX0_holdsIn_0 : cX0_holdsIn.data.toList.drop 0 = dktX0_holdsIn_0 := by decide +kernel
theorem dksX0_holdsIn_1 : cX0_holdsIn.data.toList.drop 24 = dktX0_holdsIn_1 := dk_seg dksX0_holdsIn_0 24 rfl rfl
theorem dksX0_holdsIn_2 : cX0_holdsIn.data.toList.drop 48 = dktX0_holdsIn_2 := dk_seg dksX0_holdsIn_1 24 rfl rfl
theorem dksX0_holdsIn_3 : cX0_holdsIn.data.toList.drop 72 = dktX0_holdsIn_3 := dk_seg dksX0_holdsIn_2 24 rfl rfl
theorem dksX0_holdsIn_4 : cX0_holdsIn.data.toList.drop 96 = dktX0_holdsIn_4 := dk_seg dksX0_holdsIn_3 24 rfl rfl
theorem dX0_holdsIn_0 : decode cX0_holdsIn 0 = .ok (.aload_n 0, 1) := dk_42 (dk_at dksX0_holdsIn_0 0 rfl rfl)
theorem dX0_holdsIn_1 : decode cX0_holdsIn 1 = .ok (.getfield 87, 3) := dk_180 0 87 (dk_at dksX0_holdsIn_0 1 rfl rfl)
theorem dX0_holdsIn_4 : decode cX0_holdsIn 4 = .ok (.aload_n 0, 1) := dk_42 (dk_at dksX0_holdsIn_0 4 rfl rfl)
theorem dX0_holdsIn_5 : decode cX0_holdsIn 5 = .ok (.getfield 78, 3) := dk_180 0 78 (dk_at dksX0_holdsIn_0 5 rfl rfl)
theorem dX0_holdsIn_8 : decode cX0_holdsIn 8 = .ok (.iload_n 1, 1) := dk_27 (dk_at dksX0_holdsIn_0 8 rfl rfl)
theorem dX0_holdsIn_9 : decode cX0_holdsIn 9 = .ok (.iaload, 1) := dk_46 (dk_at dksX0_holdsIn_0 9 rfl rfl)
theorem dX0_holdsIn_10 : decode cX0_holdsIn 10 = .ok (.invokestatic 241, 3) := dk_184 0 241 (dk_at dksX0_holdsIn_0 10 rfl rfl)
theorem dX0_holdsIn_13 : decode cX0_holdsIn 13 = .ok (.istore_n 3, 1) := dk_62 (dk_at dksX0_holdsIn_0 13 rfl rfl)
theorem dX0_holdsIn_14 : decode cX0_holdsIn 14 = .ok (.iload_n 3, 1) := dk_29 (dk_at dksX0_holdsIn_0 14 rfl rfl)
theorem dX0_holdsIn_15 : decode cX0_holdsIn 15 = .ok (.aload_n 0, 1) := dk_42 (dk_at dksX0_holdsIn_0 15 rfl rfl)
theorem dX0_holdsIn_16 : decode cX0_holdsIn 16 = .ok (.getfield 87, 3) := dk_180 0 87 (dk_at dksX0_holdsIn_0 16 rfl rfl)
theorem dX0_holdsIn_19 : decode cX0_holdsIn 19 = .ok (.aload_n 0, 1) := dk_42 (dk_at dksX0_holdsIn_0 19 rfl rfl)
theorem dX0_holdsIn_20 : decode cX0_holdsIn 20 = .ok (.getfield 81, 3) := dk_180 0 81 (dk_at dksX0_holdsIn_0 20 rfl rfl)
theorem dX0_holdsIn_23 : decode cX0_holdsIn 23 = .ok (.iload_n 1, 1) := dk_27 (dk_at dksX0_holdsIn_0 23 rfl rfl)
theorem dX0_holdsIn_24 : decode cX0_holdsIn 24 = .ok (.iaload, 1) := dk_46 (dk_at dksX0_holdsIn_1 0 rfl rfl)
theorem dX0_holdsIn_25 : decode cX0_holdsIn 25 = .ok (.invokestatic 241, 3) := dk_184 0 241 (dk_at dksX0_holdsIn_1 1 rfl rfl)
theorem dX0_holdsIn_28 : decode cX0_holdsIn 28 = .ok (.isub, 1) := dk_100 (dk_at dksX0_holdsIn_1 4 rfl rfl)
theorem dX0_holdsIn_29 : decode cX0_holdsIn 29 = .ok (.invokestatic 245, 3) := dk_184 0 245 (dk_at dksX0_holdsIn_1 5 rfl rfl)
theorem dX0_holdsIn_32 : decode cX0_holdsIn 32 = .ok (.istore 4, 2) := dk_54 4 (dk_at dksX0_holdsIn_1 8 rfl rfl)
theorem dX0_holdsIn_34 : decode cX0_holdsIn 34 = .ok (.aload_n 0, 1) := dk_42 (dk_at dksX0_holdsIn_1 10 rfl rfl)
theorem dX0_holdsIn_35 : decode cX0_holdsIn 35 = .ok (.getfield 84, 3) := dk_180 0 84 (dk_at dksX0_holdsIn_1 11 rfl rfl)
theorem dX0_holdsIn_38 : decode cX0_holdsIn 38 = .ok (.iload_n 1, 1) := dk_27 (dk_at dksX0_holdsIn_1 14 rfl rfl)
theorem dX0_holdsIn_39 : decode cX0_holdsIn 39 = .ok (.iaload, 1) := dk_46 (dk_at dksX0_holdsIn_1 15 rfl rfl)
theorem dX0_holdsIn_40 : decode cX0_holdsIn 40 = .ok (.bipush 43, 2) := dk_16 43 (dk_at dksX0_holdsIn_1 16 rfl rfl)
theorem dX0_holdsIn_42 : decode cX0_holdsIn 42 = .ok (.if_icmp .ne 17, 3) := dk_160 0 17 (dk_at dksX0_holdsIn_1 18 rfl rfl)
theorem dX0_holdsIn_45 : decode cX0_holdsIn 45 = .ok (.iload 4, 2) := dk_21 4 (dk_at dksX0_holdsIn_1 21 rfl rfl)
theorem dX0_holdsIn_47 : decode cX0_holdsIn 47 = .ok (.iconst 1, 1) := dk_4 (dk_at dksX0_holdsIn_1 23 rfl rfl)
theorem dX0_holdsIn_48 : decode cX0_holdsIn 48 = .ok (.if_icmp .ne 7, 3) := dk_160 0 7 (dk_at dksX0_holdsIn_2 0 rfl rfl)
theorem dX0_holdsIn_51 : decode cX0_holdsIn 51 = .ok (.iconst 1, 1) := dk_4 (dk_at dksX0_holdsIn_2 3 rfl rfl)
theorem dX0_holdsIn_52 : decode cX0_holdsIn 52 = .ok (.goto 59, 3) := dk_167 0 59 (dk_at dksX0_holdsIn_2 4 rfl rfl)
theorem dX0_holdsIn_55 : decode cX0_holdsIn 55 = .ok (.iconst 0, 1) := dk_3 (dk_at dksX0_holdsIn_2 7 rfl rfl)
theorem dX0_holdsIn_56 : decode cX0_holdsIn 56 = .ok (.goto 55, 3) := dk_167 0 55 (dk_at dksX0_holdsIn_2 8 rfl rfl)
theorem dX0_holdsIn_59 : decode cX0_holdsIn 59 = .ok (.aload_n 0, 1) := dk_42 (dk_at dksX0_holdsIn_2 11 rfl rfl)
theorem dX0_holdsIn_60 : decode cX0_holdsIn 60 = .ok (.getfield 84, 3) := dk_180 0 84 (dk_at dksX0_holdsIn_2 12 rfl rfl)
theorem dX0_holdsIn_63 : decode cX0_holdsIn 63 = .ok (.iload_n 1, 1) := dk_27 (dk_at dksX0_holdsIn_2 15 rfl rfl)
theorem dX0_holdsIn_64 : decode cX0_holdsIn 64 = .ok (.iaload, 1) := dk_46 (dk_at dksX0_holdsIn_2 16 rfl rfl)
theorem dX0_holdsIn_65 : decode cX0_holdsIn 65 = .ok (.bipush 45, 2) := dk_16 45 (dk_at dksX0_holdsIn_2 17 rfl rfl)
theorem dX0_holdsIn_67 : decode cX0_holdsIn 67 = .ok (.if_icmp .ne 17, 3) := dk_160 0 17 (dk_at dksX0_holdsIn_2 19 rfl rfl)
theorem dX0_holdsIn_70 : decode cX0_holdsIn 70 = .ok (.iload 4, 2) := dk_21 4 (dk_at dksX0_holdsIn_2 22 rfl rfl)
theorem dX0_holdsIn_72 : decode cX0_holdsIn 72 = .ok (.iconst 1, 1) := dk_4 (dk_at dksX0_holdsIn_3 0 rfl rfl)
theorem dX0_holdsIn_73 : decode cX0_holdsIn 73 = .ok (.if_icmp .eq 7, 3) := dk_159 0 7 (dk_at dksX0_holdsIn_3 1 rfl rfl)
theorem dX0_holdsIn_76 : decode cX0_holdsIn 76 = .ok (.iconst 1, 1) := dk_4 (dk_at dksX0_holdsIn_3 4 rfl rfl)
theorem dX0_holdsIn_77 : decode cX0_holdsIn 77 = .ok (.goto 34, 3) := dk_167 0 34 (dk_at dksX0_holdsIn_3 5 rfl rfl)
theorem dX0_holdsIn_80 : decode cX0_holdsIn 80 = .ok (.iconst 0, 1) := dk_3 (dk_at dksX0_holdsIn_3 8 rfl rfl)
theorem dX0_holdsIn_81 : decode cX0_holdsIn 81 = .ok (.goto 30, 3) := dk_167 0 30 (dk_at dksX0_holdsIn_3 9 rfl rfl)
theorem dX0_holdsIn_84 : decode cX0_holdsIn 84 = .ok (.aload_n 0, 1) := dk_42 (dk_at dksX0_holdsIn_3 12 rfl rfl)
theorem dX0_holdsIn_85 : decode cX0_holdsIn 85 = .ok (.getfield 84, 3) := dk_180 0 84 (dk_at dksX0_holdsIn_3 13 rfl rfl)
theorem dX0_holdsIn_88 : decode cX0_holdsIn 88 = .ok (.iload_n 1, 1) := dk_27 (dk_at dksX0_holdsIn_3 16 rfl rfl)
theorem dX0_holdsIn_89 : decode cX0_holdsIn 89 = .ok (.iaload, 1) := dk_46 (dk_at dksX0_holdsIn_3 17 rfl rfl)
theorem dX0_holdsIn_90 : decode cX0_holdsIn 90 = .ok (.bipush 35, 2) := dk_16 35 (dk_at dksX0_holdsIn_3 18 rfl rfl)
theorem dX0_holdsIn_92 : decode cX0_holdsIn 92 = .ok (.if_icmp .ne 18, 3) := dk_160 0 18 (dk_at dksX0_holdsIn_3 20 rfl rfl)
theorem dX0_holdsIn_95 : decode cX0_holdsIn 95 = .ok (.iload_n 3, 1) := dk_29 (dk_at dksX0_holdsIn_3 23 rfl rfl)
theorem dX0_holdsIn_96 : decode cX0_holdsIn 96 = .ok (.ifCond .eq 10, 3) := dk_153 0 10 (dk_at dksX0_holdsIn_4 0 rfl rfl)
theorem dX0_holdsIn_99 : decode cX0_holdsIn 99 = .ok (.iload_n 3, 1) := dk_29 (dk_at dksX0_holdsIn_4 3 rfl rfl)
theorem dX0_holdsIn_100 : decode cX0_holdsIn 100 = .ok (.iload_n 2, 1) := dk_28 (dk_at dksX0_holdsIn_4 4 rfl rfl)
theorem dX0_holdsIn_101 : decode cX0_holdsIn 101 = .ok (.iconst 1, 1) := dk_4 (dk_at dksX0_holdsIn_4 5 rfl rfl)
theorem dX0_holdsIn_102 : decode cX0_holdsIn 102 = .ok (.isub, 1) := dk_100 (dk_at dksX0_holdsIn_4 6 rfl rfl)
theorem dX0_holdsIn_103 : decode cX0_holdsIn 103 = .ok (.if_icmp .ne 7, 3) := dk_160 0 7 (dk_at dksX0_holdsIn_4 7 rfl rfl)
theorem dX0_holdsIn_106 : decode cX0_holdsIn 106 = .ok (.iconst 1, 1) := dk_4 (dk_at dksX0_holdsIn_4 10 rfl rfl)
theorem dX0_holdsIn_107 : decode cX0_holdsIn 107 = .ok (.goto 4, 3) := dk_167 0 4 (dk_at dksX0_holdsIn_4 11 rfl rfl)
theorem dX0_holdsIn_110 : decode cX0_holdsIn 110 = .ok (.iconst 0, 1) := dk_3 (dk_at dksX0_holdsIn_4 14 rfl rfl)
theorem dX0_holdsIn_111 : decode cX0_holdsIn 111 = .ok (.ireturn, 1) := dk_172 (dk_at dksX0_holdsIn_4 15 rfl rfl)
abbrev cX0_placeIn : ByteArray := prog_1_method_33_code
def yX0_placeIn : MethodName := ⟨RX0, "placeIn", "([II)I"⟩
def dkwX0_placeIn_0 : List UInt8 := [3, 61, 42, 28, 46, 27, 159, 0, 9, 132, 2, 1, 167, 255, 246, 28, 172]
abbrev dktX0_placeIn_0 : List UInt8 := dkwX0_placeIn_0 ++ []
theorem dksX0_placeIn_0 : cX0_placeIn.data.toList.drop 0 = dktX0_placeIn_0 := by decide +kernel
theorem dX0_placeIn_0 : decode cX0_placeIn 0 = .ok (.iconst 0, 1) := dk_3 (dk_at dksX0_placeIn_0 0 rfl rfl)
theorem dX0_placeIn_1 : decode cX0_placeIn 1 = .ok (.istore_n 2, 1) := dk_61 (dk_at dksX0_placeIn_0 1 rfl rfl)
theorem dX0_placeIn_2 : decode cX0_placeIn 2 = .ok (.aload_n 0, 1) := dk_42 (dk_at dksX0_placeIn_0 2 rfl rfl)
theorem dX0_placeIn_3 : decode cX0_placeIn 3 = .ok (.iload_n 2, 1) := dk_28 (dk_at dksX0_placeIn_0 3 rfl rfl)
theorem dX0_placeIn_4 : decode cX0_placeIn 4 = .ok (.iaload, 1) := dk_46 (dk_at dksX0_placeIn_0 4 rfl rfl)
theorem dX0_placeIn_5 : decode cX0_placeIn 5 = .ok (.iload_n 1, 1) := dk_27 (dk_at dksX0_placeIn_0 5 rfl rfl)
theorem dX0_placeIn_6 : decode cX0_placeIn 6 = .ok (.if_icmp .eq 9, 3) := dk_159 0 9 (dk_at dksX0_placeIn_0 6 rfl rfl)
theorem dX0_placeIn_9 : decode cX0_placeIn 9 = .ok (.iinc 2 1, 3) := dk_132 2 1 (dk_at dksX0_placeIn_0 9 rfl rfl)
theorem dX0_placeIn_12 : decode cX0_placeIn 12 = .ok (.goto (-10), 3) := dk_167 255 246 (dk_at dksX0_placeIn_0 12 rfl rfl)
theorem dX0_placeIn_15 : decode cX0_placeIn 15 = .ok (.iload_n 2, 1) := dk_28 (dk_at dksX0_placeIn_0 15 rfl rfl)
theorem dX0_placeIn_16 : decode cX0_placeIn 16 = .ok (.ireturn, 1) := dk_172 (dk_at dksX0_placeIn_0 16 rfl rfl)
abbrev cX0_couples : ByteArray := prog_1_method_41_code
def yX0_couples : MethodName := ⟨RX0, "couples", "(II)I"⟩
def dkwX0_couples_11 : List UInt8 := [172]
abbrev dktX0_couples_11 : List UInt8 := dkwX0_couples_11 ++ []
def dkwX0_couples_10 : List UInt8 := [167, 0, 16, 4, 21, 5, 120, 2, 130, 4, 21, 6, 120, 2, 130, 126, 126, 54, 4, 167, 255, 147, 16, 254]
abbrev dktX0_couples_10 : List UInt8 := dkwX0_couples_10 ++ dktX0_couples_11
def dkwX0_couples_9 : List UInt8 := [42, 180, 0, 96, 21, 5, 46, 172, 21, 4, 21, 6, 2, 160, 0, 12, 4, 21, 5, 120, 2, 130]
abbrev dktX0_couples_9 : List UInt8 := dkwX0_couples_9 ++ dktX0_couples_10
def dkwX0_couples_8 : List UInt8 := [180, 0, 96, 21, 6, 46, 172, 21, 6, 2, 159, 0, 22, 42, 180, 0, 96, 21, 6, 46, 28, 160, 0, 11]
abbrev dktX0_couples_8 : List UInt8 := dkwX0_couples_8 ++ dktX0_couples_9
def dkwX0_couples_7 : List UInt8 := [180, 0, 96, 21, 5, 46, 28, 160, 0, 22, 21, 6, 2, 160, 0, 8, 16, 254, 167, 0, 10, 42]
abbrev dktX0_couples_7 : List UInt8 := dkwX0_couples_7 ++ dktX0_couples_8
def dkwX0_couples_6 : List UInt8 := [21, 4, 153, 0, 110, 21, 4, 184, 1, 11, 54, 5, 42, 21, 4, 29, 182, 1, 20, 54, 6, 42]
abbrev dktX0_couples_6 : List UInt8 := dkwX0_couples_6 ++ dktX0_couples_7
def dkwX0_couples_5 : List UInt8 := [182, 1, 17, 4, 29, 120, 4, 100, 54, 4, 28, 16, 100, 160, 0, 11, 42, 180, 0, 93, 21, 4, 46, 172]
abbrev dktX0_couples_5 : List UInt8 := dkwX0_couples_5 ++ dktX0_couples_6
def dkwX0_couples_4 : List UInt8 := [167, 0, 14, 42, 180, 0, 96, 29, 21, 4, 79, 132, 3, 1, 132, 4, 1, 167, 255, 223, 42, 29]
abbrev dktX0_couples_4 : List UInt8 := dkwX0_couples_4 ++ dktX0_couples_5
def dkwX0_couples_3 : List UInt8 := [16, 253, 172, 3, 62, 3, 54, 4, 21, 4, 16, 16, 162, 0, 32, 27, 21, 4, 184, 0, 232, 154, 0, 6]
abbrev dktX0_couples_3 : List UInt8 := dkwX0_couples_3 ++ dktX0_couples_4
def dkwX0_couples_2 : List UInt8 := [182, 1, 8, 2, 130, 126, 154, 0, 17, 28, 16, 100, 159, 0, 14, 27, 28, 184, 0, 232, 154, 0, 6]
abbrev dktX0_couples_2 : List UInt8 := dkwX0_couples_2 ++ dktX0_couples_3
def dkwX0_couples_1 : List UInt8 := [16, 100, 159, 0, 16, 28, 16, 16, 184, 0, 25, 154, 0, 7, 17, 252, 24, 172, 27, 42, 180, 0, 63]
abbrev dktX0_couples_1 : List UInt8 := dkwX0_couples_1 ++ dktX0_couples_2
def dkwX0_couples_0 : List UInt8 := [27, 18, 119, 184, 0, 25, 153, 0, 31, 27, 184, 0, 197, 5, 16, 10, 184, 0, 120, 153, 0, 18, 28]
abbrev dktX0_couples_0 : List UInt8 := dkwX0_couples_0 ++ dktX0_couples_1
theorem dksX0_couples_0 : cX0_couples.data.toList.drop 0 = dktX0_couples_0 := by decide +kernel
theorem dksX0_couples_1 : cX0_couples.data.toList.drop 23 = dktX0_couples_1 := dk_seg dksX0_couples_0 23 rfl rfl
theorem dksX0_couples_2 : cX0_couples.data.toList.drop 46 = dktX0_couples_2 := dk_seg dksX0_couples_1 23 rfl rfl
theorem dksX0_couples_3 : cX0_couples.data.toList.drop 69 = dktX0_couples_3 := dk_seg dksX0_couples_2 23 rfl rfl
theorem dksX0_couples_4 : cX0_couples.data.toList.drop 93 = dktX0_couples_4 := dk_seg dksX0_couples_3 24 rfl rfl
theorem dksX0_couples_5 : cX0_couples.data.toList.drop 115 = dktX0_couples_5 := dk_seg dksX0_couples_4 22 rfl rfl
theorem dksX0_couples_6 : cX0_couples.data.toList.drop 139 = dktX0_couples_6 := dk_seg dksX0_couples_5 24 rfl rfl
theorem dksX0_couples_7 : cX0_couples.data.toList.drop 161 = dktX0_couples_7 := dk_seg dksX0_couples_6 22 rfl rfl
theorem dksX0_couples_8 : cX0_couples.data.toList.drop 183 = dktX0_couples_8 := dk_seg dksX0_couples_7 22 rfl rfl
theorem dksX0_couples_9 : cX0_couples.data.toList.drop 207 = dktX0_couples_9 := dk_seg dksX0_couples_8 24 rfl rfl
theorem dksX0_couples_10 : cX0_couples.data.toList.drop 229 = dktX0_couples_10 := dk_seg dksX0_couples_9 22 rfl rfl
theorem dksX0_couples_11 : cX0_couples.data.toList.drop 253 = dktX0_couples_11 := dk_seg dksX0_couples_10 24 rfl rfl
theorem dX0_couples_0 : decode cX0_couples 0 = .ok (.iload_n 1, 1) := dk_27 (dk_at dksX0_couples_0 0 rfl rfl)
theorem dX0_couples_1 : decode cX0_couples 1 = .ok (.ldc 119, 2) := dk_18 119 (dk_at dksX0_couples_0 1 rfl rfl)
theorem dX0_couples_3 : decode cX0_couples 3 = .ok (.invokestatic 25, 3) := dk_184 0 25 (dk_at dksX0_couples_0 3 rfl rfl)
theorem dX0_couples_6 : decode cX0_couples 6 = .ok (.ifCond .eq 31, 3) := dk_153 0 31 (dk_at dksX0_couples_0 6 rfl rfl)
theorem dX0_couples_9 : decode cX0_couples 9 = .ok (.iload_n 1, 1) := dk_27 (dk_at dksX0_couples_0 9 rfl rfl)
theorem dX0_couples_10 : decode cX0_couples 10 = .ok (.invokestatic 197, 3) := dk_184 0 197 (dk_at dksX0_couples_0 10 rfl rfl)
theorem dX0_couples_13 : decode cX0_couples 13 = .ok (.iconst 2, 1) := dk_5 (dk_at dksX0_couples_0 13 rfl rfl)
theorem dX0_couples_14 : decode cX0_couples 14 = .ok (.bipush 10, 2) := dk_16 10 (dk_at dksX0_couples_0 14 rfl rfl)
theorem dX0_couples_16 : decode cX0_couples 16 = .ok (.invokestatic 120, 3) := dk_184 0 120 (dk_at dksX0_couples_0 16 rfl rfl)
theorem dX0_couples_19 : decode cX0_couples 19 = .ok (.ifCond .eq 18, 3) := dk_153 0 18 (dk_at dksX0_couples_0 19 rfl rfl)
theorem dX0_couples_22 : decode cX0_couples 22 = .ok (.iload_n 2, 1) := dk_28 (dk_at dksX0_couples_0 22 rfl rfl)
theorem dX0_couples_23 : decode cX0_couples 23 = .ok (.bipush 100, 2) := dk_16 100 (dk_at dksX0_couples_1 0 rfl rfl)
theorem dX0_couples_25 : decode cX0_couples 25 = .ok (.if_icmp .eq 16, 3) := dk_159 0 16 (dk_at dksX0_couples_1 2 rfl rfl)
theorem dX0_couples_28 : decode cX0_couples 28 = .ok (.iload_n 2, 1) := dk_28 (dk_at dksX0_couples_1 5 rfl rfl)
theorem dX0_couples_29 : decode cX0_couples 29 = .ok (.bipush 16, 2) := dk_16 16 (dk_at dksX0_couples_1 6 rfl rfl)
theorem dX0_couples_31 : decode cX0_couples 31 = .ok (.invokestatic 25, 3) := dk_184 0 25 (dk_at dksX0_couples_1 8 rfl rfl)
theorem dX0_couples_34 : decode cX0_couples 34 = .ok (.ifCond .ne 7, 3) := dk_154 0 7 (dk_at dksX0_couples_1 11 rfl rfl)
theorem dX0_couples_37 : decode cX0_couples 37 = .ok (.sipush (-1000), 3) := dk_17 252 24 (dk_at dksX0_couples_1 14 rfl rfl)
theorem dX0_couples_40 : decode cX0_couples 40 = .ok (.ireturn, 1) := dk_172 (dk_at dksX0_couples_1 17 rfl rfl)
theorem dX0_couples_41 : decode cX0_couples 41 = .ok (.iload_n 1, 1) := dk_27 (dk_at dksX0_couples_1 18 rfl rfl)
theorem dX0_couples_42 : decode cX0_couples 42 = .ok (.aload_n 0, 1) := dk_42 (dk_at dksX0_couples_1 19 rfl rfl)
theorem dX0_couples_43 : decode cX0_couples 43 = .ok (.getfield 63, 3) := dk_180 0 63 (dk_at dksX0_couples_1 20 rfl rfl)
theorem dX0_couples_46 : decode cX0_couples 46 = .ok (.invokevirtual 264, 3) := dk_182 1 8 (dk_at dksX0_couples_2 0 rfl rfl)
theorem dX0_couples_49 : decode cX0_couples 49 = .ok (.iconst (-1), 1) := dk_2 (dk_at dksX0_couples_2 3 rfl rfl)
theorem dX0_couples_50 : decode cX0_couples 50 = .ok (.ixor, 1) := dk_130 (dk_at dksX0_couples_2 4 rfl rfl)
theorem dX0_couples_51 : decode cX0_couples 51 = .ok (.iand, 1) := dk_126 (dk_at dksX0_couples_2 5 rfl rfl)
theorem dX0_couples_52 : decode cX0_couples 52 = .ok (.ifCond .ne 17, 3) := dk_154 0 17 (dk_at dksX0_couples_2 6 rfl rfl)
theorem dX0_couples_55 : decode cX0_couples 55 = .ok (.iload_n 2, 1) := dk_28 (dk_at dksX0_couples_2 9 rfl rfl)
theorem dX0_couples_56 : decode cX0_couples 56 = .ok (.bipush 100, 2) := dk_16 100 (dk_at dksX0_couples_2 10 rfl rfl)
theorem dX0_couples_58 : decode cX0_couples 58 = .ok (.if_icmp .eq 14, 3) := dk_159 0 14 (dk_at dksX0_couples_2 12 rfl rfl)
theorem dX0_couples_61 : decode cX0_couples 61 = .ok (.iload_n 1, 1) := dk_27 (dk_at dksX0_couples_2 15 rfl rfl)
theorem dX0_couples_62 : decode cX0_couples 62 = .ok (.iload_n 2, 1) := dk_28 (dk_at dksX0_couples_2 16 rfl rfl)
theorem dX0_couples_63 : decode cX0_couples 63 = .ok (.invokestatic 232, 3) := dk_184 0 232 (dk_at dksX0_couples_2 17 rfl rfl)
theorem dX0_couples_66 : decode cX0_couples 66 = .ok (.ifCond .ne 6, 3) := dk_154 0 6 (dk_at dksX0_couples_2 20 rfl rfl)
theorem dX0_couples_69 : decode cX0_couples 69 = .ok (.bipush (-3), 2) := dk_16 253 (dk_at dksX0_couples_3 0 rfl rfl)
theorem dX0_couples_71 : decode cX0_couples 71 = .ok (.ireturn, 1) := dk_172 (dk_at dksX0_couples_3 2 rfl rfl)
theorem dX0_couples_72 : decode cX0_couples 72 = .ok (.iconst 0, 1) := dk_3 (dk_at dksX0_couples_3 3 rfl rfl)
theorem dX0_couples_73 : decode cX0_couples 73 = .ok (.istore_n 3, 1) := dk_62 (dk_at dksX0_couples_3 4 rfl rfl)
theorem dX0_couples_74 : decode cX0_couples 74 = .ok (.iconst 0, 1) := dk_3 (dk_at dksX0_couples_3 5 rfl rfl)
theorem dX0_couples_75 : decode cX0_couples 75 = .ok (.istore 4, 2) := dk_54 4 (dk_at dksX0_couples_3 6 rfl rfl)
theorem dX0_couples_77 : decode cX0_couples 77 = .ok (.iload 4, 2) := dk_21 4 (dk_at dksX0_couples_3 8 rfl rfl)
theorem dX0_couples_79 : decode cX0_couples 79 = .ok (.bipush 16, 2) := dk_16 16 (dk_at dksX0_couples_3 10 rfl rfl)
theorem dX0_couples_81 : decode cX0_couples 81 = .ok (.if_icmp .ge 32, 3) := dk_162 0 32 (dk_at dksX0_couples_3 12 rfl rfl)
theorem dX0_couples_84 : decode cX0_couples 84 = .ok (.iload_n 1, 1) := dk_27 (dk_at dksX0_couples_3 15 rfl rfl)
theorem dX0_couples_85 : decode cX0_couples 85 = .ok (.iload 4, 2) := dk_21 4 (dk_at dksX0_couples_3 16 rfl rfl)
theorem dX0_couples_87 : decode cX0_couples 87 = .ok (.invokestatic 232, 3) := dk_184 0 232 (dk_at dksX0_couples_3 18 rfl rfl)
theorem dX0_couples_90 : decode cX0_couples 90 = .ok (.ifCond .ne 6, 3) := dk_154 0 6 (dk_at dksX0_couples_3 21 rfl rfl)
theorem dX0_couples_93 : decode cX0_couples 93 = .ok (.goto 14, 3) := dk_167 0 14 (dk_at dksX0_couples_4 0 rfl rfl)
theorem dX0_couples_96 : decode cX0_couples 96 = .ok (.aload_n 0, 1) := dk_42 (dk_at dksX0_couples_4 3 rfl rfl)
theorem dX0_couples_97 : decode cX0_couples 97 = .ok (.getfield 96, 3) := dk_180 0 96 (dk_at dksX0_couples_4 4 rfl rfl)
theorem dX0_couples_100 : decode cX0_couples 100 = .ok (.iload_n 3, 1) := dk_29 (dk_at dksX0_couples_4 7 rfl rfl)
theorem dX0_couples_101 : decode cX0_couples 101 = .ok (.iload 4, 2) := dk_21 4 (dk_at dksX0_couples_4 8 rfl rfl)
theorem dX0_couples_103 : decode cX0_couples 103 = .ok (.iastore, 1) := dk_79 (dk_at dksX0_couples_4 10 rfl rfl)
theorem dX0_couples_104 : decode cX0_couples 104 = .ok (.iinc 3 1, 3) := dk_132 3 1 (dk_at dksX0_couples_4 11 rfl rfl)
theorem dX0_couples_107 : decode cX0_couples 107 = .ok (.iinc 4 1, 3) := dk_132 4 1 (dk_at dksX0_couples_4 14 rfl rfl)
theorem dX0_couples_110 : decode cX0_couples 110 = .ok (.goto (-33), 3) := dk_167 255 223 (dk_at dksX0_couples_4 17 rfl rfl)
theorem dX0_couples_113 : decode cX0_couples 113 = .ok (.aload_n 0, 1) := dk_42 (dk_at dksX0_couples_4 20 rfl rfl)
theorem dX0_couples_114 : decode cX0_couples 114 = .ok (.iload_n 3, 1) := dk_29 (dk_at dksX0_couples_4 21 rfl rfl)
theorem dX0_couples_115 : decode cX0_couples 115 = .ok (.invokevirtual 273, 3) := dk_182 1 17 (dk_at dksX0_couples_5 0 rfl rfl)
theorem dX0_couples_118 : decode cX0_couples 118 = .ok (.iconst 1, 1) := dk_4 (dk_at dksX0_couples_5 3 rfl rfl)
theorem dX0_couples_119 : decode cX0_couples 119 = .ok (.iload_n 3, 1) := dk_29 (dk_at dksX0_couples_5 4 rfl rfl)
theorem dX0_couples_120 : decode cX0_couples 120 = .ok (.ishl, 1) := dk_120 (dk_at dksX0_couples_5 5 rfl rfl)
theorem dX0_couples_121 : decode cX0_couples 121 = .ok (.iconst 1, 1) := dk_4 (dk_at dksX0_couples_5 6 rfl rfl)
theorem dX0_couples_122 : decode cX0_couples 122 = .ok (.isub, 1) := dk_100 (dk_at dksX0_couples_5 7 rfl rfl)
theorem dX0_couples_123 : decode cX0_couples 123 = .ok (.istore 4, 2) := dk_54 4 (dk_at dksX0_couples_5 8 rfl rfl)
theorem dX0_couples_125 : decode cX0_couples 125 = .ok (.iload_n 2, 1) := dk_28 (dk_at dksX0_couples_5 10 rfl rfl)
theorem dX0_couples_126 : decode cX0_couples 126 = .ok (.bipush 100, 2) := dk_16 100 (dk_at dksX0_couples_5 11 rfl rfl)
theorem dX0_couples_128 : decode cX0_couples 128 = .ok (.if_icmp .ne 11, 3) := dk_160 0 11 (dk_at dksX0_couples_5 13 rfl rfl)
theorem dX0_couples_131 : decode cX0_couples 131 = .ok (.aload_n 0, 1) := dk_42 (dk_at dksX0_couples_5 16 rfl rfl)
theorem dX0_couples_132 : decode cX0_couples 132 = .ok (.getfield 93, 3) := dk_180 0 93 (dk_at dksX0_couples_5 17 rfl rfl)
theorem dX0_couples_135 : decode cX0_couples 135 = .ok (.iload 4, 2) := dk_21 4 (dk_at dksX0_couples_5 20 rfl rfl)
theorem dX0_couples_137 : decode cX0_couples 137 = .ok (.iaload, 1) := dk_46 (dk_at dksX0_couples_5 22 rfl rfl)
theorem dX0_couples_138 : decode cX0_couples 138 = .ok (.ireturn, 1) := dk_172 (dk_at dksX0_couples_5 23 rfl rfl)
theorem dX0_couples_139 : decode cX0_couples 139 = .ok (.iload 4, 2) := dk_21 4 (dk_at dksX0_couples_6 0 rfl rfl)
theorem dX0_couples_141 : decode cX0_couples 141 = .ok (.ifCond .eq 110, 3) := dk_153 0 110 (dk_at dksX0_couples_6 2 rfl rfl)
theorem dX0_couples_144 : decode cX0_couples 144 = .ok (.iload 4, 2) := dk_21 4 (dk_at dksX0_couples_6 5 rfl rfl)
theorem dX0_couples_146 : decode cX0_couples 146 = .ok (.invokestatic 267, 3) := dk_184 1 11 (dk_at dksX0_couples_6 7 rfl rfl)
theorem dX0_couples_149 : decode cX0_couples 149 = .ok (.istore 5, 2) := dk_54 5 (dk_at dksX0_couples_6 10 rfl rfl)
theorem dX0_couples_151 : decode cX0_couples 151 = .ok (.aload_n 0, 1) := dk_42 (dk_at dksX0_couples_6 12 rfl rfl)
theorem dX0_couples_152 : decode cX0_couples 152 = .ok (.iload 4, 2) := dk_21 4 (dk_at dksX0_couples_6 13 rfl rfl)
theorem dX0_couples_154 : decode cX0_couples 154 = .ok (.iload_n 3, 1) := dk_29 (dk_at dksX0_couples_6 15 rfl rfl)
theorem dX0_couples_155 : decode cX0_couples 155 = .ok (.invokevirtual 276, 3) := dk_182 1 20 (dk_at dksX0_couples_6 16 rfl rfl)
theorem dX0_couples_158 : decode cX0_couples 158 = .ok (.istore 6, 2) := dk_54 6 (dk_at dksX0_couples_6 19 rfl rfl)
theorem dX0_couples_160 : decode cX0_couples 160 = .ok (.aload_n 0, 1) := dk_42 (dk_at dksX0_couples_6 21 rfl rfl)
theorem dX0_couples_161 : decode cX0_couples 161 = .ok (.getfield 96, 3) := dk_180 0 96 (dk_at dksX0_couples_7 0 rfl rfl)
theorem dX0_couples_164 : decode cX0_couples 164 = .ok (.iload 5, 2) := dk_21 5 (dk_at dksX0_couples_7 3 rfl rfl)
theorem dX0_couples_166 : decode cX0_couples 166 = .ok (.iaload, 1) := dk_46 (dk_at dksX0_couples_7 5 rfl rfl)
theorem dX0_couples_167 : decode cX0_couples 167 = .ok (.iload_n 2, 1) := dk_28 (dk_at dksX0_couples_7 6 rfl rfl)
theorem dX0_couples_168 : decode cX0_couples 168 = .ok (.if_icmp .ne 22, 3) := dk_160 0 22 (dk_at dksX0_couples_7 7 rfl rfl)
theorem dX0_couples_171 : decode cX0_couples 171 = .ok (.iload 6, 2) := dk_21 6 (dk_at dksX0_couples_7 10 rfl rfl)
theorem dX0_couples_173 : decode cX0_couples 173 = .ok (.iconst (-1), 1) := dk_2 (dk_at dksX0_couples_7 12 rfl rfl)
theorem dX0_couples_174 : decode cX0_couples 174 = .ok (.if_icmp .ne 8, 3) := dk_160 0 8 (dk_at dksX0_couples_7 13 rfl rfl)
theorem dX0_couples_177 : decode cX0_couples 177 = .ok (.bipush (-2), 2) := dk_16 254 (dk_at dksX0_couples_7 16 rfl rfl)
theorem dX0_couples_179 : decode cX0_couples 179 = .ok (.goto 10, 3) := dk_167 0 10 (dk_at dksX0_couples_7 18 rfl rfl)
theorem dX0_couples_182 : decode cX0_couples 182 = .ok (.aload_n 0, 1) := dk_42 (dk_at dksX0_couples_7 21 rfl rfl)
theorem dX0_couples_183 : decode cX0_couples 183 = .ok (.getfield 96, 3) := dk_180 0 96 (dk_at dksX0_couples_8 0 rfl rfl)
theorem dX0_couples_186 : decode cX0_couples 186 = .ok (.iload 6, 2) := dk_21 6 (dk_at dksX0_couples_8 3 rfl rfl)
theorem dX0_couples_188 : decode cX0_couples 188 = .ok (.iaload, 1) := dk_46 (dk_at dksX0_couples_8 5 rfl rfl)
theorem dX0_couples_189 : decode cX0_couples 189 = .ok (.ireturn, 1) := dk_172 (dk_at dksX0_couples_8 6 rfl rfl)
theorem dX0_couples_190 : decode cX0_couples 190 = .ok (.iload 6, 2) := dk_21 6 (dk_at dksX0_couples_8 7 rfl rfl)
theorem dX0_couples_192 : decode cX0_couples 192 = .ok (.iconst (-1), 1) := dk_2 (dk_at dksX0_couples_8 9 rfl rfl)
theorem dX0_couples_193 : decode cX0_couples 193 = .ok (.if_icmp .eq 22, 3) := dk_159 0 22 (dk_at dksX0_couples_8 10 rfl rfl)
theorem dX0_couples_196 : decode cX0_couples 196 = .ok (.aload_n 0, 1) := dk_42 (dk_at dksX0_couples_8 13 rfl rfl)
theorem dX0_couples_197 : decode cX0_couples 197 = .ok (.getfield 96, 3) := dk_180 0 96 (dk_at dksX0_couples_8 14 rfl rfl)
theorem dX0_couples_200 : decode cX0_couples 200 = .ok (.iload 6, 2) := dk_21 6 (dk_at dksX0_couples_8 17 rfl rfl)
theorem dX0_couples_202 : decode cX0_couples 202 = .ok (.iaload, 1) := dk_46 (dk_at dksX0_couples_8 19 rfl rfl)
theorem dX0_couples_203 : decode cX0_couples 203 = .ok (.iload_n 2, 1) := dk_28 (dk_at dksX0_couples_8 20 rfl rfl)
theorem dX0_couples_204 : decode cX0_couples 204 = .ok (.if_icmp .ne 11, 3) := dk_160 0 11 (dk_at dksX0_couples_8 21 rfl rfl)
theorem dX0_couples_207 : decode cX0_couples 207 = .ok (.aload_n 0, 1) := dk_42 (dk_at dksX0_couples_9 0 rfl rfl)
theorem dX0_couples_208 : decode cX0_couples 208 = .ok (.getfield 96, 3) := dk_180 0 96 (dk_at dksX0_couples_9 1 rfl rfl)
theorem dX0_couples_211 : decode cX0_couples 211 = .ok (.iload 5, 2) := dk_21 5 (dk_at dksX0_couples_9 4 rfl rfl)
theorem dX0_couples_213 : decode cX0_couples 213 = .ok (.iaload, 1) := dk_46 (dk_at dksX0_couples_9 6 rfl rfl)
theorem dX0_couples_214 : decode cX0_couples 214 = .ok (.ireturn, 1) := dk_172 (dk_at dksX0_couples_9 7 rfl rfl)
theorem dX0_couples_215 : decode cX0_couples 215 = .ok (.iload 4, 2) := dk_21 4 (dk_at dksX0_couples_9 8 rfl rfl)
theorem dX0_couples_217 : decode cX0_couples 217 = .ok (.iload 6, 2) := dk_21 6 (dk_at dksX0_couples_9 10 rfl rfl)
theorem dX0_couples_219 : decode cX0_couples 219 = .ok (.iconst (-1), 1) := dk_2 (dk_at dksX0_couples_9 12 rfl rfl)
theorem dX0_couples_220 : decode cX0_couples 220 = .ok (.if_icmp .ne 12, 3) := dk_160 0 12 (dk_at dksX0_couples_9 13 rfl rfl)
theorem dX0_couples_223 : decode cX0_couples 223 = .ok (.iconst 1, 1) := dk_4 (dk_at dksX0_couples_9 16 rfl rfl)
theorem dX0_couples_224 : decode cX0_couples 224 = .ok (.iload 5, 2) := dk_21 5 (dk_at dksX0_couples_9 17 rfl rfl)
theorem dX0_couples_226 : decode cX0_couples 226 = .ok (.ishl, 1) := dk_120 (dk_at dksX0_couples_9 19 rfl rfl)
theorem dX0_couples_227 : decode cX0_couples 227 = .ok (.iconst (-1), 1) := dk_2 (dk_at dksX0_couples_9 20 rfl rfl)
theorem dX0_couples_228 : decode cX0_couples 228 = .ok (.ixor, 1) := dk_130 (dk_at dksX0_couples_9 21 rfl rfl)
theorem dX0_couples_229 : decode cX0_couples 229 = .ok (.goto 16, 3) := dk_167 0 16 (dk_at dksX0_couples_10 0 rfl rfl)
theorem dX0_couples_232 : decode cX0_couples 232 = .ok (.iconst 1, 1) := dk_4 (dk_at dksX0_couples_10 3 rfl rfl)
theorem dX0_couples_233 : decode cX0_couples 233 = .ok (.iload 5, 2) := dk_21 5 (dk_at dksX0_couples_10 4 rfl rfl)
theorem dX0_couples_235 : decode cX0_couples 235 = .ok (.ishl, 1) := dk_120 (dk_at dksX0_couples_10 6 rfl rfl)
theorem dX0_couples_236 : decode cX0_couples 236 = .ok (.iconst (-1), 1) := dk_2 (dk_at dksX0_couples_10 7 rfl rfl)
theorem dX0_couples_237 : decode cX0_couples 237 = .ok (.ixor, 1) := dk_130 (dk_at dksX0_couples_10 8 rfl rfl)
theorem dX0_couples_238 : decode cX0_couples 238 = .ok (.iconst 1, 1) := dk_4 (dk_at dksX0_couples_10 9 rfl rfl)
theorem dX0_couples_239 : decode cX0_couples 239 = .ok (.iload 6, 2) := dk_21 6 (dk_at dksX0_couples_10 10 rfl rfl)
theorem dX0_couples_241 : decode cX0_couples 241 = .ok (.ishl, 1) := dk_120 (dk_at dksX0_couples_10 12 rfl rfl)
theorem dX0_couples_242 : decode cX0_couples 242 = .ok (.iconst (-1), 1) := dk_2 (dk_at dksX0_couples_10 13 rfl rfl)
theorem dX0_couples_243 : decode cX0_couples 243 = .ok (.ixor, 1) := dk_130 (dk_at dksX0_couples_10 14 rfl rfl)
theorem dX0_couples_244 : decode cX0_couples 244 = .ok (.iand, 1) := dk_126 (dk_at dksX0_couples_10 15 rfl rfl)
theorem dX0_couples_245 : decode cX0_couples 245 = .ok (.iand, 1) := dk_126 (dk_at dksX0_couples_10 16 rfl rfl)
theorem dX0_couples_246 : decode cX0_couples 246 = .ok (.istore 4, 2) := dk_54 4 (dk_at dksX0_couples_10 17 rfl rfl)
theorem dX0_couples_248 : decode cX0_couples 248 = .ok (.goto (-109), 3) := dk_167 255 147 (dk_at dksX0_couples_10 19 rfl rfl)
theorem dX0_couples_251 : decode cX0_couples 251 = .ok (.bipush (-2), 2) := dk_16 254 (dk_at dksX0_couples_10 22 rfl rfl)
theorem dX0_couples_253 : decode cX0_couples 253 = .ok (.ireturn, 1) := dk_172 (dk_at dksX0_couples_11 0 rfl rfl)
abbrev cX0_laysSaid : ByteArray := prog_1_method_39_code
def yX0_laysSaid : MethodName := ⟨RX0, "laysSaid", "(I)V"⟩
def dkwX0_laysSaid_5 : List UInt8 := [132, 4, 1, 167, 255, 182, 132, 2, 1, 167, 255, 133, 177]
abbrev dktX0_laysSaid_5 : List UInt8 := dkwX0_laysSaid_5 ++ []
def dkwX0_laysSaid_4 : List UInt8 := [180, 0, 93, 28, 4, 29, 120, 2, 130, 126, 4, 21, 4, 120, 2, 130, 126, 46, 96, 184, 0, 7, 79]
abbrev dktX0_laysSaid_4 : List UInt8 := dkwX0_laysSaid_4 ++ dktX0_laysSaid_5
def dkwX0_laysSaid_3 : List UInt8 := [158, 0, 45, 42, 180, 0, 93, 28, 42, 180, 0, 93, 28, 46, 42, 29, 21, 4, 182, 1, 14, 42]
abbrev dktX0_laysSaid_3 : List UInt8 := dkwX0_laysSaid_3 ++ dktX0_laysSaid_4
def dkwX0_laysSaid_2 : List UInt8 := [162, 0, 74, 28, 153, 0, 70, 28, 21, 4, 184, 0, 232, 153, 0, 55, 42, 29, 21, 4, 182, 1, 14]
abbrev dktX0_laysSaid_2 : List UInt8 := dkwX0_laysSaid_2 ++ dktX0_laysSaid_3
def dkwX0_laysSaid_1 : List UInt8 := [167, 0, 15, 42, 180, 0, 93, 28, 4, 29, 120, 2, 130, 126, 46, 79, 29, 4, 96, 54, 4, 21, 4, 27]
abbrev dktX0_laysSaid_1 : List UInt8 := dkwX0_laysSaid_1 ++ dktX0_laysSaid_2
def dkwX0_laysSaid_0 : List UInt8 := [3, 61, 28, 4, 27, 120, 162, 0, 122, 28, 184, 1, 11, 62, 42, 180, 0, 93, 28, 28, 154, 0, 7, 3]
abbrev dktX0_laysSaid_0 : List UInt8 := dkwX0_laysSaid_0 ++ dktX0_laysSaid_1
theorem dksX0_laysSaid_0 : cX0_laysSaid.data.toList.drop 0 = dktX0_laysSaid_0 := by decide +kernel
theorem dksX0_laysSaid_1 : cX0_laysSaid.data.toList.drop 24 = dktX0_laysSaid_1 := dk_seg dksX0_laysSaid_0 24 rfl rfl
theorem dksX0_laysSaid_2 : cX0_laysSaid.data.toList.drop 48 = dktX0_laysSaid_2 := dk_seg dksX0_laysSaid_1 24 rfl rfl
theorem dksX0_laysSaid_3 : cX0_laysSaid.data.toList.drop 71 = dktX0_laysSaid_3 := dk_seg dksX0_laysSaid_2 23 rfl rfl
theorem dksX0_laysSaid_4 : cX0_laysSaid.data.toList.drop 93 = dktX0_laysSaid_4 := dk_seg dksX0_laysSaid_3 22 rfl rfl
theorem dksX0_laysSaid_5 : cX0_laysSaid.data.toList.drop 116 = dktX0_laysSaid_5 := dk_seg dksX0_laysSaid_4 23 rfl rfl
theorem dX0_laysSaid_0 : decode cX0_laysSaid 0 = .ok (.iconst 0, 1) := dk_3 (dk_at dksX0_laysSaid_0 0 rfl rfl)
theorem dX0_laysSaid_1 : decode cX0_laysSaid 1 = .ok (.istore_n 2, 1) := dk_61 (dk_at dksX0_laysSaid_0 1 rfl rfl)
theorem dX0_laysSaid_2 : decode cX0_laysSaid 2 = .ok (.iload_n 2, 1) := dk_28 (dk_at dksX0_laysSaid_0 2 rfl rfl)
theorem dX0_laysSaid_3 : decode cX0_laysSaid 3 = .ok (.iconst 1, 1) := dk_4 (dk_at dksX0_laysSaid_0 3 rfl rfl)
theorem dX0_laysSaid_4 : decode cX0_laysSaid 4 = .ok (.iload_n 1, 1) := dk_27 (dk_at dksX0_laysSaid_0 4 rfl rfl)
theorem dX0_laysSaid_5 : decode cX0_laysSaid 5 = .ok (.ishl, 1) := dk_120 (dk_at dksX0_laysSaid_0 5 rfl rfl)
theorem dX0_laysSaid_6 : decode cX0_laysSaid 6 = .ok (.if_icmp .ge 122, 3) := dk_162 0 122 (dk_at dksX0_laysSaid_0 6 rfl rfl)
theorem dX0_laysSaid_9 : decode cX0_laysSaid 9 = .ok (.iload_n 2, 1) := dk_28 (dk_at dksX0_laysSaid_0 9 rfl rfl)
theorem dX0_laysSaid_10 : decode cX0_laysSaid 10 = .ok (.invokestatic 267, 3) := dk_184 1 11 (dk_at dksX0_laysSaid_0 10 rfl rfl)
theorem dX0_laysSaid_13 : decode cX0_laysSaid 13 = .ok (.istore_n 3, 1) := dk_62 (dk_at dksX0_laysSaid_0 13 rfl rfl)
theorem dX0_laysSaid_14 : decode cX0_laysSaid 14 = .ok (.aload_n 0, 1) := dk_42 (dk_at dksX0_laysSaid_0 14 rfl rfl)
theorem dX0_laysSaid_15 : decode cX0_laysSaid 15 = .ok (.getfield 93, 3) := dk_180 0 93 (dk_at dksX0_laysSaid_0 15 rfl rfl)
theorem dX0_laysSaid_18 : decode cX0_laysSaid 18 = .ok (.iload_n 2, 1) := dk_28 (dk_at dksX0_laysSaid_0 18 rfl rfl)
theorem dX0_laysSaid_19 : decode cX0_laysSaid 19 = .ok (.iload_n 2, 1) := dk_28 (dk_at dksX0_laysSaid_0 19 rfl rfl)
theorem dX0_laysSaid_20 : decode cX0_laysSaid 20 = .ok (.ifCond .ne 7, 3) := dk_154 0 7 (dk_at dksX0_laysSaid_0 20 rfl rfl)
theorem dX0_laysSaid_23 : decode cX0_laysSaid 23 = .ok (.iconst 0, 1) := dk_3 (dk_at dksX0_laysSaid_0 23 rfl rfl)
theorem dX0_laysSaid_24 : decode cX0_laysSaid 24 = .ok (.goto 15, 3) := dk_167 0 15 (dk_at dksX0_laysSaid_1 0 rfl rfl)
theorem dX0_laysSaid_27 : decode cX0_laysSaid 27 = .ok (.aload_n 0, 1) := dk_42 (dk_at dksX0_laysSaid_1 3 rfl rfl)
theorem dX0_laysSaid_28 : decode cX0_laysSaid 28 = .ok (.getfield 93, 3) := dk_180 0 93 (dk_at dksX0_laysSaid_1 4 rfl rfl)
theorem dX0_laysSaid_31 : decode cX0_laysSaid 31 = .ok (.iload_n 2, 1) := dk_28 (dk_at dksX0_laysSaid_1 7 rfl rfl)
theorem dX0_laysSaid_32 : decode cX0_laysSaid 32 = .ok (.iconst 1, 1) := dk_4 (dk_at dksX0_laysSaid_1 8 rfl rfl)
theorem dX0_laysSaid_33 : decode cX0_laysSaid 33 = .ok (.iload_n 3, 1) := dk_29 (dk_at dksX0_laysSaid_1 9 rfl rfl)
theorem dX0_laysSaid_34 : decode cX0_laysSaid 34 = .ok (.ishl, 1) := dk_120 (dk_at dksX0_laysSaid_1 10 rfl rfl)
theorem dX0_laysSaid_35 : decode cX0_laysSaid 35 = .ok (.iconst (-1), 1) := dk_2 (dk_at dksX0_laysSaid_1 11 rfl rfl)
theorem dX0_laysSaid_36 : decode cX0_laysSaid 36 = .ok (.ixor, 1) := dk_130 (dk_at dksX0_laysSaid_1 12 rfl rfl)
theorem dX0_laysSaid_37 : decode cX0_laysSaid 37 = .ok (.iand, 1) := dk_126 (dk_at dksX0_laysSaid_1 13 rfl rfl)
theorem dX0_laysSaid_38 : decode cX0_laysSaid 38 = .ok (.iaload, 1) := dk_46 (dk_at dksX0_laysSaid_1 14 rfl rfl)
theorem dX0_laysSaid_39 : decode cX0_laysSaid 39 = .ok (.iastore, 1) := dk_79 (dk_at dksX0_laysSaid_1 15 rfl rfl)
theorem dX0_laysSaid_40 : decode cX0_laysSaid 40 = .ok (.iload_n 3, 1) := dk_29 (dk_at dksX0_laysSaid_1 16 rfl rfl)
theorem dX0_laysSaid_41 : decode cX0_laysSaid 41 = .ok (.iconst 1, 1) := dk_4 (dk_at dksX0_laysSaid_1 17 rfl rfl)
theorem dX0_laysSaid_42 : decode cX0_laysSaid 42 = .ok (.iadd, 1) := dk_96 (dk_at dksX0_laysSaid_1 18 rfl rfl)
theorem dX0_laysSaid_43 : decode cX0_laysSaid 43 = .ok (.istore 4, 2) := dk_54 4 (dk_at dksX0_laysSaid_1 19 rfl rfl)
theorem dX0_laysSaid_45 : decode cX0_laysSaid 45 = .ok (.iload 4, 2) := dk_21 4 (dk_at dksX0_laysSaid_1 21 rfl rfl)
theorem dX0_laysSaid_47 : decode cX0_laysSaid 47 = .ok (.iload_n 1, 1) := dk_27 (dk_at dksX0_laysSaid_1 23 rfl rfl)
theorem dX0_laysSaid_48 : decode cX0_laysSaid 48 = .ok (.if_icmp .ge 74, 3) := dk_162 0 74 (dk_at dksX0_laysSaid_2 0 rfl rfl)
theorem dX0_laysSaid_51 : decode cX0_laysSaid 51 = .ok (.iload_n 2, 1) := dk_28 (dk_at dksX0_laysSaid_2 3 rfl rfl)
theorem dX0_laysSaid_52 : decode cX0_laysSaid 52 = .ok (.ifCond .eq 70, 3) := dk_153 0 70 (dk_at dksX0_laysSaid_2 4 rfl rfl)
theorem dX0_laysSaid_55 : decode cX0_laysSaid 55 = .ok (.iload_n 2, 1) := dk_28 (dk_at dksX0_laysSaid_2 7 rfl rfl)
theorem dX0_laysSaid_56 : decode cX0_laysSaid 56 = .ok (.iload 4, 2) := dk_21 4 (dk_at dksX0_laysSaid_2 8 rfl rfl)
theorem dX0_laysSaid_58 : decode cX0_laysSaid 58 = .ok (.invokestatic 232, 3) := dk_184 0 232 (dk_at dksX0_laysSaid_2 10 rfl rfl)
theorem dX0_laysSaid_61 : decode cX0_laysSaid 61 = .ok (.ifCond .eq 55, 3) := dk_153 0 55 (dk_at dksX0_laysSaid_2 13 rfl rfl)
theorem dX0_laysSaid_64 : decode cX0_laysSaid 64 = .ok (.aload_n 0, 1) := dk_42 (dk_at dksX0_laysSaid_2 16 rfl rfl)
theorem dX0_laysSaid_65 : decode cX0_laysSaid 65 = .ok (.iload_n 3, 1) := dk_29 (dk_at dksX0_laysSaid_2 17 rfl rfl)
theorem dX0_laysSaid_66 : decode cX0_laysSaid 66 = .ok (.iload 4, 2) := dk_21 4 (dk_at dksX0_laysSaid_2 18 rfl rfl)
theorem dX0_laysSaid_68 : decode cX0_laysSaid 68 = .ok (.invokevirtual 270, 3) := dk_182 1 14 (dk_at dksX0_laysSaid_2 20 rfl rfl)
theorem dX0_laysSaid_71 : decode cX0_laysSaid 71 = .ok (.ifCond .le 45, 3) := dk_158 0 45 (dk_at dksX0_laysSaid_3 0 rfl rfl)
theorem dX0_laysSaid_74 : decode cX0_laysSaid 74 = .ok (.aload_n 0, 1) := dk_42 (dk_at dksX0_laysSaid_3 3 rfl rfl)
theorem dX0_laysSaid_75 : decode cX0_laysSaid 75 = .ok (.getfield 93, 3) := dk_180 0 93 (dk_at dksX0_laysSaid_3 4 rfl rfl)
theorem dX0_laysSaid_78 : decode cX0_laysSaid 78 = .ok (.iload_n 2, 1) := dk_28 (dk_at dksX0_laysSaid_3 7 rfl rfl)
theorem dX0_laysSaid_79 : decode cX0_laysSaid 79 = .ok (.aload_n 0, 1) := dk_42 (dk_at dksX0_laysSaid_3 8 rfl rfl)
theorem dX0_laysSaid_80 : decode cX0_laysSaid 80 = .ok (.getfield 93, 3) := dk_180 0 93 (dk_at dksX0_laysSaid_3 9 rfl rfl)
theorem dX0_laysSaid_83 : decode cX0_laysSaid 83 = .ok (.iload_n 2, 1) := dk_28 (dk_at dksX0_laysSaid_3 12 rfl rfl)
theorem dX0_laysSaid_84 : decode cX0_laysSaid 84 = .ok (.iaload, 1) := dk_46 (dk_at dksX0_laysSaid_3 13 rfl rfl)
theorem dX0_laysSaid_85 : decode cX0_laysSaid 85 = .ok (.aload_n 0, 1) := dk_42 (dk_at dksX0_laysSaid_3 14 rfl rfl)
theorem dX0_laysSaid_86 : decode cX0_laysSaid 86 = .ok (.iload_n 3, 1) := dk_29 (dk_at dksX0_laysSaid_3 15 rfl rfl)
theorem dX0_laysSaid_87 : decode cX0_laysSaid 87 = .ok (.iload 4, 2) := dk_21 4 (dk_at dksX0_laysSaid_3 16 rfl rfl)
theorem dX0_laysSaid_89 : decode cX0_laysSaid 89 = .ok (.invokevirtual 270, 3) := dk_182 1 14 (dk_at dksX0_laysSaid_3 18 rfl rfl)
theorem dX0_laysSaid_92 : decode cX0_laysSaid 92 = .ok (.aload_n 0, 1) := dk_42 (dk_at dksX0_laysSaid_3 21 rfl rfl)
theorem dX0_laysSaid_93 : decode cX0_laysSaid 93 = .ok (.getfield 93, 3) := dk_180 0 93 (dk_at dksX0_laysSaid_4 0 rfl rfl)
theorem dX0_laysSaid_96 : decode cX0_laysSaid 96 = .ok (.iload_n 2, 1) := dk_28 (dk_at dksX0_laysSaid_4 3 rfl rfl)
theorem dX0_laysSaid_97 : decode cX0_laysSaid 97 = .ok (.iconst 1, 1) := dk_4 (dk_at dksX0_laysSaid_4 4 rfl rfl)
theorem dX0_laysSaid_98 : decode cX0_laysSaid 98 = .ok (.iload_n 3, 1) := dk_29 (dk_at dksX0_laysSaid_4 5 rfl rfl)
theorem dX0_laysSaid_99 : decode cX0_laysSaid 99 = .ok (.ishl, 1) := dk_120 (dk_at dksX0_laysSaid_4 6 rfl rfl)
theorem dX0_laysSaid_100 : decode cX0_laysSaid 100 = .ok (.iconst (-1), 1) := dk_2 (dk_at dksX0_laysSaid_4 7 rfl rfl)
theorem dX0_laysSaid_101 : decode cX0_laysSaid 101 = .ok (.ixor, 1) := dk_130 (dk_at dksX0_laysSaid_4 8 rfl rfl)
theorem dX0_laysSaid_102 : decode cX0_laysSaid 102 = .ok (.iand, 1) := dk_126 (dk_at dksX0_laysSaid_4 9 rfl rfl)
theorem dX0_laysSaid_103 : decode cX0_laysSaid 103 = .ok (.iconst 1, 1) := dk_4 (dk_at dksX0_laysSaid_4 10 rfl rfl)
theorem dX0_laysSaid_104 : decode cX0_laysSaid 104 = .ok (.iload 4, 2) := dk_21 4 (dk_at dksX0_laysSaid_4 11 rfl rfl)
theorem dX0_laysSaid_106 : decode cX0_laysSaid 106 = .ok (.ishl, 1) := dk_120 (dk_at dksX0_laysSaid_4 13 rfl rfl)
theorem dX0_laysSaid_107 : decode cX0_laysSaid 107 = .ok (.iconst (-1), 1) := dk_2 (dk_at dksX0_laysSaid_4 14 rfl rfl)
theorem dX0_laysSaid_108 : decode cX0_laysSaid 108 = .ok (.ixor, 1) := dk_130 (dk_at dksX0_laysSaid_4 15 rfl rfl)
theorem dX0_laysSaid_109 : decode cX0_laysSaid 109 = .ok (.iand, 1) := dk_126 (dk_at dksX0_laysSaid_4 16 rfl rfl)
theorem dX0_laysSaid_110 : decode cX0_laysSaid 110 = .ok (.iaload, 1) := dk_46 (dk_at dksX0_laysSaid_4 17 rfl rfl)
theorem dX0_laysSaid_111 : decode cX0_laysSaid 111 = .ok (.iadd, 1) := dk_96 (dk_at dksX0_laysSaid_4 18 rfl rfl)
theorem dX0_laysSaid_112 : decode cX0_laysSaid 112 = .ok (.invokestatic 7, 3) := dk_184 0 7 (dk_at dksX0_laysSaid_4 19 rfl rfl)
theorem dX0_laysSaid_115 : decode cX0_laysSaid 115 = .ok (.iastore, 1) := dk_79 (dk_at dksX0_laysSaid_4 22 rfl rfl)
theorem dX0_laysSaid_116 : decode cX0_laysSaid 116 = .ok (.iinc 4 1, 3) := dk_132 4 1 (dk_at dksX0_laysSaid_5 0 rfl rfl)
theorem dX0_laysSaid_119 : decode cX0_laysSaid 119 = .ok (.goto (-74), 3) := dk_167 255 182 (dk_at dksX0_laysSaid_5 3 rfl rfl)
theorem dX0_laysSaid_122 : decode cX0_laysSaid 122 = .ok (.iinc 2 1, 3) := dk_132 2 1 (dk_at dksX0_laysSaid_5 6 rfl rfl)
theorem dX0_laysSaid_125 : decode cX0_laysSaid 125 = .ok (.goto (-123), 3) := dk_167 255 133 (dk_at dksX0_laysSaid_5 9 rfl rfl)
theorem dX0_laysSaid_128 : decode cX0_laysSaid 128 = .ok (.return_, 1) := dk_177 (dk_at dksX0_laysSaid_5 12 rfl rfl)
abbrev cX0_lowest : ByteArray := prog_1_method_5_code
def yX0_lowest : MethodName := ⟨RX0, "lowest", "(I)I"⟩
theorem dX0_lowest_0 : decode cX0_lowest 0 = .ok (.iload_n 0, 1) := by decide +kernel
theorem dX0_lowest_1 : decode cX0_lowest 1 = .ok (.invokestatic 10, 3) := by decide +kernel
theorem dX0_lowest_4 : decode cX0_lowest 4 = .ok (.ireturn, 1) := by decide +kernel
abbrev cX0_talkOf : ByteArray := prog_1_method_38_code
def yX0_talkOf : MethodName := ⟨RX0, "talkOf", "(II)I"⟩
def dkwX0_talkOf_1 : List UInt8 := [180, 0, 96, 28, 46, 50, 182, 0, 206, 172]
abbrev dktX0_talkOf_1 : List UInt8 := dkwX0_talkOf_1 ++ []
def dkwX0_talkOf_0 : List UInt8 := [42, 180, 0, 63, 180, 0, 109, 42, 180, 0, 96, 27, 46, 50, 42, 180, 0, 63, 180, 0, 109, 42]
abbrev dktX0_talkOf_0 : List UInt8 := dkwX0_talkOf_0 ++ dktX0_talkOf_1
theorem dksX0_talkOf_0 : cX0_talkOf.data.toList.drop 0 = dktX0_talkOf_0 := by decide +kernel
theorem dksX0_talkOf_1 : cX0_talkOf.data.toList.drop 22 = dktX0_talkOf_1 := dk_seg dksX0_talkOf_0 22 rfl rfl
theorem dX0_talkOf_0 : decode cX0_talkOf 0 = .ok (.aload_n 0, 1) := dk_42 (dk_at dksX0_talkOf_0 0 rfl rfl)
theorem dX0_talkOf_1 : decode cX0_talkOf 1 = .ok (.getfield 63, 3) := dk_180 0 63 (dk_at dksX0_talkOf_0 1 rfl rfl)
theorem dX0_talkOf_4 : decode cX0_talkOf 4 = .ok (.getfield 109, 3) := dk_180 0 109 (dk_at dksX0_talkOf_0 4 rfl rfl)
theorem dX0_talkOf_7 : decode cX0_talkOf 7 = .ok (.aload_n 0, 1) := dk_42 (dk_at dksX0_talkOf_0 7 rfl rfl)
theorem dX0_talkOf_8 : decode cX0_talkOf 8 = .ok (.getfield 96, 3) := dk_180 0 96 (dk_at dksX0_talkOf_0 8 rfl rfl)
theorem dX0_talkOf_11 : decode cX0_talkOf 11 = .ok (.iload_n 1, 1) := dk_27 (dk_at dksX0_talkOf_0 11 rfl rfl)
theorem dX0_talkOf_12 : decode cX0_talkOf 12 = .ok (.iaload, 1) := dk_46 (dk_at dksX0_talkOf_0 12 rfl rfl)
theorem dX0_talkOf_13 : decode cX0_talkOf 13 = .ok (.aaload, 1) := dk_50 (dk_at dksX0_talkOf_0 13 rfl rfl)
theorem dX0_talkOf_14 : decode cX0_talkOf 14 = .ok (.aload_n 0, 1) := dk_42 (dk_at dksX0_talkOf_0 14 rfl rfl)
theorem dX0_talkOf_15 : decode cX0_talkOf 15 = .ok (.getfield 63, 3) := dk_180 0 63 (dk_at dksX0_talkOf_0 15 rfl rfl)
theorem dX0_talkOf_18 : decode cX0_talkOf 18 = .ok (.getfield 109, 3) := dk_180 0 109 (dk_at dksX0_talkOf_0 18 rfl rfl)
theorem dX0_talkOf_21 : decode cX0_talkOf 21 = .ok (.aload_n 0, 1) := dk_42 (dk_at dksX0_talkOf_0 21 rfl rfl)
theorem dX0_talkOf_22 : decode cX0_talkOf 22 = .ok (.getfield 96, 3) := dk_180 0 96 (dk_at dksX0_talkOf_1 0 rfl rfl)
theorem dX0_talkOf_25 : decode cX0_talkOf 25 = .ok (.iload_n 2, 1) := dk_28 (dk_at dksX0_talkOf_1 3 rfl rfl)
theorem dX0_talkOf_26 : decode cX0_talkOf 26 = .ok (.iaload, 1) := dk_46 (dk_at dksX0_talkOf_1 4 rfl rfl)
theorem dX0_talkOf_27 : decode cX0_talkOf 27 = .ok (.aaload, 1) := dk_50 (dk_at dksX0_talkOf_1 5 rfl rfl)
theorem dX0_talkOf_28 : decode cX0_talkOf 28 = .ok (.invokevirtual 206, 3) := dk_182 0 206 (dk_at dksX0_talkOf_1 6 rfl rfl)
theorem dX0_talkOf_31 : decode cX0_talkOf 31 = .ok (.ireturn, 1) := dk_172 (dk_at dksX0_talkOf_1 9 rfl rfl)
abbrev cX0_withWhom : ByteArray := prog_1_method_40_code
def yX0_withWhom : MethodName := ⟨RX0, "withWhom", "(II)I"⟩
def dkwX0_withWhom_3 : List UInt8 := [160, 0, 6, 21, 4, 172, 132, 4, 1, 167, 255, 189, 2, 172]
abbrev dktX0_withWhom_3 : List UInt8 := dkwX0_withWhom_3 ++ []
def dkwX0_withWhom_2 : List UInt8 := [27, 4, 29, 120, 2, 130, 126, 4, 21, 4, 120, 2, 130, 126, 46, 96, 42, 180, 0, 93, 27, 46]
abbrev dktX0_withWhom_2 : List UInt8 := dkwX0_withWhom_2 ++ dktX0_withWhom_3
def dkwX0_withWhom_1 : List UInt8 := [153, 0, 52, 42, 29, 21, 4, 182, 1, 14, 158, 0, 42, 42, 29, 21, 4, 182, 1, 14, 42, 180, 0, 93]
abbrev dktX0_withWhom_1 : List UInt8 := dkwX0_withWhom_1 ++ dktX0_withWhom_2
def dkwX0_withWhom_0 : List UInt8 := [27, 184, 1, 11, 62, 29, 4, 96, 54, 4, 21, 4, 28, 162, 0, 67, 27, 21, 4, 184, 0, 232]
abbrev dktX0_withWhom_0 : List UInt8 := dkwX0_withWhom_0 ++ dktX0_withWhom_1
theorem dksX0_withWhom_0 : cX0_withWhom.data.toList.drop 0 = dktX0_withWhom_0 := by decide +kernel
theorem dksX0_withWhom_1 : cX0_withWhom.data.toList.drop 22 = dktX0_withWhom_1 := dk_seg dksX0_withWhom_0 22 rfl rfl
theorem dksX0_withWhom_2 : cX0_withWhom.data.toList.drop 46 = dktX0_withWhom_2 := dk_seg dksX0_withWhom_1 24 rfl rfl
theorem dksX0_withWhom_3 : cX0_withWhom.data.toList.drop 68 = dktX0_withWhom_3 := dk_seg dksX0_withWhom_2 22 rfl rfl
theorem dX0_withWhom_0 : decode cX0_withWhom 0 = .ok (.iload_n 1, 1) := dk_27 (dk_at dksX0_withWhom_0 0 rfl rfl)
theorem dX0_withWhom_1 : decode cX0_withWhom 1 = .ok (.invokestatic 267, 3) := dk_184 1 11 (dk_at dksX0_withWhom_0 1 rfl rfl)
theorem dX0_withWhom_4 : decode cX0_withWhom 4 = .ok (.istore_n 3, 1) := dk_62 (dk_at dksX0_withWhom_0 4 rfl rfl)
theorem dX0_withWhom_5 : decode cX0_withWhom 5 = .ok (.iload_n 3, 1) := dk_29 (dk_at dksX0_withWhom_0 5 rfl rfl)
theorem dX0_withWhom_6 : decode cX0_withWhom 6 = .ok (.iconst 1, 1) := dk_4 (dk_at dksX0_withWhom_0 6 rfl rfl)
theorem dX0_withWhom_7 : decode cX0_withWhom 7 = .ok (.iadd, 1) := dk_96 (dk_at dksX0_withWhom_0 7 rfl rfl)
theorem dX0_withWhom_8 : decode cX0_withWhom 8 = .ok (.istore 4, 2) := dk_54 4 (dk_at dksX0_withWhom_0 8 rfl rfl)
theorem dX0_withWhom_10 : decode cX0_withWhom 10 = .ok (.iload 4, 2) := dk_21 4 (dk_at dksX0_withWhom_0 10 rfl rfl)
theorem dX0_withWhom_12 : decode cX0_withWhom 12 = .ok (.iload_n 2, 1) := dk_28 (dk_at dksX0_withWhom_0 12 rfl rfl)
theorem dX0_withWhom_13 : decode cX0_withWhom 13 = .ok (.if_icmp .ge 67, 3) := dk_162 0 67 (dk_at dksX0_withWhom_0 13 rfl rfl)
theorem dX0_withWhom_16 : decode cX0_withWhom 16 = .ok (.iload_n 1, 1) := dk_27 (dk_at dksX0_withWhom_0 16 rfl rfl)
theorem dX0_withWhom_17 : decode cX0_withWhom 17 = .ok (.iload 4, 2) := dk_21 4 (dk_at dksX0_withWhom_0 17 rfl rfl)
theorem dX0_withWhom_19 : decode cX0_withWhom 19 = .ok (.invokestatic 232, 3) := dk_184 0 232 (dk_at dksX0_withWhom_0 19 rfl rfl)
theorem dX0_withWhom_22 : decode cX0_withWhom 22 = .ok (.ifCond .eq 52, 3) := dk_153 0 52 (dk_at dksX0_withWhom_1 0 rfl rfl)
theorem dX0_withWhom_25 : decode cX0_withWhom 25 = .ok (.aload_n 0, 1) := dk_42 (dk_at dksX0_withWhom_1 3 rfl rfl)
theorem dX0_withWhom_26 : decode cX0_withWhom 26 = .ok (.iload_n 3, 1) := dk_29 (dk_at dksX0_withWhom_1 4 rfl rfl)
theorem dX0_withWhom_27 : decode cX0_withWhom 27 = .ok (.iload 4, 2) := dk_21 4 (dk_at dksX0_withWhom_1 5 rfl rfl)
theorem dX0_withWhom_29 : decode cX0_withWhom 29 = .ok (.invokevirtual 270, 3) := dk_182 1 14 (dk_at dksX0_withWhom_1 7 rfl rfl)
theorem dX0_withWhom_32 : decode cX0_withWhom 32 = .ok (.ifCond .le 42, 3) := dk_158 0 42 (dk_at dksX0_withWhom_1 10 rfl rfl)
theorem dX0_withWhom_35 : decode cX0_withWhom 35 = .ok (.aload_n 0, 1) := dk_42 (dk_at dksX0_withWhom_1 13 rfl rfl)
theorem dX0_withWhom_36 : decode cX0_withWhom 36 = .ok (.iload_n 3, 1) := dk_29 (dk_at dksX0_withWhom_1 14 rfl rfl)
theorem dX0_withWhom_37 : decode cX0_withWhom 37 = .ok (.iload 4, 2) := dk_21 4 (dk_at dksX0_withWhom_1 15 rfl rfl)
theorem dX0_withWhom_39 : decode cX0_withWhom 39 = .ok (.invokevirtual 270, 3) := dk_182 1 14 (dk_at dksX0_withWhom_1 17 rfl rfl)
theorem dX0_withWhom_42 : decode cX0_withWhom 42 = .ok (.aload_n 0, 1) := dk_42 (dk_at dksX0_withWhom_1 20 rfl rfl)
theorem dX0_withWhom_43 : decode cX0_withWhom 43 = .ok (.getfield 93, 3) := dk_180 0 93 (dk_at dksX0_withWhom_1 21 rfl rfl)
theorem dX0_withWhom_46 : decode cX0_withWhom 46 = .ok (.iload_n 1, 1) := dk_27 (dk_at dksX0_withWhom_2 0 rfl rfl)
theorem dX0_withWhom_47 : decode cX0_withWhom 47 = .ok (.iconst 1, 1) := dk_4 (dk_at dksX0_withWhom_2 1 rfl rfl)
theorem dX0_withWhom_48 : decode cX0_withWhom 48 = .ok (.iload_n 3, 1) := dk_29 (dk_at dksX0_withWhom_2 2 rfl rfl)
theorem dX0_withWhom_49 : decode cX0_withWhom 49 = .ok (.ishl, 1) := dk_120 (dk_at dksX0_withWhom_2 3 rfl rfl)
theorem dX0_withWhom_50 : decode cX0_withWhom 50 = .ok (.iconst (-1), 1) := dk_2 (dk_at dksX0_withWhom_2 4 rfl rfl)
theorem dX0_withWhom_51 : decode cX0_withWhom 51 = .ok (.ixor, 1) := dk_130 (dk_at dksX0_withWhom_2 5 rfl rfl)
theorem dX0_withWhom_52 : decode cX0_withWhom 52 = .ok (.iand, 1) := dk_126 (dk_at dksX0_withWhom_2 6 rfl rfl)
theorem dX0_withWhom_53 : decode cX0_withWhom 53 = .ok (.iconst 1, 1) := dk_4 (dk_at dksX0_withWhom_2 7 rfl rfl)
theorem dX0_withWhom_54 : decode cX0_withWhom 54 = .ok (.iload 4, 2) := dk_21 4 (dk_at dksX0_withWhom_2 8 rfl rfl)
theorem dX0_withWhom_56 : decode cX0_withWhom 56 = .ok (.ishl, 1) := dk_120 (dk_at dksX0_withWhom_2 10 rfl rfl)
theorem dX0_withWhom_57 : decode cX0_withWhom 57 = .ok (.iconst (-1), 1) := dk_2 (dk_at dksX0_withWhom_2 11 rfl rfl)
theorem dX0_withWhom_58 : decode cX0_withWhom 58 = .ok (.ixor, 1) := dk_130 (dk_at dksX0_withWhom_2 12 rfl rfl)
theorem dX0_withWhom_59 : decode cX0_withWhom 59 = .ok (.iand, 1) := dk_126 (dk_at dksX0_withWhom_2 13 rfl rfl)
theorem dX0_withWhom_60 : decode cX0_withWhom 60 = .ok (.iaload, 1) := dk_46 (dk_at dksX0_withWhom_2 14 rfl rfl)
theorem dX0_withWhom_61 : decode cX0_withWhom 61 = .ok (.iadd, 1) := dk_96 (dk_at dksX0_withWhom_2 15 rfl rfl)
theorem dX0_withWhom_62 : decode cX0_withWhom 62 = .ok (.aload_n 0, 1) := dk_42 (dk_at dksX0_withWhom_2 16 rfl rfl)
theorem dX0_withWhom_63 : decode cX0_withWhom 63 = .ok (.getfield 93, 3) := dk_180 0 93 (dk_at dksX0_withWhom_2 17 rfl rfl)
theorem dX0_withWhom_66 : decode cX0_withWhom 66 = .ok (.iload_n 1, 1) := dk_27 (dk_at dksX0_withWhom_2 20 rfl rfl)
theorem dX0_withWhom_67 : decode cX0_withWhom 67 = .ok (.iaload, 1) := dk_46 (dk_at dksX0_withWhom_2 21 rfl rfl)
theorem dX0_withWhom_68 : decode cX0_withWhom 68 = .ok (.if_icmp .ne 6, 3) := dk_160 0 6 (dk_at dksX0_withWhom_3 0 rfl rfl)
theorem dX0_withWhom_71 : decode cX0_withWhom 71 = .ok (.iload 4, 2) := dk_21 4 (dk_at dksX0_withWhom_3 3 rfl rfl)
theorem dX0_withWhom_73 : decode cX0_withWhom 73 = .ok (.ireturn, 1) := dk_172 (dk_at dksX0_withWhom_3 5 rfl rfl)
theorem dX0_withWhom_74 : decode cX0_withWhom 74 = .ok (.iinc 4 1, 3) := dk_132 4 1 (dk_at dksX0_withWhom_3 6 rfl rfl)
theorem dX0_withWhom_77 : decode cX0_withWhom 77 = .ok (.goto (-67), 3) := dk_167 255 189 (dk_at dksX0_withWhom_3 9 rfl rfl)
theorem dX0_withWhom_80 : decode cX0_withWhom 80 = .ok (.iconst (-1), 1) := dk_2 (dk_at dksX0_withWhom_3 12 rfl rfl)
theorem dX0_withWhom_81 : decode cX0_withWhom 81 = .ok (.ireturn, 1) := dk_172 (dk_at dksX0_withWhom_3 13 rfl rfl)
abbrev cX0_heard : ByteArray := prog_1_method_43_code
def yX0_heard : MethodName := ⟨RX0, "heard", "(II)I"⟩
def dkwX0_heard_4 : List UInt8 := [132, 4, 1, 167, 255, 238, 28, 154, 0, 8, 21, 4, 167, 0, 4, 29, 172]
abbrev dktX0_heard_4 : List UInt8 := dkwX0_heard_4 ++ []
def dkwX0_heard_3 : List UInt8 := [132, 4, 1, 167, 255, 206, 3, 54, 4, 42, 29, 182, 1, 23, 29, 159, 0, 15, 42, 29, 182, 1, 23, 62]
abbrev dktX0_heard_3 : List UInt8 := dkwX0_heard_3 ++ dktX0_heard_4
def dkwX0_heard_2 : List UInt8 := [21, 4, 50, 180, 0, 124, 27, 184, 0, 232, 153, 0, 10, 4, 21, 4, 120, 167, 0, 4, 3, 128, 62]
abbrev dktX0_heard_2 : List UInt8 := dkwX0_heard_2 ++ dktX0_heard_3
def dkwX0_heard_1 : List UInt8 := [21, 4, 16, 16, 162, 0, 49, 29, 42, 21, 4, 182, 0, 187, 153, 0, 30, 42, 180, 0, 63, 180, 0, 109]
abbrev dktX0_heard_1 : List UInt8 := dkwX0_heard_1 ++ dktX0_heard_2
def dkwX0_heard_0 : List UInt8 := [27, 16, 16, 184, 0, 25, 153, 0, 11, 28, 5, 184, 0, 25, 154, 0, 5, 2, 172, 3, 62, 3, 54, 4]
abbrev dktX0_heard_0 : List UInt8 := dkwX0_heard_0 ++ dktX0_heard_1
theorem dksX0_heard_0 : cX0_heard.data.toList.drop 0 = dktX0_heard_0 := by decide +kernel
theorem dksX0_heard_1 : cX0_heard.data.toList.drop 24 = dktX0_heard_1 := dk_seg dksX0_heard_0 24 rfl rfl
theorem dksX0_heard_2 : cX0_heard.data.toList.drop 48 = dktX0_heard_2 := dk_seg dksX0_heard_1 24 rfl rfl
theorem dksX0_heard_3 : cX0_heard.data.toList.drop 71 = dktX0_heard_3 := dk_seg dksX0_heard_2 23 rfl rfl
theorem dksX0_heard_4 : cX0_heard.data.toList.drop 95 = dktX0_heard_4 := dk_seg dksX0_heard_3 24 rfl rfl
theorem dX0_heard_0 : decode cX0_heard 0 = .ok (.iload_n 1, 1) := dk_27 (dk_at dksX0_heard_0 0 rfl rfl)
theorem dX0_heard_1 : decode cX0_heard 1 = .ok (.bipush 16, 2) := dk_16 16 (dk_at dksX0_heard_0 1 rfl rfl)
theorem dX0_heard_3 : decode cX0_heard 3 = .ok (.invokestatic 25, 3) := dk_184 0 25 (dk_at dksX0_heard_0 3 rfl rfl)
theorem dX0_heard_6 : decode cX0_heard 6 = .ok (.ifCond .eq 11, 3) := dk_153 0 11 (dk_at dksX0_heard_0 6 rfl rfl)
theorem dX0_heard_9 : decode cX0_heard 9 = .ok (.iload_n 2, 1) := dk_28 (dk_at dksX0_heard_0 9 rfl rfl)
theorem dX0_heard_10 : decode cX0_heard 10 = .ok (.iconst 2, 1) := dk_5 (dk_at dksX0_heard_0 10 rfl rfl)
theorem dX0_heard_11 : decode cX0_heard 11 = .ok (.invokestatic 25, 3) := dk_184 0 25 (dk_at dksX0_heard_0 11 rfl rfl)
theorem dX0_heard_14 : decode cX0_heard 14 = .ok (.ifCond .ne 5, 3) := dk_154 0 5 (dk_at dksX0_heard_0 14 rfl rfl)
theorem dX0_heard_17 : decode cX0_heard 17 = .ok (.iconst (-1), 1) := dk_2 (dk_at dksX0_heard_0 17 rfl rfl)
theorem dX0_heard_18 : decode cX0_heard 18 = .ok (.ireturn, 1) := dk_172 (dk_at dksX0_heard_0 18 rfl rfl)
theorem dX0_heard_19 : decode cX0_heard 19 = .ok (.iconst 0, 1) := dk_3 (dk_at dksX0_heard_0 19 rfl rfl)
theorem dX0_heard_20 : decode cX0_heard 20 = .ok (.istore_n 3, 1) := dk_62 (dk_at dksX0_heard_0 20 rfl rfl)
theorem dX0_heard_21 : decode cX0_heard 21 = .ok (.iconst 0, 1) := dk_3 (dk_at dksX0_heard_0 21 rfl rfl)
theorem dX0_heard_22 : decode cX0_heard 22 = .ok (.istore 4, 2) := dk_54 4 (dk_at dksX0_heard_0 22 rfl rfl)
theorem dX0_heard_24 : decode cX0_heard 24 = .ok (.iload 4, 2) := dk_21 4 (dk_at dksX0_heard_1 0 rfl rfl)
theorem dX0_heard_26 : decode cX0_heard 26 = .ok (.bipush 16, 2) := dk_16 16 (dk_at dksX0_heard_1 2 rfl rfl)
theorem dX0_heard_28 : decode cX0_heard 28 = .ok (.if_icmp .ge 49, 3) := dk_162 0 49 (dk_at dksX0_heard_1 4 rfl rfl)
theorem dX0_heard_31 : decode cX0_heard 31 = .ok (.iload_n 3, 1) := dk_29 (dk_at dksX0_heard_1 7 rfl rfl)
theorem dX0_heard_32 : decode cX0_heard 32 = .ok (.aload_n 0, 1) := dk_42 (dk_at dksX0_heard_1 8 rfl rfl)
theorem dX0_heard_33 : decode cX0_heard 33 = .ok (.iload 4, 2) := dk_21 4 (dk_at dksX0_heard_1 9 rfl rfl)
theorem dX0_heard_35 : decode cX0_heard 35 = .ok (.invokevirtual 187, 3) := dk_182 0 187 (dk_at dksX0_heard_1 11 rfl rfl)
theorem dX0_heard_38 : decode cX0_heard 38 = .ok (.ifCond .eq 30, 3) := dk_153 0 30 (dk_at dksX0_heard_1 14 rfl rfl)
theorem dX0_heard_41 : decode cX0_heard 41 = .ok (.aload_n 0, 1) := dk_42 (dk_at dksX0_heard_1 17 rfl rfl)
theorem dX0_heard_42 : decode cX0_heard 42 = .ok (.getfield 63, 3) := dk_180 0 63 (dk_at dksX0_heard_1 18 rfl rfl)
theorem dX0_heard_45 : decode cX0_heard 45 = .ok (.getfield 109, 3) := dk_180 0 109 (dk_at dksX0_heard_1 21 rfl rfl)
theorem dX0_heard_48 : decode cX0_heard 48 = .ok (.iload 4, 2) := dk_21 4 (dk_at dksX0_heard_2 0 rfl rfl)
theorem dX0_heard_50 : decode cX0_heard 50 = .ok (.aaload, 1) := dk_50 (dk_at dksX0_heard_2 2 rfl rfl)
theorem dX0_heard_51 : decode cX0_heard 51 = .ok (.getfield 124, 3) := dk_180 0 124 (dk_at dksX0_heard_2 3 rfl rfl)
theorem dX0_heard_54 : decode cX0_heard 54 = .ok (.iload_n 1, 1) := dk_27 (dk_at dksX0_heard_2 6 rfl rfl)
theorem dX0_heard_55 : decode cX0_heard 55 = .ok (.invokestatic 232, 3) := dk_184 0 232 (dk_at dksX0_heard_2 7 rfl rfl)
theorem dX0_heard_58 : decode cX0_heard 58 = .ok (.ifCond .eq 10, 3) := dk_153 0 10 (dk_at dksX0_heard_2 10 rfl rfl)
theorem dX0_heard_61 : decode cX0_heard 61 = .ok (.iconst 1, 1) := dk_4 (dk_at dksX0_heard_2 13 rfl rfl)
theorem dX0_heard_62 : decode cX0_heard 62 = .ok (.iload 4, 2) := dk_21 4 (dk_at dksX0_heard_2 14 rfl rfl)
theorem dX0_heard_64 : decode cX0_heard 64 = .ok (.ishl, 1) := dk_120 (dk_at dksX0_heard_2 16 rfl rfl)
theorem dX0_heard_65 : decode cX0_heard 65 = .ok (.goto 4, 3) := dk_167 0 4 (dk_at dksX0_heard_2 17 rfl rfl)
theorem dX0_heard_68 : decode cX0_heard 68 = .ok (.iconst 0, 1) := dk_3 (dk_at dksX0_heard_2 20 rfl rfl)
theorem dX0_heard_69 : decode cX0_heard 69 = .ok (.ior, 1) := dk_128 (dk_at dksX0_heard_2 21 rfl rfl)
theorem dX0_heard_70 : decode cX0_heard 70 = .ok (.istore_n 3, 1) := dk_62 (dk_at dksX0_heard_2 22 rfl rfl)
theorem dX0_heard_71 : decode cX0_heard 71 = .ok (.iinc 4 1, 3) := dk_132 4 1 (dk_at dksX0_heard_3 0 rfl rfl)
theorem dX0_heard_74 : decode cX0_heard 74 = .ok (.goto (-50), 3) := dk_167 255 206 (dk_at dksX0_heard_3 3 rfl rfl)
theorem dX0_heard_77 : decode cX0_heard 77 = .ok (.iconst 0, 1) := dk_3 (dk_at dksX0_heard_3 6 rfl rfl)
theorem dX0_heard_78 : decode cX0_heard 78 = .ok (.istore 4, 2) := dk_54 4 (dk_at dksX0_heard_3 7 rfl rfl)
theorem dX0_heard_80 : decode cX0_heard 80 = .ok (.aload_n 0, 1) := dk_42 (dk_at dksX0_heard_3 9 rfl rfl)
theorem dX0_heard_81 : decode cX0_heard 81 = .ok (.iload_n 3, 1) := dk_29 (dk_at dksX0_heard_3 10 rfl rfl)
theorem dX0_heard_82 : decode cX0_heard 82 = .ok (.invokevirtual 279, 3) := dk_182 1 23 (dk_at dksX0_heard_3 11 rfl rfl)
theorem dX0_heard_85 : decode cX0_heard 85 = .ok (.iload_n 3, 1) := dk_29 (dk_at dksX0_heard_3 14 rfl rfl)
theorem dX0_heard_86 : decode cX0_heard 86 = .ok (.if_icmp .eq 15, 3) := dk_159 0 15 (dk_at dksX0_heard_3 15 rfl rfl)
theorem dX0_heard_89 : decode cX0_heard 89 = .ok (.aload_n 0, 1) := dk_42 (dk_at dksX0_heard_3 18 rfl rfl)
theorem dX0_heard_90 : decode cX0_heard 90 = .ok (.iload_n 3, 1) := dk_29 (dk_at dksX0_heard_3 19 rfl rfl)
theorem dX0_heard_91 : decode cX0_heard 91 = .ok (.invokevirtual 279, 3) := dk_182 1 23 (dk_at dksX0_heard_3 20 rfl rfl)
theorem dX0_heard_94 : decode cX0_heard 94 = .ok (.istore_n 3, 1) := dk_62 (dk_at dksX0_heard_3 23 rfl rfl)
theorem dX0_heard_95 : decode cX0_heard 95 = .ok (.iinc 4 1, 3) := dk_132 4 1 (dk_at dksX0_heard_4 0 rfl rfl)
theorem dX0_heard_98 : decode cX0_heard 98 = .ok (.goto (-18), 3) := dk_167 255 238 (dk_at dksX0_heard_4 3 rfl rfl)
theorem dX0_heard_101 : decode cX0_heard 101 = .ok (.iload_n 2, 1) := dk_28 (dk_at dksX0_heard_4 6 rfl rfl)
theorem dX0_heard_102 : decode cX0_heard 102 = .ok (.ifCond .ne 8, 3) := dk_154 0 8 (dk_at dksX0_heard_4 7 rfl rfl)
theorem dX0_heard_105 : decode cX0_heard 105 = .ok (.iload 4, 2) := dk_21 4 (dk_at dksX0_heard_4 10 rfl rfl)
theorem dX0_heard_107 : decode cX0_heard 107 = .ok (.goto 4, 3) := dk_167 0 4 (dk_at dksX0_heard_4 12 rfl rfl)
theorem dX0_heard_110 : decode cX0_heard 110 = .ok (.iload_n 3, 1) := dk_29 (dk_at dksX0_heard_4 15 rfl rfl)
theorem dX0_heard_111 : decode cX0_heard 111 = .ok (.ireturn, 1) := dk_172 (dk_at dksX0_heard_4 16 rfl rfl)
abbrev cX0_spread : ByteArray := prog_1_method_42_code
def yX0_spread : MethodName := ⟨RX0, "spread", "(I)I"⟩
def dkwX0_spread_1 : List UInt8 := [182, 0, 200, 167, 0, 4, 3, 128, 61, 132, 3, 1, 167, 255, 224, 28, 172]
abbrev dktX0_spread_1 : List UInt8 := dkwX0_spread_1 ++ []
def dkwX0_spread_0 : List UInt8 := [27, 61, 3, 62, 29, 16, 16, 162, 0, 32, 28, 27, 29, 184, 0, 232, 153, 0, 14, 42, 180, 0, 63, 29]
abbrev dktX0_spread_0 : List UInt8 := dkwX0_spread_0 ++ dktX0_spread_1
theorem dksX0_spread_0 : cX0_spread.data.toList.drop 0 = dktX0_spread_0 := by decide +kernel
theorem dksX0_spread_1 : cX0_spread.data.toList.drop 24 = dktX0_spread_1 := dk_seg dksX0_spread_0 24 rfl rfl
theorem dX0_spread_0 : decode cX0_spread 0 = .ok (.iload_n 1, 1) := dk_27 (dk_at dksX0_spread_0 0 rfl rfl)
theorem dX0_spread_1 : decode cX0_spread 1 = .ok (.istore_n 2, 1) := dk_61 (dk_at dksX0_spread_0 1 rfl rfl)
theorem dX0_spread_2 : decode cX0_spread 2 = .ok (.iconst 0, 1) := dk_3 (dk_at dksX0_spread_0 2 rfl rfl)
theorem dX0_spread_3 : decode cX0_spread 3 = .ok (.istore_n 3, 1) := dk_62 (dk_at dksX0_spread_0 3 rfl rfl)
theorem dX0_spread_4 : decode cX0_spread 4 = .ok (.iload_n 3, 1) := dk_29 (dk_at dksX0_spread_0 4 rfl rfl)
theorem dX0_spread_5 : decode cX0_spread 5 = .ok (.bipush 16, 2) := dk_16 16 (dk_at dksX0_spread_0 5 rfl rfl)
theorem dX0_spread_7 : decode cX0_spread 7 = .ok (.if_icmp .ge 32, 3) := dk_162 0 32 (dk_at dksX0_spread_0 7 rfl rfl)
theorem dX0_spread_10 : decode cX0_spread 10 = .ok (.iload_n 2, 1) := dk_28 (dk_at dksX0_spread_0 10 rfl rfl)
theorem dX0_spread_11 : decode cX0_spread 11 = .ok (.iload_n 1, 1) := dk_27 (dk_at dksX0_spread_0 11 rfl rfl)
theorem dX0_spread_12 : decode cX0_spread 12 = .ok (.iload_n 3, 1) := dk_29 (dk_at dksX0_spread_0 12 rfl rfl)
theorem dX0_spread_13 : decode cX0_spread 13 = .ok (.invokestatic 232, 3) := dk_184 0 232 (dk_at dksX0_spread_0 13 rfl rfl)
theorem dX0_spread_16 : decode cX0_spread 16 = .ok (.ifCond .eq 14, 3) := dk_153 0 14 (dk_at dksX0_spread_0 16 rfl rfl)
theorem dX0_spread_19 : decode cX0_spread 19 = .ok (.aload_n 0, 1) := dk_42 (dk_at dksX0_spread_0 19 rfl rfl)
theorem dX0_spread_20 : decode cX0_spread 20 = .ok (.getfield 63, 3) := dk_180 0 63 (dk_at dksX0_spread_0 20 rfl rfl)
theorem dX0_spread_23 : decode cX0_spread 23 = .ok (.iload_n 3, 1) := dk_29 (dk_at dksX0_spread_0 23 rfl rfl)
theorem dX0_spread_24 : decode cX0_spread 24 = .ok (.invokevirtual 200, 3) := dk_182 0 200 (dk_at dksX0_spread_1 0 rfl rfl)
theorem dX0_spread_27 : decode cX0_spread 27 = .ok (.goto 4, 3) := dk_167 0 4 (dk_at dksX0_spread_1 3 rfl rfl)
theorem dX0_spread_30 : decode cX0_spread 30 = .ok (.iconst 0, 1) := dk_3 (dk_at dksX0_spread_1 6 rfl rfl)
theorem dX0_spread_31 : decode cX0_spread 31 = .ok (.ior, 1) := dk_128 (dk_at dksX0_spread_1 7 rfl rfl)
theorem dX0_spread_32 : decode cX0_spread 32 = .ok (.istore_n 2, 1) := dk_61 (dk_at dksX0_spread_1 8 rfl rfl)
theorem dX0_spread_33 : decode cX0_spread 33 = .ok (.iinc 3 1, 3) := dk_132 3 1 (dk_at dksX0_spread_1 9 rfl rfl)
theorem dX0_spread_36 : decode cX0_spread 36 = .ok (.goto (-32), 3) := dk_167 255 224 (dk_at dksX0_spread_1 12 rfl rfl)
theorem dX0_spread_39 : decode cX0_spread 39 = .ok (.iload_n 2, 1) := dk_28 (dk_at dksX0_spread_1 15 rfl rfl)
theorem dX0_spread_40 : decode cX0_spread 40 = .ok (.ireturn, 1) := dk_172 (dk_at dksX0_spread_1 16 rfl rfl)
abbrev cX0_circles : ByteArray := prog_1_method_45_code
def yX0_circles : MethodName := ⟨RX0, "circles", "(I)I"⟩
def dkwX0_circles_4 : List UInt8 := [28, 172]
abbrev dktX0_circles_4 : List UInt8 := dkwX0_circles_4 ++ []
def dkwX0_circles_3 : List UInt8 := [29, 182, 1, 26, 184, 1, 11, 29, 160, 0, 7, 4, 167, 0, 4, 3, 96, 61, 132, 3, 1, 167, 255, 212]
abbrev dktX0_circles_3 : List UInt8 := dkwX0_circles_3 ++ dktX0_circles_4
def dkwX0_circles_2 : List UInt8 := [62, 29, 16, 16, 162, 0, 44, 28, 42, 180, 0, 63, 180, 0, 109, 29, 50, 182, 0, 183, 153, 0, 19, 42]
abbrev dktX0_circles_2 : List UInt8 := dkwX0_circles_2 ++ dktX0_circles_3
def dkwX0_circles_1 : List UInt8 := [180, 0, 109, 27, 50, 182, 0, 183, 153, 0, 11, 42, 27, 182, 1, 26, 167, 0, 4, 3, 172, 3, 61, 3]
abbrev dktX0_circles_1 : List UInt8 := dkwX0_circles_1 ++ dktX0_circles_2
def dkwX0_circles_0 : List UInt8 := [27, 16, 100, 159, 0, 40, 42, 27, 182, 0, 187, 154, 0, 7, 2, 167, 0, 27, 42, 180, 0, 63]
abbrev dktX0_circles_0 : List UInt8 := dkwX0_circles_0 ++ dktX0_circles_1
theorem dksX0_circles_0 : cX0_circles.data.toList.drop 0 = dktX0_circles_0 := by decide +kernel
theorem dksX0_circles_1 : cX0_circles.data.toList.drop 22 = dktX0_circles_1 := dk_seg dksX0_circles_0 22 rfl rfl
theorem dksX0_circles_2 : cX0_circles.data.toList.drop 46 = dktX0_circles_2 := dk_seg dksX0_circles_1 24 rfl rfl
theorem dksX0_circles_3 : cX0_circles.data.toList.drop 70 = dktX0_circles_3 := dk_seg dksX0_circles_2 24 rfl rfl
theorem dksX0_circles_4 : cX0_circles.data.toList.drop 94 = dktX0_circles_4 := dk_seg dksX0_circles_3 24 rfl rfl
theorem dX0_circles_0 : decode cX0_circles 0 = .ok (.iload_n 1, 1) := dk_27 (dk_at dksX0_circles_0 0 rfl rfl)
theorem dX0_circles_1 : decode cX0_circles 1 = .ok (.bipush 100, 2) := dk_16 100 (dk_at dksX0_circles_0 1 rfl rfl)
theorem dX0_circles_3 : decode cX0_circles 3 = .ok (.if_icmp .eq 40, 3) := dk_159 0 40 (dk_at dksX0_circles_0 3 rfl rfl)
theorem dX0_circles_6 : decode cX0_circles 6 = .ok (.aload_n 0, 1) := dk_42 (dk_at dksX0_circles_0 6 rfl rfl)
theorem dX0_circles_7 : decode cX0_circles 7 = .ok (.iload_n 1, 1) := dk_27 (dk_at dksX0_circles_0 7 rfl rfl)
theorem dX0_circles_8 : decode cX0_circles 8 = .ok (.invokevirtual 187, 3) := dk_182 0 187 (dk_at dksX0_circles_0 8 rfl rfl)
theorem dX0_circles_11 : decode cX0_circles 11 = .ok (.ifCond .ne 7, 3) := dk_154 0 7 (dk_at dksX0_circles_0 11 rfl rfl)
theorem dX0_circles_14 : decode cX0_circles 14 = .ok (.iconst (-1), 1) := dk_2 (dk_at dksX0_circles_0 14 rfl rfl)
theorem dX0_circles_15 : decode cX0_circles 15 = .ok (.goto 27, 3) := dk_167 0 27 (dk_at dksX0_circles_0 15 rfl rfl)
theorem dX0_circles_18 : decode cX0_circles 18 = .ok (.aload_n 0, 1) := dk_42 (dk_at dksX0_circles_0 18 rfl rfl)
theorem dX0_circles_19 : decode cX0_circles 19 = .ok (.getfield 63, 3) := dk_180 0 63 (dk_at dksX0_circles_0 19 rfl rfl)
theorem dX0_circles_22 : decode cX0_circles 22 = .ok (.getfield 109, 3) := dk_180 0 109 (dk_at dksX0_circles_1 0 rfl rfl)
theorem dX0_circles_25 : decode cX0_circles 25 = .ok (.iload_n 1, 1) := dk_27 (dk_at dksX0_circles_1 3 rfl rfl)
theorem dX0_circles_26 : decode cX0_circles 26 = .ok (.aaload, 1) := dk_50 (dk_at dksX0_circles_1 4 rfl rfl)
theorem dX0_circles_27 : decode cX0_circles 27 = .ok (.invokevirtual 183, 3) := dk_182 0 183 (dk_at dksX0_circles_1 5 rfl rfl)
theorem dX0_circles_30 : decode cX0_circles 30 = .ok (.ifCond .eq 11, 3) := dk_153 0 11 (dk_at dksX0_circles_1 8 rfl rfl)
theorem dX0_circles_33 : decode cX0_circles 33 = .ok (.aload_n 0, 1) := dk_42 (dk_at dksX0_circles_1 11 rfl rfl)
theorem dX0_circles_34 : decode cX0_circles 34 = .ok (.iload_n 1, 1) := dk_27 (dk_at dksX0_circles_1 12 rfl rfl)
theorem dX0_circles_35 : decode cX0_circles 35 = .ok (.invokevirtual 282, 3) := dk_182 1 26 (dk_at dksX0_circles_1 13 rfl rfl)
theorem dX0_circles_38 : decode cX0_circles 38 = .ok (.goto 4, 3) := dk_167 0 4 (dk_at dksX0_circles_1 16 rfl rfl)
theorem dX0_circles_41 : decode cX0_circles 41 = .ok (.iconst 0, 1) := dk_3 (dk_at dksX0_circles_1 19 rfl rfl)
theorem dX0_circles_42 : decode cX0_circles 42 = .ok (.ireturn, 1) := dk_172 (dk_at dksX0_circles_1 20 rfl rfl)
theorem dX0_circles_43 : decode cX0_circles 43 = .ok (.iconst 0, 1) := dk_3 (dk_at dksX0_circles_1 21 rfl rfl)
theorem dX0_circles_44 : decode cX0_circles 44 = .ok (.istore_n 2, 1) := dk_61 (dk_at dksX0_circles_1 22 rfl rfl)
theorem dX0_circles_45 : decode cX0_circles 45 = .ok (.iconst 0, 1) := dk_3 (dk_at dksX0_circles_1 23 rfl rfl)
theorem dX0_circles_46 : decode cX0_circles 46 = .ok (.istore_n 3, 1) := dk_62 (dk_at dksX0_circles_2 0 rfl rfl)
theorem dX0_circles_47 : decode cX0_circles 47 = .ok (.iload_n 3, 1) := dk_29 (dk_at dksX0_circles_2 1 rfl rfl)
theorem dX0_circles_48 : decode cX0_circles 48 = .ok (.bipush 16, 2) := dk_16 16 (dk_at dksX0_circles_2 2 rfl rfl)
theorem dX0_circles_50 : decode cX0_circles 50 = .ok (.if_icmp .ge 44, 3) := dk_162 0 44 (dk_at dksX0_circles_2 4 rfl rfl)
theorem dX0_circles_53 : decode cX0_circles 53 = .ok (.iload_n 2, 1) := dk_28 (dk_at dksX0_circles_2 7 rfl rfl)
theorem dX0_circles_54 : decode cX0_circles 54 = .ok (.aload_n 0, 1) := dk_42 (dk_at dksX0_circles_2 8 rfl rfl)
theorem dX0_circles_55 : decode cX0_circles 55 = .ok (.getfield 63, 3) := dk_180 0 63 (dk_at dksX0_circles_2 9 rfl rfl)
theorem dX0_circles_58 : decode cX0_circles 58 = .ok (.getfield 109, 3) := dk_180 0 109 (dk_at dksX0_circles_2 12 rfl rfl)
theorem dX0_circles_61 : decode cX0_circles 61 = .ok (.iload_n 3, 1) := dk_29 (dk_at dksX0_circles_2 15 rfl rfl)
theorem dX0_circles_62 : decode cX0_circles 62 = .ok (.aaload, 1) := dk_50 (dk_at dksX0_circles_2 16 rfl rfl)
theorem dX0_circles_63 : decode cX0_circles 63 = .ok (.invokevirtual 183, 3) := dk_182 0 183 (dk_at dksX0_circles_2 17 rfl rfl)
theorem dX0_circles_66 : decode cX0_circles 66 = .ok (.ifCond .eq 19, 3) := dk_153 0 19 (dk_at dksX0_circles_2 20 rfl rfl)
theorem dX0_circles_69 : decode cX0_circles 69 = .ok (.aload_n 0, 1) := dk_42 (dk_at dksX0_circles_2 23 rfl rfl)
theorem dX0_circles_70 : decode cX0_circles 70 = .ok (.iload_n 3, 1) := dk_29 (dk_at dksX0_circles_3 0 rfl rfl)
theorem dX0_circles_71 : decode cX0_circles 71 = .ok (.invokevirtual 282, 3) := dk_182 1 26 (dk_at dksX0_circles_3 1 rfl rfl)
theorem dX0_circles_74 : decode cX0_circles 74 = .ok (.invokestatic 267, 3) := dk_184 1 11 (dk_at dksX0_circles_3 4 rfl rfl)
theorem dX0_circles_77 : decode cX0_circles 77 = .ok (.iload_n 3, 1) := dk_29 (dk_at dksX0_circles_3 7 rfl rfl)
theorem dX0_circles_78 : decode cX0_circles 78 = .ok (.if_icmp .ne 7, 3) := dk_160 0 7 (dk_at dksX0_circles_3 8 rfl rfl)
theorem dX0_circles_81 : decode cX0_circles 81 = .ok (.iconst 1, 1) := dk_4 (dk_at dksX0_circles_3 11 rfl rfl)
theorem dX0_circles_82 : decode cX0_circles 82 = .ok (.goto 4, 3) := dk_167 0 4 (dk_at dksX0_circles_3 12 rfl rfl)
theorem dX0_circles_85 : decode cX0_circles 85 = .ok (.iconst 0, 1) := dk_3 (dk_at dksX0_circles_3 15 rfl rfl)
theorem dX0_circles_86 : decode cX0_circles 86 = .ok (.iadd, 1) := dk_96 (dk_at dksX0_circles_3 16 rfl rfl)
theorem dX0_circles_87 : decode cX0_circles 87 = .ok (.istore_n 2, 1) := dk_61 (dk_at dksX0_circles_3 17 rfl rfl)
theorem dX0_circles_88 : decode cX0_circles 88 = .ok (.iinc 3 1, 3) := dk_132 3 1 (dk_at dksX0_circles_3 18 rfl rfl)
theorem dX0_circles_91 : decode cX0_circles 91 = .ok (.goto (-44), 3) := dk_167 255 212 (dk_at dksX0_circles_3 21 rfl rfl)
theorem dX0_circles_94 : decode cX0_circles 94 = .ok (.iload_n 2, 1) := dk_28 (dk_at dksX0_circles_4 0 rfl rfl)
theorem dX0_circles_95 : decode cX0_circles 95 = .ok (.ireturn, 1) := dk_172 (dk_at dksX0_circles_4 1 rfl rfl)
abbrev cX0_circleOf : ByteArray := prog_1_method_44_code
def yX0_circleOf : MethodName := ⟨RX0, "circleOf", "(I)I"⟩
def dkwX0_circleOf_0 : List UInt8 := [4, 27, 120, 61, 42, 28, 182, 1, 23, 28, 159, 0, 12, 42, 28, 182, 1, 23, 61, 167, 255, 241, 28, 172]
abbrev dktX0_circleOf_0 : List UInt8 := dkwX0_circleOf_0 ++ []
theorem dksX0_circleOf_0 : cX0_circleOf.data.toList.drop 0 = dktX0_circleOf_0 := by decide +kernel
theorem dX0_circleOf_0 : decode cX0_circleOf 0 = .ok (.iconst 1, 1) := dk_4 (dk_at dksX0_circleOf_0 0 rfl rfl)
theorem dX0_circleOf_1 : decode cX0_circleOf 1 = .ok (.iload_n 1, 1) := dk_27 (dk_at dksX0_circleOf_0 1 rfl rfl)
theorem dX0_circleOf_2 : decode cX0_circleOf 2 = .ok (.ishl, 1) := dk_120 (dk_at dksX0_circleOf_0 2 rfl rfl)
theorem dX0_circleOf_3 : decode cX0_circleOf 3 = .ok (.istore_n 2, 1) := dk_61 (dk_at dksX0_circleOf_0 3 rfl rfl)
theorem dX0_circleOf_4 : decode cX0_circleOf 4 = .ok (.aload_n 0, 1) := dk_42 (dk_at dksX0_circleOf_0 4 rfl rfl)
theorem dX0_circleOf_5 : decode cX0_circleOf 5 = .ok (.iload_n 2, 1) := dk_28 (dk_at dksX0_circleOf_0 5 rfl rfl)
theorem dX0_circleOf_6 : decode cX0_circleOf 6 = .ok (.invokevirtual 279, 3) := dk_182 1 23 (dk_at dksX0_circleOf_0 6 rfl rfl)
theorem dX0_circleOf_9 : decode cX0_circleOf 9 = .ok (.iload_n 2, 1) := dk_28 (dk_at dksX0_circleOf_0 9 rfl rfl)
theorem dX0_circleOf_10 : decode cX0_circleOf 10 = .ok (.if_icmp .eq 12, 3) := dk_159 0 12 (dk_at dksX0_circleOf_0 10 rfl rfl)
theorem dX0_circleOf_13 : decode cX0_circleOf 13 = .ok (.aload_n 0, 1) := dk_42 (dk_at dksX0_circleOf_0 13 rfl rfl)
theorem dX0_circleOf_14 : decode cX0_circleOf 14 = .ok (.iload_n 2, 1) := dk_28 (dk_at dksX0_circleOf_0 14 rfl rfl)
theorem dX0_circleOf_15 : decode cX0_circleOf 15 = .ok (.invokevirtual 279, 3) := dk_182 1 23 (dk_at dksX0_circleOf_0 15 rfl rfl)
theorem dX0_circleOf_18 : decode cX0_circleOf 18 = .ok (.istore_n 2, 1) := dk_61 (dk_at dksX0_circleOf_0 18 rfl rfl)
theorem dX0_circleOf_19 : decode cX0_circleOf 19 = .ok (.goto (-15), 3) := dk_167 255 241 (dk_at dksX0_circleOf_0 19 rfl rfl)
theorem dX0_circleOf_22 : decode cX0_circleOf 22 = .ok (.iload_n 2, 1) := dk_28 (dk_at dksX0_circleOf_0 22 rfl rfl)
theorem dX0_circleOf_23 : decode cX0_circleOf 23 = .ok (.ireturn, 1) := dk_172 (dk_at dksX0_circleOf_0 23 rfl rfl)
abbrev cX0_from : ByteArray := prog_1_method_46_code
def yX0_from : MethodName := ⟨RX0, "from", "(II)I"⟩
def dkwX0_from_4 : List UInt8 := [167, 255, 236, 29, 172]
abbrev dktX0_from_4 : List UInt8 := dkwX0_from_4 ++ []
def dkwX0_from_3 : List UInt8 := [54, 4, 21, 4, 28, 184, 0, 232, 154, 0, 17, 132, 3, 1, 42, 21, 4, 182, 1, 23, 54, 4]
abbrev dktX0_from_3 : List UInt8 := dkwX0_from_3 ++ dktX0_from_4
def dkwX0_from_2 : List UInt8 := [153, 0, 15, 42, 27, 182, 1, 26, 28, 184, 0, 232, 154, 0, 6, 16, 254, 172, 3, 62, 4, 27, 120]
abbrev dktX0_from_2 : List UInt8 := dkwX0_from_2 ++ dktX0_from_3
def dkwX0_from_1 : List UInt8 := [180, 0, 109, 27, 50, 182, 0, 183, 153, 0, 30, 42, 180, 0, 63, 180, 0, 109, 28, 50, 182, 0, 183]
abbrev dktX0_from_1 : List UInt8 := dkwX0_from_1 ++ dktX0_from_2
def dkwX0_from_0 : List UInt8 := [42, 27, 182, 0, 187, 153, 0, 11, 42, 28, 182, 0, 187, 154, 0, 5, 2, 172, 42, 180, 0, 63]
abbrev dktX0_from_0 : List UInt8 := dkwX0_from_0 ++ dktX0_from_1
theorem dksX0_from_0 : cX0_from.data.toList.drop 0 = dktX0_from_0 := by decide +kernel
theorem dksX0_from_1 : cX0_from.data.toList.drop 22 = dktX0_from_1 := dk_seg dksX0_from_0 22 rfl rfl
theorem dksX0_from_2 : cX0_from.data.toList.drop 45 = dktX0_from_2 := dk_seg dksX0_from_1 23 rfl rfl
theorem dksX0_from_3 : cX0_from.data.toList.drop 68 = dktX0_from_3 := dk_seg dksX0_from_2 23 rfl rfl
theorem dksX0_from_4 : cX0_from.data.toList.drop 90 = dktX0_from_4 := dk_seg dksX0_from_3 22 rfl rfl
theorem dX0_from_0 : decode cX0_from 0 = .ok (.aload_n 0, 1) := dk_42 (dk_at dksX0_from_0 0 rfl rfl)
theorem dX0_from_1 : decode cX0_from 1 = .ok (.iload_n 1, 1) := dk_27 (dk_at dksX0_from_0 1 rfl rfl)
theorem dX0_from_2 : decode cX0_from 2 = .ok (.invokevirtual 187, 3) := dk_182 0 187 (dk_at dksX0_from_0 2 rfl rfl)
theorem dX0_from_5 : decode cX0_from 5 = .ok (.ifCond .eq 11, 3) := dk_153 0 11 (dk_at dksX0_from_0 5 rfl rfl)
theorem dX0_from_8 : decode cX0_from 8 = .ok (.aload_n 0, 1) := dk_42 (dk_at dksX0_from_0 8 rfl rfl)
theorem dX0_from_9 : decode cX0_from 9 = .ok (.iload_n 2, 1) := dk_28 (dk_at dksX0_from_0 9 rfl rfl)
theorem dX0_from_10 : decode cX0_from 10 = .ok (.invokevirtual 187, 3) := dk_182 0 187 (dk_at dksX0_from_0 10 rfl rfl)
theorem dX0_from_13 : decode cX0_from 13 = .ok (.ifCond .ne 5, 3) := dk_154 0 5 (dk_at dksX0_from_0 13 rfl rfl)
theorem dX0_from_16 : decode cX0_from 16 = .ok (.iconst (-1), 1) := dk_2 (dk_at dksX0_from_0 16 rfl rfl)
theorem dX0_from_17 : decode cX0_from 17 = .ok (.ireturn, 1) := dk_172 (dk_at dksX0_from_0 17 rfl rfl)
theorem dX0_from_18 : decode cX0_from 18 = .ok (.aload_n 0, 1) := dk_42 (dk_at dksX0_from_0 18 rfl rfl)
theorem dX0_from_19 : decode cX0_from 19 = .ok (.getfield 63, 3) := dk_180 0 63 (dk_at dksX0_from_0 19 rfl rfl)
theorem dX0_from_22 : decode cX0_from 22 = .ok (.getfield 109, 3) := dk_180 0 109 (dk_at dksX0_from_1 0 rfl rfl)
theorem dX0_from_25 : decode cX0_from 25 = .ok (.iload_n 1, 1) := dk_27 (dk_at dksX0_from_1 3 rfl rfl)
theorem dX0_from_26 : decode cX0_from 26 = .ok (.aaload, 1) := dk_50 (dk_at dksX0_from_1 4 rfl rfl)
theorem dX0_from_27 : decode cX0_from 27 = .ok (.invokevirtual 183, 3) := dk_182 0 183 (dk_at dksX0_from_1 5 rfl rfl)
theorem dX0_from_30 : decode cX0_from 30 = .ok (.ifCond .eq 30, 3) := dk_153 0 30 (dk_at dksX0_from_1 8 rfl rfl)
theorem dX0_from_33 : decode cX0_from 33 = .ok (.aload_n 0, 1) := dk_42 (dk_at dksX0_from_1 11 rfl rfl)
theorem dX0_from_34 : decode cX0_from 34 = .ok (.getfield 63, 3) := dk_180 0 63 (dk_at dksX0_from_1 12 rfl rfl)
theorem dX0_from_37 : decode cX0_from 37 = .ok (.getfield 109, 3) := dk_180 0 109 (dk_at dksX0_from_1 15 rfl rfl)
theorem dX0_from_40 : decode cX0_from 40 = .ok (.iload_n 2, 1) := dk_28 (dk_at dksX0_from_1 18 rfl rfl)
theorem dX0_from_41 : decode cX0_from 41 = .ok (.aaload, 1) := dk_50 (dk_at dksX0_from_1 19 rfl rfl)
theorem dX0_from_42 : decode cX0_from 42 = .ok (.invokevirtual 183, 3) := dk_182 0 183 (dk_at dksX0_from_1 20 rfl rfl)
theorem dX0_from_45 : decode cX0_from 45 = .ok (.ifCond .eq 15, 3) := dk_153 0 15 (dk_at dksX0_from_2 0 rfl rfl)
theorem dX0_from_48 : decode cX0_from 48 = .ok (.aload_n 0, 1) := dk_42 (dk_at dksX0_from_2 3 rfl rfl)
theorem dX0_from_49 : decode cX0_from 49 = .ok (.iload_n 1, 1) := dk_27 (dk_at dksX0_from_2 4 rfl rfl)
theorem dX0_from_50 : decode cX0_from 50 = .ok (.invokevirtual 282, 3) := dk_182 1 26 (dk_at dksX0_from_2 5 rfl rfl)
theorem dX0_from_53 : decode cX0_from 53 = .ok (.iload_n 2, 1) := dk_28 (dk_at dksX0_from_2 8 rfl rfl)
theorem dX0_from_54 : decode cX0_from 54 = .ok (.invokestatic 232, 3) := dk_184 0 232 (dk_at dksX0_from_2 9 rfl rfl)
theorem dX0_from_57 : decode cX0_from 57 = .ok (.ifCond .ne 6, 3) := dk_154 0 6 (dk_at dksX0_from_2 12 rfl rfl)
theorem dX0_from_60 : decode cX0_from 60 = .ok (.bipush (-2), 2) := dk_16 254 (dk_at dksX0_from_2 15 rfl rfl)
theorem dX0_from_62 : decode cX0_from 62 = .ok (.ireturn, 1) := dk_172 (dk_at dksX0_from_2 17 rfl rfl)
theorem dX0_from_63 : decode cX0_from 63 = .ok (.iconst 0, 1) := dk_3 (dk_at dksX0_from_2 18 rfl rfl)
theorem dX0_from_64 : decode cX0_from 64 = .ok (.istore_n 3, 1) := dk_62 (dk_at dksX0_from_2 19 rfl rfl)
theorem dX0_from_65 : decode cX0_from 65 = .ok (.iconst 1, 1) := dk_4 (dk_at dksX0_from_2 20 rfl rfl)
theorem dX0_from_66 : decode cX0_from 66 = .ok (.iload_n 1, 1) := dk_27 (dk_at dksX0_from_2 21 rfl rfl)
theorem dX0_from_67 : decode cX0_from 67 = .ok (.ishl, 1) := dk_120 (dk_at dksX0_from_2 22 rfl rfl)
theorem dX0_from_68 : decode cX0_from 68 = .ok (.istore 4, 2) := dk_54 4 (dk_at dksX0_from_3 0 rfl rfl)
theorem dX0_from_70 : decode cX0_from 70 = .ok (.iload 4, 2) := dk_21 4 (dk_at dksX0_from_3 2 rfl rfl)
theorem dX0_from_72 : decode cX0_from 72 = .ok (.iload_n 2, 1) := dk_28 (dk_at dksX0_from_3 4 rfl rfl)
theorem dX0_from_73 : decode cX0_from 73 = .ok (.invokestatic 232, 3) := dk_184 0 232 (dk_at dksX0_from_3 5 rfl rfl)
theorem dX0_from_76 : decode cX0_from 76 = .ok (.ifCond .ne 17, 3) := dk_154 0 17 (dk_at dksX0_from_3 8 rfl rfl)
theorem dX0_from_79 : decode cX0_from 79 = .ok (.iinc 3 1, 3) := dk_132 3 1 (dk_at dksX0_from_3 11 rfl rfl)
theorem dX0_from_82 : decode cX0_from 82 = .ok (.aload_n 0, 1) := dk_42 (dk_at dksX0_from_3 14 rfl rfl)
theorem dX0_from_83 : decode cX0_from 83 = .ok (.iload 4, 2) := dk_21 4 (dk_at dksX0_from_3 15 rfl rfl)
theorem dX0_from_85 : decode cX0_from 85 = .ok (.invokevirtual 279, 3) := dk_182 1 23 (dk_at dksX0_from_3 17 rfl rfl)
theorem dX0_from_88 : decode cX0_from 88 = .ok (.istore 4, 2) := dk_54 4 (dk_at dksX0_from_3 20 rfl rfl)
theorem dX0_from_90 : decode cX0_from 90 = .ok (.goto (-20), 3) := dk_167 255 236 (dk_at dksX0_from_4 0 rfl rfl)
theorem dX0_from_93 : decode cX0_from 93 = .ok (.iload_n 3, 1) := dk_29 (dk_at dksX0_from_4 3 rfl rfl)
theorem dX0_from_94 : decode cX0_from 94 = .ok (.ireturn, 1) := dk_172 (dk_at dksX0_from_4 4 rfl rfl)
abbrev cX0_thread : ByteArray := prog_1_method_48_code
def yX0_thread : MethodName := ⟨RX0, "thread", "(II)I"⟩
def dkwX0_thread_10 : List UInt8 := [132, 5, 1, 167, 255, 199, 21, 4, 172]
abbrev dktX0_thread_10 : List UInt8 := dkwX0_thread_10 ++ []
def dkwX0_thread_9 : List UInt8 := [42, 21, 6, 182, 1, 29, 42, 21, 4, 182, 1, 29, 126, 154, 0, 9, 132, 4, 1, 167, 255, 218]
abbrev dktX0_thread_9 : List UInt8 := dkwX0_thread_9 ++ dktX0_thread_10
def dkwX0_thread_8 : List UInt8 := [54, 6, 132, 4, 1, 42, 180, 0, 99, 21, 4, 46, 42, 180, 0, 99, 21, 6, 46, 4, 100, 160, 0, 19]
abbrev dktX0_thread_8 : List UInt8 := dkwX0_thread_8 ++ dktX0_thread_9
def dkwX0_thread_7 : List UInt8 := [21, 4, 46, 29, 159, 0, 9, 132, 4, 1, 167, 255, 242, 3, 54, 5, 21, 5, 28, 162, 0, 57, 21, 4]
abbrev dktX0_thread_7 : List UInt8 := dkwX0_thread_7 ++ dktX0_thread_8
def dkwX0_thread_6 : List UInt8 := [28, 16, 100, 160, 0, 5, 29, 172, 28, 29, 161, 0, 6, 16, 252, 172, 3, 54, 4, 42, 180, 0, 99]
abbrev dktX0_thread_6 : List UInt8 := dkwX0_thread_6 ++ dktX0_thread_7
def dkwX0_thread_5 : List UInt8 := [132, 5, 1, 167, 255, 205, 29, 42, 180, 0, 99, 21, 4, 46, 184, 0, 7, 62, 132, 4, 255, 167, 255, 168]
abbrev dktX0_thread_5 : List UInt8 := dkwX0_thread_5 ++ dktX0_thread_6
def dkwX0_thread_4 : List UInt8 := [21, 4, 42, 180, 0, 99, 21, 4, 46, 42, 180, 0, 99, 21, 5, 46, 4, 96, 184, 0, 7, 79]
abbrev dktX0_thread_4 : List UInt8 := dkwX0_thread_4 ++ dktX0_thread_5
def dkwX0_thread_3 : List UInt8 := [27, 162, 0, 51, 42, 21, 4, 182, 1, 29, 42, 21, 5, 182, 1, 29, 126, 153, 0, 29, 42, 180, 0, 99]
abbrev dktX0_thread_3 : List UInt8 := dkwX0_thread_3 ++ dktX0_thread_4
def dkwX0_thread_2 : List UInt8 := [100, 54, 4, 21, 4, 155, 0, 89, 42, 180, 0, 99, 21, 4, 4, 79, 21, 4, 4, 96, 54, 5, 21, 5]
abbrev dktX0_thread_2 : List UInt8 := dkwX0_thread_2 ++ dktX0_thread_3
def dkwX0_thread_1 : List UInt8 := [153, 0, 13, 5, 27, 104, 42, 180, 0, 133, 164, 0, 5, 2, 172, 42, 3, 181, 0, 133, 3, 62, 27, 4]
abbrev dktX0_thread_1 : List UInt8 := dkwX0_thread_1 ++ dktX0_thread_2
def dkwX0_thread_0 : List UInt8 := [27, 4, 16, 20, 184, 0, 120, 153, 0, 28, 28, 16, 100, 159, 0, 12, 28, 16, 20, 184, 0, 25]
abbrev dktX0_thread_0 : List UInt8 := dkwX0_thread_0 ++ dktX0_thread_1
theorem dksX0_thread_0 : cX0_thread.data.toList.drop 0 = dktX0_thread_0 := by decide +kernel
theorem dksX0_thread_1 : cX0_thread.data.toList.drop 22 = dktX0_thread_1 := dk_seg dksX0_thread_0 22 rfl rfl
theorem dksX0_thread_2 : cX0_thread.data.toList.drop 46 = dktX0_thread_2 := dk_seg dksX0_thread_1 24 rfl rfl
theorem dksX0_thread_3 : cX0_thread.data.toList.drop 70 = dktX0_thread_3 := dk_seg dksX0_thread_2 24 rfl rfl
theorem dksX0_thread_4 : cX0_thread.data.toList.drop 94 = dktX0_thread_4 := dk_seg dksX0_thread_3 24 rfl rfl
theorem dksX0_thread_5 : cX0_thread.data.toList.drop 116 = dktX0_thread_5 := dk_seg dksX0_thread_4 22 rfl rfl
theorem dksX0_thread_6 : cX0_thread.data.toList.drop 140 = dktX0_thread_6 := dk_seg dksX0_thread_5 24 rfl rfl
theorem dksX0_thread_7 : cX0_thread.data.toList.drop 163 = dktX0_thread_7 := dk_seg dksX0_thread_6 23 rfl rfl
theorem dksX0_thread_8 : cX0_thread.data.toList.drop 187 = dktX0_thread_8 := dk_seg dksX0_thread_7 24 rfl rfl
theorem dksX0_thread_9 : cX0_thread.data.toList.drop 211 = dktX0_thread_9 := dk_seg dksX0_thread_8 24 rfl rfl
theorem dksX0_thread_10 : cX0_thread.data.toList.drop 233 = dktX0_thread_10 := dk_seg dksX0_thread_9 22 rfl rfl
theorem dX0_thread_0 : decode cX0_thread 0 = .ok (.iload_n 1, 1) := dk_27 (dk_at dksX0_thread_0 0 rfl rfl)
theorem dX0_thread_1 : decode cX0_thread 1 = .ok (.iconst 1, 1) := dk_4 (dk_at dksX0_thread_0 1 rfl rfl)
theorem dX0_thread_2 : decode cX0_thread 2 = .ok (.bipush 20, 2) := dk_16 20 (dk_at dksX0_thread_0 2 rfl rfl)
theorem dX0_thread_4 : decode cX0_thread 4 = .ok (.invokestatic 120, 3) := dk_184 0 120 (dk_at dksX0_thread_0 4 rfl rfl)
theorem dX0_thread_7 : decode cX0_thread 7 = .ok (.ifCond .eq 28, 3) := dk_153 0 28 (dk_at dksX0_thread_0 7 rfl rfl)
theorem dX0_thread_10 : decode cX0_thread 10 = .ok (.iload_n 2, 1) := dk_28 (dk_at dksX0_thread_0 10 rfl rfl)
theorem dX0_thread_11 : decode cX0_thread 11 = .ok (.bipush 100, 2) := dk_16 100 (dk_at dksX0_thread_0 11 rfl rfl)
theorem dX0_thread_13 : decode cX0_thread 13 = .ok (.if_icmp .eq 12, 3) := dk_159 0 12 (dk_at dksX0_thread_0 13 rfl rfl)
theorem dX0_thread_16 : decode cX0_thread 16 = .ok (.iload_n 2, 1) := dk_28 (dk_at dksX0_thread_0 16 rfl rfl)
theorem dX0_thread_17 : decode cX0_thread 17 = .ok (.bipush 20, 2) := dk_16 20 (dk_at dksX0_thread_0 17 rfl rfl)
theorem dX0_thread_19 : decode cX0_thread 19 = .ok (.invokestatic 25, 3) := dk_184 0 25 (dk_at dksX0_thread_0 19 rfl rfl)
theorem dX0_thread_22 : decode cX0_thread 22 = .ok (.ifCond .eq 13, 3) := dk_153 0 13 (dk_at dksX0_thread_1 0 rfl rfl)
theorem dX0_thread_25 : decode cX0_thread 25 = .ok (.iconst 2, 1) := dk_5 (dk_at dksX0_thread_1 3 rfl rfl)
theorem dX0_thread_26 : decode cX0_thread 26 = .ok (.iload_n 1, 1) := dk_27 (dk_at dksX0_thread_1 4 rfl rfl)
theorem dX0_thread_27 : decode cX0_thread 27 = .ok (.imul, 1) := dk_104 (dk_at dksX0_thread_1 5 rfl rfl)
theorem dX0_thread_28 : decode cX0_thread 28 = .ok (.aload_n 0, 1) := dk_42 (dk_at dksX0_thread_1 6 rfl rfl)
theorem dX0_thread_29 : decode cX0_thread 29 = .ok (.getfield 133, 3) := dk_180 0 133 (dk_at dksX0_thread_1 7 rfl rfl)
theorem dX0_thread_32 : decode cX0_thread 32 = .ok (.if_icmp .le 5, 3) := dk_164 0 5 (dk_at dksX0_thread_1 10 rfl rfl)
theorem dX0_thread_35 : decode cX0_thread 35 = .ok (.iconst (-1), 1) := dk_2 (dk_at dksX0_thread_1 13 rfl rfl)
theorem dX0_thread_36 : decode cX0_thread 36 = .ok (.ireturn, 1) := dk_172 (dk_at dksX0_thread_1 14 rfl rfl)
theorem dX0_thread_37 : decode cX0_thread 37 = .ok (.aload_n 0, 1) := dk_42 (dk_at dksX0_thread_1 15 rfl rfl)
theorem dX0_thread_38 : decode cX0_thread 38 = .ok (.iconst 0, 1) := dk_3 (dk_at dksX0_thread_1 16 rfl rfl)
theorem dX0_thread_39 : decode cX0_thread 39 = .ok (.putfield 133, 3) := dk_181 0 133 (dk_at dksX0_thread_1 17 rfl rfl)
theorem dX0_thread_42 : decode cX0_thread 42 = .ok (.iconst 0, 1) := dk_3 (dk_at dksX0_thread_1 20 rfl rfl)
theorem dX0_thread_43 : decode cX0_thread 43 = .ok (.istore_n 3, 1) := dk_62 (dk_at dksX0_thread_1 21 rfl rfl)
theorem dX0_thread_44 : decode cX0_thread 44 = .ok (.iload_n 1, 1) := dk_27 (dk_at dksX0_thread_1 22 rfl rfl)
theorem dX0_thread_45 : decode cX0_thread 45 = .ok (.iconst 1, 1) := dk_4 (dk_at dksX0_thread_1 23 rfl rfl)
theorem dX0_thread_46 : decode cX0_thread 46 = .ok (.isub, 1) := dk_100 (dk_at dksX0_thread_2 0 rfl rfl)
theorem dX0_thread_47 : decode cX0_thread 47 = .ok (.istore 4, 2) := dk_54 4 (dk_at dksX0_thread_2 1 rfl rfl)
theorem dX0_thread_49 : decode cX0_thread 49 = .ok (.iload 4, 2) := dk_21 4 (dk_at dksX0_thread_2 3 rfl rfl)
theorem dX0_thread_51 : decode cX0_thread 51 = .ok (.ifCond .lt 89, 3) := dk_155 0 89 (dk_at dksX0_thread_2 5 rfl rfl)
theorem dX0_thread_54 : decode cX0_thread 54 = .ok (.aload_n 0, 1) := dk_42 (dk_at dksX0_thread_2 8 rfl rfl)
theorem dX0_thread_55 : decode cX0_thread 55 = .ok (.getfield 99, 3) := dk_180 0 99 (dk_at dksX0_thread_2 9 rfl rfl)
theorem dX0_thread_58 : decode cX0_thread 58 = .ok (.iload 4, 2) := dk_21 4 (dk_at dksX0_thread_2 12 rfl rfl)
theorem dX0_thread_60 : decode cX0_thread 60 = .ok (.iconst 1, 1) := dk_4 (dk_at dksX0_thread_2 14 rfl rfl)
theorem dX0_thread_61 : decode cX0_thread 61 = .ok (.iastore, 1) := dk_79 (dk_at dksX0_thread_2 15 rfl rfl)
theorem dX0_thread_62 : decode cX0_thread 62 = .ok (.iload 4, 2) := dk_21 4 (dk_at dksX0_thread_2 16 rfl rfl)
theorem dX0_thread_64 : decode cX0_thread 64 = .ok (.iconst 1, 1) := dk_4 (dk_at dksX0_thread_2 18 rfl rfl)
theorem dX0_thread_65 : decode cX0_thread 65 = .ok (.iadd, 1) := dk_96 (dk_at dksX0_thread_2 19 rfl rfl)
theorem dX0_thread_66 : decode cX0_thread 66 = .ok (.istore 5, 2) := dk_54 5 (dk_at dksX0_thread_2 20 rfl rfl)
theorem dX0_thread_68 : decode cX0_thread 68 = .ok (.iload 5, 2) := dk_21 5 (dk_at dksX0_thread_2 22 rfl rfl)
theorem dX0_thread_70 : decode cX0_thread 70 = .ok (.iload_n 1, 1) := dk_27 (dk_at dksX0_thread_3 0 rfl rfl)
theorem dX0_thread_71 : decode cX0_thread 71 = .ok (.if_icmp .ge 51, 3) := dk_162 0 51 (dk_at dksX0_thread_3 1 rfl rfl)
theorem dX0_thread_74 : decode cX0_thread 74 = .ok (.aload_n 0, 1) := dk_42 (dk_at dksX0_thread_3 4 rfl rfl)
theorem dX0_thread_75 : decode cX0_thread 75 = .ok (.iload 4, 2) := dk_21 4 (dk_at dksX0_thread_3 5 rfl rfl)
theorem dX0_thread_77 : decode cX0_thread 77 = .ok (.invokevirtual 285, 3) := dk_182 1 29 (dk_at dksX0_thread_3 7 rfl rfl)
theorem dX0_thread_80 : decode cX0_thread 80 = .ok (.aload_n 0, 1) := dk_42 (dk_at dksX0_thread_3 10 rfl rfl)
theorem dX0_thread_81 : decode cX0_thread 81 = .ok (.iload 5, 2) := dk_21 5 (dk_at dksX0_thread_3 11 rfl rfl)
theorem dX0_thread_83 : decode cX0_thread 83 = .ok (.invokevirtual 285, 3) := dk_182 1 29 (dk_at dksX0_thread_3 13 rfl rfl)
theorem dX0_thread_86 : decode cX0_thread 86 = .ok (.iand, 1) := dk_126 (dk_at dksX0_thread_3 16 rfl rfl)
theorem dX0_thread_87 : decode cX0_thread 87 = .ok (.ifCond .eq 29, 3) := dk_153 0 29 (dk_at dksX0_thread_3 17 rfl rfl)
theorem dX0_thread_90 : decode cX0_thread 90 = .ok (.aload_n 0, 1) := dk_42 (dk_at dksX0_thread_3 20 rfl rfl)
theorem dX0_thread_91 : decode cX0_thread 91 = .ok (.getfield 99, 3) := dk_180 0 99 (dk_at dksX0_thread_3 21 rfl rfl)
theorem dX0_thread_94 : decode cX0_thread 94 = .ok (.iload 4, 2) := dk_21 4 (dk_at dksX0_thread_4 0 rfl rfl)
theorem dX0_thread_96 : decode cX0_thread 96 = .ok (.aload_n 0, 1) := dk_42 (dk_at dksX0_thread_4 2 rfl rfl)
theorem dX0_thread_97 : decode cX0_thread 97 = .ok (.getfield 99, 3) := dk_180 0 99 (dk_at dksX0_thread_4 3 rfl rfl)
theorem dX0_thread_100 : decode cX0_thread 100 = .ok (.iload 4, 2) := dk_21 4 (dk_at dksX0_thread_4 6 rfl rfl)
theorem dX0_thread_102 : decode cX0_thread 102 = .ok (.iaload, 1) := dk_46 (dk_at dksX0_thread_4 8 rfl rfl)
theorem dX0_thread_103 : decode cX0_thread 103 = .ok (.aload_n 0, 1) := dk_42 (dk_at dksX0_thread_4 9 rfl rfl)
theorem dX0_thread_104 : decode cX0_thread 104 = .ok (.getfield 99, 3) := dk_180 0 99 (dk_at dksX0_thread_4 10 rfl rfl)
theorem dX0_thread_107 : decode cX0_thread 107 = .ok (.iload 5, 2) := dk_21 5 (dk_at dksX0_thread_4 13 rfl rfl)
theorem dX0_thread_109 : decode cX0_thread 109 = .ok (.iaload, 1) := dk_46 (dk_at dksX0_thread_4 15 rfl rfl)
theorem dX0_thread_110 : decode cX0_thread 110 = .ok (.iconst 1, 1) := dk_4 (dk_at dksX0_thread_4 16 rfl rfl)
theorem dX0_thread_111 : decode cX0_thread 111 = .ok (.iadd, 1) := dk_96 (dk_at dksX0_thread_4 17 rfl rfl)
theorem dX0_thread_112 : decode cX0_thread 112 = .ok (.invokestatic 7, 3) := dk_184 0 7 (dk_at dksX0_thread_4 18 rfl rfl)
theorem dX0_thread_115 : decode cX0_thread 115 = .ok (.iastore, 1) := dk_79 (dk_at dksX0_thread_4 21 rfl rfl)
theorem dX0_thread_116 : decode cX0_thread 116 = .ok (.iinc 5 1, 3) := dk_132 5 1 (dk_at dksX0_thread_5 0 rfl rfl)
theorem dX0_thread_119 : decode cX0_thread 119 = .ok (.goto (-51), 3) := dk_167 255 205 (dk_at dksX0_thread_5 3 rfl rfl)
theorem dX0_thread_122 : decode cX0_thread 122 = .ok (.iload_n 3, 1) := dk_29 (dk_at dksX0_thread_5 6 rfl rfl)
theorem dX0_thread_123 : decode cX0_thread 123 = .ok (.aload_n 0, 1) := dk_42 (dk_at dksX0_thread_5 7 rfl rfl)
theorem dX0_thread_124 : decode cX0_thread 124 = .ok (.getfield 99, 3) := dk_180 0 99 (dk_at dksX0_thread_5 8 rfl rfl)
theorem dX0_thread_127 : decode cX0_thread 127 = .ok (.iload 4, 2) := dk_21 4 (dk_at dksX0_thread_5 11 rfl rfl)
theorem dX0_thread_129 : decode cX0_thread 129 = .ok (.iaload, 1) := dk_46 (dk_at dksX0_thread_5 13 rfl rfl)
theorem dX0_thread_130 : decode cX0_thread 130 = .ok (.invokestatic 7, 3) := dk_184 0 7 (dk_at dksX0_thread_5 14 rfl rfl)
theorem dX0_thread_133 : decode cX0_thread 133 = .ok (.istore_n 3, 1) := dk_62 (dk_at dksX0_thread_5 17 rfl rfl)
theorem dX0_thread_134 : decode cX0_thread 134 = .ok (.iinc 4 (-1), 3) := dk_132 4 255 (dk_at dksX0_thread_5 18 rfl rfl)
theorem dX0_thread_137 : decode cX0_thread 137 = .ok (.goto (-88), 3) := dk_167 255 168 (dk_at dksX0_thread_5 21 rfl rfl)
theorem dX0_thread_140 : decode cX0_thread 140 = .ok (.iload_n 2, 1) := dk_28 (dk_at dksX0_thread_6 0 rfl rfl)
theorem dX0_thread_141 : decode cX0_thread 141 = .ok (.bipush 100, 2) := dk_16 100 (dk_at dksX0_thread_6 1 rfl rfl)
theorem dX0_thread_143 : decode cX0_thread 143 = .ok (.if_icmp .ne 5, 3) := dk_160 0 5 (dk_at dksX0_thread_6 3 rfl rfl)
theorem dX0_thread_146 : decode cX0_thread 146 = .ok (.iload_n 3, 1) := dk_29 (dk_at dksX0_thread_6 6 rfl rfl)
theorem dX0_thread_147 : decode cX0_thread 147 = .ok (.ireturn, 1) := dk_172 (dk_at dksX0_thread_6 7 rfl rfl)
theorem dX0_thread_148 : decode cX0_thread 148 = .ok (.iload_n 2, 1) := dk_28 (dk_at dksX0_thread_6 8 rfl rfl)
theorem dX0_thread_149 : decode cX0_thread 149 = .ok (.iload_n 3, 1) := dk_29 (dk_at dksX0_thread_6 9 rfl rfl)
theorem dX0_thread_150 : decode cX0_thread 150 = .ok (.if_icmp .lt 6, 3) := dk_161 0 6 (dk_at dksX0_thread_6 10 rfl rfl)
theorem dX0_thread_153 : decode cX0_thread 153 = .ok (.bipush (-4), 2) := dk_16 252 (dk_at dksX0_thread_6 13 rfl rfl)
theorem dX0_thread_155 : decode cX0_thread 155 = .ok (.ireturn, 1) := dk_172 (dk_at dksX0_thread_6 15 rfl rfl)
theorem dX0_thread_156 : decode cX0_thread 156 = .ok (.iconst 0, 1) := dk_3 (dk_at dksX0_thread_6 16 rfl rfl)
theorem dX0_thread_157 : decode cX0_thread 157 = .ok (.istore 4, 2) := dk_54 4 (dk_at dksX0_thread_6 17 rfl rfl)
theorem dX0_thread_159 : decode cX0_thread 159 = .ok (.aload_n 0, 1) := dk_42 (dk_at dksX0_thread_6 19 rfl rfl)
theorem dX0_thread_160 : decode cX0_thread 160 = .ok (.getfield 99, 3) := dk_180 0 99 (dk_at dksX0_thread_6 20 rfl rfl)
theorem dX0_thread_163 : decode cX0_thread 163 = .ok (.iload 4, 2) := dk_21 4 (dk_at dksX0_thread_7 0 rfl rfl)
theorem dX0_thread_165 : decode cX0_thread 165 = .ok (.iaload, 1) := dk_46 (dk_at dksX0_thread_7 2 rfl rfl)
theorem dX0_thread_166 : decode cX0_thread 166 = .ok (.iload_n 3, 1) := dk_29 (dk_at dksX0_thread_7 3 rfl rfl)
theorem dX0_thread_167 : decode cX0_thread 167 = .ok (.if_icmp .eq 9, 3) := dk_159 0 9 (dk_at dksX0_thread_7 4 rfl rfl)
theorem dX0_thread_170 : decode cX0_thread 170 = .ok (.iinc 4 1, 3) := dk_132 4 1 (dk_at dksX0_thread_7 7 rfl rfl)
theorem dX0_thread_173 : decode cX0_thread 173 = .ok (.goto (-14), 3) := dk_167 255 242 (dk_at dksX0_thread_7 10 rfl rfl)
theorem dX0_thread_176 : decode cX0_thread 176 = .ok (.iconst 0, 1) := dk_3 (dk_at dksX0_thread_7 13 rfl rfl)
theorem dX0_thread_177 : decode cX0_thread 177 = .ok (.istore 5, 2) := dk_54 5 (dk_at dksX0_thread_7 14 rfl rfl)
theorem dX0_thread_179 : decode cX0_thread 179 = .ok (.iload 5, 2) := dk_21 5 (dk_at dksX0_thread_7 16 rfl rfl)
theorem dX0_thread_181 : decode cX0_thread 181 = .ok (.iload_n 2, 1) := dk_28 (dk_at dksX0_thread_7 18 rfl rfl)
theorem dX0_thread_182 : decode cX0_thread 182 = .ok (.if_icmp .ge 57, 3) := dk_162 0 57 (dk_at dksX0_thread_7 19 rfl rfl)
theorem dX0_thread_185 : decode cX0_thread 185 = .ok (.iload 4, 2) := dk_21 4 (dk_at dksX0_thread_7 22 rfl rfl)
theorem dX0_thread_187 : decode cX0_thread 187 = .ok (.istore 6, 2) := dk_54 6 (dk_at dksX0_thread_8 0 rfl rfl)
theorem dX0_thread_189 : decode cX0_thread 189 = .ok (.iinc 4 1, 3) := dk_132 4 1 (dk_at dksX0_thread_8 2 rfl rfl)
theorem dX0_thread_192 : decode cX0_thread 192 = .ok (.aload_n 0, 1) := dk_42 (dk_at dksX0_thread_8 5 rfl rfl)
theorem dX0_thread_193 : decode cX0_thread 193 = .ok (.getfield 99, 3) := dk_180 0 99 (dk_at dksX0_thread_8 6 rfl rfl)
theorem dX0_thread_196 : decode cX0_thread 196 = .ok (.iload 4, 2) := dk_21 4 (dk_at dksX0_thread_8 9 rfl rfl)
theorem dX0_thread_198 : decode cX0_thread 198 = .ok (.iaload, 1) := dk_46 (dk_at dksX0_thread_8 11 rfl rfl)
theorem dX0_thread_199 : decode cX0_thread 199 = .ok (.aload_n 0, 1) := dk_42 (dk_at dksX0_thread_8 12 rfl rfl)
theorem dX0_thread_200 : decode cX0_thread 200 = .ok (.getfield 99, 3) := dk_180 0 99 (dk_at dksX0_thread_8 13 rfl rfl)
theorem dX0_thread_203 : decode cX0_thread 203 = .ok (.iload 6, 2) := dk_21 6 (dk_at dksX0_thread_8 16 rfl rfl)
theorem dX0_thread_205 : decode cX0_thread 205 = .ok (.iaload, 1) := dk_46 (dk_at dksX0_thread_8 18 rfl rfl)
theorem dX0_thread_206 : decode cX0_thread 206 = .ok (.iconst 1, 1) := dk_4 (dk_at dksX0_thread_8 19 rfl rfl)
theorem dX0_thread_207 : decode cX0_thread 207 = .ok (.isub, 1) := dk_100 (dk_at dksX0_thread_8 20 rfl rfl)
theorem dX0_thread_208 : decode cX0_thread 208 = .ok (.if_icmp .ne 19, 3) := dk_160 0 19 (dk_at dksX0_thread_8 21 rfl rfl)
theorem dX0_thread_211 : decode cX0_thread 211 = .ok (.aload_n 0, 1) := dk_42 (dk_at dksX0_thread_9 0 rfl rfl)
theorem dX0_thread_212 : decode cX0_thread 212 = .ok (.iload 6, 2) := dk_21 6 (dk_at dksX0_thread_9 1 rfl rfl)
theorem dX0_thread_214 : decode cX0_thread 214 = .ok (.invokevirtual 285, 3) := dk_182 1 29 (dk_at dksX0_thread_9 3 rfl rfl)
theorem dX0_thread_217 : decode cX0_thread 217 = .ok (.aload_n 0, 1) := dk_42 (dk_at dksX0_thread_9 6 rfl rfl)
theorem dX0_thread_218 : decode cX0_thread 218 = .ok (.iload 4, 2) := dk_21 4 (dk_at dksX0_thread_9 7 rfl rfl)
theorem dX0_thread_220 : decode cX0_thread 220 = .ok (.invokevirtual 285, 3) := dk_182 1 29 (dk_at dksX0_thread_9 9 rfl rfl)
theorem dX0_thread_223 : decode cX0_thread 223 = .ok (.iand, 1) := dk_126 (dk_at dksX0_thread_9 12 rfl rfl)
theorem dX0_thread_224 : decode cX0_thread 224 = .ok (.ifCond .ne 9, 3) := dk_154 0 9 (dk_at dksX0_thread_9 13 rfl rfl)
theorem dX0_thread_227 : decode cX0_thread 227 = .ok (.iinc 4 1, 3) := dk_132 4 1 (dk_at dksX0_thread_9 16 rfl rfl)
theorem dX0_thread_230 : decode cX0_thread 230 = .ok (.goto (-38), 3) := dk_167 255 218 (dk_at dksX0_thread_9 19 rfl rfl)
theorem dX0_thread_233 : decode cX0_thread 233 = .ok (.iinc 5 1, 3) := dk_132 5 1 (dk_at dksX0_thread_10 0 rfl rfl)
theorem dX0_thread_236 : decode cX0_thread 236 = .ok (.goto (-57), 3) := dk_167 255 199 (dk_at dksX0_thread_10 3 rfl rfl)
theorem dX0_thread_239 : decode cX0_thread 239 = .ok (.iload 4, 2) := dk_21 4 (dk_at dksX0_thread_10 6 rfl rfl)
theorem dX0_thread_241 : decode cX0_thread 241 = .ok (.ireturn, 1) := dk_172 (dk_at dksX0_thread_10 8 rfl rfl)
abbrev cX0_saying : ByteArray := prog_1_method_47_code
def yX0_saying : MethodName := ⟨RX0, "saying", "(I)I"⟩
def dkwX0_saying_1 : List UInt8 := [51, 17, 0, 255, 126, 128, 172]
abbrev dktX0_saying_1 : List UInt8 := dkwX0_saying_1 ++ []
def dkwX0_saying_0 : List UInt8 := [42, 180, 0, 73, 5, 27, 104, 51, 17, 0, 255, 126, 16, 8, 120, 42, 180, 0, 73, 5, 27, 104, 4, 96]
abbrev dktX0_saying_0 : List UInt8 := dkwX0_saying_0 ++ dktX0_saying_1
theorem dksX0_saying_0 : cX0_saying.data.toList.drop 0 = dktX0_saying_0 := by decide +kernel
theorem dksX0_saying_1 : cX0_saying.data.toList.drop 24 = dktX0_saying_1 := dk_seg dksX0_saying_0 24 rfl rfl
theorem dX0_saying_0 : decode cX0_saying 0 = .ok (.aload_n 0, 1) := dk_42 (dk_at dksX0_saying_0 0 rfl rfl)
theorem dX0_saying_1 : decode cX0_saying 1 = .ok (.getfield 73, 3) := dk_180 0 73 (dk_at dksX0_saying_0 1 rfl rfl)
theorem dX0_saying_4 : decode cX0_saying 4 = .ok (.iconst 2, 1) := dk_5 (dk_at dksX0_saying_0 4 rfl rfl)
theorem dX0_saying_5 : decode cX0_saying 5 = .ok (.iload_n 1, 1) := dk_27 (dk_at dksX0_saying_0 5 rfl rfl)
theorem dX0_saying_6 : decode cX0_saying 6 = .ok (.imul, 1) := dk_104 (dk_at dksX0_saying_0 6 rfl rfl)
theorem dX0_saying_7 : decode cX0_saying 7 = .ok (.baload, 1) := dk_51 (dk_at dksX0_saying_0 7 rfl rfl)
theorem dX0_saying_8 : decode cX0_saying 8 = .ok (.sipush 255, 3) := dk_17 0 255 (dk_at dksX0_saying_0 8 rfl rfl)
theorem dX0_saying_11 : decode cX0_saying 11 = .ok (.iand, 1) := dk_126 (dk_at dksX0_saying_0 11 rfl rfl)
theorem dX0_saying_12 : decode cX0_saying 12 = .ok (.bipush 8, 2) := dk_16 8 (dk_at dksX0_saying_0 12 rfl rfl)
theorem dX0_saying_14 : decode cX0_saying 14 = .ok (.ishl, 1) := dk_120 (dk_at dksX0_saying_0 14 rfl rfl)
theorem dX0_saying_15 : decode cX0_saying 15 = .ok (.aload_n 0, 1) := dk_42 (dk_at dksX0_saying_0 15 rfl rfl)
theorem dX0_saying_16 : decode cX0_saying 16 = .ok (.getfield 73, 3) := dk_180 0 73 (dk_at dksX0_saying_0 16 rfl rfl)
theorem dX0_saying_19 : decode cX0_saying 19 = .ok (.iconst 2, 1) := dk_5 (dk_at dksX0_saying_0 19 rfl rfl)
theorem dX0_saying_20 : decode cX0_saying 20 = .ok (.iload_n 1, 1) := dk_27 (dk_at dksX0_saying_0 20 rfl rfl)
theorem dX0_saying_21 : decode cX0_saying 21 = .ok (.imul, 1) := dk_104 (dk_at dksX0_saying_0 21 rfl rfl)
theorem dX0_saying_22 : decode cX0_saying 22 = .ok (.iconst 1, 1) := dk_4 (dk_at dksX0_saying_0 22 rfl rfl)
theorem dX0_saying_23 : decode cX0_saying 23 = .ok (.iadd, 1) := dk_96 (dk_at dksX0_saying_0 23 rfl rfl)
theorem dX0_saying_24 : decode cX0_saying 24 = .ok (.baload, 1) := dk_51 (dk_at dksX0_saying_1 0 rfl rfl)
theorem dX0_saying_25 : decode cX0_saying 25 = .ok (.sipush 255, 3) := dk_17 0 255 (dk_at dksX0_saying_1 1 rfl rfl)
theorem dX0_saying_28 : decode cX0_saying 28 = .ok (.iand, 1) := dk_126 (dk_at dksX0_saying_1 4 rfl rfl)
theorem dX0_saying_29 : decode cX0_saying 29 = .ok (.ior, 1) := dk_128 (dk_at dksX0_saying_1 5 rfl rfl)
theorem dX0_saying_30 : decode cX0_saying 30 = .ok (.ireturn, 1) := dk_172 (dk_at dksX0_saying_1 6 rfl rfl)
abbrev cX0_good : ByteArray := prog_1_method_50_code
def yX0_good : MethodName := ⟨RX0, "good", "(II)I"⟩
def dkwX0_good_5 : List UInt8 := [167, 0, 5, 21, 5, 172]
abbrev dktX0_good_5 : List UInt8 := dkwX0_good_5 ++ []
def dkwX0_good_4 : List UInt8 := [167, 255, 209, 132, 6, 1, 167, 255, 189, 28, 154, 0, 7, 29, 167, 0, 15, 28, 4, 160, 0, 8, 21, 4]
abbrev dktX0_good_4 : List UInt8 := dkwX0_good_4 ++ dktX0_good_5
def dkwX0_good_3 : List UInt8 := [21, 7, 21, 5, 163, 0, 6, 167, 0, 14, 21, 6, 62, 21, 8, 54, 4, 21, 7, 54, 5, 132, 8, 1]
abbrev dktX0_good_3 : List UInt8 := dkwX0_good_3 ++ dktX0_good_4
def dkwX0_good_2 : List UInt8 := [21, 8, 16, 10, 162, 0, 46, 21, 7, 42, 16, 10, 27, 104, 21, 8, 96, 182, 1, 32, 96, 54, 7]
abbrev dktX0_good_2 : List UInt8 := dkwX0_good_2 ++ dktX0_good_3
def dkwX0_good_1 : List UInt8 := [54, 4, 19, 1, 10, 54, 5, 3, 54, 6, 21, 6, 16, 10, 162, 0, 66, 3, 54, 7, 21, 6, 54, 8]
abbrev dktX0_good_1 : List UInt8 := dkwX0_good_1 ++ dktX0_good_2
def dkwX0_good_0 : List UInt8 := [27, 16, 6, 184, 0, 25, 153, 0, 11, 28, 6, 184, 0, 25, 154, 0, 7, 17, 252, 24, 172, 3, 62, 3]
abbrev dktX0_good_0 : List UInt8 := dkwX0_good_0 ++ dktX0_good_1
theorem dksX0_good_0 : cX0_good.data.toList.drop 0 = dktX0_good_0 := by decide +kernel
theorem dksX0_good_1 : cX0_good.data.toList.drop 24 = dktX0_good_1 := dk_seg dksX0_good_0 24 rfl rfl
theorem dksX0_good_2 : cX0_good.data.toList.drop 48 = dktX0_good_2 := dk_seg dksX0_good_1 24 rfl rfl
theorem dksX0_good_3 : cX0_good.data.toList.drop 71 = dktX0_good_3 := dk_seg dksX0_good_2 23 rfl rfl
theorem dksX0_good_4 : cX0_good.data.toList.drop 95 = dktX0_good_4 := dk_seg dksX0_good_3 24 rfl rfl
theorem dksX0_good_5 : cX0_good.data.toList.drop 119 = dktX0_good_5 := dk_seg dksX0_good_4 24 rfl rfl
theorem dX0_good_0 : decode cX0_good 0 = .ok (.iload_n 1, 1) := dk_27 (dk_at dksX0_good_0 0 rfl rfl)
theorem dX0_good_1 : decode cX0_good 1 = .ok (.bipush 6, 2) := dk_16 6 (dk_at dksX0_good_0 1 rfl rfl)
theorem dX0_good_3 : decode cX0_good 3 = .ok (.invokestatic 25, 3) := dk_184 0 25 (dk_at dksX0_good_0 3 rfl rfl)
theorem dX0_good_6 : decode cX0_good 6 = .ok (.ifCond .eq 11, 3) := dk_153 0 11 (dk_at dksX0_good_0 6 rfl rfl)
theorem dX0_good_9 : decode cX0_good 9 = .ok (.iload_n 2, 1) := dk_28 (dk_at dksX0_good_0 9 rfl rfl)
theorem dX0_good_10 : decode cX0_good 10 = .ok (.iconst 3, 1) := dk_6 (dk_at dksX0_good_0 10 rfl rfl)
theorem dX0_good_11 : decode cX0_good 11 = .ok (.invokestatic 25, 3) := dk_184 0 25 (dk_at dksX0_good_0 11 rfl rfl)
theorem dX0_good_14 : decode cX0_good 14 = .ok (.ifCond .ne 7, 3) := dk_154 0 7 (dk_at dksX0_good_0 14 rfl rfl)
theorem dX0_good_17 : decode cX0_good 17 = .ok (.sipush (-1000), 3) := dk_17 252 24 (dk_at dksX0_good_0 17 rfl rfl)
theorem dX0_good_20 : decode cX0_good 20 = .ok (.ireturn, 1) := dk_172 (dk_at dksX0_good_0 20 rfl rfl)
theorem dX0_good_21 : decode cX0_good 21 = .ok (.iconst 0, 1) := dk_3 (dk_at dksX0_good_0 21 rfl rfl)
theorem dX0_good_22 : decode cX0_good 22 = .ok (.istore_n 3, 1) := dk_62 (dk_at dksX0_good_0 22 rfl rfl)
theorem dX0_good_23 : decode cX0_good 23 = .ok (.iconst 0, 1) := dk_3 (dk_at dksX0_good_0 23 rfl rfl)
theorem dX0_good_24 : decode cX0_good 24 = .ok (.istore 4, 2) := dk_54 4 (dk_at dksX0_good_1 0 rfl rfl)
theorem dX0_good_26 : decode cX0_good 26 = .ok (.ldc_w 266, 3) := dk_19 1 10 (dk_at dksX0_good_1 2 rfl rfl)
theorem dX0_good_29 : decode cX0_good 29 = .ok (.istore 5, 2) := dk_54 5 (dk_at dksX0_good_1 5 rfl rfl)
theorem dX0_good_31 : decode cX0_good 31 = .ok (.iconst 0, 1) := dk_3 (dk_at dksX0_good_1 7 rfl rfl)
theorem dX0_good_32 : decode cX0_good 32 = .ok (.istore 6, 2) := dk_54 6 (dk_at dksX0_good_1 8 rfl rfl)
theorem dX0_good_34 : decode cX0_good 34 = .ok (.iload 6, 2) := dk_21 6 (dk_at dksX0_good_1 10 rfl rfl)
theorem dX0_good_36 : decode cX0_good 36 = .ok (.bipush 10, 2) := dk_16 10 (dk_at dksX0_good_1 12 rfl rfl)
theorem dX0_good_38 : decode cX0_good 38 = .ok (.if_icmp .ge 66, 3) := dk_162 0 66 (dk_at dksX0_good_1 14 rfl rfl)
theorem dX0_good_41 : decode cX0_good 41 = .ok (.iconst 0, 1) := dk_3 (dk_at dksX0_good_1 17 rfl rfl)
theorem dX0_good_42 : decode cX0_good 42 = .ok (.istore 7, 2) := dk_54 7 (dk_at dksX0_good_1 18 rfl rfl)
theorem dX0_good_44 : decode cX0_good 44 = .ok (.iload 6, 2) := dk_21 6 (dk_at dksX0_good_1 20 rfl rfl)
theorem dX0_good_46 : decode cX0_good 46 = .ok (.istore 8, 2) := dk_54 8 (dk_at dksX0_good_1 22 rfl rfl)
theorem dX0_good_48 : decode cX0_good 48 = .ok (.iload 8, 2) := dk_21 8 (dk_at dksX0_good_2 0 rfl rfl)
theorem dX0_good_50 : decode cX0_good 50 = .ok (.bipush 10, 2) := dk_16 10 (dk_at dksX0_good_2 2 rfl rfl)
theorem dX0_good_52 : decode cX0_good 52 = .ok (.if_icmp .ge 46, 3) := dk_162 0 46 (dk_at dksX0_good_2 4 rfl rfl)
theorem dX0_good_55 : decode cX0_good 55 = .ok (.iload 7, 2) := dk_21 7 (dk_at dksX0_good_2 7 rfl rfl)
theorem dX0_good_57 : decode cX0_good 57 = .ok (.aload_n 0, 1) := dk_42 (dk_at dksX0_good_2 9 rfl rfl)
theorem dX0_good_58 : decode cX0_good 58 = .ok (.bipush 10, 2) := dk_16 10 (dk_at dksX0_good_2 10 rfl rfl)
theorem dX0_good_60 : decode cX0_good 60 = .ok (.iload_n 1, 1) := dk_27 (dk_at dksX0_good_2 12 rfl rfl)
theorem dX0_good_61 : decode cX0_good 61 = .ok (.imul, 1) := dk_104 (dk_at dksX0_good_2 13 rfl rfl)
theorem dX0_good_62 : decode cX0_good 62 = .ok (.iload 8, 2) := dk_21 8 (dk_at dksX0_good_2 14 rfl rfl)
theorem dX0_good_64 : decode cX0_good 64 = .ok (.iadd, 1) := dk_96 (dk_at dksX0_good_2 16 rfl rfl)
theorem dX0_good_65 : decode cX0_good 65 = .ok (.invokevirtual 288, 3) := dk_182 1 32 (dk_at dksX0_good_2 17 rfl rfl)
theorem dX0_good_68 : decode cX0_good 68 = .ok (.iadd, 1) := dk_96 (dk_at dksX0_good_2 20 rfl rfl)
theorem dX0_good_69 : decode cX0_good 69 = .ok (.istore 7, 2) := dk_54 7 (dk_at dksX0_good_2 21 rfl rfl)
theorem dX0_good_71 : decode cX0_good 71 = .ok (.iload 7, 2) := dk_21 7 (dk_at dksX0_good_3 0 rfl rfl)
theorem dX0_good_73 : decode cX0_good 73 = .ok (.iload 5, 2) := dk_21 5 (dk_at dksX0_good_3 2 rfl rfl)
theorem dX0_good_75 : decode cX0_good 75 = .ok (.if_icmp .gt 6, 3) := dk_163 0 6 (dk_at dksX0_good_3 4 rfl rfl)
theorem dX0_good_78 : decode cX0_good 78 = .ok (.goto 14, 3) := dk_167 0 14 (dk_at dksX0_good_3 7 rfl rfl)
theorem dX0_good_81 : decode cX0_good 81 = .ok (.iload 6, 2) := dk_21 6 (dk_at dksX0_good_3 10 rfl rfl)
theorem dX0_good_83 : decode cX0_good 83 = .ok (.istore_n 3, 1) := dk_62 (dk_at dksX0_good_3 12 rfl rfl)
theorem dX0_good_84 : decode cX0_good 84 = .ok (.iload 8, 2) := dk_21 8 (dk_at dksX0_good_3 13 rfl rfl)
theorem dX0_good_86 : decode cX0_good 86 = .ok (.istore 4, 2) := dk_54 4 (dk_at dksX0_good_3 15 rfl rfl)
theorem dX0_good_88 : decode cX0_good 88 = .ok (.iload 7, 2) := dk_21 7 (dk_at dksX0_good_3 17 rfl rfl)
theorem dX0_good_90 : decode cX0_good 90 = .ok (.istore 5, 2) := dk_54 5 (dk_at dksX0_good_3 19 rfl rfl)
theorem dX0_good_92 : decode cX0_good 92 = .ok (.iinc 8 1, 3) := dk_132 8 1 (dk_at dksX0_good_3 21 rfl rfl)
theorem dX0_good_95 : decode cX0_good 95 = .ok (.goto (-47), 3) := dk_167 255 209 (dk_at dksX0_good_4 0 rfl rfl)
theorem dX0_good_98 : decode cX0_good 98 = .ok (.iinc 6 1, 3) := dk_132 6 1 (dk_at dksX0_good_4 3 rfl rfl)
theorem dX0_good_101 : decode cX0_good 101 = .ok (.goto (-67), 3) := dk_167 255 189 (dk_at dksX0_good_4 6 rfl rfl)
theorem dX0_good_104 : decode cX0_good 104 = .ok (.iload_n 2, 1) := dk_28 (dk_at dksX0_good_4 9 rfl rfl)
theorem dX0_good_105 : decode cX0_good 105 = .ok (.ifCond .ne 7, 3) := dk_154 0 7 (dk_at dksX0_good_4 10 rfl rfl)
theorem dX0_good_108 : decode cX0_good 108 = .ok (.iload_n 3, 1) := dk_29 (dk_at dksX0_good_4 13 rfl rfl)
theorem dX0_good_109 : decode cX0_good 109 = .ok (.goto 15, 3) := dk_167 0 15 (dk_at dksX0_good_4 14 rfl rfl)
theorem dX0_good_112 : decode cX0_good 112 = .ok (.iload_n 2, 1) := dk_28 (dk_at dksX0_good_4 17 rfl rfl)
theorem dX0_good_113 : decode cX0_good 113 = .ok (.iconst 1, 1) := dk_4 (dk_at dksX0_good_4 18 rfl rfl)
theorem dX0_good_114 : decode cX0_good 114 = .ok (.if_icmp .ne 8, 3) := dk_160 0 8 (dk_at dksX0_good_4 19 rfl rfl)
theorem dX0_good_117 : decode cX0_good 117 = .ok (.iload 4, 2) := dk_21 4 (dk_at dksX0_good_4 22 rfl rfl)
theorem dX0_good_119 : decode cX0_good 119 = .ok (.goto 5, 3) := dk_167 0 5 (dk_at dksX0_good_5 0 rfl rfl)
theorem dX0_good_122 : decode cX0_good 122 = .ok (.iload 5, 2) := dk_21 5 (dk_at dksX0_good_5 3 rfl rfl)
theorem dX0_good_124 : decode cX0_good 124 = .ok (.ireturn, 1) := dk_172 (dk_at dksX0_good_5 5 rfl rfl)
abbrev cX0_talkOn : ByteArray := prog_1_method_49_code
def yX0_talkOn : MethodName := ⟨RX0, "talkOn", "(I)I"⟩
def dkwX0_talkOn_1 : List UInt8 := [180, 0, 63, 28, 182, 0, 200, 182, 0, 215, 172]
abbrev dktX0_talkOn_1 : List UInt8 := dkwX0_talkOn_1 ++ []
def dkwX0_talkOn_0 : List UInt8 := [42, 180, 0, 63, 27, 182, 0, 218, 61, 28, 2, 160, 0, 7, 3, 167, 0, 19, 42, 180, 0, 63, 28, 42]
abbrev dktX0_talkOn_0 : List UInt8 := dkwX0_talkOn_0 ++ dktX0_talkOn_1
theorem dksX0_talkOn_0 : cX0_talkOn.data.toList.drop 0 = dktX0_talkOn_0 := by decide +kernel
theorem dksX0_talkOn_1 : cX0_talkOn.data.toList.drop 24 = dktX0_talkOn_1 := dk_seg dksX0_talkOn_0 24 rfl rfl
theorem dX0_talkOn_0 : decode cX0_talkOn 0 = .ok (.aload_n 0, 1) := dk_42 (dk_at dksX0_talkOn_0 0 rfl rfl)
theorem dX0_talkOn_1 : decode cX0_talkOn 1 = .ok (.getfield 63, 3) := dk_180 0 63 (dk_at dksX0_talkOn_0 1 rfl rfl)
theorem dX0_talkOn_4 : decode cX0_talkOn 4 = .ok (.iload_n 1, 1) := dk_27 (dk_at dksX0_talkOn_0 4 rfl rfl)
theorem dX0_talkOn_5 : decode cX0_talkOn 5 = .ok (.invokevirtual 218, 3) := dk_182 0 218 (dk_at dksX0_talkOn_0 5 rfl rfl)
theorem dX0_talkOn_8 : decode cX0_talkOn 8 = .ok (.istore_n 2, 1) := dk_61 (dk_at dksX0_talkOn_0 8 rfl rfl)
theorem dX0_talkOn_9 : decode cX0_talkOn 9 = .ok (.iload_n 2, 1) := dk_28 (dk_at dksX0_talkOn_0 9 rfl rfl)
theorem dX0_talkOn_10 : decode cX0_talkOn 10 = .ok (.iconst (-1), 1) := dk_2 (dk_at dksX0_talkOn_0 10 rfl rfl)
theorem dX0_talkOn_11 : decode cX0_talkOn 11 = .ok (.if_icmp .ne 7, 3) := dk_160 0 7 (dk_at dksX0_talkOn_0 11 rfl rfl)
theorem dX0_talkOn_14 : decode cX0_talkOn 14 = .ok (.iconst 0, 1) := dk_3 (dk_at dksX0_talkOn_0 14 rfl rfl)
theorem dX0_talkOn_15 : decode cX0_talkOn 15 = .ok (.goto 19, 3) := dk_167 0 19 (dk_at dksX0_talkOn_0 15 rfl rfl)
theorem dX0_talkOn_18 : decode cX0_talkOn 18 = .ok (.aload_n 0, 1) := dk_42 (dk_at dksX0_talkOn_0 18 rfl rfl)
theorem dX0_talkOn_19 : decode cX0_talkOn 19 = .ok (.getfield 63, 3) := dk_180 0 63 (dk_at dksX0_talkOn_0 19 rfl rfl)
theorem dX0_talkOn_22 : decode cX0_talkOn 22 = .ok (.iload_n 2, 1) := dk_28 (dk_at dksX0_talkOn_0 22 rfl rfl)
theorem dX0_talkOn_23 : decode cX0_talkOn 23 = .ok (.aload_n 0, 1) := dk_42 (dk_at dksX0_talkOn_0 23 rfl rfl)
theorem dX0_talkOn_24 : decode cX0_talkOn 24 = .ok (.getfield 63, 3) := dk_180 0 63 (dk_at dksX0_talkOn_1 0 rfl rfl)
theorem dX0_talkOn_27 : decode cX0_talkOn 27 = .ok (.iload_n 2, 1) := dk_28 (dk_at dksX0_talkOn_1 3 rfl rfl)
theorem dX0_talkOn_28 : decode cX0_talkOn 28 = .ok (.invokevirtual 200, 3) := dk_182 0 200 (dk_at dksX0_talkOn_1 4 rfl rfl)
theorem dX0_talkOn_31 : decode cX0_talkOn 31 = .ok (.invokevirtual 215, 3) := dk_182 0 215 (dk_at dksX0_talkOn_1 7 rfl rfl)
theorem dX0_talkOn_34 : decode cX0_talkOn 34 = .ok (.ireturn, 1) := dk_172 (dk_at dksX0_talkOn_1 10 rfl rfl)
abbrev cX0_silent : ByteArray := prog_1_method_53_code
def yX0_silent : MethodName := ⟨RX0, "silent", "(I)I"⟩
def dkwX0_silent_3 : List UInt8 := [21, 4, 167, 0, 4, 29, 62, 132, 4, 1, 167, 255, 202, 27, 154, 0, 7, 28, 167, 0, 4, 29, 172]
abbrev dktX0_silent_3 : List UInt8 := dkwX0_silent_3 ++ []
def dkwX0_silent_2 : List UInt8 := [42, 180, 0, 63, 21, 4, 182, 0, 212, 153, 0, 6, 167, 0, 19, 132, 2, 1, 29, 16, 254, 160, 0, 8]
abbrev dktX0_silent_2 : List UInt8 := dkwX0_silent_2 ++ dktX0_silent_3
def dkwX0_silent_1 : List UInt8 := [62, 3, 54, 4, 21, 4, 16, 60, 162, 0, 53, 42, 180, 0, 63, 21, 4, 182, 0, 218, 2, 160, 0, 34]
abbrev dktX0_silent_1 : List UInt8 := dkwX0_silent_1 ++ dktX0_silent_2
def dkwX0_silent_0 : List UInt8 := [27, 6, 184, 0, 25, 154, 0, 5, 2, 172, 27, 5, 160, 0, 8, 42, 182, 1, 39, 172, 3, 61, 16, 254]
abbrev dktX0_silent_0 : List UInt8 := dkwX0_silent_0 ++ dktX0_silent_1
theorem dksX0_silent_0 : cX0_silent.data.toList.drop 0 = dktX0_silent_0 := by decide +kernel
theorem dksX0_silent_1 : cX0_silent.data.toList.drop 24 = dktX0_silent_1 := dk_seg dksX0_silent_0 24 rfl rfl
theorem dksX0_silent_2 : cX0_silent.data.toList.drop 48 = dktX0_silent_2 := dk_seg dksX0_silent_1 24 rfl rfl
theorem dksX0_silent_3 : cX0_silent.data.toList.drop 72 = dktX0_silent_3 := dk_seg dksX0_silent_2 24 rfl rfl
theorem dX0_silent_0 : decode cX0_silent 0 = .ok (.iload_n 1, 1) := dk_27 (dk_at dksX0_silent_0 0 rfl rfl)
theorem dX0_silent_1 : decode cX0_silent 1 = .ok (.iconst 3, 1) := dk_6 (dk_at dksX0_silent_0 1 rfl rfl)
theorem dX0_silent_2 : decode cX0_silent 2 = .ok (.invokestatic 25, 3) := dk_184 0 25 (dk_at dksX0_silent_0 2 rfl rfl)
theorem dX0_silent_5 : decode cX0_silent 5 = .ok (.ifCond .ne 5, 3) := dk_154 0 5 (dk_at dksX0_silent_0 5 rfl rfl)
theorem dX0_silent_8 : decode cX0_silent 8 = .ok (.iconst (-1), 1) := dk_2 (dk_at dksX0_silent_0 8 rfl rfl)
theorem dX0_silent_9 : decode cX0_silent 9 = .ok (.ireturn, 1) := dk_172 (dk_at dksX0_silent_0 9 rfl rfl)
theorem dX0_silent_10 : decode cX0_silent 10 = .ok (.iload_n 1, 1) := dk_27 (dk_at dksX0_silent_0 10 rfl rfl)
theorem dX0_silent_11 : decode cX0_silent 11 = .ok (.iconst 2, 1) := dk_5 (dk_at dksX0_silent_0 11 rfl rfl)
theorem dX0_silent_12 : decode cX0_silent 12 = .ok (.if_icmp .ne 8, 3) := dk_160 0 8 (dk_at dksX0_silent_0 12 rfl rfl)
theorem dX0_silent_15 : decode cX0_silent 15 = .ok (.aload_n 0, 1) := dk_42 (dk_at dksX0_silent_0 15 rfl rfl)
theorem dX0_silent_16 : decode cX0_silent 16 = .ok (.invokevirtual 295, 3) := dk_182 1 39 (dk_at dksX0_silent_0 16 rfl rfl)
theorem dX0_silent_19 : decode cX0_silent 19 = .ok (.ireturn, 1) := dk_172 (dk_at dksX0_silent_0 19 rfl rfl)
theorem dX0_silent_20 : decode cX0_silent 20 = .ok (.iconst 0, 1) := dk_3 (dk_at dksX0_silent_0 20 rfl rfl)
theorem dX0_silent_21 : decode cX0_silent 21 = .ok (.istore_n 2, 1) := dk_61 (dk_at dksX0_silent_0 21 rfl rfl)
theorem dX0_silent_22 : decode cX0_silent 22 = .ok (.bipush (-2), 2) := dk_16 254 (dk_at dksX0_silent_0 22 rfl rfl)
theorem dX0_silent_24 : decode cX0_silent 24 = .ok (.istore_n 3, 1) := dk_62 (dk_at dksX0_silent_1 0 rfl rfl)
theorem dX0_silent_25 : decode cX0_silent 25 = .ok (.iconst 0, 1) := dk_3 (dk_at dksX0_silent_1 1 rfl rfl)
theorem dX0_silent_26 : decode cX0_silent 26 = .ok (.istore 4, 2) := dk_54 4 (dk_at dksX0_silent_1 2 rfl rfl)
theorem dX0_silent_28 : decode cX0_silent 28 = .ok (.iload 4, 2) := dk_21 4 (dk_at dksX0_silent_1 4 rfl rfl)
theorem dX0_silent_30 : decode cX0_silent 30 = .ok (.bipush 60, 2) := dk_16 60 (dk_at dksX0_silent_1 6 rfl rfl)
theorem dX0_silent_32 : decode cX0_silent 32 = .ok (.if_icmp .ge 53, 3) := dk_162 0 53 (dk_at dksX0_silent_1 8 rfl rfl)
theorem dX0_silent_35 : decode cX0_silent 35 = .ok (.aload_n 0, 1) := dk_42 (dk_at dksX0_silent_1 11 rfl rfl)
theorem dX0_silent_36 : decode cX0_silent 36 = .ok (.getfield 63, 3) := dk_180 0 63 (dk_at dksX0_silent_1 12 rfl rfl)
theorem dX0_silent_39 : decode cX0_silent 39 = .ok (.iload 4, 2) := dk_21 4 (dk_at dksX0_silent_1 15 rfl rfl)
theorem dX0_silent_41 : decode cX0_silent 41 = .ok (.invokevirtual 218, 3) := dk_182 0 218 (dk_at dksX0_silent_1 17 rfl rfl)
theorem dX0_silent_44 : decode cX0_silent 44 = .ok (.iconst (-1), 1) := dk_2 (dk_at dksX0_silent_1 20 rfl rfl)
theorem dX0_silent_45 : decode cX0_silent 45 = .ok (.if_icmp .ne 34, 3) := dk_160 0 34 (dk_at dksX0_silent_1 21 rfl rfl)
theorem dX0_silent_48 : decode cX0_silent 48 = .ok (.aload_n 0, 1) := dk_42 (dk_at dksX0_silent_2 0 rfl rfl)
theorem dX0_silent_49 : decode cX0_silent 49 = .ok (.getfield 63, 3) := dk_180 0 63 (dk_at dksX0_silent_2 1 rfl rfl)
theorem dX0_silent_52 : decode cX0_silent 52 = .ok (.iload 4, 2) := dk_21 4 (dk_at dksX0_silent_2 4 rfl rfl)
theorem dX0_silent_54 : decode cX0_silent 54 = .ok (.invokevirtual 212, 3) := dk_182 0 212 (dk_at dksX0_silent_2 6 rfl rfl)
theorem dX0_silent_57 : decode cX0_silent 57 = .ok (.ifCond .eq 6, 3) := dk_153 0 6 (dk_at dksX0_silent_2 9 rfl rfl)
theorem dX0_silent_60 : decode cX0_silent 60 = .ok (.goto 19, 3) := dk_167 0 19 (dk_at dksX0_silent_2 12 rfl rfl)
theorem dX0_silent_63 : decode cX0_silent 63 = .ok (.iinc 2 1, 3) := dk_132 2 1 (dk_at dksX0_silent_2 15 rfl rfl)
theorem dX0_silent_66 : decode cX0_silent 66 = .ok (.iload_n 3, 1) := dk_29 (dk_at dksX0_silent_2 18 rfl rfl)
theorem dX0_silent_67 : decode cX0_silent 67 = .ok (.bipush (-2), 2) := dk_16 254 (dk_at dksX0_silent_2 19 rfl rfl)
theorem dX0_silent_69 : decode cX0_silent 69 = .ok (.if_icmp .ne 8, 3) := dk_160 0 8 (dk_at dksX0_silent_2 21 rfl rfl)
theorem dX0_silent_72 : decode cX0_silent 72 = .ok (.iload 4, 2) := dk_21 4 (dk_at dksX0_silent_3 0 rfl rfl)
theorem dX0_silent_74 : decode cX0_silent 74 = .ok (.goto 4, 3) := dk_167 0 4 (dk_at dksX0_silent_3 2 rfl rfl)
theorem dX0_silent_77 : decode cX0_silent 77 = .ok (.iload_n 3, 1) := dk_29 (dk_at dksX0_silent_3 5 rfl rfl)
theorem dX0_silent_78 : decode cX0_silent 78 = .ok (.istore_n 3, 1) := dk_62 (dk_at dksX0_silent_3 6 rfl rfl)
theorem dX0_silent_79 : decode cX0_silent 79 = .ok (.iinc 4 1, 3) := dk_132 4 1 (dk_at dksX0_silent_3 7 rfl rfl)
theorem dX0_silent_82 : decode cX0_silent 82 = .ok (.goto (-54), 3) := dk_167 255 202 (dk_at dksX0_silent_3 10 rfl rfl)
theorem dX0_silent_85 : decode cX0_silent 85 = .ok (.iload_n 1, 1) := dk_27 (dk_at dksX0_silent_3 13 rfl rfl)
theorem dX0_silent_86 : decode cX0_silent 86 = .ok (.ifCond .ne 7, 3) := dk_154 0 7 (dk_at dksX0_silent_3 14 rfl rfl)
theorem dX0_silent_89 : decode cX0_silent 89 = .ok (.iload_n 2, 1) := dk_28 (dk_at dksX0_silent_3 17 rfl rfl)
theorem dX0_silent_90 : decode cX0_silent 90 = .ok (.goto 4, 3) := dk_167 0 4 (dk_at dksX0_silent_3 18 rfl rfl)
theorem dX0_silent_93 : decode cX0_silent 93 = .ok (.iload_n 3, 1) := dk_29 (dk_at dksX0_silent_3 21 rfl rfl)
theorem dX0_silent_94 : decode cX0_silent 94 = .ok (.ireturn, 1) := dk_172 (dk_at dksX0_silent_3 22 rfl rfl)
abbrev cX0_largestBlock : ByteArray := prog_1_method_52_code
def yX0_largestBlock : MethodName := ⟨RX0, "largestBlock", "()I"⟩
def dkwX0_largestBlock_2 : List UInt8 := [132, 4, 1, 167, 255, 225, 27, 29, 184, 0, 7, 60, 132, 2, 1, 167, 255, 197, 27, 172]
abbrev dktX0_largestBlock_2 : List UInt8 := dkwX0_largestBlock_2 ++ []
def dkwX0_largestBlock_1 : List UInt8 := [162, 0, 30, 29, 42, 180, 0, 102, 21, 4, 46, 19, 1, 35, 162, 0, 7, 4, 167, 0, 4, 3, 96, 62]
abbrev dktX0_largestBlock_1 : List UInt8 := dkwX0_largestBlock_1 ++ dktX0_largestBlock_2
def dkwX0_largestBlock_0 : List UInt8 := [3, 60, 3, 61, 28, 16, 60, 162, 0, 59, 42, 28, 182, 1, 36, 3, 62, 3, 54, 4, 21, 4, 16, 60]
abbrev dktX0_largestBlock_0 : List UInt8 := dkwX0_largestBlock_0 ++ dktX0_largestBlock_1
theorem dksX0_largestBlock_0 : cX0_largestBlock.data.toList.drop 0 = dktX0_largestBlock_0 := by decide +kernel
theorem dksX0_largestBlock_1 : cX0_largestBlock.data.toList.drop 24 = dktX0_largestBlock_1 := dk_seg dksX0_largestBlock_0 24 rfl rfl
theorem dksX0_largestBlock_2 : cX0_largestBlock.data.toList.drop 48 = dktX0_largestBlock_2 := dk_seg dksX0_largestBlock_1 24 rfl rfl
theorem dX0_largestBlock_0 : decode cX0_largestBlock 0 = .ok (.iconst 0, 1) := dk_3 (dk_at dksX0_largestBlock_0 0 rfl rfl)
theorem dX0_largestBlock_1 : decode cX0_largestBlock 1 = .ok (.istore_n 1, 1) := dk_60 (dk_at dksX0_largestBlock_0 1 rfl rfl)
theorem dX0_largestBlock_2 : decode cX0_largestBlock 2 = .ok (.iconst 0, 1) := dk_3 (dk_at dksX0_largestBlock_0 2 rfl rfl)
theorem dX0_largestBlock_3 : decode cX0_largestBlock 3 = .ok (.istore_n 2, 1) := dk_61 (dk_at dksX0_largestBlock_0 3 rfl rfl)
theorem dX0_largestBlock_4 : decode cX0_largestBlock 4 = .ok (.iload_n 2, 1) := dk_28 (dk_at dksX0_largestBlock_0 4 rfl rfl)
theorem dX0_largestBlock_5 : decode cX0_largestBlock 5 = .ok (.bipush 60, 2) := dk_16 60 (dk_at dksX0_largestBlock_0 5 rfl rfl)
theorem dX0_largestBlock_7 : decode cX0_largestBlock 7 = .ok (.if_icmp .ge 59, 3) := dk_162 0 59 (dk_at dksX0_largestBlock_0 7 rfl rfl)
theorem dX0_largestBlock_10 : decode cX0_largestBlock 10 = .ok (.aload_n 0, 1) := dk_42 (dk_at dksX0_largestBlock_0 10 rfl rfl)
theorem dX0_largestBlock_11 : decode cX0_largestBlock 11 = .ok (.iload_n 2, 1) := dk_28 (dk_at dksX0_largestBlock_0 11 rfl rfl)
theorem dX0_largestBlock_12 : decode cX0_largestBlock 12 = .ok (.invokevirtual 292, 3) := dk_182 1 36 (dk_at dksX0_largestBlock_0 12 rfl rfl)
theorem dX0_largestBlock_15 : decode cX0_largestBlock 15 = .ok (.iconst 0, 1) := dk_3 (dk_at dksX0_largestBlock_0 15 rfl rfl)
theorem dX0_largestBlock_16 : decode cX0_largestBlock 16 = .ok (.istore_n 3, 1) := dk_62 (dk_at dksX0_largestBlock_0 16 rfl rfl)
theorem dX0_largestBlock_17 : decode cX0_largestBlock 17 = .ok (.iconst 0, 1) := dk_3 (dk_at dksX0_largestBlock_0 17 rfl rfl)
theorem dX0_largestBlock_18 : decode cX0_largestBlock 18 = .ok (.istore 4, 2) := dk_54 4 (dk_at dksX0_largestBlock_0 18 rfl rfl)
theorem dX0_largestBlock_20 : decode cX0_largestBlock 20 = .ok (.iload 4, 2) := dk_21 4 (dk_at dksX0_largestBlock_0 20 rfl rfl)
theorem dX0_largestBlock_22 : decode cX0_largestBlock 22 = .ok (.bipush 60, 2) := dk_16 60 (dk_at dksX0_largestBlock_0 22 rfl rfl)
theorem dX0_largestBlock_24 : decode cX0_largestBlock 24 = .ok (.if_icmp .ge 30, 3) := dk_162 0 30 (dk_at dksX0_largestBlock_1 0 rfl rfl)
theorem dX0_largestBlock_27 : decode cX0_largestBlock 27 = .ok (.iload_n 3, 1) := dk_29 (dk_at dksX0_largestBlock_1 3 rfl rfl)
theorem dX0_largestBlock_28 : decode cX0_largestBlock 28 = .ok (.aload_n 0, 1) := dk_42 (dk_at dksX0_largestBlock_1 4 rfl rfl)
theorem dX0_largestBlock_29 : decode cX0_largestBlock 29 = .ok (.getfield 102, 3) := dk_180 0 102 (dk_at dksX0_largestBlock_1 5 rfl rfl)
theorem dX0_largestBlock_32 : decode cX0_largestBlock 32 = .ok (.iload 4, 2) := dk_21 4 (dk_at dksX0_largestBlock_1 8 rfl rfl)
theorem dX0_largestBlock_34 : decode cX0_largestBlock 34 = .ok (.iaload, 1) := dk_46 (dk_at dksX0_largestBlock_1 10 rfl rfl)
theorem dX0_largestBlock_35 : decode cX0_largestBlock 35 = .ok (.ldc_w 291, 3) := dk_19 1 35 (dk_at dksX0_largestBlock_1 11 rfl rfl)
theorem dX0_largestBlock_38 : decode cX0_largestBlock 38 = .ok (.if_icmp .ge 7, 3) := dk_162 0 7 (dk_at dksX0_largestBlock_1 14 rfl rfl)
theorem dX0_largestBlock_41 : decode cX0_largestBlock 41 = .ok (.iconst 1, 1) := dk_4 (dk_at dksX0_largestBlock_1 17 rfl rfl)
theorem dX0_largestBlock_42 : decode cX0_largestBlock 42 = .ok (.goto 4, 3) := dk_167 0 4 (dk_at dksX0_largestBlock_1 18 rfl rfl)
theorem dX0_largestBlock_45 : decode cX0_largestBlock 45 = .ok (.iconst 0, 1) := dk_3 (dk_at dksX0_largestBlock_1 21 rfl rfl)
theorem dX0_largestBlock_46 : decode cX0_largestBlock 46 = .ok (.iadd, 1) := dk_96 (dk_at dksX0_largestBlock_1 22 rfl rfl)
theorem dX0_largestBlock_47 : decode cX0_largestBlock 47 = .ok (.istore_n 3, 1) := dk_62 (dk_at dksX0_largestBlock_1 23 rfl rfl)
theorem dX0_largestBlock_48 : decode cX0_largestBlock 48 = .ok (.iinc 4 1, 3) := dk_132 4 1 (dk_at dksX0_largestBlock_2 0 rfl rfl)
theorem dX0_largestBlock_51 : decode cX0_largestBlock 51 = .ok (.goto (-31), 3) := dk_167 255 225 (dk_at dksX0_largestBlock_2 3 rfl rfl)
theorem dX0_largestBlock_54 : decode cX0_largestBlock 54 = .ok (.iload_n 1, 1) := dk_27 (dk_at dksX0_largestBlock_2 6 rfl rfl)
theorem dX0_largestBlock_55 : decode cX0_largestBlock 55 = .ok (.iload_n 3, 1) := dk_29 (dk_at dksX0_largestBlock_2 7 rfl rfl)
theorem dX0_largestBlock_56 : decode cX0_largestBlock 56 = .ok (.invokestatic 7, 3) := dk_184 0 7 (dk_at dksX0_largestBlock_2 8 rfl rfl)
theorem dX0_largestBlock_59 : decode cX0_largestBlock 59 = .ok (.istore_n 1, 1) := dk_60 (dk_at dksX0_largestBlock_2 11 rfl rfl)
theorem dX0_largestBlock_60 : decode cX0_largestBlock 60 = .ok (.iinc 2 1, 3) := dk_132 2 1 (dk_at dksX0_largestBlock_2 12 rfl rfl)
theorem dX0_largestBlock_63 : decode cX0_largestBlock 63 = .ok (.goto (-59), 3) := dk_167 255 197 (dk_at dksX0_largestBlock_2 15 rfl rfl)
theorem dX0_largestBlock_66 : decode cX0_largestBlock 66 = .ok (.iload_n 1, 1) := dk_27 (dk_at dksX0_largestBlock_2 18 rfl rfl)
theorem dX0_largestBlock_67 : decode cX0_largestBlock 67 = .ok (.ireturn, 1) := dk_172 (dk_at dksX0_largestBlock_2 19 rfl rfl)
abbrev cX0_laysSteps : ByteArray := prog_1_method_51_code
def yX0_laysSteps : MethodName := ⟨RX0, "laysSteps", "(I)V"⟩
def dkwX0_laysSteps_6 : List UInt8 := [132, 5, 1, 167, 255, 180, 132, 4, 1, 167, 255, 164, 132, 3, 1, 167, 255, 149, 177]
abbrev dktX0_laysSteps_6 : List UInt8 := dkwX0_laysSteps_6 ++ []
def dkwX0_laysSteps_5 : List UInt8 := [182, 0, 218, 2, 159, 0, 6, 167, 0, 15, 42, 180, 0, 102, 21, 6, 29, 4, 96, 79, 4, 61]
abbrev dktX0_laysSteps_5 : List UInt8 := dkwX0_laysSteps_5 ++ dktX0_laysSteps_6
def dkwX0_laysSteps_4 : List UInt8 := [159, 0, 44, 42, 180, 0, 102, 21, 6, 46, 29, 4, 96, 164, 0, 31, 42, 180, 0, 63, 21, 6]
abbrev dktX0_laysSteps_4 : List UInt8 := dkwX0_laysSteps_4 ++ dktX0_laysSteps_5
def dkwX0_laysSteps_3 : List UInt8 := [42, 180, 0, 102, 21, 4, 46, 29, 160, 0, 65, 21, 4, 21, 5, 184, 0, 29, 54, 6, 21, 6, 2]
abbrev dktX0_laysSteps_3 : List UInt8 := dkwX0_laysSteps_3 ++ dktX0_laysSteps_4
def dkwX0_laysSteps_2 : List UInt8 := [153, 0, 109, 3, 61, 3, 54, 4, 21, 4, 16, 60, 162, 0, 91, 3, 54, 5, 21, 5, 7, 162, 0, 76]
abbrev dktX0_laysSteps_2 : List UInt8 := dkwX0_laysSteps_2 ++ dktX0_laysSteps_3
def dkwX0_laysSteps_1 : List UInt8 := [180, 0, 63, 27, 182, 0, 218, 2, 159, 0, 4, 177, 42, 180, 0, 102, 27, 3, 79, 4, 61, 3, 62, 28]
abbrev dktX0_laysSteps_1 : List UInt8 := dkwX0_laysSteps_1 ++ dktX0_laysSteps_2
def dkwX0_laysSteps_0 : List UInt8 := [3, 61, 28, 16, 60, 162, 0, 18, 42, 180, 0, 102, 28, 19, 1, 35, 79, 132, 2, 1, 167, 255, 238, 42]
abbrev dktX0_laysSteps_0 : List UInt8 := dkwX0_laysSteps_0 ++ dktX0_laysSteps_1
theorem dksX0_laysSteps_0 : cX0_laysSteps.data.toList.drop 0 = dktX0_laysSteps_0 := by decide +kernel
theorem dksX0_laysSteps_1 : cX0_laysSteps.data.toList.drop 24 = dktX0_laysSteps_1 := dk_seg dksX0_laysSteps_0 24 rfl rfl
theorem dksX0_laysSteps_2 : cX0_laysSteps.data.toList.drop 48 = dktX0_laysSteps_2 := dk_seg dksX0_laysSteps_1 24 rfl rfl
theorem dksX0_laysSteps_3 : cX0_laysSteps.data.toList.drop 72 = dktX0_laysSteps_3 := dk_seg dksX0_laysSteps_2 24 rfl rfl
theorem dksX0_laysSteps_4 : cX0_laysSteps.data.toList.drop 95 = dktX0_laysSteps_4 := dk_seg dksX0_laysSteps_3 23 rfl rfl
theorem dksX0_laysSteps_5 : cX0_laysSteps.data.toList.drop 117 = dktX0_laysSteps_5 := dk_seg dksX0_laysSteps_4 22 rfl rfl
theorem dksX0_laysSteps_6 : cX0_laysSteps.data.toList.drop 139 = dktX0_laysSteps_6 := dk_seg dksX0_laysSteps_5 22 rfl rfl
theorem dX0_laysSteps_0 : decode cX0_laysSteps 0 = .ok (.iconst 0, 1) := dk_3 (dk_at dksX0_laysSteps_0 0 rfl rfl)
theorem dX0_laysSteps_1 : decode cX0_laysSteps 1 = .ok (.istore_n 2, 1) := dk_61 (dk_at dksX0_laysSteps_0 1 rfl rfl)
theorem dX0_laysSteps_2 : decode cX0_laysSteps 2 = .ok (.iload_n 2, 1) := dk_28 (dk_at dksX0_laysSteps_0 2 rfl rfl)
theorem dX0_laysSteps_3 : decode cX0_laysSteps 3 = .ok (.bipush 60, 2) := dk_16 60 (dk_at dksX0_laysSteps_0 3 rfl rfl)
theorem dX0_laysSteps_5 : decode cX0_laysSteps 5 = .ok (.if_icmp .ge 18, 3) := dk_162 0 18 (dk_at dksX0_laysSteps_0 5 rfl rfl)
theorem dX0_laysSteps_8 : decode cX0_laysSteps 8 = .ok (.aload_n 0, 1) := dk_42 (dk_at dksX0_laysSteps_0 8 rfl rfl)
theorem dX0_laysSteps_9 : decode cX0_laysSteps 9 = .ok (.getfield 102, 3) := dk_180 0 102 (dk_at dksX0_laysSteps_0 9 rfl rfl)
theorem dX0_laysSteps_12 : decode cX0_laysSteps 12 = .ok (.iload_n 2, 1) := dk_28 (dk_at dksX0_laysSteps_0 12 rfl rfl)
theorem dX0_laysSteps_13 : decode cX0_laysSteps 13 = .ok (.ldc_w 291, 3) := dk_19 1 35 (dk_at dksX0_laysSteps_0 13 rfl rfl)
theorem dX0_laysSteps_16 : decode cX0_laysSteps 16 = .ok (.iastore, 1) := dk_79 (dk_at dksX0_laysSteps_0 16 rfl rfl)
theorem dX0_laysSteps_17 : decode cX0_laysSteps 17 = .ok (.iinc 2 1, 3) := dk_132 2 1 (dk_at dksX0_laysSteps_0 17 rfl rfl)
theorem dX0_laysSteps_20 : decode cX0_laysSteps 20 = .ok (.goto (-18), 3) := dk_167 255 238 (dk_at dksX0_laysSteps_0 20 rfl rfl)
theorem dX0_laysSteps_23 : decode cX0_laysSteps 23 = .ok (.aload_n 0, 1) := dk_42 (dk_at dksX0_laysSteps_0 23 rfl rfl)
theorem dX0_laysSteps_24 : decode cX0_laysSteps 24 = .ok (.getfield 63, 3) := dk_180 0 63 (dk_at dksX0_laysSteps_1 0 rfl rfl)
theorem dX0_laysSteps_27 : decode cX0_laysSteps 27 = .ok (.iload_n 1, 1) := dk_27 (dk_at dksX0_laysSteps_1 3 rfl rfl)
theorem dX0_laysSteps_28 : decode cX0_laysSteps 28 = .ok (.invokevirtual 218, 3) := dk_182 0 218 (dk_at dksX0_laysSteps_1 4 rfl rfl)
theorem dX0_laysSteps_31 : decode cX0_laysSteps 31 = .ok (.iconst (-1), 1) := dk_2 (dk_at dksX0_laysSteps_1 7 rfl rfl)
theorem dX0_laysSteps_32 : decode cX0_laysSteps 32 = .ok (.if_icmp .eq 4, 3) := dk_159 0 4 (dk_at dksX0_laysSteps_1 8 rfl rfl)
theorem dX0_laysSteps_35 : decode cX0_laysSteps 35 = .ok (.return_, 1) := dk_177 (dk_at dksX0_laysSteps_1 11 rfl rfl)
theorem dX0_laysSteps_36 : decode cX0_laysSteps 36 = .ok (.aload_n 0, 1) := dk_42 (dk_at dksX0_laysSteps_1 12 rfl rfl)
theorem dX0_laysSteps_37 : decode cX0_laysSteps 37 = .ok (.getfield 102, 3) := dk_180 0 102 (dk_at dksX0_laysSteps_1 13 rfl rfl)
theorem dX0_laysSteps_40 : decode cX0_laysSteps 40 = .ok (.iload_n 1, 1) := dk_27 (dk_at dksX0_laysSteps_1 16 rfl rfl)
theorem dX0_laysSteps_41 : decode cX0_laysSteps 41 = .ok (.iconst 0, 1) := dk_3 (dk_at dksX0_laysSteps_1 17 rfl rfl)
theorem dX0_laysSteps_42 : decode cX0_laysSteps 42 = .ok (.iastore, 1) := dk_79 (dk_at dksX0_laysSteps_1 18 rfl rfl)
theorem dX0_laysSteps_43 : decode cX0_laysSteps 43 = .ok (.iconst 1, 1) := dk_4 (dk_at dksX0_laysSteps_1 19 rfl rfl)
theorem dX0_laysSteps_44 : decode cX0_laysSteps 44 = .ok (.istore_n 2, 1) := dk_61 (dk_at dksX0_laysSteps_1 20 rfl rfl)
theorem dX0_laysSteps_45 : decode cX0_laysSteps 45 = .ok (.iconst 0, 1) := dk_3 (dk_at dksX0_laysSteps_1 21 rfl rfl)
theorem dX0_laysSteps_46 : decode cX0_laysSteps 46 = .ok (.istore_n 3, 1) := dk_62 (dk_at dksX0_laysSteps_1 22 rfl rfl)
theorem dX0_laysSteps_47 : decode cX0_laysSteps 47 = .ok (.iload_n 2, 1) := dk_28 (dk_at dksX0_laysSteps_1 23 rfl rfl)
theorem dX0_laysSteps_48 : decode cX0_laysSteps 48 = .ok (.ifCond .eq 109, 3) := dk_153 0 109 (dk_at dksX0_laysSteps_2 0 rfl rfl)
theorem dX0_laysSteps_51 : decode cX0_laysSteps 51 = .ok (.iconst 0, 1) := dk_3 (dk_at dksX0_laysSteps_2 3 rfl rfl)
theorem dX0_laysSteps_52 : decode cX0_laysSteps 52 = .ok (.istore_n 2, 1) := dk_61 (dk_at dksX0_laysSteps_2 4 rfl rfl)
theorem dX0_laysSteps_53 : decode cX0_laysSteps 53 = .ok (.iconst 0, 1) := dk_3 (dk_at dksX0_laysSteps_2 5 rfl rfl)
theorem dX0_laysSteps_54 : decode cX0_laysSteps 54 = .ok (.istore 4, 2) := dk_54 4 (dk_at dksX0_laysSteps_2 6 rfl rfl)
theorem dX0_laysSteps_56 : decode cX0_laysSteps 56 = .ok (.iload 4, 2) := dk_21 4 (dk_at dksX0_laysSteps_2 8 rfl rfl)
theorem dX0_laysSteps_58 : decode cX0_laysSteps 58 = .ok (.bipush 60, 2) := dk_16 60 (dk_at dksX0_laysSteps_2 10 rfl rfl)
theorem dX0_laysSteps_60 : decode cX0_laysSteps 60 = .ok (.if_icmp .ge 91, 3) := dk_162 0 91 (dk_at dksX0_laysSteps_2 12 rfl rfl)
theorem dX0_laysSteps_63 : decode cX0_laysSteps 63 = .ok (.iconst 0, 1) := dk_3 (dk_at dksX0_laysSteps_2 15 rfl rfl)
theorem dX0_laysSteps_64 : decode cX0_laysSteps 64 = .ok (.istore 5, 2) := dk_54 5 (dk_at dksX0_laysSteps_2 16 rfl rfl)
theorem dX0_laysSteps_66 : decode cX0_laysSteps 66 = .ok (.iload 5, 2) := dk_21 5 (dk_at dksX0_laysSteps_2 18 rfl rfl)
theorem dX0_laysSteps_68 : decode cX0_laysSteps 68 = .ok (.iconst 4, 1) := dk_7 (dk_at dksX0_laysSteps_2 20 rfl rfl)
theorem dX0_laysSteps_69 : decode cX0_laysSteps 69 = .ok (.if_icmp .ge 76, 3) := dk_162 0 76 (dk_at dksX0_laysSteps_2 21 rfl rfl)
theorem dX0_laysSteps_72 : decode cX0_laysSteps 72 = .ok (.aload_n 0, 1) := dk_42 (dk_at dksX0_laysSteps_3 0 rfl rfl)
theorem dX0_laysSteps_73 : decode cX0_laysSteps 73 = .ok (.getfield 102, 3) := dk_180 0 102 (dk_at dksX0_laysSteps_3 1 rfl rfl)
theorem dX0_laysSteps_76 : decode cX0_laysSteps 76 = .ok (.iload 4, 2) := dk_21 4 (dk_at dksX0_laysSteps_3 4 rfl rfl)
theorem dX0_laysSteps_78 : decode cX0_laysSteps 78 = .ok (.iaload, 1) := dk_46 (dk_at dksX0_laysSteps_3 6 rfl rfl)
theorem dX0_laysSteps_79 : decode cX0_laysSteps 79 = .ok (.iload_n 3, 1) := dk_29 (dk_at dksX0_laysSteps_3 7 rfl rfl)
theorem dX0_laysSteps_80 : decode cX0_laysSteps 80 = .ok (.if_icmp .ne 65, 3) := dk_160 0 65 (dk_at dksX0_laysSteps_3 8 rfl rfl)
theorem dX0_laysSteps_83 : decode cX0_laysSteps 83 = .ok (.iload 4, 2) := dk_21 4 (dk_at dksX0_laysSteps_3 11 rfl rfl)
theorem dX0_laysSteps_85 : decode cX0_laysSteps 85 = .ok (.iload 5, 2) := dk_21 5 (dk_at dksX0_laysSteps_3 13 rfl rfl)
theorem dX0_laysSteps_87 : decode cX0_laysSteps 87 = .ok (.invokestatic 29, 3) := dk_184 0 29 (dk_at dksX0_laysSteps_3 15 rfl rfl)
theorem dX0_laysSteps_90 : decode cX0_laysSteps 90 = .ok (.istore 6, 2) := dk_54 6 (dk_at dksX0_laysSteps_3 18 rfl rfl)
theorem dX0_laysSteps_92 : decode cX0_laysSteps 92 = .ok (.iload 6, 2) := dk_21 6 (dk_at dksX0_laysSteps_3 20 rfl rfl)
theorem dX0_laysSteps_94 : decode cX0_laysSteps 94 = .ok (.iconst (-1), 1) := dk_2 (dk_at dksX0_laysSteps_3 22 rfl rfl)
theorem dX0_laysSteps_95 : decode cX0_laysSteps 95 = .ok (.if_icmp .eq 44, 3) := dk_159 0 44 (dk_at dksX0_laysSteps_4 0 rfl rfl)
theorem dX0_laysSteps_98 : decode cX0_laysSteps 98 = .ok (.aload_n 0, 1) := dk_42 (dk_at dksX0_laysSteps_4 3 rfl rfl)
theorem dX0_laysSteps_99 : decode cX0_laysSteps 99 = .ok (.getfield 102, 3) := dk_180 0 102 (dk_at dksX0_laysSteps_4 4 rfl rfl)
theorem dX0_laysSteps_102 : decode cX0_laysSteps 102 = .ok (.iload 6, 2) := dk_21 6 (dk_at dksX0_laysSteps_4 7 rfl rfl)
theorem dX0_laysSteps_104 : decode cX0_laysSteps 104 = .ok (.iaload, 1) := dk_46 (dk_at dksX0_laysSteps_4 9 rfl rfl)
theorem dX0_laysSteps_105 : decode cX0_laysSteps 105 = .ok (.iload_n 3, 1) := dk_29 (dk_at dksX0_laysSteps_4 10 rfl rfl)
theorem dX0_laysSteps_106 : decode cX0_laysSteps 106 = .ok (.iconst 1, 1) := dk_4 (dk_at dksX0_laysSteps_4 11 rfl rfl)
theorem dX0_laysSteps_107 : decode cX0_laysSteps 107 = .ok (.iadd, 1) := dk_96 (dk_at dksX0_laysSteps_4 12 rfl rfl)
theorem dX0_laysSteps_108 : decode cX0_laysSteps 108 = .ok (.if_icmp .le 31, 3) := dk_164 0 31 (dk_at dksX0_laysSteps_4 13 rfl rfl)
theorem dX0_laysSteps_111 : decode cX0_laysSteps 111 = .ok (.aload_n 0, 1) := dk_42 (dk_at dksX0_laysSteps_4 16 rfl rfl)
theorem dX0_laysSteps_112 : decode cX0_laysSteps 112 = .ok (.getfield 63, 3) := dk_180 0 63 (dk_at dksX0_laysSteps_4 17 rfl rfl)
theorem dX0_laysSteps_115 : decode cX0_laysSteps 115 = .ok (.iload 6, 2) := dk_21 6 (dk_at dksX0_laysSteps_4 20 rfl rfl)
theorem dX0_laysSteps_117 : decode cX0_laysSteps 117 = .ok (.invokevirtual 218, 3) := dk_182 0 218 (dk_at dksX0_laysSteps_5 0 rfl rfl)
theorem dX0_laysSteps_120 : decode cX0_laysSteps 120 = .ok (.iconst (-1), 1) := dk_2 (dk_at dksX0_laysSteps_5 3 rfl rfl)
theorem dX0_laysSteps_121 : decode cX0_laysSteps 121 = .ok (.if_icmp .eq 6, 3) := dk_159 0 6 (dk_at dksX0_laysSteps_5 4 rfl rfl)
theorem dX0_laysSteps_124 : decode cX0_laysSteps 124 = .ok (.goto 15, 3) := dk_167 0 15 (dk_at dksX0_laysSteps_5 7 rfl rfl)
theorem dX0_laysSteps_127 : decode cX0_laysSteps 127 = .ok (.aload_n 0, 1) := dk_42 (dk_at dksX0_laysSteps_5 10 rfl rfl)
theorem dX0_laysSteps_128 : decode cX0_laysSteps 128 = .ok (.getfield 102, 3) := dk_180 0 102 (dk_at dksX0_laysSteps_5 11 rfl rfl)
theorem dX0_laysSteps_131 : decode cX0_laysSteps 131 = .ok (.iload 6, 2) := dk_21 6 (dk_at dksX0_laysSteps_5 14 rfl rfl)
theorem dX0_laysSteps_133 : decode cX0_laysSteps 133 = .ok (.iload_n 3, 1) := dk_29 (dk_at dksX0_laysSteps_5 16 rfl rfl)
theorem dX0_laysSteps_134 : decode cX0_laysSteps 134 = .ok (.iconst 1, 1) := dk_4 (dk_at dksX0_laysSteps_5 17 rfl rfl)
theorem dX0_laysSteps_135 : decode cX0_laysSteps 135 = .ok (.iadd, 1) := dk_96 (dk_at dksX0_laysSteps_5 18 rfl rfl)
theorem dX0_laysSteps_136 : decode cX0_laysSteps 136 = .ok (.iastore, 1) := dk_79 (dk_at dksX0_laysSteps_5 19 rfl rfl)
theorem dX0_laysSteps_137 : decode cX0_laysSteps 137 = .ok (.iconst 1, 1) := dk_4 (dk_at dksX0_laysSteps_5 20 rfl rfl)
theorem dX0_laysSteps_138 : decode cX0_laysSteps 138 = .ok (.istore_n 2, 1) := dk_61 (dk_at dksX0_laysSteps_5 21 rfl rfl)
theorem dX0_laysSteps_139 : decode cX0_laysSteps 139 = .ok (.iinc 5 1, 3) := dk_132 5 1 (dk_at dksX0_laysSteps_6 0 rfl rfl)
theorem dX0_laysSteps_142 : decode cX0_laysSteps 142 = .ok (.goto (-76), 3) := dk_167 255 180 (dk_at dksX0_laysSteps_6 3 rfl rfl)
theorem dX0_laysSteps_145 : decode cX0_laysSteps 145 = .ok (.iinc 4 1, 3) := dk_132 4 1 (dk_at dksX0_laysSteps_6 6 rfl rfl)
theorem dX0_laysSteps_148 : decode cX0_laysSteps 148 = .ok (.goto (-92), 3) := dk_167 255 164 (dk_at dksX0_laysSteps_6 9 rfl rfl)
theorem dX0_laysSteps_151 : decode cX0_laysSteps 151 = .ok (.iinc 3 1, 3) := dk_132 3 1 (dk_at dksX0_laysSteps_6 12 rfl rfl)
theorem dX0_laysSteps_154 : decode cX0_laysSteps 154 = .ok (.goto (-107), 3) := dk_167 255 149 (dk_at dksX0_laysSteps_6 15 rfl rfl)
theorem dX0_laysSteps_157 : decode cX0_laysSteps 157 = .ok (.return_, 1) := dk_177 (dk_at dksX0_laysSteps_6 18 rfl rfl)
abbrev cX0_visit : ByteArray := prog_1_method_55_code
def yX0_visit : MethodName := ⟨RX0, "visit", "(I)I"⟩
def dkwX0_visit_2 : List UInt8 := [167, 0, 8, 42, 27, 182, 1, 42, 172]
abbrev dktX0_visit_2 : List UInt8 := dkwX0_visit_2 ++ []
def dkwX0_visit_1 : List UInt8 := [154, 0, 6, 16, 254, 172, 42, 3, 182, 1, 36, 42, 27, 182, 1, 42, 19, 1, 35, 160, 0, 8, 16, 254]
abbrev dktX0_visit_1 : List UInt8 := dkwX0_visit_1 ++ dktX0_visit_2
def dkwX0_visit_0 : List UInt8 := [42, 27, 182, 0, 187, 154, 0, 5, 2, 172, 42, 180, 0, 63, 180, 0, 109, 27, 50, 182, 0, 183]
abbrev dktX0_visit_0 : List UInt8 := dkwX0_visit_0 ++ dktX0_visit_1
theorem dksX0_visit_0 : cX0_visit.data.toList.drop 0 = dktX0_visit_0 := by decide +kernel
theorem dksX0_visit_1 : cX0_visit.data.toList.drop 22 = dktX0_visit_1 := dk_seg dksX0_visit_0 22 rfl rfl
theorem dksX0_visit_2 : cX0_visit.data.toList.drop 46 = dktX0_visit_2 := dk_seg dksX0_visit_1 24 rfl rfl
theorem dX0_visit_0 : decode cX0_visit 0 = .ok (.aload_n 0, 1) := dk_42 (dk_at dksX0_visit_0 0 rfl rfl)
theorem dX0_visit_1 : decode cX0_visit 1 = .ok (.iload_n 1, 1) := dk_27 (dk_at dksX0_visit_0 1 rfl rfl)
theorem dX0_visit_2 : decode cX0_visit 2 = .ok (.invokevirtual 187, 3) := dk_182 0 187 (dk_at dksX0_visit_0 2 rfl rfl)
theorem dX0_visit_5 : decode cX0_visit 5 = .ok (.ifCond .ne 5, 3) := dk_154 0 5 (dk_at dksX0_visit_0 5 rfl rfl)
theorem dX0_visit_8 : decode cX0_visit 8 = .ok (.iconst (-1), 1) := dk_2 (dk_at dksX0_visit_0 8 rfl rfl)
theorem dX0_visit_9 : decode cX0_visit 9 = .ok (.ireturn, 1) := dk_172 (dk_at dksX0_visit_0 9 rfl rfl)
theorem dX0_visit_10 : decode cX0_visit 10 = .ok (.aload_n 0, 1) := dk_42 (dk_at dksX0_visit_0 10 rfl rfl)
theorem dX0_visit_11 : decode cX0_visit 11 = .ok (.getfield 63, 3) := dk_180 0 63 (dk_at dksX0_visit_0 11 rfl rfl)
theorem dX0_visit_14 : decode cX0_visit 14 = .ok (.getfield 109, 3) := dk_180 0 109 (dk_at dksX0_visit_0 14 rfl rfl)
theorem dX0_visit_17 : decode cX0_visit 17 = .ok (.iload_n 1, 1) := dk_27 (dk_at dksX0_visit_0 17 rfl rfl)
theorem dX0_visit_18 : decode cX0_visit 18 = .ok (.aaload, 1) := dk_50 (dk_at dksX0_visit_0 18 rfl rfl)
theorem dX0_visit_19 : decode cX0_visit 19 = .ok (.invokevirtual 183, 3) := dk_182 0 183 (dk_at dksX0_visit_0 19 rfl rfl)
theorem dX0_visit_22 : decode cX0_visit 22 = .ok (.ifCond .ne 6, 3) := dk_154 0 6 (dk_at dksX0_visit_1 0 rfl rfl)
theorem dX0_visit_25 : decode cX0_visit 25 = .ok (.bipush (-2), 2) := dk_16 254 (dk_at dksX0_visit_1 3 rfl rfl)
theorem dX0_visit_27 : decode cX0_visit 27 = .ok (.ireturn, 1) := dk_172 (dk_at dksX0_visit_1 5 rfl rfl)
theorem dX0_visit_28 : decode cX0_visit 28 = .ok (.aload_n 0, 1) := dk_42 (dk_at dksX0_visit_1 6 rfl rfl)
theorem dX0_visit_29 : decode cX0_visit 29 = .ok (.iconst 0, 1) := dk_3 (dk_at dksX0_visit_1 7 rfl rfl)
theorem dX0_visit_30 : decode cX0_visit 30 = .ok (.invokevirtual 292, 3) := dk_182 1 36 (dk_at dksX0_visit_1 8 rfl rfl)
theorem dX0_visit_33 : decode cX0_visit 33 = .ok (.aload_n 0, 1) := dk_42 (dk_at dksX0_visit_1 11 rfl rfl)
theorem dX0_visit_34 : decode cX0_visit 34 = .ok (.iload_n 1, 1) := dk_27 (dk_at dksX0_visit_1 12 rfl rfl)
theorem dX0_visit_35 : decode cX0_visit 35 = .ok (.invokevirtual 298, 3) := dk_182 1 42 (dk_at dksX0_visit_1 13 rfl rfl)
theorem dX0_visit_38 : decode cX0_visit 38 = .ok (.ldc_w 291, 3) := dk_19 1 35 (dk_at dksX0_visit_1 16 rfl rfl)
theorem dX0_visit_41 : decode cX0_visit 41 = .ok (.if_icmp .ne 8, 3) := dk_160 0 8 (dk_at dksX0_visit_1 19 rfl rfl)
theorem dX0_visit_44 : decode cX0_visit 44 = .ok (.bipush (-2), 2) := dk_16 254 (dk_at dksX0_visit_1 22 rfl rfl)
theorem dX0_visit_46 : decode cX0_visit 46 = .ok (.goto 8, 3) := dk_167 0 8 (dk_at dksX0_visit_2 0 rfl rfl)
theorem dX0_visit_49 : decode cX0_visit 49 = .ok (.aload_n 0, 1) := dk_42 (dk_at dksX0_visit_2 3 rfl rfl)
theorem dX0_visit_50 : decode cX0_visit 50 = .ok (.iload_n 1, 1) := dk_27 (dk_at dksX0_visit_2 4 rfl rfl)
theorem dX0_visit_51 : decode cX0_visit 51 = .ok (.invokevirtual 298, 3) := dk_182 1 42 (dk_at dksX0_visit_2 5 rfl rfl)
theorem dX0_visit_54 : decode cX0_visit 54 = .ok (.ireturn, 1) := dk_172 (dk_at dksX0_visit_2 8 rfl rfl)
abbrev cX0_stepsTo : ByteArray := prog_1_method_54_code
def yX0_stepsTo : MethodName := ⟨RX0, "stepsTo", "(I)I"⟩
def dkwX0_stepsTo_2 : List UInt8 := [184, 0, 1, 61, 132, 3, 1, 167, 255, 208, 28, 172]
abbrev dktX0_stepsTo_2 : List UInt8 := dkwX0_stepsTo_2 ++ []
def dkwX0_stepsTo_1 : List UInt8 := [184, 0, 29, 54, 4, 21, 4, 2, 160, 0, 7, 28, 167, 0, 14, 28, 42, 180, 0, 102, 21, 4, 46]
abbrev dktX0_stepsTo_1 : List UInt8 := dkwX0_stepsTo_1 ++ dktX0_stepsTo_2
def dkwX0_stepsTo_0 : List UInt8 := [19, 1, 35, 61, 3, 62, 29, 7, 162, 0, 49, 42, 180, 0, 63, 180, 0, 109, 27, 50, 180, 0, 130, 29]
abbrev dktX0_stepsTo_0 : List UInt8 := dkwX0_stepsTo_0 ++ dktX0_stepsTo_1
theorem dksX0_stepsTo_0 : cX0_stepsTo.data.toList.drop 0 = dktX0_stepsTo_0 := by decide +kernel
theorem dksX0_stepsTo_1 : cX0_stepsTo.data.toList.drop 24 = dktX0_stepsTo_1 := dk_seg dksX0_stepsTo_0 24 rfl rfl
theorem dksX0_stepsTo_2 : cX0_stepsTo.data.toList.drop 47 = dktX0_stepsTo_2 := dk_seg dksX0_stepsTo_1 23 rfl rfl
theorem dX0_stepsTo_0 : decode cX0_stepsTo 0 = .ok (.ldc_w 291, 3) := dk_19 1 35 (dk_at dksX0_stepsTo_0 0 rfl rfl)
theorem dX0_stepsTo_3 : decode cX0_stepsTo 3 = .ok (.istore_n 2, 1) := dk_61 (dk_at dksX0_stepsTo_0 3 rfl rfl)
theorem dX0_stepsTo_4 : decode cX0_stepsTo 4 = .ok (.iconst 0, 1) := dk_3 (dk_at dksX0_stepsTo_0 4 rfl rfl)
theorem dX0_stepsTo_5 : decode cX0_stepsTo 5 = .ok (.istore_n 3, 1) := dk_62 (dk_at dksX0_stepsTo_0 5 rfl rfl)
theorem dX0_stepsTo_6 : decode cX0_stepsTo 6 = .ok (.iload_n 3, 1) := dk_29 (dk_at dksX0_stepsTo_0 6 rfl rfl)
theorem dX0_stepsTo_7 : decode cX0_stepsTo 7 = .ok (.iconst 4, 1) := dk_7 (dk_at dksX0_stepsTo_0 7 rfl rfl)
theorem dX0_stepsTo_8 : decode cX0_stepsTo 8 = .ok (.if_icmp .ge 49, 3) := dk_162 0 49 (dk_at dksX0_stepsTo_0 8 rfl rfl)
theorem dX0_stepsTo_11 : decode cX0_stepsTo 11 = .ok (.aload_n 0, 1) := dk_42 (dk_at dksX0_stepsTo_0 11 rfl rfl)
theorem dX0_stepsTo_12 : decode cX0_stepsTo 12 = .ok (.getfield 63, 3) := dk_180 0 63 (dk_at dksX0_stepsTo_0 12 rfl rfl)
theorem dX0_stepsTo_15 : decode cX0_stepsTo 15 = .ok (.getfield 109, 3) := dk_180 0 109 (dk_at dksX0_stepsTo_0 15 rfl rfl)
theorem dX0_stepsTo_18 : decode cX0_stepsTo 18 = .ok (.iload_n 1, 1) := dk_27 (dk_at dksX0_stepsTo_0 18 rfl rfl)
theorem dX0_stepsTo_19 : decode cX0_stepsTo 19 = .ok (.aaload, 1) := dk_50 (dk_at dksX0_stepsTo_0 19 rfl rfl)
theorem dX0_stepsTo_20 : decode cX0_stepsTo 20 = .ok (.getfield 130, 3) := dk_180 0 130 (dk_at dksX0_stepsTo_0 20 rfl rfl)
theorem dX0_stepsTo_23 : decode cX0_stepsTo 23 = .ok (.iload_n 3, 1) := dk_29 (dk_at dksX0_stepsTo_0 23 rfl rfl)
theorem dX0_stepsTo_24 : decode cX0_stepsTo 24 = .ok (.invokestatic 29, 3) := dk_184 0 29 (dk_at dksX0_stepsTo_1 0 rfl rfl)
theorem dX0_stepsTo_27 : decode cX0_stepsTo 27 = .ok (.istore 4, 2) := dk_54 4 (dk_at dksX0_stepsTo_1 3 rfl rfl)
theorem dX0_stepsTo_29 : decode cX0_stepsTo 29 = .ok (.iload 4, 2) := dk_21 4 (dk_at dksX0_stepsTo_1 5 rfl rfl)
theorem dX0_stepsTo_31 : decode cX0_stepsTo 31 = .ok (.iconst (-1), 1) := dk_2 (dk_at dksX0_stepsTo_1 7 rfl rfl)
theorem dX0_stepsTo_32 : decode cX0_stepsTo 32 = .ok (.if_icmp .ne 7, 3) := dk_160 0 7 (dk_at dksX0_stepsTo_1 8 rfl rfl)
theorem dX0_stepsTo_35 : decode cX0_stepsTo 35 = .ok (.iload_n 2, 1) := dk_28 (dk_at dksX0_stepsTo_1 11 rfl rfl)
theorem dX0_stepsTo_36 : decode cX0_stepsTo 36 = .ok (.goto 14, 3) := dk_167 0 14 (dk_at dksX0_stepsTo_1 12 rfl rfl)
theorem dX0_stepsTo_39 : decode cX0_stepsTo 39 = .ok (.iload_n 2, 1) := dk_28 (dk_at dksX0_stepsTo_1 15 rfl rfl)
theorem dX0_stepsTo_40 : decode cX0_stepsTo 40 = .ok (.aload_n 0, 1) := dk_42 (dk_at dksX0_stepsTo_1 16 rfl rfl)
theorem dX0_stepsTo_41 : decode cX0_stepsTo 41 = .ok (.getfield 102, 3) := dk_180 0 102 (dk_at dksX0_stepsTo_1 17 rfl rfl)
theorem dX0_stepsTo_44 : decode cX0_stepsTo 44 = .ok (.iload 4, 2) := dk_21 4 (dk_at dksX0_stepsTo_1 20 rfl rfl)
theorem dX0_stepsTo_46 : decode cX0_stepsTo 46 = .ok (.iaload, 1) := dk_46 (dk_at dksX0_stepsTo_1 22 rfl rfl)
theorem dX0_stepsTo_47 : decode cX0_stepsTo 47 = .ok (.invokestatic 1, 3) := dk_184 0 1 (dk_at dksX0_stepsTo_2 0 rfl rfl)
theorem dX0_stepsTo_50 : decode cX0_stepsTo 50 = .ok (.istore_n 2, 1) := dk_61 (dk_at dksX0_stepsTo_2 3 rfl rfl)
theorem dX0_stepsTo_51 : decode cX0_stepsTo 51 = .ok (.iinc 3 1, 3) := dk_132 3 1 (dk_at dksX0_stepsTo_2 4 rfl rfl)
theorem dX0_stepsTo_54 : decode cX0_stepsTo 54 = .ok (.goto (-48), 3) := dk_167 255 208 (dk_at dksX0_stepsTo_2 7 rfl rfl)
theorem dX0_stepsTo_57 : decode cX0_stepsTo 57 = .ok (.iload_n 2, 1) := dk_28 (dk_at dksX0_stepsTo_2 10 rfl rfl)
theorem dX0_stepsTo_58 : decode cX0_stepsTo 58 = .ok (.ireturn, 1) := dk_172 (dk_at dksX0_stepsTo_2 11 rfl rfl)
abbrev cX0_visited : ByteArray := prog_1_method_56_code
def yX0_visited : MethodName := ⟨RX0, "visited", "()I"⟩
def dkwX0_visited_2 : List UInt8 := [3, 128, 60, 132, 2, 1, 167, 255, 211, 27, 172]
abbrev dktX0_visited_2 : List UInt8 := dkwX0_visited_2 ++ []
def dkwX0_visited_1 : List UInt8 := [50, 182, 0, 183, 153, 0, 20, 42, 28, 182, 1, 42, 19, 1, 35, 162, 0, 9, 4, 28, 120, 167, 0, 4]
abbrev dktX0_visited_1 : List UInt8 := dkwX0_visited_1 ++ dktX0_visited_2
def dkwX0_visited_0 : List UInt8 := [42, 3, 182, 1, 36, 3, 60, 3, 61, 28, 16, 16, 162, 0, 45, 27, 42, 180, 0, 63, 180, 0, 109, 28]
abbrev dktX0_visited_0 : List UInt8 := dkwX0_visited_0 ++ dktX0_visited_1
theorem dksX0_visited_0 : cX0_visited.data.toList.drop 0 = dktX0_visited_0 := by decide +kernel
theorem dksX0_visited_1 : cX0_visited.data.toList.drop 24 = dktX0_visited_1 := dk_seg dksX0_visited_0 24 rfl rfl
theorem dksX0_visited_2 : cX0_visited.data.toList.drop 48 = dktX0_visited_2 := dk_seg dksX0_visited_1 24 rfl rfl
theorem dX0_visited_0 : decode cX0_visited 0 = .ok (.aload_n 0, 1) := dk_42 (dk_at dksX0_visited_0 0 rfl rfl)
theorem dX0_visited_1 : decode cX0_visited 1 = .ok (.iconst 0, 1) := dk_3 (dk_at dksX0_visited_0 1 rfl rfl)
theorem dX0_visited_2 : decode cX0_visited 2 = .ok (.invokevirtual 292, 3) := dk_182 1 36 (dk_at dksX0_visited_0 2 rfl rfl)
theorem dX0_visited_5 : decode cX0_visited 5 = .ok (.iconst 0, 1) := dk_3 (dk_at dksX0_visited_0 5 rfl rfl)
theorem dX0_visited_6 : decode cX0_visited 6 = .ok (.istore_n 1, 1) := dk_60 (dk_at dksX0_visited_0 6 rfl rfl)
theorem dX0_visited_7 : decode cX0_visited 7 = .ok (.iconst 0, 1) := dk_3 (dk_at dksX0_visited_0 7 rfl rfl)
theorem dX0_visited_8 : decode cX0_visited 8 = .ok (.istore_n 2, 1) := dk_61 (dk_at dksX0_visited_0 8 rfl rfl)
theorem dX0_visited_9 : decode cX0_visited 9 = .ok (.iload_n 2, 1) := dk_28 (dk_at dksX0_visited_0 9 rfl rfl)
theorem dX0_visited_10 : decode cX0_visited 10 = .ok (.bipush 16, 2) := dk_16 16 (dk_at dksX0_visited_0 10 rfl rfl)
theorem dX0_visited_12 : decode cX0_visited 12 = .ok (.if_icmp .ge 45, 3) := dk_162 0 45 (dk_at dksX0_visited_0 12 rfl rfl)
theorem dX0_visited_15 : decode cX0_visited 15 = .ok (.iload_n 1, 1) := dk_27 (dk_at dksX0_visited_0 15 rfl rfl)
theorem dX0_visited_16 : decode cX0_visited 16 = .ok (.aload_n 0, 1) := dk_42 (dk_at dksX0_visited_0 16 rfl rfl)
theorem dX0_visited_17 : decode cX0_visited 17 = .ok (.getfield 63, 3) := dk_180 0 63 (dk_at dksX0_visited_0 17 rfl rfl)
theorem dX0_visited_20 : decode cX0_visited 20 = .ok (.getfield 109, 3) := dk_180 0 109 (dk_at dksX0_visited_0 20 rfl rfl)
theorem dX0_visited_23 : decode cX0_visited 23 = .ok (.iload_n 2, 1) := dk_28 (dk_at dksX0_visited_0 23 rfl rfl)
theorem dX0_visited_24 : decode cX0_visited 24 = .ok (.aaload, 1) := dk_50 (dk_at dksX0_visited_1 0 rfl rfl)
theorem dX0_visited_25 : decode cX0_visited 25 = .ok (.invokevirtual 183, 3) := dk_182 0 183 (dk_at dksX0_visited_1 1 rfl rfl)
theorem dX0_visited_28 : decode cX0_visited 28 = .ok (.ifCond .eq 20, 3) := dk_153 0 20 (dk_at dksX0_visited_1 4 rfl rfl)
theorem dX0_visited_31 : decode cX0_visited 31 = .ok (.aload_n 0, 1) := dk_42 (dk_at dksX0_visited_1 7 rfl rfl)
theorem dX0_visited_32 : decode cX0_visited 32 = .ok (.iload_n 2, 1) := dk_28 (dk_at dksX0_visited_1 8 rfl rfl)
theorem dX0_visited_33 : decode cX0_visited 33 = .ok (.invokevirtual 298, 3) := dk_182 1 42 (dk_at dksX0_visited_1 9 rfl rfl)
theorem dX0_visited_36 : decode cX0_visited 36 = .ok (.ldc_w 291, 3) := dk_19 1 35 (dk_at dksX0_visited_1 12 rfl rfl)
theorem dX0_visited_39 : decode cX0_visited 39 = .ok (.if_icmp .ge 9, 3) := dk_162 0 9 (dk_at dksX0_visited_1 15 rfl rfl)
theorem dX0_visited_42 : decode cX0_visited 42 = .ok (.iconst 1, 1) := dk_4 (dk_at dksX0_visited_1 18 rfl rfl)
theorem dX0_visited_43 : decode cX0_visited 43 = .ok (.iload_n 2, 1) := dk_28 (dk_at dksX0_visited_1 19 rfl rfl)
theorem dX0_visited_44 : decode cX0_visited 44 = .ok (.ishl, 1) := dk_120 (dk_at dksX0_visited_1 20 rfl rfl)
theorem dX0_visited_45 : decode cX0_visited 45 = .ok (.goto 4, 3) := dk_167 0 4 (dk_at dksX0_visited_1 21 rfl rfl)
theorem dX0_visited_48 : decode cX0_visited 48 = .ok (.iconst 0, 1) := dk_3 (dk_at dksX0_visited_2 0 rfl rfl)
theorem dX0_visited_49 : decode cX0_visited 49 = .ok (.ior, 1) := dk_128 (dk_at dksX0_visited_2 1 rfl rfl)
theorem dX0_visited_50 : decode cX0_visited 50 = .ok (.istore_n 1, 1) := dk_60 (dk_at dksX0_visited_2 2 rfl rfl)
theorem dX0_visited_51 : decode cX0_visited 51 = .ok (.iinc 2 1, 3) := dk_132 2 1 (dk_at dksX0_visited_2 3 rfl rfl)
theorem dX0_visited_54 : decode cX0_visited 54 = .ok (.goto (-45), 3) := dk_167 255 211 (dk_at dksX0_visited_2 6 rfl rfl)
theorem dX0_visited_57 : decode cX0_visited 57 = .ok (.iload_n 1, 1) := dk_27 (dk_at dksX0_visited_2 9 rfl rfl)
theorem dX0_visited_58 : decode cX0_visited 58 = .ok (.ireturn, 1) := dk_172 (dk_at dksX0_visited_2 10 rfl rfl)
abbrev cX0_alike : ByteArray := prog_1_method_57_code
def yX0_alike : MethodName := ⟨RX0, "alike", "(II)I"⟩
def dkwX0_alike_5 : List UInt8 := [154, 0, 7, 29, 167, 0, 5, 21, 4, 172]
abbrev dktX0_alike_5 : List UInt8 := dkwX0_alike_5 ++ []
def dkwX0_alike_4 : List UInt8 := [62, 21, 4, 21, 6, 184, 0, 1, 54, 4, 132, 5, 1, 167, 255, 178, 29, 16, 254, 159, 0, 7, 28]
abbrev dktX0_alike_4 : List UInt8 := dkwX0_alike_4 ++ dktX0_alike_5
def dkwX0_alike_3 : List UInt8 := [182, 1, 45, 167, 0, 6, 19, 1, 35, 54, 6, 21, 6, 21, 4, 162, 0, 8, 21, 5, 167, 0, 4, 29]
abbrev dktX0_alike_3 : List UInt8 := dkwX0_alike_3 ++ dktX0_alike_4
def dkwX0_alike_2 : List UInt8 := [159, 0, 28, 42, 180, 0, 63, 180, 0, 109, 27, 50, 42, 180, 0, 63, 180, 0, 109, 21, 5, 50]
abbrev dktX0_alike_2 : List UInt8 := dkwX0_alike_2 ++ dktX0_alike_3
def dkwX0_alike_1 : List UInt8 := [54, 4, 3, 54, 5, 21, 5, 16, 16, 162, 0, 77, 42, 21, 5, 182, 0, 187, 153, 0, 34, 21, 5, 27]
abbrev dktX0_alike_1 : List UInt8 := dkwX0_alike_1 ++ dktX0_alike_2
def dkwX0_alike_0 : List UInt8 := [42, 27, 182, 0, 187, 153, 0, 11, 28, 5, 184, 0, 25, 154, 0, 5, 2, 172, 16, 254, 62, 19, 1, 35]
abbrev dktX0_alike_0 : List UInt8 := dkwX0_alike_0 ++ dktX0_alike_1
theorem dksX0_alike_0 : cX0_alike.data.toList.drop 0 = dktX0_alike_0 := by decide +kernel
theorem dksX0_alike_1 : cX0_alike.data.toList.drop 24 = dktX0_alike_1 := dk_seg dksX0_alike_0 24 rfl rfl
theorem dksX0_alike_2 : cX0_alike.data.toList.drop 48 = dktX0_alike_2 := dk_seg dksX0_alike_1 24 rfl rfl
theorem dksX0_alike_3 : cX0_alike.data.toList.drop 70 = dktX0_alike_3 := dk_seg dksX0_alike_2 22 rfl rfl
theorem dksX0_alike_4 : cX0_alike.data.toList.drop 94 = dktX0_alike_4 := dk_seg dksX0_alike_3 24 rfl rfl
theorem dksX0_alike_5 : cX0_alike.data.toList.drop 117 = dktX0_alike_5 := dk_seg dksX0_alike_4 23 rfl rfl
theorem dX0_alike_0 : decode cX0_alike 0 = .ok (.aload_n 0, 1) := dk_42 (dk_at dksX0_alike_0 0 rfl rfl)
theorem dX0_alike_1 : decode cX0_alike 1 = .ok (.iload_n 1, 1) := dk_27 (dk_at dksX0_alike_0 1 rfl rfl)
theorem dX0_alike_2 : decode cX0_alike 2 = .ok (.invokevirtual 187, 3) := dk_182 0 187 (dk_at dksX0_alike_0 2 rfl rfl)
theorem dX0_alike_5 : decode cX0_alike 5 = .ok (.ifCond .eq 11, 3) := dk_153 0 11 (dk_at dksX0_alike_0 5 rfl rfl)
theorem dX0_alike_8 : decode cX0_alike 8 = .ok (.iload_n 2, 1) := dk_28 (dk_at dksX0_alike_0 8 rfl rfl)
theorem dX0_alike_9 : decode cX0_alike 9 = .ok (.iconst 2, 1) := dk_5 (dk_at dksX0_alike_0 9 rfl rfl)
theorem dX0_alike_10 : decode cX0_alike 10 = .ok (.invokestatic 25, 3) := dk_184 0 25 (dk_at dksX0_alike_0 10 rfl rfl)
theorem dX0_alike_13 : decode cX0_alike 13 = .ok (.ifCond .ne 5, 3) := dk_154 0 5 (dk_at dksX0_alike_0 13 rfl rfl)
theorem dX0_alike_16 : decode cX0_alike 16 = .ok (.iconst (-1), 1) := dk_2 (dk_at dksX0_alike_0 16 rfl rfl)
theorem dX0_alike_17 : decode cX0_alike 17 = .ok (.ireturn, 1) := dk_172 (dk_at dksX0_alike_0 17 rfl rfl)
theorem dX0_alike_18 : decode cX0_alike 18 = .ok (.bipush (-2), 2) := dk_16 254 (dk_at dksX0_alike_0 18 rfl rfl)
theorem dX0_alike_20 : decode cX0_alike 20 = .ok (.istore_n 3, 1) := dk_62 (dk_at dksX0_alike_0 20 rfl rfl)
theorem dX0_alike_21 : decode cX0_alike 21 = .ok (.ldc_w 291, 3) := dk_19 1 35 (dk_at dksX0_alike_0 21 rfl rfl)
theorem dX0_alike_24 : decode cX0_alike 24 = .ok (.istore 4, 2) := dk_54 4 (dk_at dksX0_alike_1 0 rfl rfl)
theorem dX0_alike_26 : decode cX0_alike 26 = .ok (.iconst 0, 1) := dk_3 (dk_at dksX0_alike_1 2 rfl rfl)
theorem dX0_alike_27 : decode cX0_alike 27 = .ok (.istore 5, 2) := dk_54 5 (dk_at dksX0_alike_1 3 rfl rfl)
theorem dX0_alike_29 : decode cX0_alike 29 = .ok (.iload 5, 2) := dk_21 5 (dk_at dksX0_alike_1 5 rfl rfl)
theorem dX0_alike_31 : decode cX0_alike 31 = .ok (.bipush 16, 2) := dk_16 16 (dk_at dksX0_alike_1 7 rfl rfl)
theorem dX0_alike_33 : decode cX0_alike 33 = .ok (.if_icmp .ge 77, 3) := dk_162 0 77 (dk_at dksX0_alike_1 9 rfl rfl)
theorem dX0_alike_36 : decode cX0_alike 36 = .ok (.aload_n 0, 1) := dk_42 (dk_at dksX0_alike_1 12 rfl rfl)
theorem dX0_alike_37 : decode cX0_alike 37 = .ok (.iload 5, 2) := dk_21 5 (dk_at dksX0_alike_1 13 rfl rfl)
theorem dX0_alike_39 : decode cX0_alike 39 = .ok (.invokevirtual 187, 3) := dk_182 0 187 (dk_at dksX0_alike_1 15 rfl rfl)
theorem dX0_alike_42 : decode cX0_alike 42 = .ok (.ifCond .eq 34, 3) := dk_153 0 34 (dk_at dksX0_alike_1 18 rfl rfl)
theorem dX0_alike_45 : decode cX0_alike 45 = .ok (.iload 5, 2) := dk_21 5 (dk_at dksX0_alike_1 21 rfl rfl)
theorem dX0_alike_47 : decode cX0_alike 47 = .ok (.iload_n 1, 1) := dk_27 (dk_at dksX0_alike_1 23 rfl rfl)
theorem dX0_alike_48 : decode cX0_alike 48 = .ok (.if_icmp .eq 28, 3) := dk_159 0 28 (dk_at dksX0_alike_2 0 rfl rfl)
theorem dX0_alike_51 : decode cX0_alike 51 = .ok (.aload_n 0, 1) := dk_42 (dk_at dksX0_alike_2 3 rfl rfl)
theorem dX0_alike_52 : decode cX0_alike 52 = .ok (.getfield 63, 3) := dk_180 0 63 (dk_at dksX0_alike_2 4 rfl rfl)
theorem dX0_alike_55 : decode cX0_alike 55 = .ok (.getfield 109, 3) := dk_180 0 109 (dk_at dksX0_alike_2 7 rfl rfl)
theorem dX0_alike_58 : decode cX0_alike 58 = .ok (.iload_n 1, 1) := dk_27 (dk_at dksX0_alike_2 10 rfl rfl)
theorem dX0_alike_59 : decode cX0_alike 59 = .ok (.aaload, 1) := dk_50 (dk_at dksX0_alike_2 11 rfl rfl)
theorem dX0_alike_60 : decode cX0_alike 60 = .ok (.aload_n 0, 1) := dk_42 (dk_at dksX0_alike_2 12 rfl rfl)
theorem dX0_alike_61 : decode cX0_alike 61 = .ok (.getfield 63, 3) := dk_180 0 63 (dk_at dksX0_alike_2 13 rfl rfl)
theorem dX0_alike_64 : decode cX0_alike 64 = .ok (.getfield 109, 3) := dk_180 0 109 (dk_at dksX0_alike_2 16 rfl rfl)
theorem dX0_alike_67 : decode cX0_alike 67 = .ok (.iload 5, 2) := dk_21 5 (dk_at dksX0_alike_2 19 rfl rfl)
theorem dX0_alike_69 : decode cX0_alike 69 = .ok (.aaload, 1) := dk_50 (dk_at dksX0_alike_2 21 rfl rfl)
theorem dX0_alike_70 : decode cX0_alike 70 = .ok (.invokevirtual 301, 3) := dk_182 1 45 (dk_at dksX0_alike_3 0 rfl rfl)
theorem dX0_alike_73 : decode cX0_alike 73 = .ok (.goto 6, 3) := dk_167 0 6 (dk_at dksX0_alike_3 3 rfl rfl)
theorem dX0_alike_76 : decode cX0_alike 76 = .ok (.ldc_w 291, 3) := dk_19 1 35 (dk_at dksX0_alike_3 6 rfl rfl)
theorem dX0_alike_79 : decode cX0_alike 79 = .ok (.istore 6, 2) := dk_54 6 (dk_at dksX0_alike_3 9 rfl rfl)
theorem dX0_alike_81 : decode cX0_alike 81 = .ok (.iload 6, 2) := dk_21 6 (dk_at dksX0_alike_3 11 rfl rfl)
theorem dX0_alike_83 : decode cX0_alike 83 = .ok (.iload 4, 2) := dk_21 4 (dk_at dksX0_alike_3 13 rfl rfl)
theorem dX0_alike_85 : decode cX0_alike 85 = .ok (.if_icmp .ge 8, 3) := dk_162 0 8 (dk_at dksX0_alike_3 15 rfl rfl)
theorem dX0_alike_88 : decode cX0_alike 88 = .ok (.iload 5, 2) := dk_21 5 (dk_at dksX0_alike_3 18 rfl rfl)
theorem dX0_alike_90 : decode cX0_alike 90 = .ok (.goto 4, 3) := dk_167 0 4 (dk_at dksX0_alike_3 20 rfl rfl)
theorem dX0_alike_93 : decode cX0_alike 93 = .ok (.iload_n 3, 1) := dk_29 (dk_at dksX0_alike_3 23 rfl rfl)
theorem dX0_alike_94 : decode cX0_alike 94 = .ok (.istore_n 3, 1) := dk_62 (dk_at dksX0_alike_4 0 rfl rfl)
theorem dX0_alike_95 : decode cX0_alike 95 = .ok (.iload 4, 2) := dk_21 4 (dk_at dksX0_alike_4 1 rfl rfl)
theorem dX0_alike_97 : decode cX0_alike 97 = .ok (.iload 6, 2) := dk_21 6 (dk_at dksX0_alike_4 3 rfl rfl)
theorem dX0_alike_99 : decode cX0_alike 99 = .ok (.invokestatic 1, 3) := dk_184 0 1 (dk_at dksX0_alike_4 5 rfl rfl)
theorem dX0_alike_102 : decode cX0_alike 102 = .ok (.istore 4, 2) := dk_54 4 (dk_at dksX0_alike_4 8 rfl rfl)
theorem dX0_alike_104 : decode cX0_alike 104 = .ok (.iinc 5 1, 3) := dk_132 5 1 (dk_at dksX0_alike_4 10 rfl rfl)
theorem dX0_alike_107 : decode cX0_alike 107 = .ok (.goto (-78), 3) := dk_167 255 178 (dk_at dksX0_alike_4 13 rfl rfl)
theorem dX0_alike_110 : decode cX0_alike 110 = .ok (.iload_n 3, 1) := dk_29 (dk_at dksX0_alike_4 16 rfl rfl)
theorem dX0_alike_111 : decode cX0_alike 111 = .ok (.bipush (-2), 2) := dk_16 254 (dk_at dksX0_alike_4 17 rfl rfl)
theorem dX0_alike_113 : decode cX0_alike 113 = .ok (.if_icmp .eq 7, 3) := dk_159 0 7 (dk_at dksX0_alike_4 19 rfl rfl)
theorem dX0_alike_116 : decode cX0_alike 116 = .ok (.iload_n 2, 1) := dk_28 (dk_at dksX0_alike_4 22 rfl rfl)
theorem dX0_alike_117 : decode cX0_alike 117 = .ok (.ifCond .ne 7, 3) := dk_154 0 7 (dk_at dksX0_alike_5 0 rfl rfl)
theorem dX0_alike_120 : decode cX0_alike 120 = .ok (.iload_n 3, 1) := dk_29 (dk_at dksX0_alike_5 3 rfl rfl)
theorem dX0_alike_121 : decode cX0_alike 121 = .ok (.goto 5, 3) := dk_167 0 5 (dk_at dksX0_alike_5 4 rfl rfl)
theorem dX0_alike_124 : decode cX0_alike 124 = .ok (.iload 4, 2) := dk_21 4 (dk_at dksX0_alike_5 7 rfl rfl)
theorem dX0_alike_126 : decode cX0_alike 126 = .ok (.ireturn, 1) := dk_172 (dk_at dksX0_alike_5 9 rfl rfl)
abbrev cX0_seed : ByteArray := prog_1_method_58_code
def yX0_seed : MethodName := ⟨RX0, "seed", "(I)Z"⟩
def dkwX0_seed_0 : List UInt8 := [27, 18, 119, 184, 0, 25, 154, 0, 5, 3, 172, 42, 180, 0, 63, 27, 181, 0, 105, 4, 172]
abbrev dktX0_seed_0 : List UInt8 := dkwX0_seed_0 ++ []
theorem dksX0_seed_0 : cX0_seed.data.toList.drop 0 = dktX0_seed_0 := by decide +kernel
theorem dX0_seed_0 : decode cX0_seed 0 = .ok (.iload_n 1, 1) := dk_27 (dk_at dksX0_seed_0 0 rfl rfl)
theorem dX0_seed_1 : decode cX0_seed 1 = .ok (.ldc 119, 2) := dk_18 119 (dk_at dksX0_seed_0 1 rfl rfl)
theorem dX0_seed_3 : decode cX0_seed 3 = .ok (.invokestatic 25, 3) := dk_184 0 25 (dk_at dksX0_seed_0 3 rfl rfl)
theorem dX0_seed_6 : decode cX0_seed 6 = .ok (.ifCond .ne 5, 3) := dk_154 0 5 (dk_at dksX0_seed_0 6 rfl rfl)
theorem dX0_seed_9 : decode cX0_seed 9 = .ok (.iconst 0, 1) := dk_3 (dk_at dksX0_seed_0 9 rfl rfl)
theorem dX0_seed_10 : decode cX0_seed 10 = .ok (.ireturn, 1) := dk_172 (dk_at dksX0_seed_0 10 rfl rfl)
theorem dX0_seed_11 : decode cX0_seed 11 = .ok (.aload_n 0, 1) := dk_42 (dk_at dksX0_seed_0 11 rfl rfl)
theorem dX0_seed_12 : decode cX0_seed 12 = .ok (.getfield 63, 3) := dk_180 0 63 (dk_at dksX0_seed_0 12 rfl rfl)
theorem dX0_seed_15 : decode cX0_seed 15 = .ok (.iload_n 1, 1) := dk_27 (dk_at dksX0_seed_0 15 rfl rfl)
theorem dX0_seed_16 : decode cX0_seed 16 = .ok (.putfield 105, 3) := dk_181 0 105 (dk_at dksX0_seed_0 16 rfl rfl)
theorem dX0_seed_19 : decode cX0_seed 19 = .ok (.iconst 1, 1) := dk_4 (dk_at dksX0_seed_0 19 rfl rfl)
theorem dX0_seed_20 : decode cX0_seed 20 = .ok (.ireturn, 1) := dk_172 (dk_at dksX0_seed_0 20 rfl rfl)
abbrev cX0_keep : ByteArray := prog_1_method_59_code
def yX0_keep : MethodName := ⟨RX0, "keep", "()I"⟩
def dkwX0_keep_1 : List UInt8 := [172]
abbrev dktX0_keep_1 : List UInt8 := dkwX0_keep_1 ++ []
def dkwX0_keep_0 : List UInt8 := [42, 4, 181, 1, 48, 42, 180, 0, 70, 42, 180, 0, 63, 182, 0, 152, 87, 42, 180, 0, 63, 180, 1, 51]
abbrev dktX0_keep_0 : List UInt8 := dkwX0_keep_0 ++ dktX0_keep_1
theorem dksX0_keep_0 : cX0_keep.data.toList.drop 0 = dktX0_keep_0 := by decide +kernel
theorem dksX0_keep_1 : cX0_keep.data.toList.drop 24 = dktX0_keep_1 := dk_seg dksX0_keep_0 24 rfl rfl
theorem dX0_keep_0 : decode cX0_keep 0 = .ok (.aload_n 0, 1) := dk_42 (dk_at dksX0_keep_0 0 rfl rfl)
theorem dX0_keep_1 : decode cX0_keep 1 = .ok (.iconst 1, 1) := dk_4 (dk_at dksX0_keep_0 1 rfl rfl)
theorem dX0_keep_2 : decode cX0_keep 2 = .ok (.putfield 304, 3) := dk_181 1 48 (dk_at dksX0_keep_0 2 rfl rfl)
theorem dX0_keep_5 : decode cX0_keep 5 = .ok (.aload_n 0, 1) := dk_42 (dk_at dksX0_keep_0 5 rfl rfl)
theorem dX0_keep_6 : decode cX0_keep 6 = .ok (.getfield 70, 3) := dk_180 0 70 (dk_at dksX0_keep_0 6 rfl rfl)
theorem dX0_keep_9 : decode cX0_keep 9 = .ok (.aload_n 0, 1) := dk_42 (dk_at dksX0_keep_0 9 rfl rfl)
theorem dX0_keep_10 : decode cX0_keep 10 = .ok (.getfield 63, 3) := dk_180 0 63 (dk_at dksX0_keep_0 10 rfl rfl)
theorem dX0_keep_13 : decode cX0_keep 13 = .ok (.invokevirtual 152, 3) := dk_182 0 152 (dk_at dksX0_keep_0 13 rfl rfl)
theorem dX0_keep_16 : decode cX0_keep 16 = .ok (.pop, 1) := dk_87 (dk_at dksX0_keep_0 16 rfl rfl)
theorem dX0_keep_17 : decode cX0_keep 17 = .ok (.aload_n 0, 1) := dk_42 (dk_at dksX0_keep_0 17 rfl rfl)
theorem dX0_keep_18 : decode cX0_keep 18 = .ok (.getfield 63, 3) := dk_180 0 63 (dk_at dksX0_keep_0 18 rfl rfl)
theorem dX0_keep_21 : decode cX0_keep 21 = .ok (.getfield 307, 3) := dk_180 1 51 (dk_at dksX0_keep_0 21 rfl rfl)
theorem dX0_keep_24 : decode cX0_keep 24 = .ok (.ireturn, 1) := dk_172 (dk_at dksX0_keep_1 0 rfl rfl)
abbrev cX0_undo : ByteArray := prog_1_method_60_code
def yX0_undo : MethodName := ⟨RX0, "undo", "()Z"⟩
def dkwX0_undo_0 : List UInt8 := [42, 180, 1, 48, 154, 0, 5, 3, 172, 42, 180, 0, 63, 42, 180, 0, 70, 182, 0, 152, 87, 4, 172]
abbrev dktX0_undo_0 : List UInt8 := dkwX0_undo_0 ++ []
theorem dksX0_undo_0 : cX0_undo.data.toList.drop 0 = dktX0_undo_0 := by decide +kernel
theorem dX0_undo_0 : decode cX0_undo 0 = .ok (.aload_n 0, 1) := dk_42 (dk_at dksX0_undo_0 0 rfl rfl)
theorem dX0_undo_1 : decode cX0_undo 1 = .ok (.getfield 304, 3) := dk_180 1 48 (dk_at dksX0_undo_0 1 rfl rfl)
theorem dX0_undo_4 : decode cX0_undo 4 = .ok (.ifCond .ne 5, 3) := dk_154 0 5 (dk_at dksX0_undo_0 4 rfl rfl)
theorem dX0_undo_7 : decode cX0_undo 7 = .ok (.iconst 0, 1) := dk_3 (dk_at dksX0_undo_0 7 rfl rfl)
theorem dX0_undo_8 : decode cX0_undo 8 = .ok (.ireturn, 1) := dk_172 (dk_at dksX0_undo_0 8 rfl rfl)
theorem dX0_undo_9 : decode cX0_undo 9 = .ok (.aload_n 0, 1) := dk_42 (dk_at dksX0_undo_0 9 rfl rfl)
theorem dX0_undo_10 : decode cX0_undo 10 = .ok (.getfield 63, 3) := dk_180 0 63 (dk_at dksX0_undo_0 10 rfl rfl)
theorem dX0_undo_13 : decode cX0_undo 13 = .ok (.aload_n 0, 1) := dk_42 (dk_at dksX0_undo_0 13 rfl rfl)
theorem dX0_undo_14 : decode cX0_undo 14 = .ok (.getfield 70, 3) := dk_180 0 70 (dk_at dksX0_undo_0 14 rfl rfl)
theorem dX0_undo_17 : decode cX0_undo 17 = .ok (.invokevirtual 152, 3) := dk_182 0 152 (dk_at dksX0_undo_0 17 rfl rfl)
theorem dX0_undo_20 : decode cX0_undo 20 = .ok (.pop, 1) := dk_87 (dk_at dksX0_undo_0 20 rfl rfl)
theorem dX0_undo_21 : decode cX0_undo 21 = .ok (.iconst 1, 1) := dk_4 (dk_at dksX0_undo_0 21 rfl rfl)
theorem dX0_undo_22 : decode cX0_undo 22 = .ok (.ireturn, 1) := dk_172 (dk_at dksX0_undo_0 22 rfl rfl)
abbrev cX0_check : ByteArray := prog_1_method_61_code
def yX0_check : MethodName := ⟨RX0, "check", "(I)I"⟩
def dkwX0_check_3 : List UInt8 := [159, 0, 5, 28, 172, 132, 2, 1, 167, 255, 209, 2, 172]
abbrev dktX0_check_3 : List UInt8 := dkwX0_check_3 ++ []
def dkwX0_check_2 : List UInt8 := [182, 0, 187, 153, 0, 18, 42, 180, 0, 63, 180, 0, 109, 28, 50, 180, 0, 127, 167, 0, 4, 3]
abbrev dktX0_check_2 : List UInt8 := dkwX0_check_2 ++ dktX0_check_3
def dkwX0_check_1 : List UInt8 := [181, 0, 133, 3, 61, 28, 27, 162, 0, 48, 42, 180, 0, 73, 28, 51, 17, 0, 255, 126, 42, 28]
abbrev dktX0_check_1 : List UInt8 := dkwX0_check_1 ++ dktX0_check_2
def dkwX0_check_0 : List UInt8 := [27, 3, 16, 16, 184, 0, 120, 153, 0, 11, 27, 42, 180, 0, 133, 164, 0, 6, 16, 254, 172, 42, 3]
abbrev dktX0_check_0 : List UInt8 := dkwX0_check_0 ++ dktX0_check_1
theorem dksX0_check_0 : cX0_check.data.toList.drop 0 = dktX0_check_0 := by decide +kernel
theorem dksX0_check_1 : cX0_check.data.toList.drop 23 = dktX0_check_1 := dk_seg dksX0_check_0 23 rfl rfl
theorem dksX0_check_2 : cX0_check.data.toList.drop 45 = dktX0_check_2 := dk_seg dksX0_check_1 22 rfl rfl
theorem dksX0_check_3 : cX0_check.data.toList.drop 67 = dktX0_check_3 := dk_seg dksX0_check_2 22 rfl rfl
theorem dX0_check_0 : decode cX0_check 0 = .ok (.iload_n 1, 1) := dk_27 (dk_at dksX0_check_0 0 rfl rfl)
theorem dX0_check_1 : decode cX0_check 1 = .ok (.iconst 0, 1) := dk_3 (dk_at dksX0_check_0 1 rfl rfl)
theorem dX0_check_2 : decode cX0_check 2 = .ok (.bipush 16, 2) := dk_16 16 (dk_at dksX0_check_0 2 rfl rfl)
theorem dX0_check_4 : decode cX0_check 4 = .ok (.invokestatic 120, 3) := dk_184 0 120 (dk_at dksX0_check_0 4 rfl rfl)
theorem dX0_check_7 : decode cX0_check 7 = .ok (.ifCond .eq 11, 3) := dk_153 0 11 (dk_at dksX0_check_0 7 rfl rfl)
theorem dX0_check_10 : decode cX0_check 10 = .ok (.iload_n 1, 1) := dk_27 (dk_at dksX0_check_0 10 rfl rfl)
theorem dX0_check_11 : decode cX0_check 11 = .ok (.aload_n 0, 1) := dk_42 (dk_at dksX0_check_0 11 rfl rfl)
theorem dX0_check_12 : decode cX0_check 12 = .ok (.getfield 133, 3) := dk_180 0 133 (dk_at dksX0_check_0 12 rfl rfl)
theorem dX0_check_15 : decode cX0_check 15 = .ok (.if_icmp .le 6, 3) := dk_164 0 6 (dk_at dksX0_check_0 15 rfl rfl)
theorem dX0_check_18 : decode cX0_check 18 = .ok (.bipush (-2), 2) := dk_16 254 (dk_at dksX0_check_0 18 rfl rfl)
theorem dX0_check_20 : decode cX0_check 20 = .ok (.ireturn, 1) := dk_172 (dk_at dksX0_check_0 20 rfl rfl)
theorem dX0_check_21 : decode cX0_check 21 = .ok (.aload_n 0, 1) := dk_42 (dk_at dksX0_check_0 21 rfl rfl)
theorem dX0_check_22 : decode cX0_check 22 = .ok (.iconst 0, 1) := dk_3 (dk_at dksX0_check_0 22 rfl rfl)
theorem dX0_check_23 : decode cX0_check 23 = .ok (.putfield 133, 3) := dk_181 0 133 (dk_at dksX0_check_1 0 rfl rfl)
theorem dX0_check_26 : decode cX0_check 26 = .ok (.iconst 0, 1) := dk_3 (dk_at dksX0_check_1 3 rfl rfl)
theorem dX0_check_27 : decode cX0_check 27 = .ok (.istore_n 2, 1) := dk_61 (dk_at dksX0_check_1 4 rfl rfl)
theorem dX0_check_28 : decode cX0_check 28 = .ok (.iload_n 2, 1) := dk_28 (dk_at dksX0_check_1 5 rfl rfl)
theorem dX0_check_29 : decode cX0_check 29 = .ok (.iload_n 1, 1) := dk_27 (dk_at dksX0_check_1 6 rfl rfl)
theorem dX0_check_30 : decode cX0_check 30 = .ok (.if_icmp .ge 48, 3) := dk_162 0 48 (dk_at dksX0_check_1 7 rfl rfl)
theorem dX0_check_33 : decode cX0_check 33 = .ok (.aload_n 0, 1) := dk_42 (dk_at dksX0_check_1 10 rfl rfl)
theorem dX0_check_34 : decode cX0_check 34 = .ok (.getfield 73, 3) := dk_180 0 73 (dk_at dksX0_check_1 11 rfl rfl)
theorem dX0_check_37 : decode cX0_check 37 = .ok (.iload_n 2, 1) := dk_28 (dk_at dksX0_check_1 14 rfl rfl)
theorem dX0_check_38 : decode cX0_check 38 = .ok (.baload, 1) := dk_51 (dk_at dksX0_check_1 15 rfl rfl)
theorem dX0_check_39 : decode cX0_check 39 = .ok (.sipush 255, 3) := dk_17 0 255 (dk_at dksX0_check_1 16 rfl rfl)
theorem dX0_check_42 : decode cX0_check 42 = .ok (.iand, 1) := dk_126 (dk_at dksX0_check_1 19 rfl rfl)
theorem dX0_check_43 : decode cX0_check 43 = .ok (.aload_n 0, 1) := dk_42 (dk_at dksX0_check_1 20 rfl rfl)
theorem dX0_check_44 : decode cX0_check 44 = .ok (.iload_n 2, 1) := dk_28 (dk_at dksX0_check_1 21 rfl rfl)
theorem dX0_check_45 : decode cX0_check 45 = .ok (.invokevirtual 187, 3) := dk_182 0 187 (dk_at dksX0_check_2 0 rfl rfl)
theorem dX0_check_48 : decode cX0_check 48 = .ok (.ifCond .eq 18, 3) := dk_153 0 18 (dk_at dksX0_check_2 3 rfl rfl)
theorem dX0_check_51 : decode cX0_check 51 = .ok (.aload_n 0, 1) := dk_42 (dk_at dksX0_check_2 6 rfl rfl)
theorem dX0_check_52 : decode cX0_check 52 = .ok (.getfield 63, 3) := dk_180 0 63 (dk_at dksX0_check_2 7 rfl rfl)
theorem dX0_check_55 : decode cX0_check 55 = .ok (.getfield 109, 3) := dk_180 0 109 (dk_at dksX0_check_2 10 rfl rfl)
theorem dX0_check_58 : decode cX0_check 58 = .ok (.iload_n 2, 1) := dk_28 (dk_at dksX0_check_2 13 rfl rfl)
theorem dX0_check_59 : decode cX0_check 59 = .ok (.aaload, 1) := dk_50 (dk_at dksX0_check_2 14 rfl rfl)
theorem dX0_check_60 : decode cX0_check 60 = .ok (.getfield 127, 3) := dk_180 0 127 (dk_at dksX0_check_2 15 rfl rfl)
theorem dX0_check_63 : decode cX0_check 63 = .ok (.goto 4, 3) := dk_167 0 4 (dk_at dksX0_check_2 18 rfl rfl)
theorem dX0_check_66 : decode cX0_check 66 = .ok (.iconst 0, 1) := dk_3 (dk_at dksX0_check_2 21 rfl rfl)
theorem dX0_check_67 : decode cX0_check 67 = .ok (.if_icmp .eq 5, 3) := dk_159 0 5 (dk_at dksX0_check_3 0 rfl rfl)
theorem dX0_check_70 : decode cX0_check 70 = .ok (.iload_n 2, 1) := dk_28 (dk_at dksX0_check_3 3 rfl rfl)
theorem dX0_check_71 : decode cX0_check 71 = .ok (.ireturn, 1) := dk_172 (dk_at dksX0_check_3 4 rfl rfl)
theorem dX0_check_72 : decode cX0_check 72 = .ok (.iinc 2 1, 3) := dk_132 2 1 (dk_at dksX0_check_3 5 rfl rfl)
theorem dX0_check_75 : decode cX0_check 75 = .ok (.goto (-47), 3) := dk_167 255 209 (dk_at dksX0_check_3 8 rfl rfl)
theorem dX0_check_78 : decode cX0_check 78 = .ok (.iconst (-1), 1) := dk_2 (dk_at dksX0_check_3 11 rfl rfl)
theorem dX0_check_79 : decode cX0_check 79 = .ok (.ireturn, 1) := dk_172 (dk_at dksX0_check_3 12 rfl rfl)
abbrev cX0_count : ByteArray := prog_1_method_63_code
def yX0_count : MethodName := ⟨RX0, "count", "(I)I"⟩
def dkwX0_count_5 : List UInt8 := [180, 0, 105, 172, 42, 182, 1, 60, 172, 2, 172]
abbrev dktX0_count_5 : List UInt8 := dkwX0_count_5 ++ []
def dkwX0_count_4 : List UInt8 := [42, 180, 0, 164, 172, 42, 180, 0, 32, 180, 1, 57, 172, 42, 180, 0, 133, 172, 42, 180, 0, 63]
abbrev dktX0_count_4 : List UInt8 := dkwX0_count_4 ++ dktX0_count_5
def dkwX0_count_3 : List UInt8 := [42, 180, 0, 63, 180, 1, 51, 172, 42, 180, 0, 63, 182, 1, 8, 172, 42, 180, 0, 63, 182, 1, 54, 172]
abbrev dktX0_count_3 : List UInt8 := dkwX0_count_3 ++ dktX0_count_4
def dkwX0_count_2 : List UInt8 := [170, 0, 0, 0, 0, 0, 102, 0, 0, 0, 0, 0, 0, 0, 7, 0, 0, 0, 47, 0, 0, 0, 55, 0, 0, 0, 63, 0, 0, 0, 71, 0, 0, 0, 76, 0, 0, 0, 84, 0, 0, 0, 89, 0, 0, 0, 97]
abbrev dktX0_count_2 : List UInt8 := dkwX0_count_2 ++ dktX0_count_3
def dkwX0_count_1 : List UInt8 := [160, 0, 8, 16, 254, 167, 0, 14, 42, 180, 0, 63, 27, 16, 20, 100, 182, 0, 218, 172, 27]
abbrev dktX0_count_1 : List UInt8 := dkwX0_count_1 ++ dktX0_count_2
def dkwX0_count_0 : List UInt8 := [27, 16, 20, 100, 16, 60, 184, 0, 25, 153, 0, 35, 42, 180, 0, 63, 27, 16, 20, 100, 182, 0, 218, 2]
abbrev dktX0_count_0 : List UInt8 := dkwX0_count_0 ++ dktX0_count_1
theorem dksX0_count_0 : cX0_count.data.toList.drop 0 = dktX0_count_0 := by decide +kernel
theorem dksX0_count_1 : cX0_count.data.toList.drop 24 = dktX0_count_1 := dk_seg dksX0_count_0 24 rfl rfl
theorem dksX0_count_2 : cX0_count.data.toList.drop 45 = dktX0_count_2 := dk_seg dksX0_count_1 21 rfl rfl
theorem dksX0_count_3 : cX0_count.data.toList.drop 92 = dktX0_count_3 := dk_seg dksX0_count_2 47 rfl rfl
theorem dksX0_count_4 : cX0_count.data.toList.drop 116 = dktX0_count_4 := dk_seg dksX0_count_3 24 rfl rfl
theorem dksX0_count_5 : cX0_count.data.toList.drop 138 = dktX0_count_5 := dk_seg dksX0_count_4 22 rfl rfl
theorem dX0_count_0 : decode cX0_count 0 = .ok (.iload_n 1, 1) := dk_27 (dk_at dksX0_count_0 0 rfl rfl)
theorem dX0_count_1 : decode cX0_count 1 = .ok (.bipush 20, 2) := dk_16 20 (dk_at dksX0_count_0 1 rfl rfl)
theorem dX0_count_3 : decode cX0_count 3 = .ok (.isub, 1) := dk_100 (dk_at dksX0_count_0 3 rfl rfl)
theorem dX0_count_4 : decode cX0_count 4 = .ok (.bipush 60, 2) := dk_16 60 (dk_at dksX0_count_0 4 rfl rfl)
theorem dX0_count_6 : decode cX0_count 6 = .ok (.invokestatic 25, 3) := dk_184 0 25 (dk_at dksX0_count_0 6 rfl rfl)
theorem dX0_count_9 : decode cX0_count 9 = .ok (.ifCond .eq 35, 3) := dk_153 0 35 (dk_at dksX0_count_0 9 rfl rfl)
theorem dX0_count_12 : decode cX0_count 12 = .ok (.aload_n 0, 1) := dk_42 (dk_at dksX0_count_0 12 rfl rfl)
theorem dX0_count_13 : decode cX0_count 13 = .ok (.getfield 63, 3) := dk_180 0 63 (dk_at dksX0_count_0 13 rfl rfl)
theorem dX0_count_16 : decode cX0_count 16 = .ok (.iload_n 1, 1) := dk_27 (dk_at dksX0_count_0 16 rfl rfl)
theorem dX0_count_17 : decode cX0_count 17 = .ok (.bipush 20, 2) := dk_16 20 (dk_at dksX0_count_0 17 rfl rfl)
theorem dX0_count_19 : decode cX0_count 19 = .ok (.isub, 1) := dk_100 (dk_at dksX0_count_0 19 rfl rfl)
theorem dX0_count_20 : decode cX0_count 20 = .ok (.invokevirtual 218, 3) := dk_182 0 218 (dk_at dksX0_count_0 20 rfl rfl)
theorem dX0_count_23 : decode cX0_count 23 = .ok (.iconst (-1), 1) := dk_2 (dk_at dksX0_count_0 23 rfl rfl)
theorem dX0_count_24 : decode cX0_count 24 = .ok (.if_icmp .ne 8, 3) := dk_160 0 8 (dk_at dksX0_count_1 0 rfl rfl)
theorem dX0_count_27 : decode cX0_count 27 = .ok (.bipush (-2), 2) := dk_16 254 (dk_at dksX0_count_1 3 rfl rfl)
theorem dX0_count_29 : decode cX0_count 29 = .ok (.goto 14, 3) := dk_167 0 14 (dk_at dksX0_count_1 5 rfl rfl)
theorem dX0_count_32 : decode cX0_count 32 = .ok (.aload_n 0, 1) := dk_42 (dk_at dksX0_count_1 8 rfl rfl)
theorem dX0_count_33 : decode cX0_count 33 = .ok (.getfield 63, 3) := dk_180 0 63 (dk_at dksX0_count_1 9 rfl rfl)
theorem dX0_count_36 : decode cX0_count 36 = .ok (.iload_n 1, 1) := dk_27 (dk_at dksX0_count_1 12 rfl rfl)
theorem dX0_count_37 : decode cX0_count 37 = .ok (.bipush 20, 2) := dk_16 20 (dk_at dksX0_count_1 13 rfl rfl)
theorem dX0_count_39 : decode cX0_count 39 = .ok (.isub, 1) := dk_100 (dk_at dksX0_count_1 15 rfl rfl)
theorem dX0_count_40 : decode cX0_count 40 = .ok (.invokevirtual 218, 3) := dk_182 0 218 (dk_at dksX0_count_1 16 rfl rfl)
theorem dX0_count_43 : decode cX0_count 43 = .ok (.ireturn, 1) := dk_172 (dk_at dksX0_count_1 19 rfl rfl)
theorem dX0_count_44 : decode cX0_count 44 = .ok (.iload_n 1, 1) := dk_27 (dk_at dksX0_count_1 20 rfl rfl)
theorem dX0_count_45 : decode cX0_count 45 = .ok (.tableswitch 102 0 7 #[47, 55, 63, 71, 76, 84, 89, 97], 47) := by decide +kernel
theorem dX0_count_92 : decode cX0_count 92 = .ok (.aload_n 0, 1) := dk_42 (dk_at dksX0_count_3 0 rfl rfl)
theorem dX0_count_93 : decode cX0_count 93 = .ok (.getfield 63, 3) := dk_180 0 63 (dk_at dksX0_count_3 1 rfl rfl)
theorem dX0_count_96 : decode cX0_count 96 = .ok (.getfield 307, 3) := dk_180 1 51 (dk_at dksX0_count_3 4 rfl rfl)
theorem dX0_count_99 : decode cX0_count 99 = .ok (.ireturn, 1) := dk_172 (dk_at dksX0_count_3 7 rfl rfl)
theorem dX0_count_100 : decode cX0_count 100 = .ok (.aload_n 0, 1) := dk_42 (dk_at dksX0_count_3 8 rfl rfl)
theorem dX0_count_101 : decode cX0_count 101 = .ok (.getfield 63, 3) := dk_180 0 63 (dk_at dksX0_count_3 9 rfl rfl)
theorem dX0_count_104 : decode cX0_count 104 = .ok (.invokevirtual 264, 3) := dk_182 1 8 (dk_at dksX0_count_3 12 rfl rfl)
theorem dX0_count_107 : decode cX0_count 107 = .ok (.ireturn, 1) := dk_172 (dk_at dksX0_count_3 15 rfl rfl)
theorem dX0_count_108 : decode cX0_count 108 = .ok (.aload_n 0, 1) := dk_42 (dk_at dksX0_count_3 16 rfl rfl)
theorem dX0_count_109 : decode cX0_count 109 = .ok (.getfield 63, 3) := dk_180 0 63 (dk_at dksX0_count_3 17 rfl rfl)
theorem dX0_count_112 : decode cX0_count 112 = .ok (.invokevirtual 310, 3) := dk_182 1 54 (dk_at dksX0_count_3 20 rfl rfl)
theorem dX0_count_115 : decode cX0_count 115 = .ok (.ireturn, 1) := dk_172 (dk_at dksX0_count_3 23 rfl rfl)
theorem dX0_count_116 : decode cX0_count 116 = .ok (.aload_n 0, 1) := dk_42 (dk_at dksX0_count_4 0 rfl rfl)
theorem dX0_count_117 : decode cX0_count 117 = .ok (.getfield 164, 3) := dk_180 0 164 (dk_at dksX0_count_4 1 rfl rfl)
theorem dX0_count_120 : decode cX0_count 120 = .ok (.ireturn, 1) := dk_172 (dk_at dksX0_count_4 4 rfl rfl)
theorem dX0_count_121 : decode cX0_count 121 = .ok (.aload_n 0, 1) := dk_42 (dk_at dksX0_count_4 5 rfl rfl)
theorem dX0_count_122 : decode cX0_count 122 = .ok (.getfield 32, 3) := dk_180 0 32 (dk_at dksX0_count_4 6 rfl rfl)
theorem dX0_count_125 : decode cX0_count 125 = .ok (.getfield 313, 3) := dk_180 1 57 (dk_at dksX0_count_4 9 rfl rfl)
theorem dX0_count_128 : decode cX0_count 128 = .ok (.ireturn, 1) := dk_172 (dk_at dksX0_count_4 12 rfl rfl)
theorem dX0_count_129 : decode cX0_count 129 = .ok (.aload_n 0, 1) := dk_42 (dk_at dksX0_count_4 13 rfl rfl)
theorem dX0_count_130 : decode cX0_count 130 = .ok (.getfield 133, 3) := dk_180 0 133 (dk_at dksX0_count_4 14 rfl rfl)
theorem dX0_count_133 : decode cX0_count 133 = .ok (.ireturn, 1) := dk_172 (dk_at dksX0_count_4 17 rfl rfl)
theorem dX0_count_134 : decode cX0_count 134 = .ok (.aload_n 0, 1) := dk_42 (dk_at dksX0_count_4 18 rfl rfl)
theorem dX0_count_135 : decode cX0_count 135 = .ok (.getfield 63, 3) := dk_180 0 63 (dk_at dksX0_count_4 19 rfl rfl)
theorem dX0_count_138 : decode cX0_count 138 = .ok (.getfield 105, 3) := dk_180 0 105 (dk_at dksX0_count_5 0 rfl rfl)
theorem dX0_count_141 : decode cX0_count 141 = .ok (.ireturn, 1) := dk_172 (dk_at dksX0_count_5 3 rfl rfl)
theorem dX0_count_142 : decode cX0_count 142 = .ok (.aload_n 0, 1) := dk_42 (dk_at dksX0_count_5 4 rfl rfl)
theorem dX0_count_143 : decode cX0_count 143 = .ok (.invokevirtual 316, 3) := dk_182 1 60 (dk_at dksX0_count_5 5 rfl rfl)
theorem dX0_count_146 : decode cX0_count 146 = .ok (.ireturn, 1) := dk_172 (dk_at dksX0_count_5 8 rfl rfl)
theorem dX0_count_147 : decode cX0_count 147 = .ok (.iconst (-1), 1) := dk_2 (dk_at dksX0_count_5 9 rfl rfl)
theorem dX0_count_148 : decode cX0_count 148 = .ok (.ireturn, 1) := dk_172 (dk_at dksX0_count_5 10 rfl rfl)
abbrev cX0_moodOfAll : ByteArray := prog_1_method_62_code
def yX0_moodOfAll : MethodName := ⟨RX0, "moodOfAll", "()I"⟩
def dkwX0_moodOfAll_2 : List UInt8 := [60, 132, 4, 1, 167, 255, 221, 27, 172]
abbrev dktX0_moodOfAll_2 : List UInt8 := dkwX0_moodOfAll_2 ++ []
def dkwX0_moodOfAll_1 : List UInt8 := [21, 4, 50, 58, 5, 27, 25, 5, 180, 0, 113, 153, 0, 11, 25, 5, 180, 0, 127, 167, 0, 4, 3, 96]
abbrev dktX0_moodOfAll_1 : List UInt8 := dkwX0_moodOfAll_1 ++ dktX0_moodOfAll_2
def dkwX0_moodOfAll_0 : List UInt8 := [3, 60, 42, 180, 0, 63, 180, 0, 109, 77, 44, 190, 62, 3, 54, 4, 21, 4, 29, 162, 0, 35, 44]
abbrev dktX0_moodOfAll_0 : List UInt8 := dkwX0_moodOfAll_0 ++ dktX0_moodOfAll_1
theorem dksX0_moodOfAll_0 : cX0_moodOfAll.data.toList.drop 0 = dktX0_moodOfAll_0 := by decide +kernel
theorem dksX0_moodOfAll_1 : cX0_moodOfAll.data.toList.drop 23 = dktX0_moodOfAll_1 := dk_seg dksX0_moodOfAll_0 23 rfl rfl
theorem dksX0_moodOfAll_2 : cX0_moodOfAll.data.toList.drop 47 = dktX0_moodOfAll_2 := dk_seg dksX0_moodOfAll_1 24 rfl rfl
theorem dX0_moodOfAll_0 : decode cX0_moodOfAll 0 = .ok (.iconst 0, 1) := dk_3 (dk_at dksX0_moodOfAll_0 0 rfl rfl)
theorem dX0_moodOfAll_1 : decode cX0_moodOfAll 1 = .ok (.istore_n 1, 1) := dk_60 (dk_at dksX0_moodOfAll_0 1 rfl rfl)
theorem dX0_moodOfAll_2 : decode cX0_moodOfAll 2 = .ok (.aload_n 0, 1) := dk_42 (dk_at dksX0_moodOfAll_0 2 rfl rfl)
theorem dX0_moodOfAll_3 : decode cX0_moodOfAll 3 = .ok (.getfield 63, 3) := dk_180 0 63 (dk_at dksX0_moodOfAll_0 3 rfl rfl)
theorem dX0_moodOfAll_6 : decode cX0_moodOfAll 6 = .ok (.getfield 109, 3) := dk_180 0 109 (dk_at dksX0_moodOfAll_0 6 rfl rfl)
theorem dX0_moodOfAll_9 : decode cX0_moodOfAll 9 = .ok (.astore_n 2, 1) := dk_77 (dk_at dksX0_moodOfAll_0 9 rfl rfl)
theorem dX0_moodOfAll_10 : decode cX0_moodOfAll 10 = .ok (.aload_n 2, 1) := dk_44 (dk_at dksX0_moodOfAll_0 10 rfl rfl)
theorem dX0_moodOfAll_11 : decode cX0_moodOfAll 11 = .ok (.arraylength, 1) := dk_190 (dk_at dksX0_moodOfAll_0 11 rfl rfl)
theorem dX0_moodOfAll_12 : decode cX0_moodOfAll 12 = .ok (.istore_n 3, 1) := dk_62 (dk_at dksX0_moodOfAll_0 12 rfl rfl)
theorem dX0_moodOfAll_13 : decode cX0_moodOfAll 13 = .ok (.iconst 0, 1) := dk_3 (dk_at dksX0_moodOfAll_0 13 rfl rfl)
theorem dX0_moodOfAll_14 : decode cX0_moodOfAll 14 = .ok (.istore 4, 2) := dk_54 4 (dk_at dksX0_moodOfAll_0 14 rfl rfl)
theorem dX0_moodOfAll_16 : decode cX0_moodOfAll 16 = .ok (.iload 4, 2) := dk_21 4 (dk_at dksX0_moodOfAll_0 16 rfl rfl)
theorem dX0_moodOfAll_18 : decode cX0_moodOfAll 18 = .ok (.iload_n 3, 1) := dk_29 (dk_at dksX0_moodOfAll_0 18 rfl rfl)
theorem dX0_moodOfAll_19 : decode cX0_moodOfAll 19 = .ok (.if_icmp .ge 35, 3) := dk_162 0 35 (dk_at dksX0_moodOfAll_0 19 rfl rfl)
theorem dX0_moodOfAll_22 : decode cX0_moodOfAll 22 = .ok (.aload_n 2, 1) := dk_44 (dk_at dksX0_moodOfAll_0 22 rfl rfl)
theorem dX0_moodOfAll_23 : decode cX0_moodOfAll 23 = .ok (.iload 4, 2) := dk_21 4 (dk_at dksX0_moodOfAll_1 0 rfl rfl)
theorem dX0_moodOfAll_25 : decode cX0_moodOfAll 25 = .ok (.aaload, 1) := dk_50 (dk_at dksX0_moodOfAll_1 2 rfl rfl)
theorem dX0_moodOfAll_26 : decode cX0_moodOfAll 26 = .ok (.astore 5, 2) := dk_58 5 (dk_at dksX0_moodOfAll_1 3 rfl rfl)
theorem dX0_moodOfAll_28 : decode cX0_moodOfAll 28 = .ok (.iload_n 1, 1) := dk_27 (dk_at dksX0_moodOfAll_1 5 rfl rfl)
theorem dX0_moodOfAll_29 : decode cX0_moodOfAll 29 = .ok (.aload 5, 2) := dk_25 5 (dk_at dksX0_moodOfAll_1 6 rfl rfl)
theorem dX0_moodOfAll_31 : decode cX0_moodOfAll 31 = .ok (.getfield 113, 3) := dk_180 0 113 (dk_at dksX0_moodOfAll_1 8 rfl rfl)
theorem dX0_moodOfAll_34 : decode cX0_moodOfAll 34 = .ok (.ifCond .eq 11, 3) := dk_153 0 11 (dk_at dksX0_moodOfAll_1 11 rfl rfl)
theorem dX0_moodOfAll_37 : decode cX0_moodOfAll 37 = .ok (.aload 5, 2) := dk_25 5 (dk_at dksX0_moodOfAll_1 14 rfl rfl)
theorem dX0_moodOfAll_39 : decode cX0_moodOfAll 39 = .ok (.getfield 127, 3) := dk_180 0 127 (dk_at dksX0_moodOfAll_1 16 rfl rfl)
theorem dX0_moodOfAll_42 : decode cX0_moodOfAll 42 = .ok (.goto 4, 3) := dk_167 0 4 (dk_at dksX0_moodOfAll_1 19 rfl rfl)
theorem dX0_moodOfAll_45 : decode cX0_moodOfAll 45 = .ok (.iconst 0, 1) := dk_3 (dk_at dksX0_moodOfAll_1 22 rfl rfl)
theorem dX0_moodOfAll_46 : decode cX0_moodOfAll 46 = .ok (.iadd, 1) := dk_96 (dk_at dksX0_moodOfAll_1 23 rfl rfl)
theorem dX0_moodOfAll_47 : decode cX0_moodOfAll 47 = .ok (.istore_n 1, 1) := dk_60 (dk_at dksX0_moodOfAll_2 0 rfl rfl)
theorem dX0_moodOfAll_48 : decode cX0_moodOfAll 48 = .ok (.iinc 4 1, 3) := dk_132 4 1 (dk_at dksX0_moodOfAll_2 1 rfl rfl)
theorem dX0_moodOfAll_51 : decode cX0_moodOfAll 51 = .ok (.goto (-35), 3) := dk_167 255 221 (dk_at dksX0_moodOfAll_2 4 rfl rfl)
theorem dX0_moodOfAll_54 : decode cX0_moodOfAll 54 = .ok (.iload_n 1, 1) := dk_27 (dk_at dksX0_moodOfAll_2 7 rfl rfl)
theorem dX0_moodOfAll_55 : decode cX0_moodOfAll 55 = .ok (.ireturn, 1) := dk_172 (dk_at dksX0_moodOfAll_2 8 rfl rfl)
theorem q106 : (Jvm.Cond.initialized "TalkingPlots") ∈ lw_all := lw_g (lw_at lw_m1 1 rfl) rfl
theorem q133 : (Jvm.Cond.instantiable "TalkingPlots" (20 : Nat)) ∈ lw_all := lw_g (lw_at lw_m1 28 rfl) rfl
theorem q135 : (Jvm.Cond.instanceMethod ({ cls := "TalkingPlots", name := "<init>", desc := "()V" } : Jvm.MethodName)) ∈ lw_all := lw_g (lw_at lw_m1 30 rfl) rfl
theorem q136 : (Jvm.Cond.code ({ cls := "TalkingPlots", name := "<init>", desc := "()V" } : Jvm.MethodName) prog_1_method_9_code (1 : Nat) (Option.none : Option Jvm.ClassFile.FieldType)) ∈ lw_all := lw_g (lw_at lw_m1 31 rfl) rfl
theorem q137 : (Jvm.Cond.methodLink "TalkingPlots" (49 : Nat) ({ cls := "java/lang/Object", name := "<init>", desc := "()V" } : Jvm.MethodName)) ∈ lw_all := lw_g (lw_at lw_m1 32 rfl) rfl
theorem q140 : (Jvm.Cond.classLink "TalkingPlots" (55 : Nat) "TalkingPlots$Moment") ∈ lw_all := lw_g (lw_at lw_m1 35 rfl) rfl
theorem q142 : (Jvm.Cond.methodLinkNest "TalkingPlots" (57 : Nat) ({ cls := "TalkingPlots$Moment", name := "<init>", desc := "()V" } : Jvm.MethodName) "TalkingPlots") ∈ lw_tbl := lw_at lw_m1 37 rfl
theorem q179 : (Jvm.Cond.classLink "TalkingPlots" (58 : Nat) "TalkingPlots$Yard") ∈ lw_all := lw_g (lw_at lw_m1 74 rfl) rfl
theorem q181 : (Jvm.Cond.methodLink "TalkingPlots" (60 : Nat) ({ cls := "TalkingPlots$Yard", name := "<init>", desc := "(LTalkingPlots;)V" } : Jvm.MethodName)) ∈ lw_all := lw_g (lw_at lw_m1 76 rfl) rfl
theorem q195 : (Jvm.Cond.fieldLinkNest "TalkingPlots" (124 : Nat) "TalkingPlots$Person" "topics" "I" "TalkingPlots") ∈ lw_tbl := lw_at lw_m1 90 rfl
theorem q200 : (Jvm.Cond.fieldLinkNest "TalkingPlots" (127 : Nat) "TalkingPlots$Person" "mood" "I" "TalkingPlots") ∈ lw_tbl := lw_at lw_m1 95 rfl
theorem q204 : (Jvm.Cond.fieldLinkNest "TalkingPlots" (130 : Nat) "TalkingPlots$Person" "plot" "I" "TalkingPlots") ∈ lw_tbl := lw_at lw_m1 99 rfl
theorem q207 : (Jvm.Cond.fieldLinkNest "TalkingPlots" (113 : Nat) "TalkingPlots$Person" "isTold" "Z" "TalkingPlots") ∈ lw_tbl := lw_at lw_m1 102 rfl
theorem q219 : (Jvm.Cond.fieldLinkNest "TalkingPlots" (109 : Nat) "TalkingPlots$Yard" "people" "[LTalkingPlots$Person;" "TalkingPlots") ∈ lw_tbl := lw_at lw_m1 114 rfl
theorem q221 : (Jvm.Cond.fieldLinkNest "TalkingPlots" (307 : Nat) "TalkingPlots$Yard" "night" "I" "TalkingPlots") ∈ lw_tbl := lw_at lw_m1 116 rfl
theorem q223 : (Jvm.Cond.fieldLinkNest "TalkingPlots" (105 : Nat) "TalkingPlots$Yard" "x" "I" "TalkingPlots") ∈ lw_tbl := lw_at lw_m1 118 rfl
theorem q225 : (Jvm.Cond.fieldLinkNest "TalkingPlots" (180 : Nat) "TalkingPlots$Yard" "talked" "I" "TalkingPlots") ∈ lw_tbl := lw_at lw_m1 120 rfl
theorem q227 : (Jvm.Cond.fieldLinkNest "TalkingPlots" (190 : Nat) "TalkingPlots$Yard" "learnt" "I" "TalkingPlots") ∈ lw_tbl := lw_at lw_m1 122 rfl
theorem q242 : (Jvm.Cond.classLink "TalkingPlots" (41 : Nat) "TalkingPlots$Text") ∈ lw_all := lw_g (lw_at lw_m1 137 rfl) rfl
theorem q244 : (Jvm.Cond.methodLinkNest "TalkingPlots" (77 : Nat) ({ cls := "TalkingPlots$Text", name := "<init>", desc := "()V" } : Jvm.MethodName) "TalkingPlots") ∈ lw_tbl := lw_at lw_m1 139 rfl
theorem q260 : (Jvm.Cond.fieldLinkNest "TalkingPlots" (313 : Nat) "TalkingPlots$Text" "many" "I" "TalkingPlots") ∈ lw_tbl := lw_at lw_m1 155 rfl
theorem q272 : (Jvm.Cond.fieldLink "TalkingPlots" (36 : Nat) "TalkingPlots" "moment" "LTalkingPlots$Moment;") ∈ lw_all := lw_g (lw_at lw_m1 167 rfl) rfl
theorem q274 : (Jvm.Cond.fieldLink "TalkingPlots" (63 : Nat) "TalkingPlots" "yard" "LTalkingPlots$Yard;") ∈ lw_all := lw_g (lw_at lw_m1 169 rfl) rfl
theorem q276 : (Jvm.Cond.fieldLink "TalkingPlots" (67 : Nat) "TalkingPlots" "then" "LTalkingPlots$Yard;") ∈ lw_all := lw_g (lw_at lw_m1 171 rfl) rfl
theorem q277 : (Jvm.Cond.fieldLink "TalkingPlots" (70 : Nat) "TalkingPlots" "kept" "LTalkingPlots$Yard;") ∈ lw_all := lw_g (lw_at lw_m1 172 rfl) rfl
theorem q280 : (Jvm.Cond.fieldLink "TalkingPlots" (73 : Nat) "TalkingPlots" "tape" "[B") ∈ lw_all := lw_g (lw_at lw_m1 175 rfl) rfl
theorem q281 : (Jvm.Cond.fieldLink "TalkingPlots" (32 : Nat) "TalkingPlots" "law" "LTalkingPlots$Text;") ∈ lw_all := lw_g (lw_at lw_m1 176 rfl) rfl
theorem q283 : (Jvm.Cond.fieldLink "TalkingPlots" (133 : Nat) "TalkingPlots" "taped" "I") ∈ lw_all := lw_g (lw_at lw_m1 178 rfl) rfl
theorem q284 : (Jvm.Cond.fieldLink "TalkingPlots" (304 : Nat) "TalkingPlots" "isKept" "Z") ∈ lw_all := lw_g (lw_at lw_m1 179 rfl) rfl
theorem q285 : (Jvm.Cond.fieldLink "TalkingPlots" (78 : Nat) "TalkingPlots" "wisher" "[I") ∈ lw_all := lw_g (lw_at lw_m1 180 rfl) rfl
theorem q286 : (Jvm.Cond.fieldLink "TalkingPlots" (81 : Nat) "TalkingPlots" "wished" "[I") ∈ lw_all := lw_g (lw_at lw_m1 181 rfl) rfl
theorem q287 : (Jvm.Cond.fieldLink "TalkingPlots" (84 : Nat) "TalkingPlots" "signs" "[I") ∈ lw_all := lw_g (lw_at lw_m1 182 rfl) rfl
theorem q288 : (Jvm.Cond.fieldLink "TalkingPlots" (164 : Nat) "TalkingPlots" "wishes" "I") ∈ lw_all := lw_g (lw_at lw_m1 183 rfl) rfl
theorem q289 : (Jvm.Cond.fieldLink "TalkingPlots" (87 : Nat) "TalkingPlots" "row" "[I") ∈ lw_all := lw_g (lw_at lw_m1 184 rfl) rfl
theorem q290 : (Jvm.Cond.fieldLink "TalkingPlots" (90 : Nat) "TalkingPlots" "bestRow" "[I") ∈ lw_all := lw_g (lw_at lw_m1 185 rfl) rfl
theorem q291 : (Jvm.Cond.fieldLink "TalkingPlots" (257 : Nat) "TalkingPlots" "bestTalk" "I") ∈ lw_all := lw_g (lw_at lw_m1 186 rfl) rfl
theorem q292 : (Jvm.Cond.fieldLink "TalkingPlots" (251 : Nat) "TalkingPlots" "goodRows" "I") ∈ lw_all := lw_g (lw_at lw_m1 187 rfl) rfl
theorem q293 : (Jvm.Cond.fieldLink "TalkingPlots" (93 : Nat) "TalkingPlots" "said" "[I") ∈ lw_all := lw_g (lw_at lw_m1 188 rfl) rfl
theorem q294 : (Jvm.Cond.fieldLink "TalkingPlots" (96 : Nat) "TalkingPlots" "couple" "[I") ∈ lw_all := lw_g (lw_at lw_m1 189 rfl) rfl
theorem q295 : (Jvm.Cond.fieldLink "TalkingPlots" (99 : Nat) "TalkingPlots" "longest" "[I") ∈ lw_all := lw_g (lw_at lw_m1 190 rfl) rfl
theorem q296 : (Jvm.Cond.fieldLink "TalkingPlots" (102 : Nat) "TalkingPlots" "steps" "[I") ∈ lw_all := lw_g (lw_at lw_m1 191 rfl) rfl
theorem q297 : (Jvm.Cond.laysFinal "TalkingPlots" "TalkingPlots" "moment" "LTalkingPlots$Moment;") ∈ lw_all := lw_g (lw_at lw_m1 192 rfl) rfl
theorem q298 : (Jvm.Cond.soleField "TalkingPlots" "moment") ∈ lw_all := lw_g (lw_at lw_m1 193 rfl) rfl
theorem q299 : (Jvm.Cond.laysFinal "TalkingPlots" "TalkingPlots" "yard" "LTalkingPlots$Yard;") ∈ lw_all := lw_g (lw_at lw_m1 194 rfl) rfl
theorem q300 : (Jvm.Cond.soleField "TalkingPlots" "yard") ∈ lw_all := lw_g (lw_at lw_m1 195 rfl) rfl
theorem q301 : (Jvm.Cond.laysFinal "TalkingPlots" "TalkingPlots" "then" "LTalkingPlots$Yard;") ∈ lw_all := lw_g (lw_at lw_m1 196 rfl) rfl
theorem q302 : (Jvm.Cond.soleField "TalkingPlots" "then") ∈ lw_all := lw_g (lw_at lw_m1 197 rfl) rfl
theorem q303 : (Jvm.Cond.laysFinal "TalkingPlots" "TalkingPlots" "kept" "LTalkingPlots$Yard;") ∈ lw_all := lw_g (lw_at lw_m1 198 rfl) rfl
theorem q304 : (Jvm.Cond.soleField "TalkingPlots" "kept") ∈ lw_all := lw_g (lw_at lw_m1 199 rfl) rfl
theorem q305 : (Jvm.Cond.laysFinal "TalkingPlots" "TalkingPlots" "tape" "[B") ∈ lw_all := lw_g (lw_at lw_m1 200 rfl) rfl
theorem q306 : (Jvm.Cond.soleField "TalkingPlots" "tape") ∈ lw_all := lw_g (lw_at lw_m1 201 rfl) rfl
theorem q307 : (Jvm.Cond.lays "TalkingPlots" "TalkingPlots" "law" "LTalkingPlots$Text;") ∈ lw_all := lw_g (lw_at lw_m1 202 rfl) rfl
theorem q308 : (Jvm.Cond.soleField "TalkingPlots" "law") ∈ lw_all := lw_g (lw_at lw_m1 203 rfl) rfl
theorem q309 : (Jvm.Cond.lays "TalkingPlots" "TalkingPlots" "taped" "I") ∈ lw_all := lw_g (lw_at lw_m1 204 rfl) rfl
theorem q310 : (Jvm.Cond.soleField "TalkingPlots" "taped") ∈ lw_all := lw_g (lw_at lw_m1 205 rfl) rfl
theorem q311 : (Jvm.Cond.lays "TalkingPlots" "TalkingPlots" "isKept" "Z") ∈ lw_all := lw_g (lw_at lw_m1 206 rfl) rfl
theorem q312 : (Jvm.Cond.soleField "TalkingPlots" "isKept") ∈ lw_all := lw_g (lw_at lw_m1 207 rfl) rfl
theorem q313 : (Jvm.Cond.laysFinal "TalkingPlots" "TalkingPlots" "wisher" "[I") ∈ lw_all := lw_g (lw_at lw_m1 208 rfl) rfl
theorem q314 : (Jvm.Cond.soleField "TalkingPlots" "wisher") ∈ lw_all := lw_g (lw_at lw_m1 209 rfl) rfl
theorem q315 : (Jvm.Cond.laysFinal "TalkingPlots" "TalkingPlots" "wished" "[I") ∈ lw_all := lw_g (lw_at lw_m1 210 rfl) rfl
theorem q316 : (Jvm.Cond.soleField "TalkingPlots" "wished") ∈ lw_all := lw_g (lw_at lw_m1 211 rfl) rfl
theorem q317 : (Jvm.Cond.laysFinal "TalkingPlots" "TalkingPlots" "signs" "[I") ∈ lw_all := lw_g (lw_at lw_m1 212 rfl) rfl
theorem q318 : (Jvm.Cond.soleField "TalkingPlots" "signs") ∈ lw_all := lw_g (lw_at lw_m1 213 rfl) rfl
theorem q319 : (Jvm.Cond.lays "TalkingPlots" "TalkingPlots" "wishes" "I") ∈ lw_all := lw_g (lw_at lw_m1 214 rfl) rfl
theorem q320 : (Jvm.Cond.soleField "TalkingPlots" "wishes") ∈ lw_all := lw_g (lw_at lw_m1 215 rfl) rfl
theorem q321 : (Jvm.Cond.laysFinal "TalkingPlots" "TalkingPlots" "row" "[I") ∈ lw_all := lw_g (lw_at lw_m1 216 rfl) rfl
theorem q322 : (Jvm.Cond.soleField "TalkingPlots" "row") ∈ lw_all := lw_g (lw_at lw_m1 217 rfl) rfl
theorem q323 : (Jvm.Cond.laysFinal "TalkingPlots" "TalkingPlots" "bestRow" "[I") ∈ lw_all := lw_g (lw_at lw_m1 218 rfl) rfl
theorem q324 : (Jvm.Cond.soleField "TalkingPlots" "bestRow") ∈ lw_all := lw_g (lw_at lw_m1 219 rfl) rfl
theorem q325 : (Jvm.Cond.lays "TalkingPlots" "TalkingPlots" "bestTalk" "I") ∈ lw_all := lw_g (lw_at lw_m1 220 rfl) rfl
theorem q326 : (Jvm.Cond.soleField "TalkingPlots" "bestTalk") ∈ lw_all := lw_g (lw_at lw_m1 221 rfl) rfl
theorem q327 : (Jvm.Cond.lays "TalkingPlots" "TalkingPlots" "goodRows" "I") ∈ lw_all := lw_g (lw_at lw_m1 222 rfl) rfl
theorem q328 : (Jvm.Cond.soleField "TalkingPlots" "goodRows") ∈ lw_all := lw_g (lw_at lw_m1 223 rfl) rfl
theorem q329 : (Jvm.Cond.laysFinal "TalkingPlots" "TalkingPlots" "said" "[I") ∈ lw_all := lw_g (lw_at lw_m1 224 rfl) rfl
theorem q330 : (Jvm.Cond.soleField "TalkingPlots" "said") ∈ lw_all := lw_g (lw_at lw_m1 225 rfl) rfl
theorem q331 : (Jvm.Cond.laysFinal "TalkingPlots" "TalkingPlots" "couple" "[I") ∈ lw_all := lw_g (lw_at lw_m1 226 rfl) rfl
theorem q332 : (Jvm.Cond.soleField "TalkingPlots" "couple") ∈ lw_all := lw_g (lw_at lw_m1 227 rfl) rfl
theorem q333 : (Jvm.Cond.laysFinal "TalkingPlots" "TalkingPlots" "longest" "[I") ∈ lw_all := lw_g (lw_at lw_m1 228 rfl) rfl
theorem q334 : (Jvm.Cond.soleField "TalkingPlots" "longest") ∈ lw_all := lw_g (lw_at lw_m1 229 rfl) rfl
theorem q335 : (Jvm.Cond.laysFinal "TalkingPlots" "TalkingPlots" "steps" "[I") ∈ lw_all := lw_g (lw_at lw_m1 230 rfl) rfl
theorem q336 : (Jvm.Cond.soleField "TalkingPlots" "steps") ∈ lw_all := lw_g (lw_at lw_m1 231 rfl) rfl
theorem q337 : (Jvm.Cond.superclass "TalkingPlots" "java/lang/Object") ∈ lw_all := lw_g (lw_at lw_m1 232 rfl) rfl
theorem q339 : (Jvm.Cond.instanceMethod ({ cls := "TalkingPlots", name := "person", desc := "(III)Z" } : Jvm.MethodName)) ∈ lw_all := lw_g (lw_at lw_m1 234 rfl) rfl
theorem q340 : (Jvm.Cond.selects "TalkingPlots" ({ cls := "TalkingPlots", name := "person", desc := "(III)Z" } : Jvm.MethodName) ({ cls := "TalkingPlots", name := "person", desc := "(III)Z" } : Jvm.MethodName)) ∈ lw_all := lw_g (lw_at lw_m1 235 rfl) rfl
theorem q341 : (Jvm.Cond.code ({ cls := "TalkingPlots", name := "person", desc := "(III)Z" } : Jvm.MethodName) prog_1_method_11_code (5 : Nat) (Option.some Jvm.ClassFile.FieldType.boolean)) ∈ lw_all := lw_g (lw_at lw_m1 236 rfl) rfl
theorem q342 : (Jvm.Cond.methodLink "TalkingPlots" (25 : Nat) ({ cls := "TalkingPlots", name := "in", desc := "(II)Z" } : Jvm.MethodName)) ∈ lw_all := lw_g (lw_at lw_m1 237 rfl) rfl
theorem q343 : (Jvm.Cond.static ({ cls := "TalkingPlots", name := "in", desc := "(II)Z" } : Jvm.MethodName)) ∈ lw_all := lw_g (lw_at lw_m1 238 rfl) rfl
theorem q344 : (Jvm.Cond.code ({ cls := "TalkingPlots", name := "in", desc := "(II)Z" } : Jvm.MethodName) prog_1_method_1_code (2 : Nat) (Option.some Jvm.ClassFile.FieldType.boolean)) ∈ lw_all := lw_g (lw_at lw_m1 239 rfl) rfl
theorem q345 : (Jvm.Cond.constant "TalkingPlots" (119 : Nat) (65536 : Int32)) ∈ lw_all := lw_g (lw_at lw_m2 0 rfl) rfl
theorem q346 : (Jvm.Cond.methodLink "TalkingPlots" (120 : Nat) ({ cls := "TalkingPlots", name := "within", desc := "(III)Z" } : Jvm.MethodName)) ∈ lw_all := lw_g (lw_at lw_m2 1 rfl) rfl
theorem q347 : (Jvm.Cond.static ({ cls := "TalkingPlots", name := "within", desc := "(III)Z" } : Jvm.MethodName)) ∈ lw_all := lw_g (lw_at lw_m2 2 rfl) rfl
theorem q348 : (Jvm.Cond.code ({ cls := "TalkingPlots", name := "within", desc := "(III)Z" } : Jvm.MethodName) prog_1_method_2_code (3 : Nat) (Option.some Jvm.ClassFile.FieldType.boolean)) ∈ lw_all := lw_g (lw_at lw_m2 3 rfl) rfl
theorem q350 : (Jvm.Cond.instanceMethod ({ cls := "TalkingPlots", name := "feed", desc := "(IIIII)I" } : Jvm.MethodName)) ∈ lw_all := lw_g (lw_at lw_m2 5 rfl) rfl
theorem q351 : (Jvm.Cond.selects "TalkingPlots" ({ cls := "TalkingPlots", name := "feed", desc := "(IIIII)I" } : Jvm.MethodName) ({ cls := "TalkingPlots", name := "feed", desc := "(IIIII)I" } : Jvm.MethodName)) ∈ lw_all := lw_g (lw_at lw_m2 6 rfl) rfl
theorem q352 : (Jvm.Cond.code ({ cls := "TalkingPlots", name := "feed", desc := "(IIIII)I" } : Jvm.MethodName) prog_1_method_13_code (6 : Nat) (Option.some Jvm.ClassFile.FieldType.int)) ∈ lw_all := lw_g (lw_at lw_m2 7 rfl) rfl
theorem q353 : (Jvm.Cond.methodLink "TalkingPlots" (136 : Nat) ({ cls := "TalkingPlots", name := "push", desc := "(I)V" } : Jvm.MethodName)) ∈ lw_all := lw_g (lw_at lw_m2 8 rfl) rfl
theorem q354 : (Jvm.Cond.privateMethod ({ cls := "TalkingPlots", name := "push", desc := "(I)V" } : Jvm.MethodName)) ∈ lw_tbl := lw_at lw_m2 9 rfl
theorem q355 : (Jvm.Cond.instanceMethod ({ cls := "TalkingPlots", name := "push", desc := "(I)V" } : Jvm.MethodName)) ∈ lw_all := lw_g (lw_at lw_m2 10 rfl) rfl
theorem q356 : (Jvm.Cond.code ({ cls := "TalkingPlots", name := "push", desc := "(I)V" } : Jvm.MethodName) prog_1_method_12_code (3 : Nat) (Option.none : Option Jvm.ClassFile.FieldType)) ∈ lw_all := lw_g (lw_at lw_m2 11 rfl) rfl
theorem q358 : (Jvm.Cond.instanceMethod ({ cls := "TalkingPlots", name := "law", desc := "(I)I" } : Jvm.MethodName)) ∈ lw_all := lw_g (lw_at lw_m2 13 rfl) rfl
theorem q359 : (Jvm.Cond.selects "TalkingPlots" ({ cls := "TalkingPlots", name := "law", desc := "(I)I" } : Jvm.MethodName) ({ cls := "TalkingPlots", name := "law", desc := "(I)I" } : Jvm.MethodName)) ∈ lw_all := lw_g (lw_at lw_m2 14 rfl) rfl
theorem q360 : (Jvm.Cond.code ({ cls := "TalkingPlots", name := "law", desc := "(I)I" } : Jvm.MethodName) prog_1_method_14_code (4 : Nat) (Option.some Jvm.ClassFile.FieldType.int)) ∈ lw_all := lw_g (lw_at lw_m2 15 rfl) rfl
theorem q361 : (Jvm.Cond.classLink "TalkingPlots" (140 : Nat) "TalkingPlots$Reader") ∈ lw_all := lw_g (lw_at lw_m2 16 rfl) rfl
theorem q363 : (Jvm.Cond.methodLink "TalkingPlots" (142 : Nat) ({ cls := "TalkingPlots$Reader", name := "<init>", desc := "(LTalkingPlots;I)V" } : Jvm.MethodName)) ∈ lw_all := lw_g (lw_at lw_m2 18 rfl) rfl
theorem q371 : (Jvm.Cond.fieldLinkNest "TalkingPlots" (149 : Nat) "TalkingPlots$Reader" "text" "LTalkingPlots$Text;" "TalkingPlots") ∈ lw_tbl := lw_at lw_m2 26 rfl
theorem q392 : (Jvm.Cond.methodLink "TalkingPlots" (145 : Nat) ({ cls := "TalkingPlots$Reader", name := "read", desc := "()I" } : Jvm.MethodName)) ∈ lw_all := lw_g (lw_at lw_m2 47 rfl) rfl
theorem q627 : (Jvm.Cond.instanceMethod ({ cls := "TalkingPlots", name := "burials", desc := "(I)I" } : Jvm.MethodName)) ∈ lw_all := lw_g (lw_at lw_m3 42 rfl) rfl
theorem q628 : (Jvm.Cond.selects "TalkingPlots" ({ cls := "TalkingPlots", name := "burials", desc := "(I)I" } : Jvm.MethodName) ({ cls := "TalkingPlots", name := "burials", desc := "(I)I" } : Jvm.MethodName)) ∈ lw_all := lw_g (lw_at lw_m3 43 rfl) rfl
theorem q629 : (Jvm.Cond.code ({ cls := "TalkingPlots", name := "burials", desc := "(I)I" } : Jvm.MethodName) prog_1_method_15_code (5 : Nat) (Option.some Jvm.ClassFile.FieldType.int)) ∈ lw_all := lw_g (lw_at lw_m3 44 rfl) rfl
theorem q630 : (Jvm.Cond.methodLink "TalkingPlots" (152 : Nat) ({ cls := "TalkingPlots$Yard", name := "takes", desc := "(LTalkingPlots$Yard;)LTalkingPlots$Yard;" } : Jvm.MethodName)) ∈ lw_all := lw_g (lw_at lw_m3 45 rfl) rfl
theorem q638 : (Jvm.Cond.classLink "TalkingPlots" (156 : Nat) "TalkingPlots$Sexton") ∈ lw_all := lw_g (lw_at lw_m3 53 rfl) rfl
theorem q640 : (Jvm.Cond.methodLink "TalkingPlots" (158 : Nat) ({ cls := "TalkingPlots$Sexton", name := "<init>", desc := "(LTalkingPlots;I)V" } : Jvm.MethodName)) ∈ lw_all := lw_g (lw_at lw_m3 55 rfl) rfl
theorem q666 : (Jvm.Cond.methodLink "TalkingPlots" (159 : Nat) ({ cls := "TalkingPlots$Sexton", name := "read", desc := "()I" } : Jvm.MethodName)) ∈ lw_all := lw_g (lw_at lw_m3 81 rfl) rfl
theorem q723 : (Jvm.Cond.privateMethod ({ cls := "TalkingPlots", name := "isTold", desc := "(I)Z" } : Jvm.MethodName)) ∈ lw_tbl := lw_at lw_m3 138 rfl
theorem q724 : (Jvm.Cond.instanceMethod ({ cls := "TalkingPlots", name := "isTold", desc := "(I)Z" } : Jvm.MethodName)) ∈ lw_all := lw_g (lw_at lw_m3 139 rfl) rfl
theorem q725 : (Jvm.Cond.code ({ cls := "TalkingPlots", name := "isTold", desc := "(I)Z" } : Jvm.MethodName) prog_1_method_10_code (2 : Nat) (Option.some Jvm.ClassFile.FieldType.boolean)) ∈ lw_all := lw_g (lw_at lw_m3 140 rfl) rfl
theorem q782 : (Jvm.Cond.instanceMethod ({ cls := "TalkingPlots", name := "wishes", desc := "(I)I" } : Jvm.MethodName)) ∈ lw_all := lw_g (lw_at lw_m3 197 rfl) rfl
theorem q783 : (Jvm.Cond.selects "TalkingPlots" ({ cls := "TalkingPlots", name := "wishes", desc := "(I)I" } : Jvm.MethodName) ({ cls := "TalkingPlots", name := "wishes", desc := "(I)I" } : Jvm.MethodName)) ∈ lw_all := lw_g (lw_at lw_m3 198 rfl) rfl
theorem q784 : (Jvm.Cond.code ({ cls := "TalkingPlots", name := "wishes", desc := "(I)I" } : Jvm.MethodName) prog_1_method_16_code (5 : Nat) (Option.some Jvm.ClassFile.FieldType.int)) ∈ lw_all := lw_g (lw_at lw_m3 199 rfl) rfl
theorem q785 : (Jvm.Cond.classLink "TalkingPlots" (160 : Nat) "TalkingPlots$Warden") ∈ lw_all := lw_g (lw_at lw_m3 200 rfl) rfl
theorem q787 : (Jvm.Cond.methodLink "TalkingPlots" (162 : Nat) ({ cls := "TalkingPlots$Warden", name := "<init>", desc := "(LTalkingPlots;I)V" } : Jvm.MethodName)) ∈ lw_all := lw_g (lw_at lw_m3 202 rfl) rfl
theorem q792 : (Jvm.Cond.fieldLinkNest "TalkingPlots" (167 : Nat) "TalkingPlots$Warden" "who" "[I" "TalkingPlots") ∈ lw_tbl := lw_at lw_m3 207 rfl
theorem q794 : (Jvm.Cond.fieldLinkNest "TalkingPlots" (170 : Nat) "TalkingPlots$Warden" "whom" "[I" "TalkingPlots") ∈ lw_tbl := lw_at lw_m3 209 rfl
theorem q796 : (Jvm.Cond.fieldLinkNest "TalkingPlots" (173 : Nat) "TalkingPlots$Warden" "what" "[I" "TalkingPlots") ∈ lw_tbl := lw_at lw_m3 211 rfl
theorem q812 : (Jvm.Cond.methodLink "TalkingPlots" (163 : Nat) ({ cls := "TalkingPlots$Warden", name := "read", desc := "()I" } : Jvm.MethodName)) ∈ lw_all := lw_g (lw_at lw_m3 227 rfl) rfl
theorem q816 : (Jvm.Cond.instanceMethod ({ cls := "TalkingPlots", name := "nights", desc := "(I)I" } : Jvm.MethodName)) ∈ lw_all := lw_g (lw_at lw_m3 231 rfl) rfl
theorem q817 : (Jvm.Cond.selects "TalkingPlots" ({ cls := "TalkingPlots", name := "nights", desc := "(I)I" } : Jvm.MethodName) ({ cls := "TalkingPlots", name := "nights", desc := "(I)I" } : Jvm.MethodName)) ∈ lw_all := lw_g (lw_at lw_m3 232 rfl) rfl
theorem q818 : (Jvm.Cond.code ({ cls := "TalkingPlots", name := "nights", desc := "(I)I" } : Jvm.MethodName) prog_1_method_17_code (2 : Nat) (Option.some Jvm.ClassFile.FieldType.int)) ∈ lw_all := lw_g (lw_at lw_m3 233 rfl) rfl
theorem q819 : (Jvm.Cond.methodLink "TalkingPlots" (176 : Nat) ({ cls := "TalkingPlots$Yard", name := "goes", desc := "(I)LTalkingPlots$Yard;" } : Jvm.MethodName)) ∈ lw_all := lw_g (lw_at lw_m3 234 rfl) rfl
theorem q836 : (Jvm.Cond.static ({ cls := "TalkingPlots", name := "areNext", desc := "(II)Z" } : Jvm.MethodName)) ∈ lw_all := lw_g (lw_at lw_m4 11 rfl) rfl
theorem q837 : (Jvm.Cond.code ({ cls := "TalkingPlots", name := "areNext", desc := "(II)Z" } : Jvm.MethodName) prog_1_method_7_code (3 : Nat) (Option.some Jvm.ClassFile.FieldType.boolean)) ∈ lw_all := lw_g (lw_at lw_m4 12 rfl) rfl
theorem q838 : (Jvm.Cond.methodLink "TalkingPlots" (29 : Nat) ({ cls := "TalkingPlots", name := "next", desc := "(II)I" } : Jvm.MethodName)) ∈ lw_all := lw_g (lw_at lw_m4 13 rfl) rfl
theorem q839 : (Jvm.Cond.static ({ cls := "TalkingPlots", name := "next", desc := "(II)I" } : Jvm.MethodName)) ∈ lw_all := lw_g (lw_at lw_m4 14 rfl) rfl
theorem q840 : (Jvm.Cond.code ({ cls := "TalkingPlots", name := "next", desc := "(II)I" } : Jvm.MethodName) prog_1_method_6_code (4 : Nat) (Option.some Jvm.ClassFile.FieldType.int)) ∈ lw_all := lw_g (lw_at lw_m4 15 rfl) rfl
theorem q841 : (Jvm.Cond.fieldLink "TalkingPlots" (18 : Nat) "TalkingPlots" "OVER" "[I") ∈ lw_all := lw_g (lw_at lw_m4 16 rfl) rfl
theorem q842 : (Jvm.Cond.laysStatic "TalkingPlots" "OVER" "[I") ∈ lw_tbl := lw_at lw_m4 17 rfl
theorem q843 : (Jvm.Cond.fieldLink "TalkingPlots" (22 : Nat) "TalkingPlots" "DOWN" "[I") ∈ lw_all := lw_g (lw_at lw_m4 18 rfl) rfl
theorem q844 : (Jvm.Cond.laysStatic "TalkingPlots" "DOWN" "[I") ∈ lw_tbl := lw_at lw_m4 19 rfl
theorem q900 : (Jvm.Cond.static ({ cls := "TalkingPlots", name := "has", desc := "(II)Z" } : Jvm.MethodName)) ∈ lw_all := lw_g (lw_at lw_m4 75 rfl) rfl
theorem q901 : (Jvm.Cond.code ({ cls := "TalkingPlots", name := "has", desc := "(II)Z" } : Jvm.MethodName) prog_1_method_3_code (2 : Nat) (Option.some Jvm.ClassFile.FieldType.boolean)) ∈ lw_all := lw_g (lw_at lw_m4 76 rfl) rfl
theorem q913 : (Jvm.Cond.privateMethod ({ cls := "TalkingPlots", name := "tells", desc := "(II)I" } : Jvm.MethodName)) ∈ lw_tbl := lw_at lw_m4 88 rfl
theorem q914 : (Jvm.Cond.instanceMethod ({ cls := "TalkingPlots", name := "tells", desc := "(II)I" } : Jvm.MethodName)) ∈ lw_all := lw_g (lw_at lw_m4 89 rfl) rfl
theorem q915 : (Jvm.Cond.code ({ cls := "TalkingPlots", name := "tells", desc := "(II)I" } : Jvm.MethodName) prog_1_method_8_code (3 : Nat) (Option.some Jvm.ClassFile.FieldType.int)) ∈ lw_all := lw_g (lw_at lw_m4 90 rfl) rfl
theorem q916 : (Jvm.Cond.methodLink "TalkingPlots" (40 : Nat) ({ cls := "TalkingPlots$Text", name := "tells", desc := "(ILTalkingPlots$Asked;)I" } : Jvm.MethodName)) ∈ lw_all := lw_g (lw_at lw_m4 91 rfl) rfl
theorem q928 : (Jvm.Cond.methodLink "TalkingPlots" (46 : Nat) ({ cls := "TalkingPlots", name := "held", desc := "(II)I" } : Jvm.MethodName)) ∈ lw_all := lw_g (lw_at lw_m4 103 rfl) rfl
theorem q929 : (Jvm.Cond.static ({ cls := "TalkingPlots", name := "held", desc := "(II)I" } : Jvm.MethodName)) ∈ lw_all := lw_g (lw_at lw_m4 104 rfl) rfl
theorem q930 : (Jvm.Cond.code ({ cls := "TalkingPlots", name := "held", desc := "(II)I" } : Jvm.MethodName) prog_1_method_4_code (2 : Nat) (Option.some Jvm.ClassFile.FieldType.int)) ∈ lw_all := lw_g (lw_at lw_m4 105 rfl) rfl
theorem q931 : (Jvm.Cond.methodLink "TalkingPlots" (1 : Nat) ({ cls := "java/lang/Math", name := "min", desc := "(II)I" } : Jvm.MethodName)) ∈ lw_all := lw_g (lw_at lw_m4 106 rfl) rfl
theorem q932 : (Jvm.Cond.methodLink "TalkingPlots" (7 : Nat) ({ cls := "java/lang/Math", name := "max", desc := "(II)I" } : Jvm.MethodName)) ∈ lw_all := lw_g (lw_at lw_m4 107 rfl) rfl
theorem q944 : (Jvm.Cond.instanceMethod ({ cls := "TalkingPlots", name := "tried", desc := "(II)I" } : Jvm.MethodName)) ∈ lw_all := lw_g (lw_at lw_m4 119 rfl) rfl
theorem q945 : (Jvm.Cond.selects "TalkingPlots" ({ cls := "TalkingPlots", name := "tried", desc := "(II)I" } : Jvm.MethodName) ({ cls := "TalkingPlots", name := "tried", desc := "(II)I" } : Jvm.MethodName)) ∈ lw_all := lw_g (lw_at lw_m4 120 rfl) rfl
theorem q946 : (Jvm.Cond.code ({ cls := "TalkingPlots", name := "tried", desc := "(II)I" } : Jvm.MethodName) prog_1_method_19_code (3 : Nat) (Option.some Jvm.ClassFile.FieldType.int)) ∈ lw_all := lw_g (lw_at lw_m4 121 rfl) rfl
theorem q947 : (Jvm.Cond.methodLink "TalkingPlots" (187 : Nat) ({ cls := "TalkingPlots", name := "isTold", desc := "(I)Z" } : Jvm.MethodName)) ∈ lw_all := lw_g (lw_at lw_m4 122 rfl) rfl
theorem q948 : (Jvm.Cond.methodLink "TalkingPlots" (193 : Nat) ({ cls := "TalkingPlots", name := "silentIn", desc := "(LTalkingPlots$Yard;)I" } : Jvm.MethodName)) ∈ lw_all := lw_g (lw_at lw_m4 123 rfl) rfl
theorem q949 : (Jvm.Cond.privateMethod ({ cls := "TalkingPlots", name := "silentIn", desc := "(LTalkingPlots$Yard;)I" } : Jvm.MethodName)) ∈ lw_tbl := lw_at lw_m4 124 rfl
theorem q950 : (Jvm.Cond.instanceMethod ({ cls := "TalkingPlots", name := "silentIn", desc := "(LTalkingPlots$Yard;)I" } : Jvm.MethodName)) ∈ lw_all := lw_g (lw_at lw_m4 125 rfl) rfl
theorem q951 : (Jvm.Cond.code ({ cls := "TalkingPlots", name := "silentIn", desc := "(LTalkingPlots$Yard;)I" } : Jvm.MethodName) prog_1_method_18_code (7 : Nat) (Option.some Jvm.ClassFile.FieldType.int)) ∈ lw_all := lw_g (lw_at lw_m4 126 rfl) rfl
theorem q952 : (Jvm.Cond.methodLink "TalkingPlots" (183 : Nat) ({ cls := "TalkingPlots$Person", name := "isLaid", desc := "()Z" } : Jvm.MethodName)) ∈ lw_all := lw_g (lw_at lw_m4 127 rfl) rfl
theorem q953 : (Jvm.Cond.methodLink "TalkingPlots" (197 : Nat) ({ cls := "java/lang/Integer", name := "bitCount", desc := "(I)I" } : Jvm.MethodName)) ∈ lw_all := lw_g (lw_at lw_m4 128 rfl) rfl
theorem q955 : (Jvm.Cond.instanceMethod ({ cls := "TalkingPlots", name := "personIs", desc := "(II)I" } : Jvm.MethodName)) ∈ lw_all := lw_g (lw_at lw_m4 130 rfl) rfl
theorem q956 : (Jvm.Cond.selects "TalkingPlots" ({ cls := "TalkingPlots", name := "personIs", desc := "(II)I" } : Jvm.MethodName) ({ cls := "TalkingPlots", name := "personIs", desc := "(II)I" } : Jvm.MethodName)) ∈ lw_all := lw_g (lw_at lw_m4 131 rfl) rfl
theorem q957 : (Jvm.Cond.code ({ cls := "TalkingPlots", name := "personIs", desc := "(II)I" } : Jvm.MethodName) prog_1_method_21_code (4 : Nat) (Option.some Jvm.ClassFile.FieldType.int)) ∈ lw_all := lw_g (lw_at lw_m4 132 rfl) rfl
theorem q958 : (Jvm.Cond.methodLink "TalkingPlots" (200 : Nat) ({ cls := "TalkingPlots$Yard", name := "beside", desc := "(I)I" } : Jvm.MethodName)) ∈ lw_all := lw_g (lw_at lw_m4 133 rfl) rfl
theorem q959 : (Jvm.Cond.methodLink "TalkingPlots" (203 : Nat) ({ cls := "TalkingPlots", name := "rank", desc := "(I)I" } : Jvm.MethodName)) ∈ lw_all := lw_g (lw_at lw_m4 134 rfl) rfl
theorem q960 : (Jvm.Cond.privateMethod ({ cls := "TalkingPlots", name := "rank", desc := "(I)I" } : Jvm.MethodName)) ∈ lw_tbl := lw_at lw_m4 135 rfl
theorem q961 : (Jvm.Cond.instanceMethod ({ cls := "TalkingPlots", name := "rank", desc := "(I)I" } : Jvm.MethodName)) ∈ lw_all := lw_g (lw_at lw_m4 136 rfl) rfl
theorem q962 : (Jvm.Cond.code ({ cls := "TalkingPlots", name := "rank", desc := "(I)I" } : Jvm.MethodName) prog_1_method_20_code (5 : Nat) (Option.some Jvm.ClassFile.FieldType.int)) ∈ lw_all := lw_g (lw_at lw_m4 137 rfl) rfl
theorem q964 : (Jvm.Cond.instanceMethod ({ cls := "TalkingPlots", name := "talk", desc := "(II)I" } : Jvm.MethodName)) ∈ lw_all := lw_g (lw_at lw_m4 139 rfl) rfl
theorem q965 : (Jvm.Cond.selects "TalkingPlots" ({ cls := "TalkingPlots", name := "talk", desc := "(II)I" } : Jvm.MethodName) ({ cls := "TalkingPlots", name := "talk", desc := "(II)I" } : Jvm.MethodName)) ∈ lw_all := lw_g (lw_at lw_m4 140 rfl) rfl
theorem q966 : (Jvm.Cond.code ({ cls := "TalkingPlots", name := "talk", desc := "(II)I" } : Jvm.MethodName) prog_1_method_22_code (3 : Nat) (Option.some Jvm.ClassFile.FieldType.int)) ∈ lw_all := lw_g (lw_at lw_m4 141 rfl) rfl
theorem q967 : (Jvm.Cond.methodLink "TalkingPlots" (206 : Nat) ({ cls := "TalkingPlots$Person", name := "talk", desc := "(LTalkingPlots$Person;)I" } : Jvm.MethodName)) ∈ lw_all := lw_g (lw_at lw_m4 142 rfl) rfl
theorem q977 : (Jvm.Cond.instanceMethod ({ cls := "TalkingPlots", name := "yardTalk", desc := "()I" } : Jvm.MethodName)) ∈ lw_all := lw_g (lw_at lw_m4 152 rfl) rfl
theorem q978 : (Jvm.Cond.selects "TalkingPlots" ({ cls := "TalkingPlots", name := "yardTalk", desc := "()I" } : Jvm.MethodName) ({ cls := "TalkingPlots", name := "yardTalk", desc := "()I" } : Jvm.MethodName)) ∈ lw_all := lw_g (lw_at lw_m4 153 rfl) rfl
theorem q979 : (Jvm.Cond.code ({ cls := "TalkingPlots", name := "yardTalk", desc := "()I" } : Jvm.MethodName) prog_1_method_23_code (1 : Nat) (Option.some Jvm.ClassFile.FieldType.int)) ∈ lw_all := lw_g (lw_at lw_m4 154 rfl) rfl
theorem q980 : (Jvm.Cond.methodLink "TalkingPlots" (210 : Nat) ({ cls := "TalkingPlots$Yard", name := "talk", desc := "()I" } : Jvm.MethodName)) ∈ lw_all := lw_g (lw_at lw_m4 155 rfl) rfl
theorem q990 : (Jvm.Cond.instanceMethod ({ cls := "TalkingPlots", name := "best", desc := "(II)I" } : Jvm.MethodName)) ∈ lw_all := lw_g (lw_at lw_m4 165 rfl) rfl
theorem q991 : (Jvm.Cond.selects "TalkingPlots" ({ cls := "TalkingPlots", name := "best", desc := "(II)I" } : Jvm.MethodName) ({ cls := "TalkingPlots", name := "best", desc := "(II)I" } : Jvm.MethodName)) ∈ lw_all := lw_g (lw_at lw_m4 166 rfl) rfl
theorem q992 : (Jvm.Cond.code ({ cls := "TalkingPlots", name := "best", desc := "(II)I" } : Jvm.MethodName) prog_1_method_25_code (6 : Nat) (Option.some Jvm.ClassFile.FieldType.int)) ∈ lw_all := lw_g (lw_at lw_m4 167 rfl) rfl
theorem q993 : (Jvm.Cond.methodLink "TalkingPlots" (218 : Nat) ({ cls := "TalkingPlots$Yard", name := "whoLiesAt", desc := "(I)I" } : Jvm.MethodName)) ∈ lw_all := lw_g (lw_at lw_m4 168 rfl) rfl
theorem q994 : (Jvm.Cond.methodLink "TalkingPlots" (221 : Nat) ({ cls := "TalkingPlots", name := "talkAt", desc := "(II)I" } : Jvm.MethodName)) ∈ lw_all := lw_g (lw_at lw_m4 169 rfl) rfl
theorem q995 : (Jvm.Cond.privateMethod ({ cls := "TalkingPlots", name := "talkAt", desc := "(II)I" } : Jvm.MethodName)) ∈ lw_tbl := lw_at lw_m4 170 rfl
theorem q996 : (Jvm.Cond.instanceMethod ({ cls := "TalkingPlots", name := "talkAt", desc := "(II)I" } : Jvm.MethodName)) ∈ lw_all := lw_g (lw_at lw_m4 171 rfl) rfl
theorem q997 : (Jvm.Cond.code ({ cls := "TalkingPlots", name := "talkAt", desc := "(II)I" } : Jvm.MethodName) prog_1_method_24_code (3 : Nat) (Option.some Jvm.ClassFile.FieldType.int)) ∈ lw_all := lw_g (lw_at lw_m4 172 rfl) rfl
theorem q998 : (Jvm.Cond.methodLink "TalkingPlots" (212 : Nat) ({ cls := "TalkingPlots$Yard", name := "around", desc := "(I)I" } : Jvm.MethodName)) ∈ lw_all := lw_g (lw_at lw_m4 173 rfl) rfl
theorem q999 : (Jvm.Cond.methodLink "TalkingPlots" (215 : Nat) ({ cls := "TalkingPlots$Yard", name := "talkWith", desc := "(II)I" } : Jvm.MethodName)) ∈ lw_all := lw_g (lw_at lw_m4 174 rfl) rfl
theorem q1001 : (Jvm.Cond.instanceMethod ({ cls := "TalkingPlots", name := "move", desc := "(I)I" } : Jvm.MethodName)) ∈ lw_all := lw_g (lw_at lw_m4 176 rfl) rfl
theorem q1002 : (Jvm.Cond.selects "TalkingPlots" ({ cls := "TalkingPlots", name := "move", desc := "(I)I" } : Jvm.MethodName) ({ cls := "TalkingPlots", name := "move", desc := "(I)I" } : Jvm.MethodName)) ∈ lw_all := lw_g (lw_at lw_m4 177 rfl) rfl
theorem q1003 : (Jvm.Cond.code ({ cls := "TalkingPlots", name := "move", desc := "(I)I" } : Jvm.MethodName) prog_1_method_27_code (8 : Nat) (Option.some Jvm.ClassFile.FieldType.int)) ∈ lw_all := lw_g (lw_at lw_m4 178 rfl) rfl
theorem q1004 : (Jvm.Cond.methodLink "TalkingPlots" (224 : Nat) ({ cls := "TalkingPlots", name := "told", desc := "(IIII)I" } : Jvm.MethodName)) ∈ lw_all := lw_g (lw_at lw_m4 179 rfl) rfl
theorem q1005 : (Jvm.Cond.static ({ cls := "TalkingPlots", name := "told", desc := "(IIII)I" } : Jvm.MethodName)) ∈ lw_all := lw_g (lw_at lw_m4 180 rfl) rfl
theorem q1006 : (Jvm.Cond.code ({ cls := "TalkingPlots", name := "told", desc := "(IIII)I" } : Jvm.MethodName) prog_1_method_26_code (4 : Nat) (Option.some Jvm.ClassFile.FieldType.int)) ∈ lw_all := lw_g (lw_at lw_m4 181 rfl) rfl
theorem q1008 : (Jvm.Cond.instanceMethod ({ cls := "TalkingPlots", name := "change", desc := "(I)I" } : Jvm.MethodName)) ∈ lw_all := lw_g (lw_at lw_m4 183 rfl) rfl
theorem q1009 : (Jvm.Cond.selects "TalkingPlots" ({ cls := "TalkingPlots", name := "change", desc := "(I)I" } : Jvm.MethodName) ({ cls := "TalkingPlots", name := "change", desc := "(I)I" } : Jvm.MethodName)) ∈ lw_all := lw_g (lw_at lw_m4 184 rfl) rfl
theorem q1010 : (Jvm.Cond.code ({ cls := "TalkingPlots", name := "change", desc := "(I)I" } : Jvm.MethodName) prog_1_method_29_code (11 : Nat) (Option.some Jvm.ClassFile.FieldType.int)) ∈ lw_all := lw_g (lw_at lw_m4 185 rfl) rfl
theorem q1011 : (Jvm.Cond.methodLink "TalkingPlots" (228 : Nat) ({ cls := "TalkingPlots", name := "swaps", desc := "(LTalkingPlots$Person;LTalkingPlots$Person;)V" } : Jvm.MethodName)) ∈ lw_all := lw_g (lw_at lw_m4 186 rfl) rfl
theorem q1012 : (Jvm.Cond.privateMethod ({ cls := "TalkingPlots", name := "swaps", desc := "(LTalkingPlots$Person;LTalkingPlots$Person;)V" } : Jvm.MethodName)) ∈ lw_tbl := lw_at lw_m4 187 rfl
theorem q1013 : (Jvm.Cond.instanceMethod ({ cls := "TalkingPlots", name := "swaps", desc := "(LTalkingPlots$Person;LTalkingPlots$Person;)V" } : Jvm.MethodName)) ∈ lw_all := lw_g (lw_at lw_m4 188 rfl) rfl
theorem q1014 : (Jvm.Cond.code ({ cls := "TalkingPlots", name := "swaps", desc := "(LTalkingPlots$Person;LTalkingPlots$Person;)V" } : Jvm.MethodName) prog_1_method_28_code (4 : Nat) (Option.none : Option Jvm.ClassFile.FieldType)) ∈ lw_all := lw_g (lw_at lw_m4 189 rfl) rfl
theorem q1016 : (Jvm.Cond.instanceMethod ({ cls := "TalkingPlots", name := "hold", desc := "(I)I" } : Jvm.MethodName)) ∈ lw_all := lw_g (lw_at lw_m4 191 rfl) rfl
theorem q1017 : (Jvm.Cond.selects "TalkingPlots" ({ cls := "TalkingPlots", name := "hold", desc := "(I)I" } : Jvm.MethodName) ({ cls := "TalkingPlots", name := "hold", desc := "(I)I" } : Jvm.MethodName)) ∈ lw_all := lw_g (lw_at lw_m4 192 rfl) rfl
theorem q1018 : (Jvm.Cond.code ({ cls := "TalkingPlots", name := "hold", desc := "(I)I" } : Jvm.MethodName) prog_1_method_32_code (5 : Nat) (Option.some Jvm.ClassFile.FieldType.int)) ∈ lw_all := lw_g (lw_at lw_m4 193 rfl) rfl
theorem q1019 : (Jvm.Cond.methodLink "TalkingPlots" (238 : Nat) ({ cls := "TalkingPlots", name := "holds", desc := "(I)Z" } : Jvm.MethodName)) ∈ lw_all := lw_g (lw_at lw_m4 194 rfl) rfl
theorem q1020 : (Jvm.Cond.privateMethod ({ cls := "TalkingPlots", name := "holds", desc := "(I)Z" } : Jvm.MethodName)) ∈ lw_tbl := lw_at lw_m4 195 rfl
theorem q1021 : (Jvm.Cond.instanceMethod ({ cls := "TalkingPlots", name := "holds", desc := "(I)Z" } : Jvm.MethodName)) ∈ lw_all := lw_g (lw_at lw_m4 196 rfl) rfl
theorem q1022 : (Jvm.Cond.code ({ cls := "TalkingPlots", name := "holds", desc := "(I)Z" } : Jvm.MethodName) prog_1_method_31_code (4 : Nat) (Option.some Jvm.ClassFile.FieldType.boolean)) ∈ lw_all := lw_g (lw_at lw_m4 197 rfl) rfl
theorem q1023 : (Jvm.Cond.methodLink "TalkingPlots" (232 : Nat) ({ cls := "TalkingPlots", name := "has", desc := "(II)Z" } : Jvm.MethodName)) ∈ lw_all := lw_g (lw_at lw_m4 198 rfl) rfl
theorem q1024 : (Jvm.Cond.methodLink "TalkingPlots" (235 : Nat) ({ cls := "TalkingPlots", name := "isWall", desc := "(I)Z" } : Jvm.MethodName)) ∈ lw_all := lw_g (lw_at lw_m4 199 rfl) rfl
theorem q1025 : (Jvm.Cond.static ({ cls := "TalkingPlots", name := "isWall", desc := "(I)Z" } : Jvm.MethodName)) ∈ lw_all := lw_g (lw_at lw_m4 200 rfl) rfl
theorem q1026 : (Jvm.Cond.code ({ cls := "TalkingPlots", name := "isWall", desc := "(I)Z" } : Jvm.MethodName) prog_1_method_30_code (1 : Nat) (Option.some Jvm.ClassFile.FieldType.boolean)) ∈ lw_all := lw_g (lw_at lw_m4 201 rfl) rfl
theorem q1028 : (Jvm.Cond.instanceMethod ({ cls := "TalkingPlots", name := "row", desc := "(II)I" } : Jvm.MethodName)) ∈ lw_all := lw_g (lw_at lw_m4 203 rfl) rfl
theorem q1029 : (Jvm.Cond.selects "TalkingPlots" ({ cls := "TalkingPlots", name := "row", desc := "(II)I" } : Jvm.MethodName) ({ cls := "TalkingPlots", name := "row", desc := "(II)I" } : Jvm.MethodName)) ∈ lw_all := lw_g (lw_at lw_m4 204 rfl) rfl
theorem q1030 : (Jvm.Cond.code ({ cls := "TalkingPlots", name := "row", desc := "(II)I" } : Jvm.MethodName) prog_1_method_37_code (4 : Nat) (Option.some Jvm.ClassFile.FieldType.int)) ∈ lw_all := lw_g (lw_at lw_m4 205 rfl) rfl
theorem q1031 : (Jvm.Cond.methodLink "TalkingPlots" (264 : Nat) ({ cls := "TalkingPlots$Yard", name := "told", desc := "()I" } : Jvm.MethodName)) ∈ lw_all := lw_g (lw_at lw_m4 206 rfl) rfl
theorem q1035 : (Jvm.Cond.constant "TalkingPlots" (266 : Nat) (-268435456 : Int32)) ∈ lw_all := lw_g (lw_at lw_m4 210 rfl) rfl
theorem q1036 : (Jvm.Cond.methodLink "TalkingPlots" (260 : Nat) ({ cls := "TalkingPlots", name := "stands", desc := "(IIIII)V" } : Jvm.MethodName)) ∈ lw_all := lw_g (lw_at lw_m4 211 rfl) rfl
theorem q1037 : (Jvm.Cond.privateMethod ({ cls := "TalkingPlots", name := "stands", desc := "(IIIII)V" } : Jvm.MethodName)) ∈ lw_tbl := lw_at lw_m4 212 rfl
theorem q1038 : (Jvm.Cond.instanceMethod ({ cls := "TalkingPlots", name := "stands", desc := "(IIIII)V" } : Jvm.MethodName)) ∈ lw_all := lw_g (lw_at lw_m4 213 rfl) rfl
theorem q1039 : (Jvm.Cond.code ({ cls := "TalkingPlots", name := "stands", desc := "(IIIII)V" } : Jvm.MethodName) prog_1_method_36_code (7 : Nat) (Option.none : Option Jvm.ClassFile.FieldType)) ∈ lw_all := lw_g (lw_at lw_m4 214 rfl) rfl
theorem q1040 : (Jvm.Cond.methodLink "TalkingPlots" (254 : Nat) ({ cls := "TalkingPlots", name := "allHold", desc := "(II)Z" } : Jvm.MethodName)) ∈ lw_all := lw_g (lw_at lw_m4 215 rfl) rfl
theorem q1041 : (Jvm.Cond.privateMethod ({ cls := "TalkingPlots", name := "allHold", desc := "(II)Z" } : Jvm.MethodName)) ∈ lw_tbl := lw_at lw_m4 216 rfl
theorem q1042 : (Jvm.Cond.instanceMethod ({ cls := "TalkingPlots", name := "allHold", desc := "(II)Z" } : Jvm.MethodName)) ∈ lw_all := lw_g (lw_at lw_m4 217 rfl) rfl
theorem q1043 : (Jvm.Cond.code ({ cls := "TalkingPlots", name := "allHold", desc := "(II)Z" } : Jvm.MethodName) prog_1_method_35_code (4 : Nat) (Option.some Jvm.ClassFile.FieldType.boolean)) ∈ lw_all := lw_g (lw_at lw_m4 218 rfl) rfl
theorem q1044 : (Jvm.Cond.methodLink "TalkingPlots" (248 : Nat) ({ cls := "TalkingPlots", name := "holdsIn", desc := "(II)Z" } : Jvm.MethodName)) ∈ lw_all := lw_g (lw_at lw_m4 219 rfl) rfl
theorem q1045 : (Jvm.Cond.privateMethod ({ cls := "TalkingPlots", name := "holdsIn", desc := "(II)Z" } : Jvm.MethodName)) ∈ lw_tbl := lw_at lw_m4 220 rfl
theorem q1046 : (Jvm.Cond.instanceMethod ({ cls := "TalkingPlots", name := "holdsIn", desc := "(II)Z" } : Jvm.MethodName)) ∈ lw_all := lw_g (lw_at lw_m4 221 rfl) rfl
theorem q1047 : (Jvm.Cond.code ({ cls := "TalkingPlots", name := "holdsIn", desc := "(II)Z" } : Jvm.MethodName) prog_1_method_34_code (5 : Nat) (Option.some Jvm.ClassFile.FieldType.boolean)) ∈ lw_all := lw_g (lw_at lw_m4 222 rfl) rfl
theorem q1048 : (Jvm.Cond.methodLink "TalkingPlots" (241 : Nat) ({ cls := "TalkingPlots", name := "placeIn", desc := "([II)I" } : Jvm.MethodName)) ∈ lw_all := lw_g (lw_at lw_m4 223 rfl) rfl
theorem q1049 : (Jvm.Cond.static ({ cls := "TalkingPlots", name := "placeIn", desc := "([II)I" } : Jvm.MethodName)) ∈ lw_all := lw_g (lw_at lw_m4 224 rfl) rfl
theorem q1050 : (Jvm.Cond.code ({ cls := "TalkingPlots", name := "placeIn", desc := "([II)I" } : Jvm.MethodName) prog_1_method_33_code (3 : Nat) (Option.some Jvm.ClassFile.FieldType.int)) ∈ lw_all := lw_g (lw_at lw_m4 225 rfl) rfl
theorem q1051 : (Jvm.Cond.methodLink "TalkingPlots" (245 : Nat) ({ cls := "java/lang/Math", name := "abs", desc := "(I)I" } : Jvm.MethodName)) ∈ lw_all := lw_g (lw_at lw_m4 226 rfl) rfl
theorem q1055 : (Jvm.Cond.instanceMethod ({ cls := "TalkingPlots", name := "couples", desc := "(II)I" } : Jvm.MethodName)) ∈ lw_all := lw_g (lw_at lw_m4 230 rfl) rfl
theorem q1056 : (Jvm.Cond.selects "TalkingPlots" ({ cls := "TalkingPlots", name := "couples", desc := "(II)I" } : Jvm.MethodName) ({ cls := "TalkingPlots", name := "couples", desc := "(II)I" } : Jvm.MethodName)) ∈ lw_all := lw_g (lw_at lw_m4 231 rfl) rfl
theorem q1057 : (Jvm.Cond.code ({ cls := "TalkingPlots", name := "couples", desc := "(II)I" } : Jvm.MethodName) prog_1_method_41_code (7 : Nat) (Option.some Jvm.ClassFile.FieldType.int)) ∈ lw_all := lw_g (lw_at lw_m4 232 rfl) rfl
theorem q1058 : (Jvm.Cond.methodLink "TalkingPlots" (273 : Nat) ({ cls := "TalkingPlots", name := "laysSaid", desc := "(I)V" } : Jvm.MethodName)) ∈ lw_all := lw_g (lw_at lw_m4 233 rfl) rfl
theorem q1059 : (Jvm.Cond.privateMethod ({ cls := "TalkingPlots", name := "laysSaid", desc := "(I)V" } : Jvm.MethodName)) ∈ lw_tbl := lw_at lw_m4 234 rfl
theorem q1060 : (Jvm.Cond.instanceMethod ({ cls := "TalkingPlots", name := "laysSaid", desc := "(I)V" } : Jvm.MethodName)) ∈ lw_all := lw_g (lw_at lw_m4 235 rfl) rfl
theorem q1061 : (Jvm.Cond.code ({ cls := "TalkingPlots", name := "laysSaid", desc := "(I)V" } : Jvm.MethodName) prog_1_method_39_code (5 : Nat) (Option.none : Option Jvm.ClassFile.FieldType)) ∈ lw_all := lw_g (lw_at lw_m4 236 rfl) rfl
theorem q1062 : (Jvm.Cond.methodLink "TalkingPlots" (267 : Nat) ({ cls := "TalkingPlots", name := "lowest", desc := "(I)I" } : Jvm.MethodName)) ∈ lw_all := lw_g (lw_at lw_m4 237 rfl) rfl
theorem q1063 : (Jvm.Cond.static ({ cls := "TalkingPlots", name := "lowest", desc := "(I)I" } : Jvm.MethodName)) ∈ lw_all := lw_g (lw_at lw_m4 238 rfl) rfl
theorem q1064 : (Jvm.Cond.code ({ cls := "TalkingPlots", name := "lowest", desc := "(I)I" } : Jvm.MethodName) prog_1_method_5_code (1 : Nat) (Option.some Jvm.ClassFile.FieldType.int)) ∈ lw_all := lw_g (lw_at lw_m4 239 rfl) rfl
theorem q1065 : (Jvm.Cond.methodLink "TalkingPlots" (10 : Nat) ({ cls := "java/lang/Integer", name := "numberOfTrailingZeros", desc := "(I)I" } : Jvm.MethodName)) ∈ lw_all := lw_g (lw_at lw_m5 0 rfl) rfl
theorem q1069 : (Jvm.Cond.methodLink "TalkingPlots" (270 : Nat) ({ cls := "TalkingPlots", name := "talkOf", desc := "(II)I" } : Jvm.MethodName)) ∈ lw_all := lw_g (lw_at lw_m5 4 rfl) rfl
theorem q1070 : (Jvm.Cond.privateMethod ({ cls := "TalkingPlots", name := "talkOf", desc := "(II)I" } : Jvm.MethodName)) ∈ lw_tbl := lw_at lw_m5 5 rfl
theorem q1071 : (Jvm.Cond.instanceMethod ({ cls := "TalkingPlots", name := "talkOf", desc := "(II)I" } : Jvm.MethodName)) ∈ lw_all := lw_g (lw_at lw_m5 6 rfl) rfl
theorem q1072 : (Jvm.Cond.code ({ cls := "TalkingPlots", name := "talkOf", desc := "(II)I" } : Jvm.MethodName) prog_1_method_38_code (3 : Nat) (Option.some Jvm.ClassFile.FieldType.int)) ∈ lw_all := lw_g (lw_at lw_m5 7 rfl) rfl
theorem q1073 : (Jvm.Cond.methodLink "TalkingPlots" (276 : Nat) ({ cls := "TalkingPlots", name := "withWhom", desc := "(II)I" } : Jvm.MethodName)) ∈ lw_all := lw_g (lw_at lw_m5 8 rfl) rfl
theorem q1074 : (Jvm.Cond.privateMethod ({ cls := "TalkingPlots", name := "withWhom", desc := "(II)I" } : Jvm.MethodName)) ∈ lw_tbl := lw_at lw_m5 9 rfl
theorem q1075 : (Jvm.Cond.instanceMethod ({ cls := "TalkingPlots", name := "withWhom", desc := "(II)I" } : Jvm.MethodName)) ∈ lw_all := lw_g (lw_at lw_m5 10 rfl) rfl
theorem q1076 : (Jvm.Cond.code ({ cls := "TalkingPlots", name := "withWhom", desc := "(II)I" } : Jvm.MethodName) prog_1_method_40_code (5 : Nat) (Option.some Jvm.ClassFile.FieldType.int)) ∈ lw_all := lw_g (lw_at lw_m5 11 rfl) rfl
theorem q1078 : (Jvm.Cond.instanceMethod ({ cls := "TalkingPlots", name := "heard", desc := "(II)I" } : Jvm.MethodName)) ∈ lw_all := lw_g (lw_at lw_m5 13 rfl) rfl
theorem q1079 : (Jvm.Cond.selects "TalkingPlots" ({ cls := "TalkingPlots", name := "heard", desc := "(II)I" } : Jvm.MethodName) ({ cls := "TalkingPlots", name := "heard", desc := "(II)I" } : Jvm.MethodName)) ∈ lw_all := lw_g (lw_at lw_m5 14 rfl) rfl
theorem q1080 : (Jvm.Cond.code ({ cls := "TalkingPlots", name := "heard", desc := "(II)I" } : Jvm.MethodName) prog_1_method_43_code (5 : Nat) (Option.some Jvm.ClassFile.FieldType.int)) ∈ lw_all := lw_g (lw_at lw_m5 15 rfl) rfl
theorem q1081 : (Jvm.Cond.methodLink "TalkingPlots" (279 : Nat) ({ cls := "TalkingPlots", name := "spread", desc := "(I)I" } : Jvm.MethodName)) ∈ lw_all := lw_g (lw_at lw_m5 16 rfl) rfl
theorem q1082 : (Jvm.Cond.privateMethod ({ cls := "TalkingPlots", name := "spread", desc := "(I)I" } : Jvm.MethodName)) ∈ lw_tbl := lw_at lw_m5 17 rfl
theorem q1083 : (Jvm.Cond.instanceMethod ({ cls := "TalkingPlots", name := "spread", desc := "(I)I" } : Jvm.MethodName)) ∈ lw_all := lw_g (lw_at lw_m5 18 rfl) rfl
theorem q1084 : (Jvm.Cond.code ({ cls := "TalkingPlots", name := "spread", desc := "(I)I" } : Jvm.MethodName) prog_1_method_42_code (4 : Nat) (Option.some Jvm.ClassFile.FieldType.int)) ∈ lw_all := lw_g (lw_at lw_m5 19 rfl) rfl
theorem q1086 : (Jvm.Cond.instanceMethod ({ cls := "TalkingPlots", name := "circles", desc := "(I)I" } : Jvm.MethodName)) ∈ lw_all := lw_g (lw_at lw_m5 21 rfl) rfl
theorem q1087 : (Jvm.Cond.selects "TalkingPlots" ({ cls := "TalkingPlots", name := "circles", desc := "(I)I" } : Jvm.MethodName) ({ cls := "TalkingPlots", name := "circles", desc := "(I)I" } : Jvm.MethodName)) ∈ lw_all := lw_g (lw_at lw_m5 22 rfl) rfl
theorem q1088 : (Jvm.Cond.code ({ cls := "TalkingPlots", name := "circles", desc := "(I)I" } : Jvm.MethodName) prog_1_method_45_code (4 : Nat) (Option.some Jvm.ClassFile.FieldType.int)) ∈ lw_all := lw_g (lw_at lw_m5 23 rfl) rfl
theorem q1089 : (Jvm.Cond.methodLink "TalkingPlots" (282 : Nat) ({ cls := "TalkingPlots", name := "circleOf", desc := "(I)I" } : Jvm.MethodName)) ∈ lw_all := lw_g (lw_at lw_m5 24 rfl) rfl
theorem q1090 : (Jvm.Cond.privateMethod ({ cls := "TalkingPlots", name := "circleOf", desc := "(I)I" } : Jvm.MethodName)) ∈ lw_tbl := lw_at lw_m5 25 rfl
theorem q1091 : (Jvm.Cond.instanceMethod ({ cls := "TalkingPlots", name := "circleOf", desc := "(I)I" } : Jvm.MethodName)) ∈ lw_all := lw_g (lw_at lw_m5 26 rfl) rfl
theorem q1092 : (Jvm.Cond.code ({ cls := "TalkingPlots", name := "circleOf", desc := "(I)I" } : Jvm.MethodName) prog_1_method_44_code (3 : Nat) (Option.some Jvm.ClassFile.FieldType.int)) ∈ lw_all := lw_g (lw_at lw_m5 27 rfl) rfl
theorem q1094 : (Jvm.Cond.instanceMethod ({ cls := "TalkingPlots", name := "from", desc := "(II)I" } : Jvm.MethodName)) ∈ lw_all := lw_g (lw_at lw_m5 29 rfl) rfl
theorem q1095 : (Jvm.Cond.selects "TalkingPlots" ({ cls := "TalkingPlots", name := "from", desc := "(II)I" } : Jvm.MethodName) ({ cls := "TalkingPlots", name := "from", desc := "(II)I" } : Jvm.MethodName)) ∈ lw_all := lw_g (lw_at lw_m5 30 rfl) rfl
theorem q1096 : (Jvm.Cond.code ({ cls := "TalkingPlots", name := "from", desc := "(II)I" } : Jvm.MethodName) prog_1_method_46_code (5 : Nat) (Option.some Jvm.ClassFile.FieldType.int)) ∈ lw_all := lw_g (lw_at lw_m5 31 rfl) rfl
theorem q1098 : (Jvm.Cond.instanceMethod ({ cls := "TalkingPlots", name := "thread", desc := "(II)I" } : Jvm.MethodName)) ∈ lw_all := lw_g (lw_at lw_m5 33 rfl) rfl
theorem q1099 : (Jvm.Cond.selects "TalkingPlots" ({ cls := "TalkingPlots", name := "thread", desc := "(II)I" } : Jvm.MethodName) ({ cls := "TalkingPlots", name := "thread", desc := "(II)I" } : Jvm.MethodName)) ∈ lw_all := lw_g (lw_at lw_m5 34 rfl) rfl
theorem q1100 : (Jvm.Cond.code ({ cls := "TalkingPlots", name := "thread", desc := "(II)I" } : Jvm.MethodName) prog_1_method_48_code (7 : Nat) (Option.some Jvm.ClassFile.FieldType.int)) ∈ lw_all := lw_g (lw_at lw_m5 35 rfl) rfl
theorem q1101 : (Jvm.Cond.methodLink "TalkingPlots" (285 : Nat) ({ cls := "TalkingPlots", name := "saying", desc := "(I)I" } : Jvm.MethodName)) ∈ lw_all := lw_g (lw_at lw_m5 36 rfl) rfl
theorem q1102 : (Jvm.Cond.privateMethod ({ cls := "TalkingPlots", name := "saying", desc := "(I)I" } : Jvm.MethodName)) ∈ lw_tbl := lw_at lw_m5 37 rfl
theorem q1103 : (Jvm.Cond.instanceMethod ({ cls := "TalkingPlots", name := "saying", desc := "(I)I" } : Jvm.MethodName)) ∈ lw_all := lw_g (lw_at lw_m5 38 rfl) rfl
theorem q1104 : (Jvm.Cond.code ({ cls := "TalkingPlots", name := "saying", desc := "(I)I" } : Jvm.MethodName) prog_1_method_47_code (2 : Nat) (Option.some Jvm.ClassFile.FieldType.int)) ∈ lw_all := lw_g (lw_at lw_m5 39 rfl) rfl
theorem q1106 : (Jvm.Cond.instanceMethod ({ cls := "TalkingPlots", name := "good", desc := "(II)I" } : Jvm.MethodName)) ∈ lw_all := lw_g (lw_at lw_m5 41 rfl) rfl
theorem q1107 : (Jvm.Cond.selects "TalkingPlots" ({ cls := "TalkingPlots", name := "good", desc := "(II)I" } : Jvm.MethodName) ({ cls := "TalkingPlots", name := "good", desc := "(II)I" } : Jvm.MethodName)) ∈ lw_all := lw_g (lw_at lw_m5 42 rfl) rfl
theorem q1108 : (Jvm.Cond.code ({ cls := "TalkingPlots", name := "good", desc := "(II)I" } : Jvm.MethodName) prog_1_method_50_code (9 : Nat) (Option.some Jvm.ClassFile.FieldType.int)) ∈ lw_all := lw_g (lw_at lw_m5 43 rfl) rfl
theorem q1109 : (Jvm.Cond.methodLink "TalkingPlots" (288 : Nat) ({ cls := "TalkingPlots", name := "talkOn", desc := "(I)I" } : Jvm.MethodName)) ∈ lw_all := lw_g (lw_at lw_m5 44 rfl) rfl
theorem q1110 : (Jvm.Cond.privateMethod ({ cls := "TalkingPlots", name := "talkOn", desc := "(I)I" } : Jvm.MethodName)) ∈ lw_tbl := lw_at lw_m5 45 rfl
theorem q1111 : (Jvm.Cond.instanceMethod ({ cls := "TalkingPlots", name := "talkOn", desc := "(I)I" } : Jvm.MethodName)) ∈ lw_all := lw_g (lw_at lw_m5 46 rfl) rfl
theorem q1112 : (Jvm.Cond.code ({ cls := "TalkingPlots", name := "talkOn", desc := "(I)I" } : Jvm.MethodName) prog_1_method_49_code (3 : Nat) (Option.some Jvm.ClassFile.FieldType.int)) ∈ lw_all := lw_g (lw_at lw_m5 47 rfl) rfl
theorem q1114 : (Jvm.Cond.instanceMethod ({ cls := "TalkingPlots", name := "silent", desc := "(I)I" } : Jvm.MethodName)) ∈ lw_all := lw_g (lw_at lw_m5 49 rfl) rfl
theorem q1115 : (Jvm.Cond.selects "TalkingPlots" ({ cls := "TalkingPlots", name := "silent", desc := "(I)I" } : Jvm.MethodName) ({ cls := "TalkingPlots", name := "silent", desc := "(I)I" } : Jvm.MethodName)) ∈ lw_all := lw_g (lw_at lw_m5 50 rfl) rfl
theorem q1116 : (Jvm.Cond.code ({ cls := "TalkingPlots", name := "silent", desc := "(I)I" } : Jvm.MethodName) prog_1_method_53_code (5 : Nat) (Option.some Jvm.ClassFile.FieldType.int)) ∈ lw_all := lw_g (lw_at lw_m5 51 rfl) rfl
theorem q1117 : (Jvm.Cond.methodLink "TalkingPlots" (295 : Nat) ({ cls := "TalkingPlots", name := "largestBlock", desc := "()I" } : Jvm.MethodName)) ∈ lw_all := lw_g (lw_at lw_m5 52 rfl) rfl
theorem q1118 : (Jvm.Cond.privateMethod ({ cls := "TalkingPlots", name := "largestBlock", desc := "()I" } : Jvm.MethodName)) ∈ lw_tbl := lw_at lw_m5 53 rfl
theorem q1119 : (Jvm.Cond.instanceMethod ({ cls := "TalkingPlots", name := "largestBlock", desc := "()I" } : Jvm.MethodName)) ∈ lw_all := lw_g (lw_at lw_m5 54 rfl) rfl
theorem q1120 : (Jvm.Cond.code ({ cls := "TalkingPlots", name := "largestBlock", desc := "()I" } : Jvm.MethodName) prog_1_method_52_code (5 : Nat) (Option.some Jvm.ClassFile.FieldType.int)) ∈ lw_all := lw_g (lw_at lw_m5 55 rfl) rfl
theorem q1121 : (Jvm.Cond.methodLink "TalkingPlots" (292 : Nat) ({ cls := "TalkingPlots", name := "laysSteps", desc := "(I)V" } : Jvm.MethodName)) ∈ lw_all := lw_g (lw_at lw_m5 56 rfl) rfl
theorem q1122 : (Jvm.Cond.privateMethod ({ cls := "TalkingPlots", name := "laysSteps", desc := "(I)V" } : Jvm.MethodName)) ∈ lw_tbl := lw_at lw_m5 57 rfl
theorem q1123 : (Jvm.Cond.instanceMethod ({ cls := "TalkingPlots", name := "laysSteps", desc := "(I)V" } : Jvm.MethodName)) ∈ lw_all := lw_g (lw_at lw_m5 58 rfl) rfl
theorem q1124 : (Jvm.Cond.code ({ cls := "TalkingPlots", name := "laysSteps", desc := "(I)V" } : Jvm.MethodName) prog_1_method_51_code (7 : Nat) (Option.none : Option Jvm.ClassFile.FieldType)) ∈ lw_all := lw_g (lw_at lw_m5 59 rfl) rfl
theorem q1125 : (Jvm.Cond.constant "TalkingPlots" (291 : Nat) (268435456 : Int32)) ∈ lw_all := lw_g (lw_at lw_m5 60 rfl) rfl
theorem q1127 : (Jvm.Cond.instanceMethod ({ cls := "TalkingPlots", name := "visit", desc := "(I)I" } : Jvm.MethodName)) ∈ lw_all := lw_g (lw_at lw_m5 62 rfl) rfl
theorem q1128 : (Jvm.Cond.selects "TalkingPlots" ({ cls := "TalkingPlots", name := "visit", desc := "(I)I" } : Jvm.MethodName) ({ cls := "TalkingPlots", name := "visit", desc := "(I)I" } : Jvm.MethodName)) ∈ lw_all := lw_g (lw_at lw_m5 63 rfl) rfl
theorem q1129 : (Jvm.Cond.code ({ cls := "TalkingPlots", name := "visit", desc := "(I)I" } : Jvm.MethodName) prog_1_method_55_code (2 : Nat) (Option.some Jvm.ClassFile.FieldType.int)) ∈ lw_all := lw_g (lw_at lw_m5 64 rfl) rfl
theorem q1130 : (Jvm.Cond.methodLink "TalkingPlots" (298 : Nat) ({ cls := "TalkingPlots", name := "stepsTo", desc := "(I)I" } : Jvm.MethodName)) ∈ lw_all := lw_g (lw_at lw_m5 65 rfl) rfl
theorem q1131 : (Jvm.Cond.privateMethod ({ cls := "TalkingPlots", name := "stepsTo", desc := "(I)I" } : Jvm.MethodName)) ∈ lw_tbl := lw_at lw_m5 66 rfl
theorem q1132 : (Jvm.Cond.instanceMethod ({ cls := "TalkingPlots", name := "stepsTo", desc := "(I)I" } : Jvm.MethodName)) ∈ lw_all := lw_g (lw_at lw_m5 67 rfl) rfl
theorem q1133 : (Jvm.Cond.code ({ cls := "TalkingPlots", name := "stepsTo", desc := "(I)I" } : Jvm.MethodName) prog_1_method_54_code (5 : Nat) (Option.some Jvm.ClassFile.FieldType.int)) ∈ lw_all := lw_g (lw_at lw_m5 68 rfl) rfl
theorem q1135 : (Jvm.Cond.instanceMethod ({ cls := "TalkingPlots", name := "visited", desc := "()I" } : Jvm.MethodName)) ∈ lw_all := lw_g (lw_at lw_m5 70 rfl) rfl
theorem q1136 : (Jvm.Cond.selects "TalkingPlots" ({ cls := "TalkingPlots", name := "visited", desc := "()I" } : Jvm.MethodName) ({ cls := "TalkingPlots", name := "visited", desc := "()I" } : Jvm.MethodName)) ∈ lw_all := lw_g (lw_at lw_m5 71 rfl) rfl
theorem q1137 : (Jvm.Cond.code ({ cls := "TalkingPlots", name := "visited", desc := "()I" } : Jvm.MethodName) prog_1_method_56_code (3 : Nat) (Option.some Jvm.ClassFile.FieldType.int)) ∈ lw_all := lw_g (lw_at lw_m5 72 rfl) rfl
theorem q1139 : (Jvm.Cond.instanceMethod ({ cls := "TalkingPlots", name := "alike", desc := "(II)I" } : Jvm.MethodName)) ∈ lw_all := lw_g (lw_at lw_m5 74 rfl) rfl
theorem q1140 : (Jvm.Cond.selects "TalkingPlots" ({ cls := "TalkingPlots", name := "alike", desc := "(II)I" } : Jvm.MethodName) ({ cls := "TalkingPlots", name := "alike", desc := "(II)I" } : Jvm.MethodName)) ∈ lw_all := lw_g (lw_at lw_m5 75 rfl) rfl
theorem q1141 : (Jvm.Cond.code ({ cls := "TalkingPlots", name := "alike", desc := "(II)I" } : Jvm.MethodName) prog_1_method_57_code (7 : Nat) (Option.some Jvm.ClassFile.FieldType.int)) ∈ lw_all := lw_g (lw_at lw_m5 76 rfl) rfl
theorem q1142 : (Jvm.Cond.methodLink "TalkingPlots" (301 : Nat) ({ cls := "TalkingPlots$Person", name := "unlike", desc := "(LTalkingPlots$Person;)I" } : Jvm.MethodName)) ∈ lw_all := lw_g (lw_at lw_m5 77 rfl) rfl
theorem q1144 : (Jvm.Cond.instanceMethod ({ cls := "TalkingPlots", name := "seed", desc := "(I)Z" } : Jvm.MethodName)) ∈ lw_all := lw_g (lw_at lw_m5 79 rfl) rfl
theorem q1145 : (Jvm.Cond.selects "TalkingPlots" ({ cls := "TalkingPlots", name := "seed", desc := "(I)Z" } : Jvm.MethodName) ({ cls := "TalkingPlots", name := "seed", desc := "(I)Z" } : Jvm.MethodName)) ∈ lw_all := lw_g (lw_at lw_m5 80 rfl) rfl
theorem q1146 : (Jvm.Cond.code ({ cls := "TalkingPlots", name := "seed", desc := "(I)Z" } : Jvm.MethodName) prog_1_method_58_code (2 : Nat) (Option.some Jvm.ClassFile.FieldType.boolean)) ∈ lw_all := lw_g (lw_at lw_m5 81 rfl) rfl
theorem q1148 : (Jvm.Cond.instanceMethod ({ cls := "TalkingPlots", name := "keep", desc := "()I" } : Jvm.MethodName)) ∈ lw_all := lw_g (lw_at lw_m5 83 rfl) rfl
theorem q1149 : (Jvm.Cond.selects "TalkingPlots" ({ cls := "TalkingPlots", name := "keep", desc := "()I" } : Jvm.MethodName) ({ cls := "TalkingPlots", name := "keep", desc := "()I" } : Jvm.MethodName)) ∈ lw_all := lw_g (lw_at lw_m5 84 rfl) rfl
theorem q1150 : (Jvm.Cond.code ({ cls := "TalkingPlots", name := "keep", desc := "()I" } : Jvm.MethodName) prog_1_method_59_code (1 : Nat) (Option.some Jvm.ClassFile.FieldType.int)) ∈ lw_all := lw_g (lw_at lw_m5 85 rfl) rfl
theorem q1152 : (Jvm.Cond.instanceMethod ({ cls := "TalkingPlots", name := "undo", desc := "()Z" } : Jvm.MethodName)) ∈ lw_all := lw_g (lw_at lw_m5 87 rfl) rfl
theorem q1153 : (Jvm.Cond.selects "TalkingPlots" ({ cls := "TalkingPlots", name := "undo", desc := "()Z" } : Jvm.MethodName) ({ cls := "TalkingPlots", name := "undo", desc := "()Z" } : Jvm.MethodName)) ∈ lw_all := lw_g (lw_at lw_m5 88 rfl) rfl
theorem q1154 : (Jvm.Cond.code ({ cls := "TalkingPlots", name := "undo", desc := "()Z" } : Jvm.MethodName) prog_1_method_60_code (1 : Nat) (Option.some Jvm.ClassFile.FieldType.boolean)) ∈ lw_all := lw_g (lw_at lw_m5 89 rfl) rfl
theorem q1156 : (Jvm.Cond.instanceMethod ({ cls := "TalkingPlots", name := "check", desc := "(I)I" } : Jvm.MethodName)) ∈ lw_all := lw_g (lw_at lw_m5 91 rfl) rfl
theorem q1157 : (Jvm.Cond.selects "TalkingPlots" ({ cls := "TalkingPlots", name := "check", desc := "(I)I" } : Jvm.MethodName) ({ cls := "TalkingPlots", name := "check", desc := "(I)I" } : Jvm.MethodName)) ∈ lw_all := lw_g (lw_at lw_m5 92 rfl) rfl
theorem q1158 : (Jvm.Cond.code ({ cls := "TalkingPlots", name := "check", desc := "(I)I" } : Jvm.MethodName) prog_1_method_61_code (3 : Nat) (Option.some Jvm.ClassFile.FieldType.int)) ∈ lw_all := lw_g (lw_at lw_m5 93 rfl) rfl
theorem q1160 : (Jvm.Cond.instanceMethod ({ cls := "TalkingPlots", name := "count", desc := "(I)I" } : Jvm.MethodName)) ∈ lw_all := lw_g (lw_at lw_m5 95 rfl) rfl
theorem q1161 : (Jvm.Cond.selects "TalkingPlots" ({ cls := "TalkingPlots", name := "count", desc := "(I)I" } : Jvm.MethodName) ({ cls := "TalkingPlots", name := "count", desc := "(I)I" } : Jvm.MethodName)) ∈ lw_all := lw_g (lw_at lw_m5 96 rfl) rfl
theorem q1162 : (Jvm.Cond.code ({ cls := "TalkingPlots", name := "count", desc := "(I)I" } : Jvm.MethodName) prog_1_method_63_code (2 : Nat) (Option.some Jvm.ClassFile.FieldType.int)) ∈ lw_all := lw_g (lw_at lw_m5 97 rfl) rfl
theorem q1163 : (Jvm.Cond.methodLink "TalkingPlots" (310 : Nat) ({ cls := "TalkingPlots$Yard", name := "laid", desc := "()I" } : Jvm.MethodName)) ∈ lw_all := lw_g (lw_at lw_m5 98 rfl) rfl
theorem q1167 : (Jvm.Cond.methodLink "TalkingPlots" (316 : Nat) ({ cls := "TalkingPlots", name := "moodOfAll", desc := "()I" } : Jvm.MethodName)) ∈ lw_all := lw_g (lw_at lw_m5 102 rfl) rfl
theorem q1168 : (Jvm.Cond.privateMethod ({ cls := "TalkingPlots", name := "moodOfAll", desc := "()I" } : Jvm.MethodName)) ∈ lw_tbl := lw_at lw_m5 103 rfl
theorem q1169 : (Jvm.Cond.instanceMethod ({ cls := "TalkingPlots", name := "moodOfAll", desc := "()I" } : Jvm.MethodName)) ∈ lw_all := lw_g (lw_at lw_m5 104 rfl) rfl
theorem q1170 : (Jvm.Cond.code ({ cls := "TalkingPlots", name := "moodOfAll", desc := "()I" } : Jvm.MethodName) prog_1_method_62_code (6 : Nat) (Option.some Jvm.ClassFile.FieldType.int)) ∈ lw_all := lw_g (lw_at lw_m5 105 rfl) rfl
theorem in_X0 : ∀ w ∈ wsX00, w ∈ lw_all := lw_in wsX00 [297, 299, 301, 303, 305, 307, 309, 311, 313, 315, 317, 319, 321, 323, 325, 327, 329, 331, 333, 335] (by decide +kernel) (by decide +kernel)
