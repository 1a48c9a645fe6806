/-! TalkingPlotsModel -/
set_option maxRecDepth 100000
def RX6 : String := "TalkingPlotsModel"
def TX6 : u_T := fun k => match k with
  | 0 => ("TalkingPlotsModel", "now", "[I", true)
  | 1 => ("TalkingPlotsModel", "aside", "[I", true)
  | 2 => ("TalkingPlotsModel", "kept", "[I", true)
  | 3 => ("TalkingPlotsModel", "tape", "[B", true)
  | 4 => ("TalkingPlotsModel", "taped", "I", false)
  | 5 => ("TalkingPlotsModel", "place0", "I", false)
  | 6 => ("TalkingPlotsModel", "length0", "I", false)
  | 7 => ("TalkingPlotsModel", "fault", "I", false)
  | 8 => ("TalkingPlotsModel", "number0", "I", false)
  | 9 => ("TalkingPlotsModel", "open", "I", false)
  | 10 => ("TalkingPlotsModel", "codeMany", "I", false)
  | 11 => ("TalkingPlotsModel", "waiting", "I", false)
  | 12 => ("TalkingPlotsModel", "saidMany", "I", false)
  | 13 => ("TalkingPlotsModel", "clauses", "I", false)
  | 14 => ("TalkingPlotsModel", "said", "[I", true)
  | 15 => ("TalkingPlotsModel", "waitsAt", "[I", true)
  | 16 => ("TalkingPlotsModel", "saidLetter", "[I", true)
  | 17 => ("TalkingPlotsModel", "saidFrom", "[I", true)
  | 18 => ("TalkingPlotsModel", "saidHalf", "[I", true)
  | 19 => ("TalkingPlotsModel", "saidTo", "[I", true)
  | 20 => ("TalkingPlotsModel", "codes", "[I", true)
  | 21 => ("TalkingPlotsModel", "clauseOf", "[I", true)
  | 22 => ("TalkingPlotsModel", "codeFrom", "[I", true)
  | 23 => ("TalkingPlotsModel", "codeHalf", "[I", true)
  | 24 => ("TalkingPlotsModel", "codeTo", "[I", true)
  | 25 => ("TalkingPlotsModel", "stack", "[I", true)
  | 26 => ("TalkingPlotsModel", "facts", "[I", true)
  | 27 => ("TalkingPlotsModel", "lines", "I", false)
  | 28 => ("TalkingPlotsModel", "wishWho", "[I", true)
  | 29 => ("TalkingPlotsModel", "wishHow", "[I", true)
  | 30 => ("TalkingPlotsModel", "wishOther", "[I", true)
  | 31 => ("TalkingPlotsModel", "newWho", "[I", true)
  | 32 => ("TalkingPlotsModel", "newHow", "[I", true)
  | 33 => ("TalkingPlotsModel", "newOther", "[I", true)
  | 34 => ("TalkingPlotsModel", "wishMany", "I", false)
  | 35 => ("TalkingPlotsModel", "newMany", "I", false)
  | 36 => ("TalkingPlotsModel", "talked", "I", false)
  | 37 => ("TalkingPlotsModel", "learnt", "I", false)
  | 38 => ("TalkingPlotsModel", "orderNow", "[I", true)
  | 39 => ("TalkingPlotsModel", "orderBest", "[I", true)
  | 40 => ("TalkingPlotsModel", "placeOf", "[I", true)
  | 41 => ("TalkingPlotsModel", "ordersGood", "I", false)
  | 42 => ("TalkingPlotsModel", "mostSaid", "I", false)
  | 43 => ("TalkingPlotsModel", "coupleOf", "[I", true)
  | 44 => ("TalkingPlotsModel", "mostFor", "[I", true)
  | 45 => ("TalkingPlotsModel", "coupleMany", "I", false)
  | 46 => ("TalkingPlotsModel", "longFrom", "[I", true)
  | 47 => ("TalkingPlotsModel", "stepsTo", "[I", true)
  | 48 => ("TalkingPlotsModel", "queue", "[I", true)
  | _ => ("TalkingPlotsModel", "isKept", "Z", false)
def tyX6 : Nat → FieldType := fun k => match k with
  | 0 => .array .int
  | 1 => .array .int
  | 2 => .array .int
  | 3 => .array .byte
  | 4 => .int
  | 5 => .int
  | 6 => .int
  | 7 => .int
  | 8 => .int
  | 9 => .int
  | 10 => .int
  | 11 => .int
  | 12 => .int
  | 13 => .int
  | 14 => .array .int
  | 15 => .array .int
  | 16 => .array .int
  | 17 => .array .int
  | 18 => .array .int
  | 19 => .array .int
  | 20 => .array .int
  | 21 => .array .int
  | 22 => .array .int
  | 23 => .array .int
  | 24 => .array .int
  | 25 => .array .int
  | 26 => .array .int
  | 27 => .int
  | 28 => .array .int
  | 29 => .array .int
  | 30 => .array .int
  | 31 => .array .int
  | 32 => .array .int
  | 33 => .array .int
  | 34 => .int
  | 35 => .int
  | 36 => .int
  | 37 => .int
  | 38 => .array .int
  | 39 => .array .int
  | 40 => .array .int
  | 41 => .int
  | 42 => .int
  | 43 => .array .int
  | 44 => .array .int
  | 45 => .int
  | 46 => .array .int
  | 47 => .array .int
  | 48 => .array .int
  | _ => .boolean
abbrev wsX60 : List Cond := u_ws RX6 TX6 50
set_option maxRecDepth 100000 in
theorem nmX6 : ∀ a, a < 50 → ∀ b, b < 50 → a ≠ b → (TX6 a).2.1 ≠ (TX6 b).2.1 := by decide +kernel
set_option maxRecDepth 100000 in
theorem tyX6_ok : ∀ k, k < 50 → parseFieldDescriptor (TX6 k).2.2.1 = some (tyX6 k) := by decide +kernel
abbrev cX6_init : ByteArray := prog_20_method_1_code
def yX6_init : MethodName := ⟨RX6, "<init>", "()V"⟩
def dkwX6_init_12 : List UInt8 := [16, 254, 79, 132, 1, 1, 167, 255, 236, 177]
abbrev dktX6_init_12 : List UInt8 := dkwX6_init_12 ++ []
def dkwX6_init_11 : List UInt8 := [180, 0, 7, 16, 65, 4, 79, 3, 60, 27, 16, 16, 162, 0, 20, 42, 180, 0, 7, 16, 48, 27, 96]
abbrev dktX6_init_11 : List UInt8 := dkwX6_init_11 ++ dktX6_init_12
def dkwX6_init_10 : List UInt8 := [16, 20, 188, 10, 181, 0, 95, 42, 16, 60, 188, 10, 181, 0, 98, 42, 16, 60, 188, 10, 181, 0, 101, 42]
abbrev dktX6_init_10 : List UInt8 := dkwX6_init_10 ++ dktX6_init_11
def dkwX6_init_9 : List UInt8 := [188, 10, 181, 0, 86, 42, 16, 10, 188, 10, 181, 0, 89, 42, 17, 4, 0, 188, 10, 181, 0, 92, 42]
abbrev dktX6_init_9 : List UInt8 := dkwX6_init_9 ++ dktX6_init_10
def dkwX6_init_8 : List UInt8 := [188, 10, 181, 0, 77, 42, 16, 7, 188, 10, 181, 0, 80, 42, 16, 7, 188, 10, 181, 0, 83, 42, 16, 16]
abbrev dktX6_init_8 : List UInt8 := dkwX6_init_8 ++ dktX6_init_9
def dkwX6_init_7 : List UInt8 := [188, 10, 181, 0, 68, 42, 16, 24, 188, 10, 181, 0, 71, 42, 16, 24, 188, 10, 181, 0, 74, 42, 16, 24]
abbrev dktX6_init_7 : List UInt8 := dkwX6_init_7 ++ dktX6_init_8
def dkwX6_init_6 : List UInt8 := [188, 10, 181, 0, 59, 42, 16, 24, 188, 10, 181, 0, 62, 42, 16, 24, 188, 10, 181, 0, 65, 42, 16, 24]
abbrev dktX6_init_6 : List UInt8 := dkwX6_init_6 ++ dktX6_init_7
def dkwX6_init_5 : List UInt8 := [181, 0, 50, 42, 16, 16, 188, 10, 181, 0, 53, 42, 17, 1, 4, 188, 10, 181, 0, 56, 42, 16, 8]
abbrev dktX6_init_5 : List UInt8 := dkwX6_init_5 ++ dktX6_init_6
def dkwX6_init_4 : List UInt8 := [181, 0, 41, 42, 16, 16, 188, 10, 181, 0, 44, 42, 16, 16, 188, 10, 181, 0, 47, 42, 16, 16, 188, 10]
abbrev dktX6_init_4 : List UInt8 := dkwX6_init_4 ++ dktX6_init_5
def dkwX6_init_3 : List UInt8 := [42, 16, 16, 188, 10, 181, 0, 35, 42, 16, 16, 188, 10, 181, 0, 38, 42, 17, 1, 4, 188, 10]
abbrev dktX6_init_3 : List UInt8 := dkwX6_init_3 ++ dktX6_init_4
def dkwX6_init_2 : List UInt8 := [17, 1, 4, 188, 10, 181, 0, 26, 42, 16, 16, 188, 10, 181, 0, 29, 42, 16, 16, 188, 10, 181, 0, 32]
abbrev dktX6_init_2 : List UInt8 := dkwX6_init_2 ++ dktX6_init_3
def dkwX6_init_1 : List UInt8 := [188, 10, 181, 0, 16, 42, 17, 1, 4, 188, 8, 181, 0, 19, 42, 17, 1, 4, 188, 10, 181, 0, 23, 42]
abbrev dktX6_init_1 : List UInt8 := dkwX6_init_1 ++ dktX6_init_2
def dkwX6_init_0 : List UInt8 := [42, 183, 0, 1, 42, 16, 66, 188, 10, 181, 0, 7, 42, 16, 66, 188, 10, 181, 0, 13, 42, 16, 66]
abbrev dktX6_init_0 : List UInt8 := dkwX6_init_0 ++ dktX6_init_1
theorem dksX6_init_0 : cX6_init.data.toList.drop 0 = dktX6_init_0 := by decide +kernel
theorem dksX6_init_1 : cX6_init.data.toList.drop 23 = dktX6_init_1 := dk_seg dksX6_init_0 23 rfl rfl
theorem dksX6_init_2 : cX6_init.data.toList.drop 47 = dktX6_init_2 := dk_seg dksX6_init_1 24 rfl rfl
theorem dksX6_init_3 : cX6_init.data.toList.drop 71 = dktX6_init_3 := dk_seg dksX6_init_2 24 rfl rfl
theorem dksX6_init_4 : cX6_init.data.toList.drop 93 = dktX6_init_4 := dk_seg dksX6_init_3 22 rfl rfl
theorem dksX6_init_5 : cX6_init.data.toList.drop 117 = dktX6_init_5 := dk_seg dksX6_init_4 24 rfl rfl
theorem dksX6_init_6 : cX6_init.data.toList.drop 140 = dktX6_init_6 := dk_seg dksX6_init_5 23 rfl rfl
theorem dksX6_init_7 : cX6_init.data.toList.drop 164 = dktX6_init_7 := dk_seg dksX6_init_6 24 rfl rfl
theorem dksX6_init_8 : cX6_init.data.toList.drop 188 = dktX6_init_8 := dk_seg dksX6_init_7 24 rfl rfl
theorem dksX6_init_9 : cX6_init.data.toList.drop 212 = dktX6_init_9 := dk_seg dksX6_init_8 24 rfl rfl
theorem dksX6_init_10 : cX6_init.data.toList.drop 235 = dktX6_init_10 := dk_seg dksX6_init_9 23 rfl rfl
theorem dksX6_init_11 : cX6_init.data.toList.drop 259 = dktX6_init_11 := dk_seg dksX6_init_10 24 rfl rfl
theorem dksX6_init_12 : cX6_init.data.toList.drop 282 = dktX6_init_12 := dk_seg dksX6_init_11 23 rfl rfl
theorem dX6_init_0 : decode cX6_init 0 = .ok (.aload_n 0, 1) := dk_42 (dk_at dksX6_init_0 0 rfl rfl)
theorem dX6_init_1 : decode cX6_init 1 = .ok (.invokespecial 1, 3) := dk_183 0 1 (dk_at dksX6_init_0 1 rfl rfl)
theorem dX6_init_4 : decode cX6_init 4 = .ok (.aload_n 0, 1) := dk_42 (dk_at dksX6_init_0 4 rfl rfl)
theorem dX6_init_5 : decode cX6_init 5 = .ok (.bipush 66, 2) := dk_16 66 (dk_at dksX6_init_0 5 rfl rfl)
theorem dX6_init_7 : decode cX6_init 7 = .ok (.newarray .int, 2) := dk_188_10 (dk_at dksX6_init_0 7 rfl rfl)
theorem dX6_init_9 : decode cX6_init 9 = .ok (.putfield 7, 3) := dk_181 0 7 (dk_at dksX6_init_0 9 rfl rfl)
theorem dX6_init_12 : decode cX6_init 12 = .ok (.aload_n 0, 1) := dk_42 (dk_at dksX6_init_0 12 rfl rfl)
theorem dX6_init_13 : decode cX6_init 13 = .ok (.bipush 66, 2) := dk_16 66 (dk_at dksX6_init_0 13 rfl rfl)
theorem dX6_init_15 : decode cX6_init 15 = .ok (.newarray .int, 2) := dk_188_10 (dk_at dksX6_init_0 15 rfl rfl)
theorem dX6_init_17 : decode cX6_init 17 = .ok (.putfield 13, 3) := dk_181 0 13 (dk_at dksX6_init_0 17 rfl rfl)
theorem dX6_init_20 : decode cX6_init 20 = .ok (.aload_n 0, 1) := dk_42 (dk_at dksX6_init_0 20 rfl rfl)
theorem dX6_init_21 : decode cX6_init 21 = .ok (.bipush 66, 2) := dk_16 66 (dk_at dksX6_init_0 21 rfl rfl)
theorem dX6_init_23 : decode cX6_init 23 = .ok (.newarray .int, 2) := dk_188_10 (dk_at dksX6_init_1 0 rfl rfl)
theorem dX6_init_25 : decode cX6_init 25 = .ok (.putfield 16, 3) := dk_181 0 16 (dk_at dksX6_init_1 2 rfl rfl)
theorem dX6_init_28 : decode cX6_init 28 = .ok (.aload_n 0, 1) := dk_42 (dk_at dksX6_init_1 5 rfl rfl)
theorem dX6_init_29 : decode cX6_init 29 = .ok (.sipush 260, 3) := dk_17 1 4 (dk_at dksX6_init_1 6 rfl rfl)
theorem dX6_init_32 : decode cX6_init 32 = .ok (.newarray .byte, 2) := dk_188_8 (dk_at dksX6_init_1 9 rfl rfl)
theorem dX6_init_34 : decode cX6_init 34 = .ok (.putfield 19, 3) := dk_181 0 19 (dk_at dksX6_init_1 11 rfl rfl)
theorem dX6_init_37 : decode cX6_init 37 = .ok (.aload_n 0, 1) := dk_42 (dk_at dksX6_init_1 14 rfl rfl)
theorem dX6_init_38 : decode cX6_init 38 = .ok (.sipush 260, 3) := dk_17 1 4 (dk_at dksX6_init_1 15 rfl rfl)
theorem dX6_init_41 : decode cX6_init 41 = .ok (.newarray .int, 2) := dk_188_10 (dk_at dksX6_init_1 18 rfl rfl)
theorem dX6_init_43 : decode cX6_init 43 = .ok (.putfield 23, 3) := dk_181 0 23 (dk_at dksX6_init_1 20 rfl rfl)
theorem dX6_init_46 : decode cX6_init 46 = .ok (.aload_n 0, 1) := dk_42 (dk_at dksX6_init_1 23 rfl rfl)
theorem dX6_init_47 : decode cX6_init 47 = .ok (.sipush 260, 3) := dk_17 1 4 (dk_at dksX6_init_2 0 rfl rfl)
theorem dX6_init_50 : decode cX6_init 50 = .ok (.newarray .int, 2) := dk_188_10 (dk_at dksX6_init_2 3 rfl rfl)
theorem dX6_init_52 : decode cX6_init 52 = .ok (.putfield 26, 3) := dk_181 0 26 (dk_at dksX6_init_2 5 rfl rfl)
theorem dX6_init_55 : decode cX6_init 55 = .ok (.aload_n 0, 1) := dk_42 (dk_at dksX6_init_2 8 rfl rfl)
theorem dX6_init_56 : decode cX6_init 56 = .ok (.bipush 16, 2) := dk_16 16 (dk_at dksX6_init_2 9 rfl rfl)
theorem dX6_init_58 : decode cX6_init 58 = .ok (.newarray .int, 2) := dk_188_10 (dk_at dksX6_init_2 11 rfl rfl)
theorem dX6_init_60 : decode cX6_init 60 = .ok (.putfield 29, 3) := dk_181 0 29 (dk_at dksX6_init_2 13 rfl rfl)
theorem dX6_init_63 : decode cX6_init 63 = .ok (.aload_n 0, 1) := dk_42 (dk_at dksX6_init_2 16 rfl rfl)
theorem dX6_init_64 : decode cX6_init 64 = .ok (.bipush 16, 2) := dk_16 16 (dk_at dksX6_init_2 17 rfl rfl)
theorem dX6_init_66 : decode cX6_init 66 = .ok (.newarray .int, 2) := dk_188_10 (dk_at dksX6_init_2 19 rfl rfl)
theorem dX6_init_68 : decode cX6_init 68 = .ok (.putfield 32, 3) := dk_181 0 32 (dk_at dksX6_init_2 21 rfl rfl)
theorem dX6_init_71 : decode cX6_init 71 = .ok (.aload_n 0, 1) := dk_42 (dk_at dksX6_init_3 0 rfl rfl)
theorem dX6_init_72 : decode cX6_init 72 = .ok (.bipush 16, 2) := dk_16 16 (dk_at dksX6_init_3 1 rfl rfl)
theorem dX6_init_74 : decode cX6_init 74 = .ok (.newarray .int, 2) := dk_188_10 (dk_at dksX6_init_3 3 rfl rfl)
theorem dX6_init_76 : decode cX6_init 76 = .ok (.putfield 35, 3) := dk_181 0 35 (dk_at dksX6_init_3 5 rfl rfl)
theorem dX6_init_79 : decode cX6_init 79 = .ok (.aload_n 0, 1) := dk_42 (dk_at dksX6_init_3 8 rfl rfl)
theorem dX6_init_80 : decode cX6_init 80 = .ok (.bipush 16, 2) := dk_16 16 (dk_at dksX6_init_3 9 rfl rfl)
theorem dX6_init_82 : decode cX6_init 82 = .ok (.newarray .int, 2) := dk_188_10 (dk_at dksX6_init_3 11 rfl rfl)
theorem dX6_init_84 : decode cX6_init 84 = .ok (.putfield 38, 3) := dk_181 0 38 (dk_at dksX6_init_3 13 rfl rfl)
theorem dX6_init_87 : decode cX6_init 87 = .ok (.aload_n 0, 1) := dk_42 (dk_at dksX6_init_3 16 rfl rfl)
theorem dX6_init_88 : decode cX6_init 88 = .ok (.sipush 260, 3) := dk_17 1 4 (dk_at dksX6_init_3 17 rfl rfl)
theorem dX6_init_91 : decode cX6_init 91 = .ok (.newarray .int, 2) := dk_188_10 (dk_at dksX6_init_3 20 rfl rfl)
theorem dX6_init_93 : decode cX6_init 93 = .ok (.putfield 41, 3) := dk_181 0 41 (dk_at dksX6_init_4 0 rfl rfl)
theorem dX6_init_96 : decode cX6_init 96 = .ok (.aload_n 0, 1) := dk_42 (dk_at dksX6_init_4 3 rfl rfl)
theorem dX6_init_97 : decode cX6_init 97 = .ok (.bipush 16, 2) := dk_16 16 (dk_at dksX6_init_4 4 rfl rfl)
theorem dX6_init_99 : decode cX6_init 99 = .ok (.newarray .int, 2) := dk_188_10 (dk_at dksX6_init_4 6 rfl rfl)
theorem dX6_init_101 : decode cX6_init 101 = .ok (.putfield 44, 3) := dk_181 0 44 (dk_at dksX6_init_4 8 rfl rfl)
theorem dX6_init_104 : decode cX6_init 104 = .ok (.aload_n 0, 1) := dk_42 (dk_at dksX6_init_4 11 rfl rfl)
theorem dX6_init_105 : decode cX6_init 105 = .ok (.bipush 16, 2) := dk_16 16 (dk_at dksX6_init_4 12 rfl rfl)
theorem dX6_init_107 : decode cX6_init 107 = .ok (.newarray .int, 2) := dk_188_10 (dk_at dksX6_init_4 14 rfl rfl)
theorem dX6_init_109 : decode cX6_init 109 = .ok (.putfield 47, 3) := dk_181 0 47 (dk_at dksX6_init_4 16 rfl rfl)
theorem dX6_init_112 : decode cX6_init 112 = .ok (.aload_n 0, 1) := dk_42 (dk_at dksX6_init_4 19 rfl rfl)
theorem dX6_init_113 : decode cX6_init 113 = .ok (.bipush 16, 2) := dk_16 16 (dk_at dksX6_init_4 20 rfl rfl)
theorem dX6_init_115 : decode cX6_init 115 = .ok (.newarray .int, 2) := dk_188_10 (dk_at dksX6_init_4 22 rfl rfl)
theorem dX6_init_117 : decode cX6_init 117 = .ok (.putfield 50, 3) := dk_181 0 50 (dk_at dksX6_init_5 0 rfl rfl)
theorem dX6_init_120 : decode cX6_init 120 = .ok (.aload_n 0, 1) := dk_42 (dk_at dksX6_init_5 3 rfl rfl)
theorem dX6_init_121 : decode cX6_init 121 = .ok (.bipush 16, 2) := dk_16 16 (dk_at dksX6_init_5 4 rfl rfl)
theorem dX6_init_123 : decode cX6_init 123 = .ok (.newarray .int, 2) := dk_188_10 (dk_at dksX6_init_5 6 rfl rfl)
theorem dX6_init_125 : decode cX6_init 125 = .ok (.putfield 53, 3) := dk_181 0 53 (dk_at dksX6_init_5 8 rfl rfl)
theorem dX6_init_128 : decode cX6_init 128 = .ok (.aload_n 0, 1) := dk_42 (dk_at dksX6_init_5 11 rfl rfl)
theorem dX6_init_129 : decode cX6_init 129 = .ok (.sipush 260, 3) := dk_17 1 4 (dk_at dksX6_init_5 12 rfl rfl)
theorem dX6_init_132 : decode cX6_init 132 = .ok (.newarray .int, 2) := dk_188_10 (dk_at dksX6_init_5 15 rfl rfl)
theorem dX6_init_134 : decode cX6_init 134 = .ok (.putfield 56, 3) := dk_181 0 56 (dk_at dksX6_init_5 17 rfl rfl)
theorem dX6_init_137 : decode cX6_init 137 = .ok (.aload_n 0, 1) := dk_42 (dk_at dksX6_init_5 20 rfl rfl)
theorem dX6_init_138 : decode cX6_init 138 = .ok (.bipush 8, 2) := dk_16 8 (dk_at dksX6_init_5 21 rfl rfl)
theorem dX6_init_140 : decode cX6_init 140 = .ok (.newarray .int, 2) := dk_188_10 (dk_at dksX6_init_6 0 rfl rfl)
theorem dX6_init_142 : decode cX6_init 142 = .ok (.putfield 59, 3) := dk_181 0 59 (dk_at dksX6_init_6 2 rfl rfl)
theorem dX6_init_145 : decode cX6_init 145 = .ok (.aload_n 0, 1) := dk_42 (dk_at dksX6_init_6 5 rfl rfl)
theorem dX6_init_146 : decode cX6_init 146 = .ok (.bipush 24, 2) := dk_16 24 (dk_at dksX6_init_6 6 rfl rfl)
theorem dX6_init_148 : decode cX6_init 148 = .ok (.newarray .int, 2) := dk_188_10 (dk_at dksX6_init_6 8 rfl rfl)
theorem dX6_init_150 : decode cX6_init 150 = .ok (.putfield 62, 3) := dk_181 0 62 (dk_at dksX6_init_6 10 rfl rfl)
theorem dX6_init_153 : decode cX6_init 153 = .ok (.aload_n 0, 1) := dk_42 (dk_at dksX6_init_6 13 rfl rfl)
theorem dX6_init_154 : decode cX6_init 154 = .ok (.bipush 24, 2) := dk_16 24 (dk_at dksX6_init_6 14 rfl rfl)
theorem dX6_init_156 : decode cX6_init 156 = .ok (.newarray .int, 2) := dk_188_10 (dk_at dksX6_init_6 16 rfl rfl)
theorem dX6_init_158 : decode cX6_init 158 = .ok (.putfield 65, 3) := dk_181 0 65 (dk_at dksX6_init_6 18 rfl rfl)
theorem dX6_init_161 : decode cX6_init 161 = .ok (.aload_n 0, 1) := dk_42 (dk_at dksX6_init_6 21 rfl rfl)
theorem dX6_init_162 : decode cX6_init 162 = .ok (.bipush 24, 2) := dk_16 24 (dk_at dksX6_init_6 22 rfl rfl)
theorem dX6_init_164 : decode cX6_init 164 = .ok (.newarray .int, 2) := dk_188_10 (dk_at dksX6_init_7 0 rfl rfl)
theorem dX6_init_166 : decode cX6_init 166 = .ok (.putfield 68, 3) := dk_181 0 68 (dk_at dksX6_init_7 2 rfl rfl)
theorem dX6_init_169 : decode cX6_init 169 = .ok (.aload_n 0, 1) := dk_42 (dk_at dksX6_init_7 5 rfl rfl)
theorem dX6_init_170 : decode cX6_init 170 = .ok (.bipush 24, 2) := dk_16 24 (dk_at dksX6_init_7 6 rfl rfl)
theorem dX6_init_172 : decode cX6_init 172 = .ok (.newarray .int, 2) := dk_188_10 (dk_at dksX6_init_7 8 rfl rfl)
theorem dX6_init_174 : decode cX6_init 174 = .ok (.putfield 71, 3) := dk_181 0 71 (dk_at dksX6_init_7 10 rfl rfl)
theorem dX6_init_177 : decode cX6_init 177 = .ok (.aload_n 0, 1) := dk_42 (dk_at dksX6_init_7 13 rfl rfl)
theorem dX6_init_178 : decode cX6_init 178 = .ok (.bipush 24, 2) := dk_16 24 (dk_at dksX6_init_7 14 rfl rfl)
theorem dX6_init_180 : decode cX6_init 180 = .ok (.newarray .int, 2) := dk_188_10 (dk_at dksX6_init_7 16 rfl rfl)
theorem dX6_init_182 : decode cX6_init 182 = .ok (.putfield 74, 3) := dk_181 0 74 (dk_at dksX6_init_7 18 rfl rfl)
theorem dX6_init_185 : decode cX6_init 185 = .ok (.aload_n 0, 1) := dk_42 (dk_at dksX6_init_7 21 rfl rfl)
theorem dX6_init_186 : decode cX6_init 186 = .ok (.bipush 24, 2) := dk_16 24 (dk_at dksX6_init_7 22 rfl rfl)
theorem dX6_init_188 : decode cX6_init 188 = .ok (.newarray .int, 2) := dk_188_10 (dk_at dksX6_init_8 0 rfl rfl)
theorem dX6_init_190 : decode cX6_init 190 = .ok (.putfield 77, 3) := dk_181 0 77 (dk_at dksX6_init_8 2 rfl rfl)
theorem dX6_init_193 : decode cX6_init 193 = .ok (.aload_n 0, 1) := dk_42 (dk_at dksX6_init_8 5 rfl rfl)
theorem dX6_init_194 : decode cX6_init 194 = .ok (.bipush 7, 2) := dk_16 7 (dk_at dksX6_init_8 6 rfl rfl)
theorem dX6_init_196 : decode cX6_init 196 = .ok (.newarray .int, 2) := dk_188_10 (dk_at dksX6_init_8 8 rfl rfl)
theorem dX6_init_198 : decode cX6_init 198 = .ok (.putfield 80, 3) := dk_181 0 80 (dk_at dksX6_init_8 10 rfl rfl)
theorem dX6_init_201 : decode cX6_init 201 = .ok (.aload_n 0, 1) := dk_42 (dk_at dksX6_init_8 13 rfl rfl)
theorem dX6_init_202 : decode cX6_init 202 = .ok (.bipush 7, 2) := dk_16 7 (dk_at dksX6_init_8 14 rfl rfl)
theorem dX6_init_204 : decode cX6_init 204 = .ok (.newarray .int, 2) := dk_188_10 (dk_at dksX6_init_8 16 rfl rfl)
theorem dX6_init_206 : decode cX6_init 206 = .ok (.putfield 83, 3) := dk_181 0 83 (dk_at dksX6_init_8 18 rfl rfl)
theorem dX6_init_209 : decode cX6_init 209 = .ok (.aload_n 0, 1) := dk_42 (dk_at dksX6_init_8 21 rfl rfl)
theorem dX6_init_210 : decode cX6_init 210 = .ok (.bipush 16, 2) := dk_16 16 (dk_at dksX6_init_8 22 rfl rfl)
theorem dX6_init_212 : decode cX6_init 212 = .ok (.newarray .int, 2) := dk_188_10 (dk_at dksX6_init_9 0 rfl rfl)
theorem dX6_init_214 : decode cX6_init 214 = .ok (.putfield 86, 3) := dk_181 0 86 (dk_at dksX6_init_9 2 rfl rfl)
theorem dX6_init_217 : decode cX6_init 217 = .ok (.aload_n 0, 1) := dk_42 (dk_at dksX6_init_9 5 rfl rfl)
theorem dX6_init_218 : decode cX6_init 218 = .ok (.bipush 10, 2) := dk_16 10 (dk_at dksX6_init_9 6 rfl rfl)
theorem dX6_init_220 : decode cX6_init 220 = .ok (.newarray .int, 2) := dk_188_10 (dk_at dksX6_init_9 8 rfl rfl)
theorem dX6_init_222 : decode cX6_init 222 = .ok (.putfield 89, 3) := dk_181 0 89 (dk_at dksX6_init_9 10 rfl rfl)
theorem dX6_init_225 : decode cX6_init 225 = .ok (.aload_n 0, 1) := dk_42 (dk_at dksX6_init_9 13 rfl rfl)
theorem dX6_init_226 : decode cX6_init 226 = .ok (.sipush 1024, 3) := dk_17 4 0 (dk_at dksX6_init_9 14 rfl rfl)
theorem dX6_init_229 : decode cX6_init 229 = .ok (.newarray .int, 2) := dk_188_10 (dk_at dksX6_init_9 17 rfl rfl)
theorem dX6_init_231 : decode cX6_init 231 = .ok (.putfield 92, 3) := dk_181 0 92 (dk_at dksX6_init_9 19 rfl rfl)
theorem dX6_init_234 : decode cX6_init 234 = .ok (.aload_n 0, 1) := dk_42 (dk_at dksX6_init_9 22 rfl rfl)
theorem dX6_init_235 : decode cX6_init 235 = .ok (.bipush 20, 2) := dk_16 20 (dk_at dksX6_init_10 0 rfl rfl)
theorem dX6_init_237 : decode cX6_init 237 = .ok (.newarray .int, 2) := dk_188_10 (dk_at dksX6_init_10 2 rfl rfl)
theorem dX6_init_239 : decode cX6_init 239 = .ok (.putfield 95, 3) := dk_181 0 95 (dk_at dksX6_init_10 4 rfl rfl)
theorem dX6_init_242 : decode cX6_init 242 = .ok (.aload_n 0, 1) := dk_42 (dk_at dksX6_init_10 7 rfl rfl)
theorem dX6_init_243 : decode cX6_init 243 = .ok (.bipush 60, 2) := dk_16 60 (dk_at dksX6_init_10 8 rfl rfl)
theorem dX6_init_245 : decode cX6_init 245 = .ok (.newarray .int, 2) := dk_188_10 (dk_at dksX6_init_10 10 rfl rfl)
theorem dX6_init_247 : decode cX6_init 247 = .ok (.putfield 98, 3) := dk_181 0 98 (dk_at dksX6_init_10 12 rfl rfl)
theorem dX6_init_250 : decode cX6_init 250 = .ok (.aload_n 0, 1) := dk_42 (dk_at dksX6_init_10 15 rfl rfl)
theorem dX6_init_251 : decode cX6_init 251 = .ok (.bipush 60, 2) := dk_16 60 (dk_at dksX6_init_10 16 rfl rfl)
theorem dX6_init_253 : decode cX6_init 253 = .ok (.newarray .int, 2) := dk_188_10 (dk_at dksX6_init_10 18 rfl rfl)
theorem dX6_init_255 : decode cX6_init 255 = .ok (.putfield 101, 3) := dk_181 0 101 (dk_at dksX6_init_10 20 rfl rfl)
theorem dX6_init_258 : decode cX6_init 258 = .ok (.aload_n 0, 1) := dk_42 (dk_at dksX6_init_10 23 rfl rfl)
theorem dX6_init_259 : decode cX6_init 259 = .ok (.getfield 7, 3) := dk_180 0 7 (dk_at dksX6_init_11 0 rfl rfl)
theorem dX6_init_262 : decode cX6_init 262 = .ok (.bipush 65, 2) := dk_16 65 (dk_at dksX6_init_11 3 rfl rfl)
theorem dX6_init_264 : decode cX6_init 264 = .ok (.iconst 1, 1) := dk_4 (dk_at dksX6_init_11 5 rfl rfl)
theorem dX6_init_265 : decode cX6_init 265 = .ok (.iastore, 1) := dk_79 (dk_at dksX6_init_11 6 rfl rfl)
theorem dX6_init_266 : decode cX6_init 266 = .ok (.iconst 0, 1) := dk_3 (dk_at dksX6_init_11 7 rfl rfl)
theorem dX6_init_267 : decode cX6_init 267 = .ok (.istore_n 1, 1) := dk_60 (dk_at dksX6_init_11 8 rfl rfl)
theorem dX6_init_268 : decode cX6_init 268 = .ok (.iload_n 1, 1) := dk_27 (dk_at dksX6_init_11 9 rfl rfl)
theorem dX6_init_269 : decode cX6_init 269 = .ok (.bipush 16, 2) := dk_16 16 (dk_at dksX6_init_11 10 rfl rfl)
theorem dX6_init_271 : decode cX6_init 271 = .ok (.if_icmp .ge 20, 3) := dk_162 0 20 (dk_at dksX6_init_11 12 rfl rfl)
theorem dX6_init_274 : decode cX6_init 274 = .ok (.aload_n 0, 1) := dk_42 (dk_at dksX6_init_11 15 rfl rfl)
theorem dX6_init_275 : decode cX6_init 275 = .ok (.getfield 7, 3) := dk_180 0 7 (dk_at dksX6_init_11 16 rfl rfl)
theorem dX6_init_278 : decode cX6_init 278 = .ok (.bipush 48, 2) := dk_16 48 (dk_at dksX6_init_11 19 rfl rfl)
theorem dX6_init_280 : decode cX6_init 280 = .ok (.iload_n 1, 1) := dk_27 (dk_at dksX6_init_11 21 rfl rfl)
theorem dX6_init_281 : decode cX6_init 281 = .ok (.iadd, 1) := dk_96 (dk_at dksX6_init_11 22 rfl rfl)
theorem dX6_init_282 : decode cX6_init 282 = .ok (.bipush (-2), 2) := dk_16 254 (dk_at dksX6_init_12 0 rfl rfl)
theorem dX6_init_284 : decode cX6_init 284 = .ok (.iastore, 1) := dk_79 (dk_at dksX6_init_12 2 rfl rfl)
theorem dX6_init_285 : decode cX6_init 285 = .ok (.iinc 1 1, 3) := dk_132 1 1 (dk_at dksX6_init_12 3 rfl rfl)
theorem dX6_init_288 : decode cX6_init 288 = .ok (.goto (-20), 3) := dk_167 255 236 (dk_at dksX6_init_12 6 rfl rfl)
theorem dX6_init_291 : decode cX6_init 291 = .ok (.return_, 1) := dk_177 (dk_at dksX6_init_12 9 rfl rfl)
abbrev cX6_person : ByteArray := prog_20_method_19_code
def yX6_person : MethodName := ⟨RX6, "person", "(III)Z"⟩
def dkwX6_person_3 : List UInt8 := [4, 172]
abbrev dktX6_person_3 : List UInt8 := dkwX6_person_3 ++ []
def dkwX6_person_2 : List UInt8 := [96, 28, 79, 42, 180, 0, 7, 16, 32, 27, 96, 29, 79, 42, 180, 0, 7, 16, 48, 27, 96, 16, 254, 79]
abbrev dktX6_person_2 : List UInt8 := dkwX6_person_2 ++ dktX6_person_3
def dkwX6_person_1 : List UInt8 := [184, 0, 104, 154, 0, 5, 3, 172, 42, 180, 0, 7, 3, 27, 96, 4, 79, 42, 180, 0, 7, 16, 16, 27]
abbrev dktX6_person_1 : List UInt8 := dkwX6_person_1 ++ dktX6_person_2
def dkwX6_person_0 : List UInt8 := [27, 3, 16, 15, 184, 0, 104, 153, 0, 23, 28, 3, 18, 133, 184, 0, 104, 153, 0, 13, 29, 3, 16, 99]
abbrev dktX6_person_0 : List UInt8 := dkwX6_person_0 ++ dktX6_person_1
theorem dksX6_person_0 : cX6_person.data.toList.drop 0 = dktX6_person_0 := by decide +kernel
theorem dksX6_person_1 : cX6_person.data.toList.drop 24 = dktX6_person_1 := dk_seg dksX6_person_0 24 rfl rfl
theorem dksX6_person_2 : cX6_person.data.toList.drop 48 = dktX6_person_2 := dk_seg dksX6_person_1 24 rfl rfl
theorem dksX6_person_3 : cX6_person.data.toList.drop 72 = dktX6_person_3 := dk_seg dksX6_person_2 24 rfl rfl
theorem dX6_person_0 : decode cX6_person 0 = .ok (.iload_n 1, 1) := dk_27 (dk_at dksX6_person_0 0 rfl rfl)
theorem dX6_person_1 : decode cX6_person 1 = .ok (.iconst 0, 1) := dk_3 (dk_at dksX6_person_0 1 rfl rfl)
theorem dX6_person_2 : decode cX6_person 2 = .ok (.bipush 15, 2) := dk_16 15 (dk_at dksX6_person_0 2 rfl rfl)
theorem dX6_person_4 : decode cX6_person 4 = .ok (.invokestatic 104, 3) := dk_184 0 104 (dk_at dksX6_person_0 4 rfl rfl)
theorem dX6_person_7 : decode cX6_person 7 = .ok (.ifCond .eq 23, 3) := dk_153 0 23 (dk_at dksX6_person_0 7 rfl rfl)
theorem dX6_person_10 : decode cX6_person 10 = .ok (.iload_n 2, 1) := dk_28 (dk_at dksX6_person_0 10 rfl rfl)
theorem dX6_person_11 : decode cX6_person 11 = .ok (.iconst 0, 1) := dk_3 (dk_at dksX6_person_0 11 rfl rfl)
theorem dX6_person_12 : decode cX6_person 12 = .ok (.ldc 133, 2) := dk_18 133 (dk_at dksX6_person_0 12 rfl rfl)
theorem dX6_person_14 : decode cX6_person 14 = .ok (.invokestatic 104, 3) := dk_184 0 104 (dk_at dksX6_person_0 14 rfl rfl)
theorem dX6_person_17 : decode cX6_person 17 = .ok (.ifCond .eq 13, 3) := dk_153 0 13 (dk_at dksX6_person_0 17 rfl rfl)
theorem dX6_person_20 : decode cX6_person 20 = .ok (.iload_n 3, 1) := dk_29 (dk_at dksX6_person_0 20 rfl rfl)
theorem dX6_person_21 : decode cX6_person 21 = .ok (.iconst 0, 1) := dk_3 (dk_at dksX6_person_0 21 rfl rfl)
theorem dX6_person_22 : decode cX6_person 22 = .ok (.bipush 99, 2) := dk_16 99 (dk_at dksX6_person_0 22 rfl rfl)
theorem dX6_person_24 : decode cX6_person 24 = .ok (.invokestatic 104, 3) := dk_184 0 104 (dk_at dksX6_person_1 0 rfl rfl)
theorem dX6_person_27 : decode cX6_person 27 = .ok (.ifCond .ne 5, 3) := dk_154 0 5 (dk_at dksX6_person_1 3 rfl rfl)
theorem dX6_person_30 : decode cX6_person 30 = .ok (.iconst 0, 1) := dk_3 (dk_at dksX6_person_1 6 rfl rfl)
theorem dX6_person_31 : decode cX6_person 31 = .ok (.ireturn, 1) := dk_172 (dk_at dksX6_person_1 7 rfl rfl)
theorem dX6_person_32 : decode cX6_person 32 = .ok (.aload_n 0, 1) := dk_42 (dk_at dksX6_person_1 8 rfl rfl)
theorem dX6_person_33 : decode cX6_person 33 = .ok (.getfield 7, 3) := dk_180 0 7 (dk_at dksX6_person_1 9 rfl rfl)
theorem dX6_person_36 : decode cX6_person 36 = .ok (.iconst 0, 1) := dk_3 (dk_at dksX6_person_1 12 rfl rfl)
theorem dX6_person_37 : decode cX6_person 37 = .ok (.iload_n 1, 1) := dk_27 (dk_at dksX6_person_1 13 rfl rfl)
theorem dX6_person_38 : decode cX6_person 38 = .ok (.iadd, 1) := dk_96 (dk_at dksX6_person_1 14 rfl rfl)
theorem dX6_person_39 : decode cX6_person 39 = .ok (.iconst 1, 1) := dk_4 (dk_at dksX6_person_1 15 rfl rfl)
theorem dX6_person_40 : decode cX6_person 40 = .ok (.iastore, 1) := dk_79 (dk_at dksX6_person_1 16 rfl rfl)
theorem dX6_person_41 : decode cX6_person 41 = .ok (.aload_n 0, 1) := dk_42 (dk_at dksX6_person_1 17 rfl rfl)
theorem dX6_person_42 : decode cX6_person 42 = .ok (.getfield 7, 3) := dk_180 0 7 (dk_at dksX6_person_1 18 rfl rfl)
theorem dX6_person_45 : decode cX6_person 45 = .ok (.bipush 16, 2) := dk_16 16 (dk_at dksX6_person_1 21 rfl rfl)
theorem dX6_person_47 : decode cX6_person 47 = .ok (.iload_n 1, 1) := dk_27 (dk_at dksX6_person_1 23 rfl rfl)
theorem dX6_person_48 : decode cX6_person 48 = .ok (.iadd, 1) := dk_96 (dk_at dksX6_person_2 0 rfl rfl)
theorem dX6_person_49 : decode cX6_person 49 = .ok (.iload_n 2, 1) := dk_28 (dk_at dksX6_person_2 1 rfl rfl)
theorem dX6_person_50 : decode cX6_person 50 = .ok (.iastore, 1) := dk_79 (dk_at dksX6_person_2 2 rfl rfl)
theorem dX6_person_51 : decode cX6_person 51 = .ok (.aload_n 0, 1) := dk_42 (dk_at dksX6_person_2 3 rfl rfl)
theorem dX6_person_52 : decode cX6_person 52 = .ok (.getfield 7, 3) := dk_180 0 7 (dk_at dksX6_person_2 4 rfl rfl)
theorem dX6_person_55 : decode cX6_person 55 = .ok (.bipush 32, 2) := dk_16 32 (dk_at dksX6_person_2 7 rfl rfl)
theorem dX6_person_57 : decode cX6_person 57 = .ok (.iload_n 1, 1) := dk_27 (dk_at dksX6_person_2 9 rfl rfl)
theorem dX6_person_58 : decode cX6_person 58 = .ok (.iadd, 1) := dk_96 (dk_at dksX6_person_2 10 rfl rfl)
theorem dX6_person_59 : decode cX6_person 59 = .ok (.iload_n 3, 1) := dk_29 (dk_at dksX6_person_2 11 rfl rfl)
theorem dX6_person_60 : decode cX6_person 60 = .ok (.iastore, 1) := dk_79 (dk_at dksX6_person_2 12 rfl rfl)
theorem dX6_person_61 : decode cX6_person 61 = .ok (.aload_n 0, 1) := dk_42 (dk_at dksX6_person_2 13 rfl rfl)
theorem dX6_person_62 : decode cX6_person 62 = .ok (.getfield 7, 3) := dk_180 0 7 (dk_at dksX6_person_2 14 rfl rfl)
theorem dX6_person_65 : decode cX6_person 65 = .ok (.bipush 48, 2) := dk_16 48 (dk_at dksX6_person_2 17 rfl rfl)
theorem dX6_person_67 : decode cX6_person 67 = .ok (.iload_n 1, 1) := dk_27 (dk_at dksX6_person_2 19 rfl rfl)
theorem dX6_person_68 : decode cX6_person 68 = .ok (.iadd, 1) := dk_96 (dk_at dksX6_person_2 20 rfl rfl)
theorem dX6_person_69 : decode cX6_person 69 = .ok (.bipush (-2), 2) := dk_16 254 (dk_at dksX6_person_2 21 rfl rfl)
theorem dX6_person_71 : decode cX6_person 71 = .ok (.iastore, 1) := dk_79 (dk_at dksX6_person_2 23 rfl rfl)
theorem dX6_person_72 : decode cX6_person 72 = .ok (.iconst 1, 1) := dk_4 (dk_at dksX6_person_3 0 rfl rfl)
theorem dX6_person_73 : decode cX6_person 73 = .ok (.ireturn, 1) := dk_172 (dk_at dksX6_person_3 1 rfl rfl)
abbrev cX6_in : ByteArray := prog_20_method_2_code
def yX6_in : MethodName := ⟨RX6, "in", "(III)Z"⟩
def dkwX6_in_0 : List UInt8 := [26, 27, 161, 0, 12, 26, 28, 163, 0, 7, 4, 167, 0, 4, 3, 172]
abbrev dktX6_in_0 : List UInt8 := dkwX6_in_0 ++ []
theorem dksX6_in_0 : cX6_in.data.toList.drop 0 = dktX6_in_0 := by decide +kernel
theorem dX6_in_0 : decode cX6_in 0 = .ok (.iload_n 0, 1) := dk_26 (dk_at dksX6_in_0 0 rfl rfl)
theorem dX6_in_1 : decode cX6_in 1 = .ok (.iload_n 1, 1) := dk_27 (dk_at dksX6_in_0 1 rfl rfl)
theorem dX6_in_2 : decode cX6_in 2 = .ok (.if_icmp .lt 12, 3) := dk_161 0 12 (dk_at dksX6_in_0 2 rfl rfl)
theorem dX6_in_5 : decode cX6_in 5 = .ok (.iload_n 0, 1) := dk_26 (dk_at dksX6_in_0 5 rfl rfl)
theorem dX6_in_6 : decode cX6_in 6 = .ok (.iload_n 2, 1) := dk_28 (dk_at dksX6_in_0 6 rfl rfl)
theorem dX6_in_7 : decode cX6_in 7 = .ok (.if_icmp .gt 7, 3) := dk_163 0 7 (dk_at dksX6_in_0 7 rfl rfl)
theorem dX6_in_10 : decode cX6_in 10 = .ok (.iconst 1, 1) := dk_4 (dk_at dksX6_in_0 10 rfl rfl)
theorem dX6_in_11 : decode cX6_in 11 = .ok (.goto 4, 3) := dk_167 0 4 (dk_at dksX6_in_0 11 rfl rfl)
theorem dX6_in_14 : decode cX6_in 14 = .ok (.iconst 0, 1) := dk_3 (dk_at dksX6_in_0 14 rfl rfl)
theorem dX6_in_15 : decode cX6_in 15 = .ok (.ireturn, 1) := dk_172 (dk_at dksX6_in_0 15 rfl rfl)
abbrev cX6_feed : ByteArray := prog_20_method_21_code
def yX6_feed : MethodName := ⟨RX6, "feed", "(IIIII)I"⟩
def dkwX6_feed_2 : List UInt8 := [172]
abbrev dktX6_feed_2 : List UInt8 := dkwX6_feed_2 ++ []
def dkwX6_feed_1 : List UInt8 := [182, 0, 138, 42, 29, 182, 0, 138, 42, 21, 4, 182, 0, 138, 42, 21, 5, 182, 0, 138, 42, 180, 0, 134]
abbrev dktX6_feed_1 : List UInt8 := dkwX6_feed_1 ++ dktX6_feed_2
def dkwX6_feed_0 : List UInt8 := [42, 180, 0, 134, 16, 20, 96, 17, 1, 4, 164, 0, 5, 2, 172, 42, 27, 182, 0, 138, 42, 28]
abbrev dktX6_feed_0 : List UInt8 := dkwX6_feed_0 ++ dktX6_feed_1
theorem dksX6_feed_0 : cX6_feed.data.toList.drop 0 = dktX6_feed_0 := by decide +kernel
theorem dksX6_feed_1 : cX6_feed.data.toList.drop 22 = dktX6_feed_1 := dk_seg dksX6_feed_0 22 rfl rfl
theorem dksX6_feed_2 : cX6_feed.data.toList.drop 46 = dktX6_feed_2 := dk_seg dksX6_feed_1 24 rfl rfl
theorem dX6_feed_0 : decode cX6_feed 0 = .ok (.aload_n 0, 1) := dk_42 (dk_at dksX6_feed_0 0 rfl rfl)
theorem dX6_feed_1 : decode cX6_feed 1 = .ok (.getfield 134, 3) := dk_180 0 134 (dk_at dksX6_feed_0 1 rfl rfl)
theorem dX6_feed_4 : decode cX6_feed 4 = .ok (.bipush 20, 2) := dk_16 20 (dk_at dksX6_feed_0 4 rfl rfl)
theorem dX6_feed_6 : decode cX6_feed 6 = .ok (.iadd, 1) := dk_96 (dk_at dksX6_feed_0 6 rfl rfl)
theorem dX6_feed_7 : decode cX6_feed 7 = .ok (.sipush 260, 3) := dk_17 1 4 (dk_at dksX6_feed_0 7 rfl rfl)
theorem dX6_feed_10 : decode cX6_feed 10 = .ok (.if_icmp .le 5, 3) := dk_164 0 5 (dk_at dksX6_feed_0 10 rfl rfl)
theorem dX6_feed_13 : decode cX6_feed 13 = .ok (.iconst (-1), 1) := dk_2 (dk_at dksX6_feed_0 13 rfl rfl)
theorem dX6_feed_14 : decode cX6_feed 14 = .ok (.ireturn, 1) := dk_172 (dk_at dksX6_feed_0 14 rfl rfl)
theorem dX6_feed_15 : decode cX6_feed 15 = .ok (.aload_n 0, 1) := dk_42 (dk_at dksX6_feed_0 15 rfl rfl)
theorem dX6_feed_16 : decode cX6_feed 16 = .ok (.iload_n 1, 1) := dk_27 (dk_at dksX6_feed_0 16 rfl rfl)
theorem dX6_feed_17 : decode cX6_feed 17 = .ok (.invokevirtual 138, 3) := dk_182 0 138 (dk_at dksX6_feed_0 17 rfl rfl)
theorem dX6_feed_20 : decode cX6_feed 20 = .ok (.aload_n 0, 1) := dk_42 (dk_at dksX6_feed_0 20 rfl rfl)
theorem dX6_feed_21 : decode cX6_feed 21 = .ok (.iload_n 2, 1) := dk_28 (dk_at dksX6_feed_0 21 rfl rfl)
theorem dX6_feed_22 : decode cX6_feed 22 = .ok (.invokevirtual 138, 3) := dk_182 0 138 (dk_at dksX6_feed_1 0 rfl rfl)
theorem dX6_feed_25 : decode cX6_feed 25 = .ok (.aload_n 0, 1) := dk_42 (dk_at dksX6_feed_1 3 rfl rfl)
theorem dX6_feed_26 : decode cX6_feed 26 = .ok (.iload_n 3, 1) := dk_29 (dk_at dksX6_feed_1 4 rfl rfl)
theorem dX6_feed_27 : decode cX6_feed 27 = .ok (.invokevirtual 138, 3) := dk_182 0 138 (dk_at dksX6_feed_1 5 rfl rfl)
theorem dX6_feed_30 : decode cX6_feed 30 = .ok (.aload_n 0, 1) := dk_42 (dk_at dksX6_feed_1 8 rfl rfl)
theorem dX6_feed_31 : decode cX6_feed 31 = .ok (.iload 4, 2) := dk_21 4 (dk_at dksX6_feed_1 9 rfl rfl)
theorem dX6_feed_33 : decode cX6_feed 33 = .ok (.invokevirtual 138, 3) := dk_182 0 138 (dk_at dksX6_feed_1 11 rfl rfl)
theorem dX6_feed_36 : decode cX6_feed 36 = .ok (.aload_n 0, 1) := dk_42 (dk_at dksX6_feed_1 14 rfl rfl)
theorem dX6_feed_37 : decode cX6_feed 37 = .ok (.iload 5, 2) := dk_21 5 (dk_at dksX6_feed_1 15 rfl rfl)
theorem dX6_feed_39 : decode cX6_feed 39 = .ok (.invokevirtual 138, 3) := dk_182 0 138 (dk_at dksX6_feed_1 17 rfl rfl)
theorem dX6_feed_42 : decode cX6_feed 42 = .ok (.aload_n 0, 1) := dk_42 (dk_at dksX6_feed_1 20 rfl rfl)
theorem dX6_feed_43 : decode cX6_feed 43 = .ok (.getfield 134, 3) := dk_180 0 134 (dk_at dksX6_feed_1 21 rfl rfl)
theorem dX6_feed_46 : decode cX6_feed 46 = .ok (.ireturn, 1) := dk_172 (dk_at dksX6_feed_2 0 rfl rfl)
abbrev cX6_types : ByteArray := prog_20_method_20_code
def yX6_types : MethodName := ⟨RX6, "types", "(I)V"⟩
def dkwX6_types_1 : List UInt8 := [180, 0, 134, 4, 96, 181, 0, 134, 132, 2, 255, 167, 255, 223, 177]
abbrev dktX6_types_1 : List UInt8 := dkwX6_types_1 ++ []
def dkwX6_types_0 : List UInt8 := [6, 61, 28, 155, 0, 35, 42, 180, 0, 19, 42, 180, 0, 134, 27, 16, 8, 28, 104, 122, 145, 84, 42, 42]
abbrev dktX6_types_0 : List UInt8 := dkwX6_types_0 ++ dktX6_types_1
theorem dksX6_types_0 : cX6_types.data.toList.drop 0 = dktX6_types_0 := by decide +kernel
theorem dksX6_types_1 : cX6_types.data.toList.drop 24 = dktX6_types_1 := dk_seg dksX6_types_0 24 rfl rfl
theorem dX6_types_0 : decode cX6_types 0 = .ok (.iconst 3, 1) := dk_6 (dk_at dksX6_types_0 0 rfl rfl)
theorem dX6_types_1 : decode cX6_types 1 = .ok (.istore_n 2, 1) := dk_61 (dk_at dksX6_types_0 1 rfl rfl)
theorem dX6_types_2 : decode cX6_types 2 = .ok (.iload_n 2, 1) := dk_28 (dk_at dksX6_types_0 2 rfl rfl)
theorem dX6_types_3 : decode cX6_types 3 = .ok (.ifCond .lt 35, 3) := dk_155 0 35 (dk_at dksX6_types_0 3 rfl rfl)
theorem dX6_types_6 : decode cX6_types 6 = .ok (.aload_n 0, 1) := dk_42 (dk_at dksX6_types_0 6 rfl rfl)
theorem dX6_types_7 : decode cX6_types 7 = .ok (.getfield 19, 3) := dk_180 0 19 (dk_at dksX6_types_0 7 rfl rfl)
theorem dX6_types_10 : decode cX6_types 10 = .ok (.aload_n 0, 1) := dk_42 (dk_at dksX6_types_0 10 rfl rfl)
theorem dX6_types_11 : decode cX6_types 11 = .ok (.getfield 134, 3) := dk_180 0 134 (dk_at dksX6_types_0 11 rfl rfl)
theorem dX6_types_14 : decode cX6_types 14 = .ok (.iload_n 1, 1) := dk_27 (dk_at dksX6_types_0 14 rfl rfl)
theorem dX6_types_15 : decode cX6_types 15 = .ok (.bipush 8, 2) := dk_16 8 (dk_at dksX6_types_0 15 rfl rfl)
theorem dX6_types_17 : decode cX6_types 17 = .ok (.iload_n 2, 1) := dk_28 (dk_at dksX6_types_0 17 rfl rfl)
theorem dX6_types_18 : decode cX6_types 18 = .ok (.imul, 1) := dk_104 (dk_at dksX6_types_0 18 rfl rfl)
theorem dX6_types_19 : decode cX6_types 19 = .ok (.ishr, 1) := dk_122 (dk_at dksX6_types_0 19 rfl rfl)
theorem dX6_types_20 : decode cX6_types 20 = .ok (.i2b, 1) := dk_145 (dk_at dksX6_types_0 20 rfl rfl)
theorem dX6_types_21 : decode cX6_types 21 = .ok (.bastore, 1) := dk_84 (dk_at dksX6_types_0 21 rfl rfl)
theorem dX6_types_22 : decode cX6_types 22 = .ok (.aload_n 0, 1) := dk_42 (dk_at dksX6_types_0 22 rfl rfl)
theorem dX6_types_23 : decode cX6_types 23 = .ok (.aload_n 0, 1) := dk_42 (dk_at dksX6_types_0 23 rfl rfl)
theorem dX6_types_24 : decode cX6_types 24 = .ok (.getfield 134, 3) := dk_180 0 134 (dk_at dksX6_types_1 0 rfl rfl)
theorem dX6_types_27 : decode cX6_types 27 = .ok (.iconst 1, 1) := dk_4 (dk_at dksX6_types_1 3 rfl rfl)
theorem dX6_types_28 : decode cX6_types 28 = .ok (.iadd, 1) := dk_96 (dk_at dksX6_types_1 4 rfl rfl)
theorem dX6_types_29 : decode cX6_types 29 = .ok (.putfield 134, 3) := dk_181 0 134 (dk_at dksX6_types_1 5 rfl rfl)
theorem dX6_types_32 : decode cX6_types 32 = .ok (.iinc 2 (-1), 3) := dk_132 2 255 (dk_at dksX6_types_1 8 rfl rfl)
theorem dX6_types_35 : decode cX6_types 35 = .ok (.goto (-33), 3) := dk_167 255 223 (dk_at dksX6_types_1 11 rfl rfl)
theorem dX6_types_38 : decode cX6_types 38 = .ok (.return_, 1) := dk_177 (dk_at dksX6_types_1 14 rfl rfl)
abbrev cX6_law : ByteArray := prog_20_method_44_code
def yX6_law : MethodName := ⟨RX6, "law", "(I)I"⟩
def dkwX6_law_7 : List UInt8 := [79, 42, 180, 0, 53, 29, 42, 180, 0, 38, 29, 46, 79, 132, 3, 1, 167, 255, 197, 42, 180, 0, 219, 172]
abbrev dktX6_law_7 : List UInt8 := dkwX6_law_7 ++ []
def dkwX6_law_6 : List UInt8 := [79, 42, 180, 0, 47, 29, 42, 180, 0, 32, 29, 46, 79, 42, 180, 0, 50, 29, 42, 180, 0, 35, 29, 46]
abbrev dktX6_law_6 : List UInt8 := dkwX6_law_6 ++ dktX6_law_7
def dkwX6_law_5 : List UInt8 := [167, 255, 233, 3, 62, 29, 42, 180, 0, 219, 162, 0, 57, 42, 180, 0, 44, 29, 42, 180, 0, 29, 29, 46]
abbrev dktX6_law_5 : List UInt8 := dkwX6_law_5 ++ dktX6_law_6
def dkwX6_law_4 : List UInt8 := [29, 42, 180, 0, 165, 162, 0, 21, 42, 180, 0, 41, 29, 42, 180, 0, 23, 29, 46, 79, 132, 3, 1]
abbrev dktX6_law_4 : List UInt8 := dkwX6_law_4 ++ dktX6_law_5
def dkwX6_law_3 : List UInt8 := [42, 3, 181, 0, 134, 28, 154, 0, 8, 42, 180, 0, 152, 172, 42, 42, 180, 0, 219, 181, 0, 234, 3, 62]
abbrev dktX6_law_3 : List UInt8 := dkwX6_law_3 ++ dktX6_law_4
def dkwX6_law_2 : List UInt8 := [16, 59, 182, 0, 231, 153, 0, 14, 42, 182, 0, 228, 153, 0, 7, 4, 167, 0, 4, 3, 61, 167, 255, 219]
abbrev dktX6_law_2 : List UInt8 := dkwX6_law_2 ++ dktX6_law_3
def dkwX6_law_1 : List UInt8 := [182, 0, 225, 42, 182, 0, 228, 61, 28, 153, 0, 39, 42, 180, 0, 142, 42, 180, 0, 145, 162, 0, 28, 42]
abbrev dktX6_law_1 : List UInt8 := dkwX6_law_1 ++ dktX6_law_2
def dkwX6_law_0 : List UInt8 := [27, 4, 17, 0, 240, 184, 0, 104, 153, 0, 11, 27, 42, 180, 0, 134, 164, 0, 5, 2, 172, 42, 27]
abbrev dktX6_law_0 : List UInt8 := dkwX6_law_0 ++ dktX6_law_1
theorem dksX6_law_0 : cX6_law.data.toList.drop 0 = dktX6_law_0 := by decide +kernel
theorem dksX6_law_1 : cX6_law.data.toList.drop 23 = dktX6_law_1 := dk_seg dksX6_law_0 23 rfl rfl
theorem dksX6_law_2 : cX6_law.data.toList.drop 47 = dktX6_law_2 := dk_seg dksX6_law_1 24 rfl rfl
theorem dksX6_law_3 : cX6_law.data.toList.drop 71 = dktX6_law_3 := dk_seg dksX6_law_2 24 rfl rfl
theorem dksX6_law_4 : cX6_law.data.toList.drop 95 = dktX6_law_4 := dk_seg dksX6_law_3 24 rfl rfl
theorem dksX6_law_5 : cX6_law.data.toList.drop 118 = dktX6_law_5 := dk_seg dksX6_law_4 23 rfl rfl
theorem dksX6_law_6 : cX6_law.data.toList.drop 142 = dktX6_law_6 := dk_seg dksX6_law_5 24 rfl rfl
theorem dksX6_law_7 : cX6_law.data.toList.drop 166 = dktX6_law_7 := dk_seg dksX6_law_6 24 rfl rfl
theorem dX6_law_0 : decode cX6_law 0 = .ok (.iload_n 1, 1) := dk_27 (dk_at dksX6_law_0 0 rfl rfl)
theorem dX6_law_1 : decode cX6_law 1 = .ok (.iconst 1, 1) := dk_4 (dk_at dksX6_law_0 1 rfl rfl)
theorem dX6_law_2 : decode cX6_law 2 = .ok (.sipush 240, 3) := dk_17 0 240 (dk_at dksX6_law_0 2 rfl rfl)
theorem dX6_law_5 : decode cX6_law 5 = .ok (.invokestatic 104, 3) := dk_184 0 104 (dk_at dksX6_law_0 5 rfl rfl)
theorem dX6_law_8 : decode cX6_law 8 = .ok (.ifCond .eq 11, 3) := dk_153 0 11 (dk_at dksX6_law_0 8 rfl rfl)
theorem dX6_law_11 : decode cX6_law 11 = .ok (.iload_n 1, 1) := dk_27 (dk_at dksX6_law_0 11 rfl rfl)
theorem dX6_law_12 : decode cX6_law 12 = .ok (.aload_n 0, 1) := dk_42 (dk_at dksX6_law_0 12 rfl rfl)
theorem dX6_law_13 : decode cX6_law 13 = .ok (.getfield 134, 3) := dk_180 0 134 (dk_at dksX6_law_0 13 rfl rfl)
theorem dX6_law_16 : decode cX6_law 16 = .ok (.if_icmp .le 5, 3) := dk_164 0 5 (dk_at dksX6_law_0 16 rfl rfl)
theorem dX6_law_19 : decode cX6_law 19 = .ok (.iconst (-1), 1) := dk_2 (dk_at dksX6_law_0 19 rfl rfl)
theorem dX6_law_20 : decode cX6_law 20 = .ok (.ireturn, 1) := dk_172 (dk_at dksX6_law_0 20 rfl rfl)
theorem dX6_law_21 : decode cX6_law 21 = .ok (.aload_n 0, 1) := dk_42 (dk_at dksX6_law_0 21 rfl rfl)
theorem dX6_law_22 : decode cX6_law 22 = .ok (.iload_n 1, 1) := dk_27 (dk_at dksX6_law_0 22 rfl rfl)
theorem dX6_law_23 : decode cX6_law 23 = .ok (.invokevirtual 225, 3) := dk_182 0 225 (dk_at dksX6_law_1 0 rfl rfl)
theorem dX6_law_26 : decode cX6_law 26 = .ok (.aload_n 0, 1) := dk_42 (dk_at dksX6_law_1 3 rfl rfl)
theorem dX6_law_27 : decode cX6_law 27 = .ok (.invokevirtual 228, 3) := dk_182 0 228 (dk_at dksX6_law_1 4 rfl rfl)
theorem dX6_law_30 : decode cX6_law 30 = .ok (.istore_n 2, 1) := dk_61 (dk_at dksX6_law_1 7 rfl rfl)
theorem dX6_law_31 : decode cX6_law 31 = .ok (.iload_n 2, 1) := dk_28 (dk_at dksX6_law_1 8 rfl rfl)
theorem dX6_law_32 : decode cX6_law 32 = .ok (.ifCond .eq 39, 3) := dk_153 0 39 (dk_at dksX6_law_1 9 rfl rfl)
theorem dX6_law_35 : decode cX6_law 35 = .ok (.aload_n 0, 1) := dk_42 (dk_at dksX6_law_1 12 rfl rfl)
theorem dX6_law_36 : decode cX6_law 36 = .ok (.getfield 142, 3) := dk_180 0 142 (dk_at dksX6_law_1 13 rfl rfl)
theorem dX6_law_39 : decode cX6_law 39 = .ok (.aload_n 0, 1) := dk_42 (dk_at dksX6_law_1 16 rfl rfl)
theorem dX6_law_40 : decode cX6_law 40 = .ok (.getfield 145, 3) := dk_180 0 145 (dk_at dksX6_law_1 17 rfl rfl)
theorem dX6_law_43 : decode cX6_law 43 = .ok (.if_icmp .ge 28, 3) := dk_162 0 28 (dk_at dksX6_law_1 20 rfl rfl)
theorem dX6_law_46 : decode cX6_law 46 = .ok (.aload_n 0, 1) := dk_42 (dk_at dksX6_law_1 23 rfl rfl)
theorem dX6_law_47 : decode cX6_law 47 = .ok (.bipush 59, 2) := dk_16 59 (dk_at dksX6_law_2 0 rfl rfl)
theorem dX6_law_49 : decode cX6_law 49 = .ok (.invokevirtual 231, 3) := dk_182 0 231 (dk_at dksX6_law_2 2 rfl rfl)
theorem dX6_law_52 : decode cX6_law 52 = .ok (.ifCond .eq 14, 3) := dk_153 0 14 (dk_at dksX6_law_2 5 rfl rfl)
theorem dX6_law_55 : decode cX6_law 55 = .ok (.aload_n 0, 1) := dk_42 (dk_at dksX6_law_2 8 rfl rfl)
theorem dX6_law_56 : decode cX6_law 56 = .ok (.invokevirtual 228, 3) := dk_182 0 228 (dk_at dksX6_law_2 9 rfl rfl)
theorem dX6_law_59 : decode cX6_law 59 = .ok (.ifCond .eq 7, 3) := dk_153 0 7 (dk_at dksX6_law_2 12 rfl rfl)
theorem dX6_law_62 : decode cX6_law 62 = .ok (.iconst 1, 1) := dk_4 (dk_at dksX6_law_2 15 rfl rfl)
theorem dX6_law_63 : decode cX6_law 63 = .ok (.goto 4, 3) := dk_167 0 4 (dk_at dksX6_law_2 16 rfl rfl)
theorem dX6_law_66 : decode cX6_law 66 = .ok (.iconst 0, 1) := dk_3 (dk_at dksX6_law_2 19 rfl rfl)
theorem dX6_law_67 : decode cX6_law 67 = .ok (.istore_n 2, 1) := dk_61 (dk_at dksX6_law_2 20 rfl rfl)
theorem dX6_law_68 : decode cX6_law 68 = .ok (.goto (-37), 3) := dk_167 255 219 (dk_at dksX6_law_2 21 rfl rfl)
theorem dX6_law_71 : decode cX6_law 71 = .ok (.aload_n 0, 1) := dk_42 (dk_at dksX6_law_3 0 rfl rfl)
theorem dX6_law_72 : decode cX6_law 72 = .ok (.iconst 0, 1) := dk_3 (dk_at dksX6_law_3 1 rfl rfl)
theorem dX6_law_73 : decode cX6_law 73 = .ok (.putfield 134, 3) := dk_181 0 134 (dk_at dksX6_law_3 2 rfl rfl)
theorem dX6_law_76 : decode cX6_law 76 = .ok (.iload_n 2, 1) := dk_28 (dk_at dksX6_law_3 5 rfl rfl)
theorem dX6_law_77 : decode cX6_law 77 = .ok (.ifCond .ne 8, 3) := dk_154 0 8 (dk_at dksX6_law_3 6 rfl rfl)
theorem dX6_law_80 : decode cX6_law 80 = .ok (.aload_n 0, 1) := dk_42 (dk_at dksX6_law_3 9 rfl rfl)
theorem dX6_law_81 : decode cX6_law 81 = .ok (.getfield 152, 3) := dk_180 0 152 (dk_at dksX6_law_3 10 rfl rfl)
theorem dX6_law_84 : decode cX6_law 84 = .ok (.ireturn, 1) := dk_172 (dk_at dksX6_law_3 13 rfl rfl)
theorem dX6_law_85 : decode cX6_law 85 = .ok (.aload_n 0, 1) := dk_42 (dk_at dksX6_law_3 14 rfl rfl)
theorem dX6_law_86 : decode cX6_law 86 = .ok (.aload_n 0, 1) := dk_42 (dk_at dksX6_law_3 15 rfl rfl)
theorem dX6_law_87 : decode cX6_law 87 = .ok (.getfield 219, 3) := dk_180 0 219 (dk_at dksX6_law_3 16 rfl rfl)
theorem dX6_law_90 : decode cX6_law 90 = .ok (.putfield 234, 3) := dk_181 0 234 (dk_at dksX6_law_3 19 rfl rfl)
theorem dX6_law_93 : decode cX6_law 93 = .ok (.iconst 0, 1) := dk_3 (dk_at dksX6_law_3 22 rfl rfl)
theorem dX6_law_94 : decode cX6_law 94 = .ok (.istore_n 3, 1) := dk_62 (dk_at dksX6_law_3 23 rfl rfl)
theorem dX6_law_95 : decode cX6_law 95 = .ok (.iload_n 3, 1) := dk_29 (dk_at dksX6_law_4 0 rfl rfl)
theorem dX6_law_96 : decode cX6_law 96 = .ok (.aload_n 0, 1) := dk_42 (dk_at dksX6_law_4 1 rfl rfl)
theorem dX6_law_97 : decode cX6_law 97 = .ok (.getfield 165, 3) := dk_180 0 165 (dk_at dksX6_law_4 2 rfl rfl)
theorem dX6_law_100 : decode cX6_law 100 = .ok (.if_icmp .ge 21, 3) := dk_162 0 21 (dk_at dksX6_law_4 5 rfl rfl)
theorem dX6_law_103 : decode cX6_law 103 = .ok (.aload_n 0, 1) := dk_42 (dk_at dksX6_law_4 8 rfl rfl)
theorem dX6_law_104 : decode cX6_law 104 = .ok (.getfield 41, 3) := dk_180 0 41 (dk_at dksX6_law_4 9 rfl rfl)
theorem dX6_law_107 : decode cX6_law 107 = .ok (.iload_n 3, 1) := dk_29 (dk_at dksX6_law_4 12 rfl rfl)
theorem dX6_law_108 : decode cX6_law 108 = .ok (.aload_n 0, 1) := dk_42 (dk_at dksX6_law_4 13 rfl rfl)
theorem dX6_law_109 : decode cX6_law 109 = .ok (.getfield 23, 3) := dk_180 0 23 (dk_at dksX6_law_4 14 rfl rfl)
theorem dX6_law_112 : decode cX6_law 112 = .ok (.iload_n 3, 1) := dk_29 (dk_at dksX6_law_4 17 rfl rfl)
theorem dX6_law_113 : decode cX6_law 113 = .ok (.iaload, 1) := dk_46 (dk_at dksX6_law_4 18 rfl rfl)
theorem dX6_law_114 : decode cX6_law 114 = .ok (.iastore, 1) := dk_79 (dk_at dksX6_law_4 19 rfl rfl)
theorem dX6_law_115 : decode cX6_law 115 = .ok (.iinc 3 1, 3) := dk_132 3 1 (dk_at dksX6_law_4 20 rfl rfl)
theorem dX6_law_118 : decode cX6_law 118 = .ok (.goto (-23), 3) := dk_167 255 233 (dk_at dksX6_law_5 0 rfl rfl)
theorem dX6_law_121 : decode cX6_law 121 = .ok (.iconst 0, 1) := dk_3 (dk_at dksX6_law_5 3 rfl rfl)
theorem dX6_law_122 : decode cX6_law 122 = .ok (.istore_n 3, 1) := dk_62 (dk_at dksX6_law_5 4 rfl rfl)
theorem dX6_law_123 : decode cX6_law 123 = .ok (.iload_n 3, 1) := dk_29 (dk_at dksX6_law_5 5 rfl rfl)
theorem dX6_law_124 : decode cX6_law 124 = .ok (.aload_n 0, 1) := dk_42 (dk_at dksX6_law_5 6 rfl rfl)
theorem dX6_law_125 : decode cX6_law 125 = .ok (.getfield 219, 3) := dk_180 0 219 (dk_at dksX6_law_5 7 rfl rfl)
theorem dX6_law_128 : decode cX6_law 128 = .ok (.if_icmp .ge 57, 3) := dk_162 0 57 (dk_at dksX6_law_5 10 rfl rfl)
theorem dX6_law_131 : decode cX6_law 131 = .ok (.aload_n 0, 1) := dk_42 (dk_at dksX6_law_5 13 rfl rfl)
theorem dX6_law_132 : decode cX6_law 132 = .ok (.getfield 44, 3) := dk_180 0 44 (dk_at dksX6_law_5 14 rfl rfl)
theorem dX6_law_135 : decode cX6_law 135 = .ok (.iload_n 3, 1) := dk_29 (dk_at dksX6_law_5 17 rfl rfl)
theorem dX6_law_136 : decode cX6_law 136 = .ok (.aload_n 0, 1) := dk_42 (dk_at dksX6_law_5 18 rfl rfl)
theorem dX6_law_137 : decode cX6_law 137 = .ok (.getfield 29, 3) := dk_180 0 29 (dk_at dksX6_law_5 19 rfl rfl)
theorem dX6_law_140 : decode cX6_law 140 = .ok (.iload_n 3, 1) := dk_29 (dk_at dksX6_law_5 22 rfl rfl)
theorem dX6_law_141 : decode cX6_law 141 = .ok (.iaload, 1) := dk_46 (dk_at dksX6_law_5 23 rfl rfl)
theorem dX6_law_142 : decode cX6_law 142 = .ok (.iastore, 1) := dk_79 (dk_at dksX6_law_6 0 rfl rfl)
theorem dX6_law_143 : decode cX6_law 143 = .ok (.aload_n 0, 1) := dk_42 (dk_at dksX6_law_6 1 rfl rfl)
theorem dX6_law_144 : decode cX6_law 144 = .ok (.getfield 47, 3) := dk_180 0 47 (dk_at dksX6_law_6 2 rfl rfl)
theorem dX6_law_147 : decode cX6_law 147 = .ok (.iload_n 3, 1) := dk_29 (dk_at dksX6_law_6 5 rfl rfl)
theorem dX6_law_148 : decode cX6_law 148 = .ok (.aload_n 0, 1) := dk_42 (dk_at dksX6_law_6 6 rfl rfl)
theorem dX6_law_149 : decode cX6_law 149 = .ok (.getfield 32, 3) := dk_180 0 32 (dk_at dksX6_law_6 7 rfl rfl)
theorem dX6_law_152 : decode cX6_law 152 = .ok (.iload_n 3, 1) := dk_29 (dk_at dksX6_law_6 10 rfl rfl)
theorem dX6_law_153 : decode cX6_law 153 = .ok (.iaload, 1) := dk_46 (dk_at dksX6_law_6 11 rfl rfl)
theorem dX6_law_154 : decode cX6_law 154 = .ok (.iastore, 1) := dk_79 (dk_at dksX6_law_6 12 rfl rfl)
theorem dX6_law_155 : decode cX6_law 155 = .ok (.aload_n 0, 1) := dk_42 (dk_at dksX6_law_6 13 rfl rfl)
theorem dX6_law_156 : decode cX6_law 156 = .ok (.getfield 50, 3) := dk_180 0 50 (dk_at dksX6_law_6 14 rfl rfl)
theorem dX6_law_159 : decode cX6_law 159 = .ok (.iload_n 3, 1) := dk_29 (dk_at dksX6_law_6 17 rfl rfl)
theorem dX6_law_160 : decode cX6_law 160 = .ok (.aload_n 0, 1) := dk_42 (dk_at dksX6_law_6 18 rfl rfl)
theorem dX6_law_161 : decode cX6_law 161 = .ok (.getfield 35, 3) := dk_180 0 35 (dk_at dksX6_law_6 19 rfl rfl)
theorem dX6_law_164 : decode cX6_law 164 = .ok (.iload_n 3, 1) := dk_29 (dk_at dksX6_law_6 22 rfl rfl)
theorem dX6_law_165 : decode cX6_law 165 = .ok (.iaload, 1) := dk_46 (dk_at dksX6_law_6 23 rfl rfl)
theorem dX6_law_166 : decode cX6_law 166 = .ok (.iastore, 1) := dk_79 (dk_at dksX6_law_7 0 rfl rfl)
theorem dX6_law_167 : decode cX6_law 167 = .ok (.aload_n 0, 1) := dk_42 (dk_at dksX6_law_7 1 rfl rfl)
theorem dX6_law_168 : decode cX6_law 168 = .ok (.getfield 53, 3) := dk_180 0 53 (dk_at dksX6_law_7 2 rfl rfl)
theorem dX6_law_171 : decode cX6_law 171 = .ok (.iload_n 3, 1) := dk_29 (dk_at dksX6_law_7 5 rfl rfl)
theorem dX6_law_172 : decode cX6_law 172 = .ok (.aload_n 0, 1) := dk_42 (dk_at dksX6_law_7 6 rfl rfl)
theorem dX6_law_173 : decode cX6_law 173 = .ok (.getfield 38, 3) := dk_180 0 38 (dk_at dksX6_law_7 7 rfl rfl)
theorem dX6_law_176 : decode cX6_law 176 = .ok (.iload_n 3, 1) := dk_29 (dk_at dksX6_law_7 10 rfl rfl)
theorem dX6_law_177 : decode cX6_law 177 = .ok (.iaload, 1) := dk_46 (dk_at dksX6_law_7 11 rfl rfl)
theorem dX6_law_178 : decode cX6_law 178 = .ok (.iastore, 1) := dk_79 (dk_at dksX6_law_7 12 rfl rfl)
theorem dX6_law_179 : decode cX6_law 179 = .ok (.iinc 3 1, 3) := dk_132 3 1 (dk_at dksX6_law_7 13 rfl rfl)
theorem dX6_law_182 : decode cX6_law 182 = .ok (.goto (-59), 3) := dk_167 255 197 (dk_at dksX6_law_7 16 rfl rfl)
theorem dX6_law_185 : decode cX6_law 185 = .ok (.aload_n 0, 1) := dk_42 (dk_at dksX6_law_7 19 rfl rfl)
theorem dX6_law_186 : decode cX6_law 186 = .ok (.getfield 219, 3) := dk_180 0 219 (dk_at dksX6_law_7 20 rfl rfl)
theorem dX6_law_189 : decode cX6_law 189 = .ok (.ireturn, 1) := dk_172 (dk_at dksX6_law_7 23 rfl rfl)
abbrev cX6_beginsText : ByteArray := prog_20_method_43_code
def yX6_beginsText : MethodName := ⟨RX6, "beginsText", "(I)V"⟩
def dkwX6_beginsText_0 : List UInt8 := [42, 3, 181, 0, 142, 42, 27, 181, 0, 145, 42, 3, 181, 0, 165, 42, 3, 181, 0, 219, 177]
abbrev dktX6_beginsText_0 : List UInt8 := dkwX6_beginsText_0 ++ []
theorem dksX6_beginsText_0 : cX6_beginsText.data.toList.drop 0 = dktX6_beginsText_0 := by decide +kernel
theorem dX6_beginsText_0 : decode cX6_beginsText 0 = .ok (.aload_n 0, 1) := dk_42 (dk_at dksX6_beginsText_0 0 rfl rfl)
theorem dX6_beginsText_1 : decode cX6_beginsText 1 = .ok (.iconst 0, 1) := dk_3 (dk_at dksX6_beginsText_0 1 rfl rfl)
theorem dX6_beginsText_2 : decode cX6_beginsText 2 = .ok (.putfield 142, 3) := dk_181 0 142 (dk_at dksX6_beginsText_0 2 rfl rfl)
theorem dX6_beginsText_5 : decode cX6_beginsText 5 = .ok (.aload_n 0, 1) := dk_42 (dk_at dksX6_beginsText_0 5 rfl rfl)
theorem dX6_beginsText_6 : decode cX6_beginsText 6 = .ok (.iload_n 1, 1) := dk_27 (dk_at dksX6_beginsText_0 6 rfl rfl)
theorem dX6_beginsText_7 : decode cX6_beginsText 7 = .ok (.putfield 145, 3) := dk_181 0 145 (dk_at dksX6_beginsText_0 7 rfl rfl)
theorem dX6_beginsText_10 : decode cX6_beginsText 10 = .ok (.aload_n 0, 1) := dk_42 (dk_at dksX6_beginsText_0 10 rfl rfl)
theorem dX6_beginsText_11 : decode cX6_beginsText 11 = .ok (.iconst 0, 1) := dk_3 (dk_at dksX6_beginsText_0 11 rfl rfl)
theorem dX6_beginsText_12 : decode cX6_beginsText 12 = .ok (.putfield 165, 3) := dk_181 0 165 (dk_at dksX6_beginsText_0 12 rfl rfl)
theorem dX6_beginsText_15 : decode cX6_beginsText 15 = .ok (.aload_n 0, 1) := dk_42 (dk_at dksX6_beginsText_0 15 rfl rfl)
theorem dX6_beginsText_16 : decode cX6_beginsText 16 = .ok (.iconst 0, 1) := dk_3 (dk_at dksX6_beginsText_0 16 rfl rfl)
theorem dX6_beginsText_17 : decode cX6_beginsText 17 = .ok (.putfield 219, 3) := dk_181 0 219 (dk_at dksX6_beginsText_0 17 rfl rfl)
theorem dX6_beginsText_20 : decode cX6_beginsText 20 = .ok (.return_, 1) := dk_177 (dk_at dksX6_beginsText_0 20 rfl rfl)
abbrev cX6_readsRule : ByteArray := prog_20_method_42_code
def yX6_readsRule : MethodName := ⟨RX6, "readsRule", "()Z"⟩
def dkwX6_readsRule_7 : List UInt8 := [96, 181, 0, 219, 4, 172]
abbrev dktX6_readsRule_7 : List UInt8 := dkwX6_readsRule_7 ++ []
def dkwX6_readsRule_6 : List UInt8 := [154, 0, 5, 3, 172, 42, 180, 0, 38, 42, 180, 0, 219, 42, 180, 0, 165, 79, 42, 42, 180, 0, 219, 4]
abbrev dktX6_readsRule_6 : List UInt8 := dkwX6_readsRule_6 ++ dktX6_readsRule_7
def dkwX6_readsRule_5 : List UInt8 := [154, 0, 5, 3, 172, 42, 180, 0, 35, 42, 180, 0, 219, 42, 180, 0, 165, 79, 42, 182, 0, 222]
abbrev dktX6_readsRule_5 : List UInt8 := dkwX6_readsRule_5 ++ dktX6_readsRule_6
def dkwX6_readsRule_4 : List UInt8 := [180, 0, 165, 79, 42, 3, 181, 0, 169, 42, 3, 181, 0, 172, 27, 16, 113, 159, 0, 12, 42, 182, 0, 204]
abbrev dktX6_readsRule_4 : List UInt8 := dkwX6_readsRule_4 ++ dktX6_readsRule_5
def dkwX6_readsRule_3 : List UInt8 := [180, 0, 219, 27, 79, 42, 42, 180, 0, 142, 4, 96, 181, 0, 142, 42, 180, 0, 32, 42, 180, 0, 219, 42]
abbrev dktX6_readsRule_3 : List UInt8 := dkwX6_readsRule_3 ++ dktX6_readsRule_4
def dkwX6_readsRule_2 : List UInt8 := [180, 0, 219, 16, 16, 160, 0, 13, 42, 7, 42, 180, 0, 142, 182, 0, 155, 172, 42, 180, 0, 29, 42]
abbrev dktX6_readsRule_2 : List UInt8 := dkwX6_readsRule_2 ++ dktX6_readsRule_3
def dkwX6_readsRule_1 : List UInt8 := [16, 98, 159, 0, 19, 27, 16, 113, 159, 0, 13, 42, 4, 42, 180, 0, 142, 182, 0, 155, 172, 42]
abbrev dktX6_readsRule_1 : List UInt8 := dkwX6_readsRule_1 ++ dktX6_readsRule_2
def dkwX6_readsRule_0 : List UInt8 := [42, 182, 0, 148, 60, 27, 16, 101, 159, 0, 37, 27, 16, 104, 159, 0, 31, 27, 16, 103, 159, 0, 25, 27]
abbrev dktX6_readsRule_0 : List UInt8 := dkwX6_readsRule_0 ++ dktX6_readsRule_1
theorem dksX6_readsRule_0 : cX6_readsRule.data.toList.drop 0 = dktX6_readsRule_0 := by decide +kernel
theorem dksX6_readsRule_1 : cX6_readsRule.data.toList.drop 24 = dktX6_readsRule_1 := dk_seg dksX6_readsRule_0 24 rfl rfl
theorem dksX6_readsRule_2 : cX6_readsRule.data.toList.drop 46 = dktX6_readsRule_2 := dk_seg dksX6_readsRule_1 22 rfl rfl
theorem dksX6_readsRule_3 : cX6_readsRule.data.toList.drop 69 = dktX6_readsRule_3 := dk_seg dksX6_readsRule_2 23 rfl rfl
theorem dksX6_readsRule_4 : cX6_readsRule.data.toList.drop 93 = dktX6_readsRule_4 := dk_seg dksX6_readsRule_3 24 rfl rfl
theorem dksX6_readsRule_5 : cX6_readsRule.data.toList.drop 117 = dktX6_readsRule_5 := dk_seg dksX6_readsRule_4 24 rfl rfl
theorem dksX6_readsRule_6 : cX6_readsRule.data.toList.drop 139 = dktX6_readsRule_6 := dk_seg dksX6_readsRule_5 22 rfl rfl
theorem dksX6_readsRule_7 : cX6_readsRule.data.toList.drop 163 = dktX6_readsRule_7 := dk_seg dksX6_readsRule_6 24 rfl rfl
theorem dX6_readsRule_0 : decode cX6_readsRule 0 = .ok (.aload_n 0, 1) := dk_42 (dk_at dksX6_readsRule_0 0 rfl rfl)
theorem dX6_readsRule_1 : decode cX6_readsRule 1 = .ok (.invokevirtual 148, 3) := dk_182 0 148 (dk_at dksX6_readsRule_0 1 rfl rfl)
theorem dX6_readsRule_4 : decode cX6_readsRule 4 = .ok (.istore_n 1, 1) := dk_60 (dk_at dksX6_readsRule_0 4 rfl rfl)
theorem dX6_readsRule_5 : decode cX6_readsRule 5 = .ok (.iload_n 1, 1) := dk_27 (dk_at dksX6_readsRule_0 5 rfl rfl)
theorem dX6_readsRule_6 : decode cX6_readsRule 6 = .ok (.bipush 101, 2) := dk_16 101 (dk_at dksX6_readsRule_0 6 rfl rfl)
theorem dX6_readsRule_8 : decode cX6_readsRule 8 = .ok (.if_icmp .eq 37, 3) := dk_159 0 37 (dk_at dksX6_readsRule_0 8 rfl rfl)
theorem dX6_readsRule_11 : decode cX6_readsRule 11 = .ok (.iload_n 1, 1) := dk_27 (dk_at dksX6_readsRule_0 11 rfl rfl)
theorem dX6_readsRule_12 : decode cX6_readsRule 12 = .ok (.bipush 104, 2) := dk_16 104 (dk_at dksX6_readsRule_0 12 rfl rfl)
theorem dX6_readsRule_14 : decode cX6_readsRule 14 = .ok (.if_icmp .eq 31, 3) := dk_159 0 31 (dk_at dksX6_readsRule_0 14 rfl rfl)
theorem dX6_readsRule_17 : decode cX6_readsRule 17 = .ok (.iload_n 1, 1) := dk_27 (dk_at dksX6_readsRule_0 17 rfl rfl)
theorem dX6_readsRule_18 : decode cX6_readsRule 18 = .ok (.bipush 103, 2) := dk_16 103 (dk_at dksX6_readsRule_0 18 rfl rfl)
theorem dX6_readsRule_20 : decode cX6_readsRule 20 = .ok (.if_icmp .eq 25, 3) := dk_159 0 25 (dk_at dksX6_readsRule_0 20 rfl rfl)
theorem dX6_readsRule_23 : decode cX6_readsRule 23 = .ok (.iload_n 1, 1) := dk_27 (dk_at dksX6_readsRule_0 23 rfl rfl)
theorem dX6_readsRule_24 : decode cX6_readsRule 24 = .ok (.bipush 98, 2) := dk_16 98 (dk_at dksX6_readsRule_1 0 rfl rfl)
theorem dX6_readsRule_26 : decode cX6_readsRule 26 = .ok (.if_icmp .eq 19, 3) := dk_159 0 19 (dk_at dksX6_readsRule_1 2 rfl rfl)
theorem dX6_readsRule_29 : decode cX6_readsRule 29 = .ok (.iload_n 1, 1) := dk_27 (dk_at dksX6_readsRule_1 5 rfl rfl)
theorem dX6_readsRule_30 : decode cX6_readsRule 30 = .ok (.bipush 113, 2) := dk_16 113 (dk_at dksX6_readsRule_1 6 rfl rfl)
theorem dX6_readsRule_32 : decode cX6_readsRule 32 = .ok (.if_icmp .eq 13, 3) := dk_159 0 13 (dk_at dksX6_readsRule_1 8 rfl rfl)
theorem dX6_readsRule_35 : decode cX6_readsRule 35 = .ok (.aload_n 0, 1) := dk_42 (dk_at dksX6_readsRule_1 11 rfl rfl)
theorem dX6_readsRule_36 : decode cX6_readsRule 36 = .ok (.iconst 1, 1) := dk_4 (dk_at dksX6_readsRule_1 12 rfl rfl)
theorem dX6_readsRule_37 : decode cX6_readsRule 37 = .ok (.aload_n 0, 1) := dk_42 (dk_at dksX6_readsRule_1 13 rfl rfl)
theorem dX6_readsRule_38 : decode cX6_readsRule 38 = .ok (.getfield 142, 3) := dk_180 0 142 (dk_at dksX6_readsRule_1 14 rfl rfl)
theorem dX6_readsRule_41 : decode cX6_readsRule 41 = .ok (.invokevirtual 155, 3) := dk_182 0 155 (dk_at dksX6_readsRule_1 17 rfl rfl)
theorem dX6_readsRule_44 : decode cX6_readsRule 44 = .ok (.ireturn, 1) := dk_172 (dk_at dksX6_readsRule_1 20 rfl rfl)
theorem dX6_readsRule_45 : decode cX6_readsRule 45 = .ok (.aload_n 0, 1) := dk_42 (dk_at dksX6_readsRule_1 21 rfl rfl)
theorem dX6_readsRule_46 : decode cX6_readsRule 46 = .ok (.getfield 219, 3) := dk_180 0 219 (dk_at dksX6_readsRule_2 0 rfl rfl)
theorem dX6_readsRule_49 : decode cX6_readsRule 49 = .ok (.bipush 16, 2) := dk_16 16 (dk_at dksX6_readsRule_2 3 rfl rfl)
theorem dX6_readsRule_51 : decode cX6_readsRule 51 = .ok (.if_icmp .ne 13, 3) := dk_160 0 13 (dk_at dksX6_readsRule_2 5 rfl rfl)
theorem dX6_readsRule_54 : decode cX6_readsRule 54 = .ok (.aload_n 0, 1) := dk_42 (dk_at dksX6_readsRule_2 8 rfl rfl)
theorem dX6_readsRule_55 : decode cX6_readsRule 55 = .ok (.iconst 4, 1) := dk_7 (dk_at dksX6_readsRule_2 9 rfl rfl)
theorem dX6_readsRule_56 : decode cX6_readsRule 56 = .ok (.aload_n 0, 1) := dk_42 (dk_at dksX6_readsRule_2 10 rfl rfl)
theorem dX6_readsRule_57 : decode cX6_readsRule 57 = .ok (.getfield 142, 3) := dk_180 0 142 (dk_at dksX6_readsRule_2 11 rfl rfl)
theorem dX6_readsRule_60 : decode cX6_readsRule 60 = .ok (.invokevirtual 155, 3) := dk_182 0 155 (dk_at dksX6_readsRule_2 14 rfl rfl)
theorem dX6_readsRule_63 : decode cX6_readsRule 63 = .ok (.ireturn, 1) := dk_172 (dk_at dksX6_readsRule_2 17 rfl rfl)
theorem dX6_readsRule_64 : decode cX6_readsRule 64 = .ok (.aload_n 0, 1) := dk_42 (dk_at dksX6_readsRule_2 18 rfl rfl)
theorem dX6_readsRule_65 : decode cX6_readsRule 65 = .ok (.getfield 29, 3) := dk_180 0 29 (dk_at dksX6_readsRule_2 19 rfl rfl)
theorem dX6_readsRule_68 : decode cX6_readsRule 68 = .ok (.aload_n 0, 1) := dk_42 (dk_at dksX6_readsRule_2 22 rfl rfl)
theorem dX6_readsRule_69 : decode cX6_readsRule 69 = .ok (.getfield 219, 3) := dk_180 0 219 (dk_at dksX6_readsRule_3 0 rfl rfl)
theorem dX6_readsRule_72 : decode cX6_readsRule 72 = .ok (.iload_n 1, 1) := dk_27 (dk_at dksX6_readsRule_3 3 rfl rfl)
theorem dX6_readsRule_73 : decode cX6_readsRule 73 = .ok (.iastore, 1) := dk_79 (dk_at dksX6_readsRule_3 4 rfl rfl)
theorem dX6_readsRule_74 : decode cX6_readsRule 74 = .ok (.aload_n 0, 1) := dk_42 (dk_at dksX6_readsRule_3 5 rfl rfl)
theorem dX6_readsRule_75 : decode cX6_readsRule 75 = .ok (.aload_n 0, 1) := dk_42 (dk_at dksX6_readsRule_3 6 rfl rfl)
theorem dX6_readsRule_76 : decode cX6_readsRule 76 = .ok (.getfield 142, 3) := dk_180 0 142 (dk_at dksX6_readsRule_3 7 rfl rfl)
theorem dX6_readsRule_79 : decode cX6_readsRule 79 = .ok (.iconst 1, 1) := dk_4 (dk_at dksX6_readsRule_3 10 rfl rfl)
theorem dX6_readsRule_80 : decode cX6_readsRule 80 = .ok (.iadd, 1) := dk_96 (dk_at dksX6_readsRule_3 11 rfl rfl)
theorem dX6_readsRule_81 : decode cX6_readsRule 81 = .ok (.putfield 142, 3) := dk_181 0 142 (dk_at dksX6_readsRule_3 12 rfl rfl)
theorem dX6_readsRule_84 : decode cX6_readsRule 84 = .ok (.aload_n 0, 1) := dk_42 (dk_at dksX6_readsRule_3 15 rfl rfl)
theorem dX6_readsRule_85 : decode cX6_readsRule 85 = .ok (.getfield 32, 3) := dk_180 0 32 (dk_at dksX6_readsRule_3 16 rfl rfl)
theorem dX6_readsRule_88 : decode cX6_readsRule 88 = .ok (.aload_n 0, 1) := dk_42 (dk_at dksX6_readsRule_3 19 rfl rfl)
theorem dX6_readsRule_89 : decode cX6_readsRule 89 = .ok (.getfield 219, 3) := dk_180 0 219 (dk_at dksX6_readsRule_3 20 rfl rfl)
theorem dX6_readsRule_92 : decode cX6_readsRule 92 = .ok (.aload_n 0, 1) := dk_42 (dk_at dksX6_readsRule_3 23 rfl rfl)
theorem dX6_readsRule_93 : decode cX6_readsRule 93 = .ok (.getfield 165, 3) := dk_180 0 165 (dk_at dksX6_readsRule_4 0 rfl rfl)
theorem dX6_readsRule_96 : decode cX6_readsRule 96 = .ok (.iastore, 1) := dk_79 (dk_at dksX6_readsRule_4 3 rfl rfl)
theorem dX6_readsRule_97 : decode cX6_readsRule 97 = .ok (.aload_n 0, 1) := dk_42 (dk_at dksX6_readsRule_4 4 rfl rfl)
theorem dX6_readsRule_98 : decode cX6_readsRule 98 = .ok (.iconst 0, 1) := dk_3 (dk_at dksX6_readsRule_4 5 rfl rfl)
theorem dX6_readsRule_99 : decode cX6_readsRule 99 = .ok (.putfield 169, 3) := dk_181 0 169 (dk_at dksX6_readsRule_4 6 rfl rfl)
theorem dX6_readsRule_102 : decode cX6_readsRule 102 = .ok (.aload_n 0, 1) := dk_42 (dk_at dksX6_readsRule_4 9 rfl rfl)
theorem dX6_readsRule_103 : decode cX6_readsRule 103 = .ok (.iconst 0, 1) := dk_3 (dk_at dksX6_readsRule_4 10 rfl rfl)
theorem dX6_readsRule_104 : decode cX6_readsRule 104 = .ok (.putfield 172, 3) := dk_181 0 172 (dk_at dksX6_readsRule_4 11 rfl rfl)
theorem dX6_readsRule_107 : decode cX6_readsRule 107 = .ok (.iload_n 1, 1) := dk_27 (dk_at dksX6_readsRule_4 14 rfl rfl)
theorem dX6_readsRule_108 : decode cX6_readsRule 108 = .ok (.bipush 113, 2) := dk_16 113 (dk_at dksX6_readsRule_4 15 rfl rfl)
theorem dX6_readsRule_110 : decode cX6_readsRule 110 = .ok (.if_icmp .eq 12, 3) := dk_159 0 12 (dk_at dksX6_readsRule_4 17 rfl rfl)
theorem dX6_readsRule_113 : decode cX6_readsRule 113 = .ok (.aload_n 0, 1) := dk_42 (dk_at dksX6_readsRule_4 20 rfl rfl)
theorem dX6_readsRule_114 : decode cX6_readsRule 114 = .ok (.invokevirtual 204, 3) := dk_182 0 204 (dk_at dksX6_readsRule_4 21 rfl rfl)
theorem dX6_readsRule_117 : decode cX6_readsRule 117 = .ok (.ifCond .ne 5, 3) := dk_154 0 5 (dk_at dksX6_readsRule_5 0 rfl rfl)
theorem dX6_readsRule_120 : decode cX6_readsRule 120 = .ok (.iconst 0, 1) := dk_3 (dk_at dksX6_readsRule_5 3 rfl rfl)
theorem dX6_readsRule_121 : decode cX6_readsRule 121 = .ok (.ireturn, 1) := dk_172 (dk_at dksX6_readsRule_5 4 rfl rfl)
theorem dX6_readsRule_122 : decode cX6_readsRule 122 = .ok (.aload_n 0, 1) := dk_42 (dk_at dksX6_readsRule_5 5 rfl rfl)
theorem dX6_readsRule_123 : decode cX6_readsRule 123 = .ok (.getfield 35, 3) := dk_180 0 35 (dk_at dksX6_readsRule_5 6 rfl rfl)
theorem dX6_readsRule_126 : decode cX6_readsRule 126 = .ok (.aload_n 0, 1) := dk_42 (dk_at dksX6_readsRule_5 9 rfl rfl)
theorem dX6_readsRule_127 : decode cX6_readsRule 127 = .ok (.getfield 219, 3) := dk_180 0 219 (dk_at dksX6_readsRule_5 10 rfl rfl)
theorem dX6_readsRule_130 : decode cX6_readsRule 130 = .ok (.aload_n 0, 1) := dk_42 (dk_at dksX6_readsRule_5 13 rfl rfl)
theorem dX6_readsRule_131 : decode cX6_readsRule 131 = .ok (.getfield 165, 3) := dk_180 0 165 (dk_at dksX6_readsRule_5 14 rfl rfl)
theorem dX6_readsRule_134 : decode cX6_readsRule 134 = .ok (.iastore, 1) := dk_79 (dk_at dksX6_readsRule_5 17 rfl rfl)
theorem dX6_readsRule_135 : decode cX6_readsRule 135 = .ok (.aload_n 0, 1) := dk_42 (dk_at dksX6_readsRule_5 18 rfl rfl)
theorem dX6_readsRule_136 : decode cX6_readsRule 136 = .ok (.invokevirtual 222, 3) := dk_182 0 222 (dk_at dksX6_readsRule_5 19 rfl rfl)
theorem dX6_readsRule_139 : decode cX6_readsRule 139 = .ok (.ifCond .ne 5, 3) := dk_154 0 5 (dk_at dksX6_readsRule_6 0 rfl rfl)
theorem dX6_readsRule_142 : decode cX6_readsRule 142 = .ok (.iconst 0, 1) := dk_3 (dk_at dksX6_readsRule_6 3 rfl rfl)
theorem dX6_readsRule_143 : decode cX6_readsRule 143 = .ok (.ireturn, 1) := dk_172 (dk_at dksX6_readsRule_6 4 rfl rfl)
theorem dX6_readsRule_144 : decode cX6_readsRule 144 = .ok (.aload_n 0, 1) := dk_42 (dk_at dksX6_readsRule_6 5 rfl rfl)
theorem dX6_readsRule_145 : decode cX6_readsRule 145 = .ok (.getfield 38, 3) := dk_180 0 38 (dk_at dksX6_readsRule_6 6 rfl rfl)
theorem dX6_readsRule_148 : decode cX6_readsRule 148 = .ok (.aload_n 0, 1) := dk_42 (dk_at dksX6_readsRule_6 9 rfl rfl)
theorem dX6_readsRule_149 : decode cX6_readsRule 149 = .ok (.getfield 219, 3) := dk_180 0 219 (dk_at dksX6_readsRule_6 10 rfl rfl)
theorem dX6_readsRule_152 : decode cX6_readsRule 152 = .ok (.aload_n 0, 1) := dk_42 (dk_at dksX6_readsRule_6 13 rfl rfl)
theorem dX6_readsRule_153 : decode cX6_readsRule 153 = .ok (.getfield 165, 3) := dk_180 0 165 (dk_at dksX6_readsRule_6 14 rfl rfl)
theorem dX6_readsRule_156 : decode cX6_readsRule 156 = .ok (.iastore, 1) := dk_79 (dk_at dksX6_readsRule_6 17 rfl rfl)
theorem dX6_readsRule_157 : decode cX6_readsRule 157 = .ok (.aload_n 0, 1) := dk_42 (dk_at dksX6_readsRule_6 18 rfl rfl)
theorem dX6_readsRule_158 : decode cX6_readsRule 158 = .ok (.aload_n 0, 1) := dk_42 (dk_at dksX6_readsRule_6 19 rfl rfl)
theorem dX6_readsRule_159 : decode cX6_readsRule 159 = .ok (.getfield 219, 3) := dk_180 0 219 (dk_at dksX6_readsRule_6 20 rfl rfl)
theorem dX6_readsRule_162 : decode cX6_readsRule 162 = .ok (.iconst 1, 1) := dk_4 (dk_at dksX6_readsRule_6 23 rfl rfl)
theorem dX6_readsRule_163 : decode cX6_readsRule 163 = .ok (.iadd, 1) := dk_96 (dk_at dksX6_readsRule_7 0 rfl rfl)
theorem dX6_readsRule_164 : decode cX6_readsRule 164 = .ok (.putfield 219, 3) := dk_181 0 219 (dk_at dksX6_readsRule_7 1 rfl rfl)
theorem dX6_readsRule_167 : decode cX6_readsRule 167 = .ok (.iconst 1, 1) := dk_4 (dk_at dksX6_readsRule_7 4 rfl rfl)
theorem dX6_readsRule_168 : decode cX6_readsRule 168 = .ok (.ireturn, 1) := dk_172 (dk_at dksX6_readsRule_7 5 rfl rfl)
abbrev cX6_here : ByteArray := prog_20_method_23_code
def yX6_here : MethodName := ⟨RX6, "here", "()I"⟩
def dkwX6_here_1 : List UInt8 := [167, 0, 4, 2, 172]
abbrev dktX6_here_1 : List UInt8 := dkwX6_here_1 ++ []
def dkwX6_here_0 : List UInt8 := [42, 180, 0, 142, 42, 180, 0, 145, 162, 0, 19, 42, 180, 0, 19, 42, 180, 0, 142, 51, 17, 0, 255, 126]
abbrev dktX6_here_0 : List UInt8 := dkwX6_here_0 ++ dktX6_here_1
theorem dksX6_here_0 : cX6_here.data.toList.drop 0 = dktX6_here_0 := by decide +kernel
theorem dksX6_here_1 : cX6_here.data.toList.drop 24 = dktX6_here_1 := dk_seg dksX6_here_0 24 rfl rfl
theorem dX6_here_0 : decode cX6_here 0 = .ok (.aload_n 0, 1) := dk_42 (dk_at dksX6_here_0 0 rfl rfl)
theorem dX6_here_1 : decode cX6_here 1 = .ok (.getfield 142, 3) := dk_180 0 142 (dk_at dksX6_here_0 1 rfl rfl)
theorem dX6_here_4 : decode cX6_here 4 = .ok (.aload_n 0, 1) := dk_42 (dk_at dksX6_here_0 4 rfl rfl)
theorem dX6_here_5 : decode cX6_here 5 = .ok (.getfield 145, 3) := dk_180 0 145 (dk_at dksX6_here_0 5 rfl rfl)
theorem dX6_here_8 : decode cX6_here 8 = .ok (.if_icmp .ge 19, 3) := dk_162 0 19 (dk_at dksX6_here_0 8 rfl rfl)
theorem dX6_here_11 : decode cX6_here 11 = .ok (.aload_n 0, 1) := dk_42 (dk_at dksX6_here_0 11 rfl rfl)
theorem dX6_here_12 : decode cX6_here 12 = .ok (.getfield 19, 3) := dk_180 0 19 (dk_at dksX6_here_0 12 rfl rfl)
theorem dX6_here_15 : decode cX6_here 15 = .ok (.aload_n 0, 1) := dk_42 (dk_at dksX6_here_0 15 rfl rfl)
theorem dX6_here_16 : decode cX6_here 16 = .ok (.getfield 142, 3) := dk_180 0 142 (dk_at dksX6_here_0 16 rfl rfl)
theorem dX6_here_19 : decode cX6_here 19 = .ok (.baload, 1) := dk_51 (dk_at dksX6_here_0 19 rfl rfl)
theorem dX6_here_20 : decode cX6_here 20 = .ok (.sipush 255, 3) := dk_17 0 255 (dk_at dksX6_here_0 20 rfl rfl)
theorem dX6_here_23 : decode cX6_here 23 = .ok (.iand, 1) := dk_126 (dk_at dksX6_here_0 23 rfl rfl)
theorem dX6_here_24 : decode cX6_here 24 = .ok (.goto 4, 3) := dk_167 0 4 (dk_at dksX6_here_1 0 rfl rfl)
theorem dX6_here_27 : decode cX6_here 27 = .ok (.iconst (-1), 1) := dk_2 (dk_at dksX6_here_1 3 rfl rfl)
theorem dX6_here_28 : decode cX6_here 28 = .ok (.ireturn, 1) := dk_172 (dk_at dksX6_here_1 4 rfl rfl)
abbrev cX6_wrongAt : ByteArray := prog_20_method_25_code
def yX6_wrongAt : MethodName := ⟨RX6, "wrongAt", "(II)Z"⟩
def dkwX6_wrongAt_0 : List UInt8 := [42, 17, 252, 24, 27, 104, 28, 100, 181, 0, 152, 3, 172]
abbrev dktX6_wrongAt_0 : List UInt8 := dkwX6_wrongAt_0 ++ []
theorem dksX6_wrongAt_0 : cX6_wrongAt.data.toList.drop 0 = dktX6_wrongAt_0 := by decide +kernel
theorem dX6_wrongAt_0 : decode cX6_wrongAt 0 = .ok (.aload_n 0, 1) := dk_42 (dk_at dksX6_wrongAt_0 0 rfl rfl)
theorem dX6_wrongAt_1 : decode cX6_wrongAt 1 = .ok (.sipush (-1000), 3) := dk_17 252 24 (dk_at dksX6_wrongAt_0 1 rfl rfl)
theorem dX6_wrongAt_4 : decode cX6_wrongAt 4 = .ok (.iload_n 1, 1) := dk_27 (dk_at dksX6_wrongAt_0 4 rfl rfl)
theorem dX6_wrongAt_5 : decode cX6_wrongAt 5 = .ok (.imul, 1) := dk_104 (dk_at dksX6_wrongAt_0 5 rfl rfl)
theorem dX6_wrongAt_6 : decode cX6_wrongAt 6 = .ok (.iload_n 2, 1) := dk_28 (dk_at dksX6_wrongAt_0 6 rfl rfl)
theorem dX6_wrongAt_7 : decode cX6_wrongAt 7 = .ok (.isub, 1) := dk_100 (dk_at dksX6_wrongAt_0 7 rfl rfl)
theorem dX6_wrongAt_8 : decode cX6_wrongAt 8 = .ok (.putfield 152, 3) := dk_181 0 152 (dk_at dksX6_wrongAt_0 8 rfl rfl)
theorem dX6_wrongAt_11 : decode cX6_wrongAt 11 = .ok (.iconst 0, 1) := dk_3 (dk_at dksX6_wrongAt_0 11 rfl rfl)
theorem dX6_wrongAt_12 : decode cX6_wrongAt 12 = .ok (.ireturn, 1) := dk_172 (dk_at dksX6_wrongAt_0 12 rfl rfl)
abbrev cX6_readsSum : ByteArray := prog_20_method_36_code
def yX6_readsSum : MethodName := ⟨RX6, "readsSum", "()Z"⟩
def dkwX6_readsSum_7 : List UInt8 := [167, 255, 107]
abbrev dktX6_readsSum_7 : List UInt8 := dkwX6_readsSum_7 ++ []
def dkwX6_readsSum_6 : List UInt8 := [182, 0, 201, 153, 0, 13, 42, 4, 42, 180, 0, 142, 182, 0, 155, 172, 42, 4, 182, 0, 197, 4, 172]
abbrev dktX6_readsSum_6 : List UInt8 := dkwX6_readsSum_6 ++ dktX6_readsSum_7
def dkwX6_readsSum_5 : List UInt8 := [180, 0, 169, 4, 100, 181, 0, 169, 42, 42, 180, 0, 142, 4, 96, 181, 0, 142, 167, 0, 28, 42, 27]
abbrev dktX6_readsSum_5 : List UInt8 := dkwX6_readsSum_5 ++ dktX6_readsSum_6
def dkwX6_readsSum_4 : List UInt8 := [182, 0, 201, 153, 0, 41, 42, 4, 182, 0, 197, 42, 42, 180, 0, 172, 4, 100, 181, 0, 172, 42, 42]
abbrev dktX6_readsSum_4 : List UInt8 := dkwX6_readsSum_4 ++ dktX6_readsSum_5
def dkwX6_readsSum_3 : List UInt8 := [96, 181, 0, 142, 42, 182, 0, 191, 154, 0, 85, 3, 172, 42, 182, 0, 148, 16, 93, 160, 0, 49, 42, 27]
abbrev dktX6_readsSum_3 : List UInt8 := dkwX6_readsSum_3 ++ dktX6_readsSum_4
def dkwX6_readsSum_2 : List UInt8 := [180, 0, 172, 18, 168, 28, 104, 79, 42, 42, 180, 0, 172, 4, 96, 181, 0, 172, 42, 42, 180, 0, 142, 4]
abbrev dktX6_readsSum_2 : List UInt8 := dkwX6_readsSum_2 ++ dktX6_readsSum_3
def dkwX6_readsSum_1 : List UInt8 := [159, 0, 59, 42, 28, 7, 162, 0, 7, 4, 167, 0, 4, 3, 182, 0, 197, 42, 180, 0, 26, 42]
abbrev dktX6_readsSum_1 : List UInt8 := dkwX6_readsSum_1 ++ dktX6_readsSum_2
def dkwX6_readsSum_0 : List UInt8 := [42, 180, 0, 172, 60, 42, 182, 0, 191, 154, 0, 5, 3, 172, 42, 182, 0, 148, 184, 0, 194, 61, 28, 2]
abbrev dktX6_readsSum_0 : List UInt8 := dkwX6_readsSum_0 ++ dktX6_readsSum_1
theorem dksX6_readsSum_0 : cX6_readsSum.data.toList.drop 0 = dktX6_readsSum_0 := by decide +kernel
theorem dksX6_readsSum_1 : cX6_readsSum.data.toList.drop 24 = dktX6_readsSum_1 := dk_seg dksX6_readsSum_0 24 rfl rfl
theorem dksX6_readsSum_2 : cX6_readsSum.data.toList.drop 46 = dktX6_readsSum_2 := dk_seg dksX6_readsSum_1 22 rfl rfl
theorem dksX6_readsSum_3 : cX6_readsSum.data.toList.drop 70 = dktX6_readsSum_3 := dk_seg dksX6_readsSum_2 24 rfl rfl
theorem dksX6_readsSum_4 : cX6_readsSum.data.toList.drop 94 = dktX6_readsSum_4 := dk_seg dksX6_readsSum_3 24 rfl rfl
theorem dksX6_readsSum_5 : cX6_readsSum.data.toList.drop 117 = dktX6_readsSum_5 := dk_seg dksX6_readsSum_4 23 rfl rfl
theorem dksX6_readsSum_6 : cX6_readsSum.data.toList.drop 140 = dktX6_readsSum_6 := dk_seg dksX6_readsSum_5 23 rfl rfl
theorem dksX6_readsSum_7 : cX6_readsSum.data.toList.drop 163 = dktX6_readsSum_7 := dk_seg dksX6_readsSum_6 23 rfl rfl
theorem dX6_readsSum_0 : decode cX6_readsSum 0 = .ok (.aload_n 0, 1) := dk_42 (dk_at dksX6_readsSum_0 0 rfl rfl)
theorem dX6_readsSum_1 : decode cX6_readsSum 1 = .ok (.getfield 172, 3) := dk_180 0 172 (dk_at dksX6_readsSum_0 1 rfl rfl)
theorem dX6_readsSum_4 : decode cX6_readsSum 4 = .ok (.istore_n 1, 1) := dk_60 (dk_at dksX6_readsSum_0 4 rfl rfl)
theorem dX6_readsSum_5 : decode cX6_readsSum 5 = .ok (.aload_n 0, 1) := dk_42 (dk_at dksX6_readsSum_0 5 rfl rfl)
theorem dX6_readsSum_6 : decode cX6_readsSum 6 = .ok (.invokevirtual 191, 3) := dk_182 0 191 (dk_at dksX6_readsSum_0 6 rfl rfl)
theorem dX6_readsSum_9 : decode cX6_readsSum 9 = .ok (.ifCond .ne 5, 3) := dk_154 0 5 (dk_at dksX6_readsSum_0 9 rfl rfl)
theorem dX6_readsSum_12 : decode cX6_readsSum 12 = .ok (.iconst 0, 1) := dk_3 (dk_at dksX6_readsSum_0 12 rfl rfl)
theorem dX6_readsSum_13 : decode cX6_readsSum 13 = .ok (.ireturn, 1) := dk_172 (dk_at dksX6_readsSum_0 13 rfl rfl)
theorem dX6_readsSum_14 : decode cX6_readsSum 14 = .ok (.aload_n 0, 1) := dk_42 (dk_at dksX6_readsSum_0 14 rfl rfl)
theorem dX6_readsSum_15 : decode cX6_readsSum 15 = .ok (.invokevirtual 148, 3) := dk_182 0 148 (dk_at dksX6_readsSum_0 15 rfl rfl)
theorem dX6_readsSum_18 : decode cX6_readsSum 18 = .ok (.invokestatic 194, 3) := dk_184 0 194 (dk_at dksX6_readsSum_0 18 rfl rfl)
theorem dX6_readsSum_21 : decode cX6_readsSum 21 = .ok (.istore_n 2, 1) := dk_61 (dk_at dksX6_readsSum_0 21 rfl rfl)
theorem dX6_readsSum_22 : decode cX6_readsSum 22 = .ok (.iload_n 2, 1) := dk_28 (dk_at dksX6_readsSum_0 22 rfl rfl)
theorem dX6_readsSum_23 : decode cX6_readsSum 23 = .ok (.iconst (-1), 1) := dk_2 (dk_at dksX6_readsSum_0 23 rfl rfl)
theorem dX6_readsSum_24 : decode cX6_readsSum 24 = .ok (.if_icmp .eq 59, 3) := dk_159 0 59 (dk_at dksX6_readsSum_1 0 rfl rfl)
theorem dX6_readsSum_27 : decode cX6_readsSum 27 = .ok (.aload_n 0, 1) := dk_42 (dk_at dksX6_readsSum_1 3 rfl rfl)
theorem dX6_readsSum_28 : decode cX6_readsSum 28 = .ok (.iload_n 2, 1) := dk_28 (dk_at dksX6_readsSum_1 4 rfl rfl)
theorem dX6_readsSum_29 : decode cX6_readsSum 29 = .ok (.iconst 4, 1) := dk_7 (dk_at dksX6_readsSum_1 5 rfl rfl)
theorem dX6_readsSum_30 : decode cX6_readsSum 30 = .ok (.if_icmp .ge 7, 3) := dk_162 0 7 (dk_at dksX6_readsSum_1 6 rfl rfl)
theorem dX6_readsSum_33 : decode cX6_readsSum 33 = .ok (.iconst 1, 1) := dk_4 (dk_at dksX6_readsSum_1 9 rfl rfl)
theorem dX6_readsSum_34 : decode cX6_readsSum 34 = .ok (.goto 4, 3) := dk_167 0 4 (dk_at dksX6_readsSum_1 10 rfl rfl)
theorem dX6_readsSum_37 : decode cX6_readsSum 37 = .ok (.iconst 0, 1) := dk_3 (dk_at dksX6_readsSum_1 13 rfl rfl)
theorem dX6_readsSum_38 : decode cX6_readsSum 38 = .ok (.invokevirtual 197, 3) := dk_182 0 197 (dk_at dksX6_readsSum_1 14 rfl rfl)
theorem dX6_readsSum_41 : decode cX6_readsSum 41 = .ok (.aload_n 0, 1) := dk_42 (dk_at dksX6_readsSum_1 17 rfl rfl)
theorem dX6_readsSum_42 : decode cX6_readsSum 42 = .ok (.getfield 26, 3) := dk_180 0 26 (dk_at dksX6_readsSum_1 18 rfl rfl)
theorem dX6_readsSum_45 : decode cX6_readsSum 45 = .ok (.aload_n 0, 1) := dk_42 (dk_at dksX6_readsSum_1 21 rfl rfl)
theorem dX6_readsSum_46 : decode cX6_readsSum 46 = .ok (.getfield 172, 3) := dk_180 0 172 (dk_at dksX6_readsSum_2 0 rfl rfl)
theorem dX6_readsSum_49 : decode cX6_readsSum 49 = .ok (.ldc 168, 2) := dk_18 168 (dk_at dksX6_readsSum_2 3 rfl rfl)
theorem dX6_readsSum_51 : decode cX6_readsSum 51 = .ok (.iload_n 2, 1) := dk_28 (dk_at dksX6_readsSum_2 5 rfl rfl)
theorem dX6_readsSum_52 : decode cX6_readsSum 52 = .ok (.imul, 1) := dk_104 (dk_at dksX6_readsSum_2 6 rfl rfl)
theorem dX6_readsSum_53 : decode cX6_readsSum 53 = .ok (.iastore, 1) := dk_79 (dk_at dksX6_readsSum_2 7 rfl rfl)
theorem dX6_readsSum_54 : decode cX6_readsSum 54 = .ok (.aload_n 0, 1) := dk_42 (dk_at dksX6_readsSum_2 8 rfl rfl)
theorem dX6_readsSum_55 : decode cX6_readsSum 55 = .ok (.aload_n 0, 1) := dk_42 (dk_at dksX6_readsSum_2 9 rfl rfl)
theorem dX6_readsSum_56 : decode cX6_readsSum 56 = .ok (.getfield 172, 3) := dk_180 0 172 (dk_at dksX6_readsSum_2 10 rfl rfl)
theorem dX6_readsSum_59 : decode cX6_readsSum 59 = .ok (.iconst 1, 1) := dk_4 (dk_at dksX6_readsSum_2 13 rfl rfl)
theorem dX6_readsSum_60 : decode cX6_readsSum 60 = .ok (.iadd, 1) := dk_96 (dk_at dksX6_readsSum_2 14 rfl rfl)
theorem dX6_readsSum_61 : decode cX6_readsSum 61 = .ok (.putfield 172, 3) := dk_181 0 172 (dk_at dksX6_readsSum_2 15 rfl rfl)
theorem dX6_readsSum_64 : decode cX6_readsSum 64 = .ok (.aload_n 0, 1) := dk_42 (dk_at dksX6_readsSum_2 18 rfl rfl)
theorem dX6_readsSum_65 : decode cX6_readsSum 65 = .ok (.aload_n 0, 1) := dk_42 (dk_at dksX6_readsSum_2 19 rfl rfl)
theorem dX6_readsSum_66 : decode cX6_readsSum 66 = .ok (.getfield 142, 3) := dk_180 0 142 (dk_at dksX6_readsSum_2 20 rfl rfl)
theorem dX6_readsSum_69 : decode cX6_readsSum 69 = .ok (.iconst 1, 1) := dk_4 (dk_at dksX6_readsSum_2 23 rfl rfl)
theorem dX6_readsSum_70 : decode cX6_readsSum 70 = .ok (.iadd, 1) := dk_96 (dk_at dksX6_readsSum_3 0 rfl rfl)
theorem dX6_readsSum_71 : decode cX6_readsSum 71 = .ok (.putfield 142, 3) := dk_181 0 142 (dk_at dksX6_readsSum_3 1 rfl rfl)
theorem dX6_readsSum_74 : decode cX6_readsSum 74 = .ok (.aload_n 0, 1) := dk_42 (dk_at dksX6_readsSum_3 4 rfl rfl)
theorem dX6_readsSum_75 : decode cX6_readsSum 75 = .ok (.invokevirtual 191, 3) := dk_182 0 191 (dk_at dksX6_readsSum_3 5 rfl rfl)
theorem dX6_readsSum_78 : decode cX6_readsSum 78 = .ok (.ifCond .ne 85, 3) := dk_154 0 85 (dk_at dksX6_readsSum_3 8 rfl rfl)
theorem dX6_readsSum_81 : decode cX6_readsSum 81 = .ok (.iconst 0, 1) := dk_3 (dk_at dksX6_readsSum_3 11 rfl rfl)
theorem dX6_readsSum_82 : decode cX6_readsSum 82 = .ok (.ireturn, 1) := dk_172 (dk_at dksX6_readsSum_3 12 rfl rfl)
theorem dX6_readsSum_83 : decode cX6_readsSum 83 = .ok (.aload_n 0, 1) := dk_42 (dk_at dksX6_readsSum_3 13 rfl rfl)
theorem dX6_readsSum_84 : decode cX6_readsSum 84 = .ok (.invokevirtual 148, 3) := dk_182 0 148 (dk_at dksX6_readsSum_3 14 rfl rfl)
theorem dX6_readsSum_87 : decode cX6_readsSum 87 = .ok (.bipush 93, 2) := dk_16 93 (dk_at dksX6_readsSum_3 17 rfl rfl)
theorem dX6_readsSum_89 : decode cX6_readsSum 89 = .ok (.if_icmp .ne 49, 3) := dk_160 0 49 (dk_at dksX6_readsSum_3 19 rfl rfl)
theorem dX6_readsSum_92 : decode cX6_readsSum 92 = .ok (.aload_n 0, 1) := dk_42 (dk_at dksX6_readsSum_3 22 rfl rfl)
theorem dX6_readsSum_93 : decode cX6_readsSum 93 = .ok (.iload_n 1, 1) := dk_27 (dk_at dksX6_readsSum_3 23 rfl rfl)
theorem dX6_readsSum_94 : decode cX6_readsSum 94 = .ok (.invokevirtual 201, 3) := dk_182 0 201 (dk_at dksX6_readsSum_4 0 rfl rfl)
theorem dX6_readsSum_97 : decode cX6_readsSum 97 = .ok (.ifCond .eq 41, 3) := dk_153 0 41 (dk_at dksX6_readsSum_4 3 rfl rfl)
theorem dX6_readsSum_100 : decode cX6_readsSum 100 = .ok (.aload_n 0, 1) := dk_42 (dk_at dksX6_readsSum_4 6 rfl rfl)
theorem dX6_readsSum_101 : decode cX6_readsSum 101 = .ok (.iconst 1, 1) := dk_4 (dk_at dksX6_readsSum_4 7 rfl rfl)
theorem dX6_readsSum_102 : decode cX6_readsSum 102 = .ok (.invokevirtual 197, 3) := dk_182 0 197 (dk_at dksX6_readsSum_4 8 rfl rfl)
theorem dX6_readsSum_105 : decode cX6_readsSum 105 = .ok (.aload_n 0, 1) := dk_42 (dk_at dksX6_readsSum_4 11 rfl rfl)
theorem dX6_readsSum_106 : decode cX6_readsSum 106 = .ok (.aload_n 0, 1) := dk_42 (dk_at dksX6_readsSum_4 12 rfl rfl)
theorem dX6_readsSum_107 : decode cX6_readsSum 107 = .ok (.getfield 172, 3) := dk_180 0 172 (dk_at dksX6_readsSum_4 13 rfl rfl)
theorem dX6_readsSum_110 : decode cX6_readsSum 110 = .ok (.iconst 1, 1) := dk_4 (dk_at dksX6_readsSum_4 16 rfl rfl)
theorem dX6_readsSum_111 : decode cX6_readsSum 111 = .ok (.isub, 1) := dk_100 (dk_at dksX6_readsSum_4 17 rfl rfl)
theorem dX6_readsSum_112 : decode cX6_readsSum 112 = .ok (.putfield 172, 3) := dk_181 0 172 (dk_at dksX6_readsSum_4 18 rfl rfl)
theorem dX6_readsSum_115 : decode cX6_readsSum 115 = .ok (.aload_n 0, 1) := dk_42 (dk_at dksX6_readsSum_4 21 rfl rfl)
theorem dX6_readsSum_116 : decode cX6_readsSum 116 = .ok (.aload_n 0, 1) := dk_42 (dk_at dksX6_readsSum_4 22 rfl rfl)
theorem dX6_readsSum_117 : decode cX6_readsSum 117 = .ok (.getfield 169, 3) := dk_180 0 169 (dk_at dksX6_readsSum_5 0 rfl rfl)
theorem dX6_readsSum_120 : decode cX6_readsSum 120 = .ok (.iconst 1, 1) := dk_4 (dk_at dksX6_readsSum_5 3 rfl rfl)
theorem dX6_readsSum_121 : decode cX6_readsSum 121 = .ok (.isub, 1) := dk_100 (dk_at dksX6_readsSum_5 4 rfl rfl)
theorem dX6_readsSum_122 : decode cX6_readsSum 122 = .ok (.putfield 169, 3) := dk_181 0 169 (dk_at dksX6_readsSum_5 5 rfl rfl)
theorem dX6_readsSum_125 : decode cX6_readsSum 125 = .ok (.aload_n 0, 1) := dk_42 (dk_at dksX6_readsSum_5 8 rfl rfl)
theorem dX6_readsSum_126 : decode cX6_readsSum 126 = .ok (.aload_n 0, 1) := dk_42 (dk_at dksX6_readsSum_5 9 rfl rfl)
theorem dX6_readsSum_127 : decode cX6_readsSum 127 = .ok (.getfield 142, 3) := dk_180 0 142 (dk_at dksX6_readsSum_5 10 rfl rfl)
theorem dX6_readsSum_130 : decode cX6_readsSum 130 = .ok (.iconst 1, 1) := dk_4 (dk_at dksX6_readsSum_5 13 rfl rfl)
theorem dX6_readsSum_131 : decode cX6_readsSum 131 = .ok (.iadd, 1) := dk_96 (dk_at dksX6_readsSum_5 14 rfl rfl)
theorem dX6_readsSum_132 : decode cX6_readsSum 132 = .ok (.putfield 142, 3) := dk_181 0 142 (dk_at dksX6_readsSum_5 15 rfl rfl)
theorem dX6_readsSum_135 : decode cX6_readsSum 135 = .ok (.goto 28, 3) := dk_167 0 28 (dk_at dksX6_readsSum_5 18 rfl rfl)
theorem dX6_readsSum_138 : decode cX6_readsSum 138 = .ok (.aload_n 0, 1) := dk_42 (dk_at dksX6_readsSum_5 21 rfl rfl)
theorem dX6_readsSum_139 : decode cX6_readsSum 139 = .ok (.iload_n 1, 1) := dk_27 (dk_at dksX6_readsSum_5 22 rfl rfl)
theorem dX6_readsSum_140 : decode cX6_readsSum 140 = .ok (.invokevirtual 201, 3) := dk_182 0 201 (dk_at dksX6_readsSum_6 0 rfl rfl)
theorem dX6_readsSum_143 : decode cX6_readsSum 143 = .ok (.ifCond .eq 13, 3) := dk_153 0 13 (dk_at dksX6_readsSum_6 3 rfl rfl)
theorem dX6_readsSum_146 : decode cX6_readsSum 146 = .ok (.aload_n 0, 1) := dk_42 (dk_at dksX6_readsSum_6 6 rfl rfl)
theorem dX6_readsSum_147 : decode cX6_readsSum 147 = .ok (.iconst 1, 1) := dk_4 (dk_at dksX6_readsSum_6 7 rfl rfl)
theorem dX6_readsSum_148 : decode cX6_readsSum 148 = .ok (.aload_n 0, 1) := dk_42 (dk_at dksX6_readsSum_6 8 rfl rfl)
theorem dX6_readsSum_149 : decode cX6_readsSum 149 = .ok (.getfield 142, 3) := dk_180 0 142 (dk_at dksX6_readsSum_6 9 rfl rfl)
theorem dX6_readsSum_152 : decode cX6_readsSum 152 = .ok (.invokevirtual 155, 3) := dk_182 0 155 (dk_at dksX6_readsSum_6 12 rfl rfl)
theorem dX6_readsSum_155 : decode cX6_readsSum 155 = .ok (.ireturn, 1) := dk_172 (dk_at dksX6_readsSum_6 15 rfl rfl)
theorem dX6_readsSum_156 : decode cX6_readsSum 156 = .ok (.aload_n 0, 1) := dk_42 (dk_at dksX6_readsSum_6 16 rfl rfl)
theorem dX6_readsSum_157 : decode cX6_readsSum 157 = .ok (.iconst 1, 1) := dk_4 (dk_at dksX6_readsSum_6 17 rfl rfl)
theorem dX6_readsSum_158 : decode cX6_readsSum 158 = .ok (.invokevirtual 197, 3) := dk_182 0 197 (dk_at dksX6_readsSum_6 18 rfl rfl)
theorem dX6_readsSum_161 : decode cX6_readsSum 161 = .ok (.iconst 1, 1) := dk_4 (dk_at dksX6_readsSum_6 21 rfl rfl)
theorem dX6_readsSum_162 : decode cX6_readsSum 162 = .ok (.ireturn, 1) := dk_172 (dk_at dksX6_readsSum_6 22 rfl rfl)
theorem dX6_readsSum_163 : decode cX6_readsSum 163 = .ok (.goto (-149), 3) := dk_167 255 107 (dk_at dksX6_readsSum_7 0 rfl rfl)
abbrev cX6_readsFactor : ByteArray := prog_20_method_34_code
def yX6_readsFactor : MethodName := ⟨RX6, "readsFactor", "()Z"⟩
def dkwX6_readsFactor_3 : List UInt8 := [27, 182, 0, 178, 42, 42, 180, 0, 142, 4, 96, 181, 0, 142, 4, 172]
abbrev dktX6_readsFactor_3 : List UInt8 := dkwX6_readsFactor_3 ++ []
def dkwX6_readsFactor_2 : List UInt8 := [182, 0, 148, 184, 0, 188, 60, 27, 2, 160, 0, 13, 42, 4, 42, 180, 0, 142, 182, 0, 155, 172, 42, 4]
abbrev dktX6_readsFactor_2 : List UInt8 := dkwX6_readsFactor_2 ++ dktX6_readsFactor_3
def dkwX6_readsFactor_1 : List UInt8 := [153, 0, 23, 42, 182, 0, 185, 154, 0, 5, 3, 172, 42, 3, 42, 180, 0, 158, 182, 0, 178, 4, 172, 42]
abbrev dktX6_readsFactor_1 : List UInt8 := dkwX6_readsFactor_1 ++ dktX6_readsFactor_2
def dkwX6_readsFactor_0 : List UInt8 := [42, 182, 0, 148, 16, 91, 160, 0, 14, 42, 16, 14, 182, 0, 182, 154, 255, 241, 3, 172, 42, 182, 0, 161]
abbrev dktX6_readsFactor_0 : List UInt8 := dkwX6_readsFactor_0 ++ dktX6_readsFactor_1
theorem dksX6_readsFactor_0 : cX6_readsFactor.data.toList.drop 0 = dktX6_readsFactor_0 := by decide +kernel
theorem dksX6_readsFactor_1 : cX6_readsFactor.data.toList.drop 24 = dktX6_readsFactor_1 := dk_seg dksX6_readsFactor_0 24 rfl rfl
theorem dksX6_readsFactor_2 : cX6_readsFactor.data.toList.drop 48 = dktX6_readsFactor_2 := dk_seg dksX6_readsFactor_1 24 rfl rfl
theorem dksX6_readsFactor_3 : cX6_readsFactor.data.toList.drop 72 = dktX6_readsFactor_3 := dk_seg dksX6_readsFactor_2 24 rfl rfl
theorem dX6_readsFactor_0 : decode cX6_readsFactor 0 = .ok (.aload_n 0, 1) := dk_42 (dk_at dksX6_readsFactor_0 0 rfl rfl)
theorem dX6_readsFactor_1 : decode cX6_readsFactor 1 = .ok (.invokevirtual 148, 3) := dk_182 0 148 (dk_at dksX6_readsFactor_0 1 rfl rfl)
theorem dX6_readsFactor_4 : decode cX6_readsFactor 4 = .ok (.bipush 91, 2) := dk_16 91 (dk_at dksX6_readsFactor_0 4 rfl rfl)
theorem dX6_readsFactor_6 : decode cX6_readsFactor 6 = .ok (.if_icmp .ne 14, 3) := dk_160 0 14 (dk_at dksX6_readsFactor_0 6 rfl rfl)
theorem dX6_readsFactor_9 : decode cX6_readsFactor 9 = .ok (.aload_n 0, 1) := dk_42 (dk_at dksX6_readsFactor_0 9 rfl rfl)
theorem dX6_readsFactor_10 : decode cX6_readsFactor 10 = .ok (.bipush 14, 2) := dk_16 14 (dk_at dksX6_readsFactor_0 10 rfl rfl)
theorem dX6_readsFactor_12 : decode cX6_readsFactor 12 = .ok (.invokevirtual 182, 3) := dk_182 0 182 (dk_at dksX6_readsFactor_0 12 rfl rfl)
theorem dX6_readsFactor_15 : decode cX6_readsFactor 15 = .ok (.ifCond .ne (-15), 3) := dk_154 255 241 (dk_at dksX6_readsFactor_0 15 rfl rfl)
theorem dX6_readsFactor_18 : decode cX6_readsFactor 18 = .ok (.iconst 0, 1) := dk_3 (dk_at dksX6_readsFactor_0 18 rfl rfl)
theorem dX6_readsFactor_19 : decode cX6_readsFactor 19 = .ok (.ireturn, 1) := dk_172 (dk_at dksX6_readsFactor_0 19 rfl rfl)
theorem dX6_readsFactor_20 : decode cX6_readsFactor 20 = .ok (.aload_n 0, 1) := dk_42 (dk_at dksX6_readsFactor_0 20 rfl rfl)
theorem dX6_readsFactor_21 : decode cX6_readsFactor 21 = .ok (.invokevirtual 161, 3) := dk_182 0 161 (dk_at dksX6_readsFactor_0 21 rfl rfl)
theorem dX6_readsFactor_24 : decode cX6_readsFactor 24 = .ok (.ifCond .eq 23, 3) := dk_153 0 23 (dk_at dksX6_readsFactor_1 0 rfl rfl)
theorem dX6_readsFactor_27 : decode cX6_readsFactor 27 = .ok (.aload_n 0, 1) := dk_42 (dk_at dksX6_readsFactor_1 3 rfl rfl)
theorem dX6_readsFactor_28 : decode cX6_readsFactor 28 = .ok (.invokevirtual 185, 3) := dk_182 0 185 (dk_at dksX6_readsFactor_1 4 rfl rfl)
theorem dX6_readsFactor_31 : decode cX6_readsFactor 31 = .ok (.ifCond .ne 5, 3) := dk_154 0 5 (dk_at dksX6_readsFactor_1 7 rfl rfl)
theorem dX6_readsFactor_34 : decode cX6_readsFactor 34 = .ok (.iconst 0, 1) := dk_3 (dk_at dksX6_readsFactor_1 10 rfl rfl)
theorem dX6_readsFactor_35 : decode cX6_readsFactor 35 = .ok (.ireturn, 1) := dk_172 (dk_at dksX6_readsFactor_1 11 rfl rfl)
theorem dX6_readsFactor_36 : decode cX6_readsFactor 36 = .ok (.aload_n 0, 1) := dk_42 (dk_at dksX6_readsFactor_1 12 rfl rfl)
theorem dX6_readsFactor_37 : decode cX6_readsFactor 37 = .ok (.iconst 0, 1) := dk_3 (dk_at dksX6_readsFactor_1 13 rfl rfl)
theorem dX6_readsFactor_38 : decode cX6_readsFactor 38 = .ok (.aload_n 0, 1) := dk_42 (dk_at dksX6_readsFactor_1 14 rfl rfl)
theorem dX6_readsFactor_39 : decode cX6_readsFactor 39 = .ok (.getfield 158, 3) := dk_180 0 158 (dk_at dksX6_readsFactor_1 15 rfl rfl)
theorem dX6_readsFactor_42 : decode cX6_readsFactor 42 = .ok (.invokevirtual 178, 3) := dk_182 0 178 (dk_at dksX6_readsFactor_1 18 rfl rfl)
theorem dX6_readsFactor_45 : decode cX6_readsFactor 45 = .ok (.iconst 1, 1) := dk_4 (dk_at dksX6_readsFactor_1 21 rfl rfl)
theorem dX6_readsFactor_46 : decode cX6_readsFactor 46 = .ok (.ireturn, 1) := dk_172 (dk_at dksX6_readsFactor_1 22 rfl rfl)
theorem dX6_readsFactor_47 : decode cX6_readsFactor 47 = .ok (.aload_n 0, 1) := dk_42 (dk_at dksX6_readsFactor_1 23 rfl rfl)
theorem dX6_readsFactor_48 : decode cX6_readsFactor 48 = .ok (.invokevirtual 148, 3) := dk_182 0 148 (dk_at dksX6_readsFactor_2 0 rfl rfl)
theorem dX6_readsFactor_51 : decode cX6_readsFactor 51 = .ok (.invokestatic 188, 3) := dk_184 0 188 (dk_at dksX6_readsFactor_2 3 rfl rfl)
theorem dX6_readsFactor_54 : decode cX6_readsFactor 54 = .ok (.istore_n 1, 1) := dk_60 (dk_at dksX6_readsFactor_2 6 rfl rfl)
theorem dX6_readsFactor_55 : decode cX6_readsFactor 55 = .ok (.iload_n 1, 1) := dk_27 (dk_at dksX6_readsFactor_2 7 rfl rfl)
theorem dX6_readsFactor_56 : decode cX6_readsFactor 56 = .ok (.iconst (-1), 1) := dk_2 (dk_at dksX6_readsFactor_2 8 rfl rfl)
theorem dX6_readsFactor_57 : decode cX6_readsFactor 57 = .ok (.if_icmp .ne 13, 3) := dk_160 0 13 (dk_at dksX6_readsFactor_2 9 rfl rfl)
theorem dX6_readsFactor_60 : decode cX6_readsFactor 60 = .ok (.aload_n 0, 1) := dk_42 (dk_at dksX6_readsFactor_2 12 rfl rfl)
theorem dX6_readsFactor_61 : decode cX6_readsFactor 61 = .ok (.iconst 1, 1) := dk_4 (dk_at dksX6_readsFactor_2 13 rfl rfl)
theorem dX6_readsFactor_62 : decode cX6_readsFactor 62 = .ok (.aload_n 0, 1) := dk_42 (dk_at dksX6_readsFactor_2 14 rfl rfl)
theorem dX6_readsFactor_63 : decode cX6_readsFactor 63 = .ok (.getfield 142, 3) := dk_180 0 142 (dk_at dksX6_readsFactor_2 15 rfl rfl)
theorem dX6_readsFactor_66 : decode cX6_readsFactor 66 = .ok (.invokevirtual 155, 3) := dk_182 0 155 (dk_at dksX6_readsFactor_2 18 rfl rfl)
theorem dX6_readsFactor_69 : decode cX6_readsFactor 69 = .ok (.ireturn, 1) := dk_172 (dk_at dksX6_readsFactor_2 21 rfl rfl)
theorem dX6_readsFactor_70 : decode cX6_readsFactor 70 = .ok (.aload_n 0, 1) := dk_42 (dk_at dksX6_readsFactor_2 22 rfl rfl)
theorem dX6_readsFactor_71 : decode cX6_readsFactor 71 = .ok (.iconst 1, 1) := dk_4 (dk_at dksX6_readsFactor_2 23 rfl rfl)
theorem dX6_readsFactor_72 : decode cX6_readsFactor 72 = .ok (.iload_n 1, 1) := dk_27 (dk_at dksX6_readsFactor_3 0 rfl rfl)
theorem dX6_readsFactor_73 : decode cX6_readsFactor 73 = .ok (.invokevirtual 178, 3) := dk_182 0 178 (dk_at dksX6_readsFactor_3 1 rfl rfl)
theorem dX6_readsFactor_76 : decode cX6_readsFactor 76 = .ok (.aload_n 0, 1) := dk_42 (dk_at dksX6_readsFactor_3 4 rfl rfl)
theorem dX6_readsFactor_77 : decode cX6_readsFactor 77 = .ok (.aload_n 0, 1) := dk_42 (dk_at dksX6_readsFactor_3 5 rfl rfl)
theorem dX6_readsFactor_78 : decode cX6_readsFactor 78 = .ok (.getfield 142, 3) := dk_180 0 142 (dk_at dksX6_readsFactor_3 6 rfl rfl)
theorem dX6_readsFactor_81 : decode cX6_readsFactor 81 = .ok (.iconst 1, 1) := dk_4 (dk_at dksX6_readsFactor_3 9 rfl rfl)
theorem dX6_readsFactor_82 : decode cX6_readsFactor 82 = .ok (.iadd, 1) := dk_96 (dk_at dksX6_readsFactor_3 10 rfl rfl)
theorem dX6_readsFactor_83 : decode cX6_readsFactor 83 = .ok (.putfield 142, 3) := dk_181 0 142 (dk_at dksX6_readsFactor_3 11 rfl rfl)
theorem dX6_readsFactor_86 : decode cX6_readsFactor 86 = .ok (.iconst 1, 1) := dk_4 (dk_at dksX6_readsFactor_3 14 rfl rfl)
theorem dX6_readsFactor_87 : decode cX6_readsFactor 87 = .ok (.ireturn, 1) := dk_172 (dk_at dksX6_readsFactor_3 15 rfl rfl)
abbrev cX6_opens : ByteArray := prog_20_method_29_code
def yX6_opens : MethodName := ⟨RX6, "opens", "(I)Z"⟩
def dkwX6_opens_2 : List UInt8 := [96, 181, 0, 172, 42, 42, 180, 0, 142, 4, 96, 181, 0, 142, 4, 172]
abbrev dktX6_opens_2 : List UInt8 := dkwX6_opens_2 ++ []
def dkwX6_opens_1 : List UInt8 := [4, 96, 181, 0, 169, 42, 180, 0, 26, 42, 180, 0, 172, 18, 168, 27, 104, 79, 42, 42, 180, 0, 172, 4]
abbrev dktX6_opens_1 : List UInt8 := dkwX6_opens_1 ++ dktX6_opens_2
def dkwX6_opens_0 : List UInt8 := [42, 180, 0, 169, 16, 6, 160, 0, 13, 42, 8, 42, 180, 0, 142, 182, 0, 155, 172, 42, 42, 180, 0, 169]
abbrev dktX6_opens_0 : List UInt8 := dkwX6_opens_0 ++ dktX6_opens_1
theorem dksX6_opens_0 : cX6_opens.data.toList.drop 0 = dktX6_opens_0 := by decide +kernel
theorem dksX6_opens_1 : cX6_opens.data.toList.drop 24 = dktX6_opens_1 := dk_seg dksX6_opens_0 24 rfl rfl
theorem dksX6_opens_2 : cX6_opens.data.toList.drop 48 = dktX6_opens_2 := dk_seg dksX6_opens_1 24 rfl rfl
theorem dX6_opens_0 : decode cX6_opens 0 = .ok (.aload_n 0, 1) := dk_42 (dk_at dksX6_opens_0 0 rfl rfl)
theorem dX6_opens_1 : decode cX6_opens 1 = .ok (.getfield 169, 3) := dk_180 0 169 (dk_at dksX6_opens_0 1 rfl rfl)
theorem dX6_opens_4 : decode cX6_opens 4 = .ok (.bipush 6, 2) := dk_16 6 (dk_at dksX6_opens_0 4 rfl rfl)
theorem dX6_opens_6 : decode cX6_opens 6 = .ok (.if_icmp .ne 13, 3) := dk_160 0 13 (dk_at dksX6_opens_0 6 rfl rfl)
theorem dX6_opens_9 : decode cX6_opens 9 = .ok (.aload_n 0, 1) := dk_42 (dk_at dksX6_opens_0 9 rfl rfl)
theorem dX6_opens_10 : decode cX6_opens 10 = .ok (.iconst 5, 1) := dk_8 (dk_at dksX6_opens_0 10 rfl rfl)
theorem dX6_opens_11 : decode cX6_opens 11 = .ok (.aload_n 0, 1) := dk_42 (dk_at dksX6_opens_0 11 rfl rfl)
theorem dX6_opens_12 : decode cX6_opens 12 = .ok (.getfield 142, 3) := dk_180 0 142 (dk_at dksX6_opens_0 12 rfl rfl)
theorem dX6_opens_15 : decode cX6_opens 15 = .ok (.invokevirtual 155, 3) := dk_182 0 155 (dk_at dksX6_opens_0 15 rfl rfl)
theorem dX6_opens_18 : decode cX6_opens 18 = .ok (.ireturn, 1) := dk_172 (dk_at dksX6_opens_0 18 rfl rfl)
theorem dX6_opens_19 : decode cX6_opens 19 = .ok (.aload_n 0, 1) := dk_42 (dk_at dksX6_opens_0 19 rfl rfl)
theorem dX6_opens_20 : decode cX6_opens 20 = .ok (.aload_n 0, 1) := dk_42 (dk_at dksX6_opens_0 20 rfl rfl)
theorem dX6_opens_21 : decode cX6_opens 21 = .ok (.getfield 169, 3) := dk_180 0 169 (dk_at dksX6_opens_0 21 rfl rfl)
theorem dX6_opens_24 : decode cX6_opens 24 = .ok (.iconst 1, 1) := dk_4 (dk_at dksX6_opens_1 0 rfl rfl)
theorem dX6_opens_25 : decode cX6_opens 25 = .ok (.iadd, 1) := dk_96 (dk_at dksX6_opens_1 1 rfl rfl)
theorem dX6_opens_26 : decode cX6_opens 26 = .ok (.putfield 169, 3) := dk_181 0 169 (dk_at dksX6_opens_1 2 rfl rfl)
theorem dX6_opens_29 : decode cX6_opens 29 = .ok (.aload_n 0, 1) := dk_42 (dk_at dksX6_opens_1 5 rfl rfl)
theorem dX6_opens_30 : decode cX6_opens 30 = .ok (.getfield 26, 3) := dk_180 0 26 (dk_at dksX6_opens_1 6 rfl rfl)
theorem dX6_opens_33 : decode cX6_opens 33 = .ok (.aload_n 0, 1) := dk_42 (dk_at dksX6_opens_1 9 rfl rfl)
theorem dX6_opens_34 : decode cX6_opens 34 = .ok (.getfield 172, 3) := dk_180 0 172 (dk_at dksX6_opens_1 10 rfl rfl)
theorem dX6_opens_37 : decode cX6_opens 37 = .ok (.ldc 168, 2) := dk_18 168 (dk_at dksX6_opens_1 13 rfl rfl)
theorem dX6_opens_39 : decode cX6_opens 39 = .ok (.iload_n 1, 1) := dk_27 (dk_at dksX6_opens_1 15 rfl rfl)
theorem dX6_opens_40 : decode cX6_opens 40 = .ok (.imul, 1) := dk_104 (dk_at dksX6_opens_1 16 rfl rfl)
theorem dX6_opens_41 : decode cX6_opens 41 = .ok (.iastore, 1) := dk_79 (dk_at dksX6_opens_1 17 rfl rfl)
theorem dX6_opens_42 : decode cX6_opens 42 = .ok (.aload_n 0, 1) := dk_42 (dk_at dksX6_opens_1 18 rfl rfl)
theorem dX6_opens_43 : decode cX6_opens 43 = .ok (.aload_n 0, 1) := dk_42 (dk_at dksX6_opens_1 19 rfl rfl)
theorem dX6_opens_44 : decode cX6_opens 44 = .ok (.getfield 172, 3) := dk_180 0 172 (dk_at dksX6_opens_1 20 rfl rfl)
theorem dX6_opens_47 : decode cX6_opens 47 = .ok (.iconst 1, 1) := dk_4 (dk_at dksX6_opens_1 23 rfl rfl)
theorem dX6_opens_48 : decode cX6_opens 48 = .ok (.iadd, 1) := dk_96 (dk_at dksX6_opens_2 0 rfl rfl)
theorem dX6_opens_49 : decode cX6_opens 49 = .ok (.putfield 172, 3) := dk_181 0 172 (dk_at dksX6_opens_2 1 rfl rfl)
theorem dX6_opens_52 : decode cX6_opens 52 = .ok (.aload_n 0, 1) := dk_42 (dk_at dksX6_opens_2 4 rfl rfl)
theorem dX6_opens_53 : decode cX6_opens 53 = .ok (.aload_n 0, 1) := dk_42 (dk_at dksX6_opens_2 5 rfl rfl)
theorem dX6_opens_54 : decode cX6_opens 54 = .ok (.getfield 142, 3) := dk_180 0 142 (dk_at dksX6_opens_2 6 rfl rfl)
theorem dX6_opens_57 : decode cX6_opens 57 = .ok (.iconst 1, 1) := dk_4 (dk_at dksX6_opens_2 9 rfl rfl)
theorem dX6_opens_58 : decode cX6_opens 58 = .ok (.iadd, 1) := dk_96 (dk_at dksX6_opens_2 10 rfl rfl)
theorem dX6_opens_59 : decode cX6_opens 59 = .ok (.putfield 142, 3) := dk_181 0 142 (dk_at dksX6_opens_2 11 rfl rfl)
theorem dX6_opens_62 : decode cX6_opens 62 = .ok (.iconst 1, 1) := dk_4 (dk_at dksX6_opens_2 14 rfl rfl)
theorem dX6_opens_63 : decode cX6_opens 63 = .ok (.ireturn, 1) := dk_172 (dk_at dksX6_opens_2 15 rfl rfl)
abbrev cX6_isDigit : ByteArray := prog_20_method_24_code
def yX6_isDigit : MethodName := ⟨RX6, "isDigit", "()Z"⟩
def dkwX6_isDigit_0 : List UInt8 := [42, 182, 0, 148, 16, 48, 161, 0, 16, 42, 182, 0, 148, 16, 57, 163, 0, 7, 4, 167, 0, 4, 3, 172]
abbrev dktX6_isDigit_0 : List UInt8 := dkwX6_isDigit_0 ++ []
theorem dksX6_isDigit_0 : cX6_isDigit.data.toList.drop 0 = dktX6_isDigit_0 := by decide +kernel
theorem dX6_isDigit_0 : decode cX6_isDigit 0 = .ok (.aload_n 0, 1) := dk_42 (dk_at dksX6_isDigit_0 0 rfl rfl)
theorem dX6_isDigit_1 : decode cX6_isDigit 1 = .ok (.invokevirtual 148, 3) := dk_182 0 148 (dk_at dksX6_isDigit_0 1 rfl rfl)
theorem dX6_isDigit_4 : decode cX6_isDigit 4 = .ok (.bipush 48, 2) := dk_16 48 (dk_at dksX6_isDigit_0 4 rfl rfl)
theorem dX6_isDigit_6 : decode cX6_isDigit 6 = .ok (.if_icmp .lt 16, 3) := dk_161 0 16 (dk_at dksX6_isDigit_0 6 rfl rfl)
theorem dX6_isDigit_9 : decode cX6_isDigit 9 = .ok (.aload_n 0, 1) := dk_42 (dk_at dksX6_isDigit_0 9 rfl rfl)
theorem dX6_isDigit_10 : decode cX6_isDigit 10 = .ok (.invokevirtual 148, 3) := dk_182 0 148 (dk_at dksX6_isDigit_0 10 rfl rfl)
theorem dX6_isDigit_13 : decode cX6_isDigit 13 = .ok (.bipush 57, 2) := dk_16 57 (dk_at dksX6_isDigit_0 13 rfl rfl)
theorem dX6_isDigit_15 : decode cX6_isDigit 15 = .ok (.if_icmp .gt 7, 3) := dk_163 0 7 (dk_at dksX6_isDigit_0 15 rfl rfl)
theorem dX6_isDigit_18 : decode cX6_isDigit 18 = .ok (.iconst 1, 1) := dk_4 (dk_at dksX6_isDigit_0 18 rfl rfl)
theorem dX6_isDigit_19 : decode cX6_isDigit 19 = .ok (.goto 4, 3) := dk_167 0 4 (dk_at dksX6_isDigit_0 19 rfl rfl)
theorem dX6_isDigit_22 : decode cX6_isDigit 22 = .ok (.iconst 0, 1) := dk_3 (dk_at dksX6_isDigit_0 22 rfl rfl)
theorem dX6_isDigit_23 : decode cX6_isDigit 23 = .ok (.ireturn, 1) := dk_172 (dk_at dksX6_isDigit_0 23 rfl rfl)
abbrev cX6_readsNumber : ByteArray := prog_20_method_27_code
def yX6_readsNumber : MethodName := ⟨RX6, "readsNumber", "()Z"⟩
def dkwX6_readsNumber_3 : List UInt8 := [172]
abbrev dktX6_readsNumber_3 : List UInt8 := dkwX6_readsNumber_3 ++ []
def dkwX6_readsNumber_2 : List UInt8 := [182, 0, 148, 96, 16, 48, 100, 181, 0, 158, 42, 42, 180, 0, 142, 4, 96, 181, 0, 142, 167, 255, 200, 4]
abbrev dktX6_readsNumber_2 : List UInt8 := dkwX6_readsNumber_2 ++ dktX6_readsNumber_3
def dkwX6_readsNumber_1 : List UInt8 := [160, 0, 13, 42, 5, 42, 180, 0, 142, 182, 0, 155, 172, 42, 16, 10, 42, 180, 0, 158, 104, 42]
abbrev dktX6_readsNumber_1 : List UInt8 := dkwX6_readsNumber_1 ++ dktX6_readsNumber_2
def dkwX6_readsNumber_0 : List UInt8 := [42, 180, 0, 142, 60, 42, 3, 181, 0, 158, 42, 182, 0, 161, 153, 0, 55, 42, 180, 0, 142, 27, 8, 96]
abbrev dktX6_readsNumber_0 : List UInt8 := dkwX6_readsNumber_0 ++ dktX6_readsNumber_1
theorem dksX6_readsNumber_0 : cX6_readsNumber.data.toList.drop 0 = dktX6_readsNumber_0 := by decide +kernel
theorem dksX6_readsNumber_1 : cX6_readsNumber.data.toList.drop 24 = dktX6_readsNumber_1 := dk_seg dksX6_readsNumber_0 24 rfl rfl
theorem dksX6_readsNumber_2 : cX6_readsNumber.data.toList.drop 46 = dktX6_readsNumber_2 := dk_seg dksX6_readsNumber_1 22 rfl rfl
theorem dksX6_readsNumber_3 : cX6_readsNumber.data.toList.drop 70 = dktX6_readsNumber_3 := dk_seg dksX6_readsNumber_2 24 rfl rfl
theorem dX6_readsNumber_0 : decode cX6_readsNumber 0 = .ok (.aload_n 0, 1) := dk_42 (dk_at dksX6_readsNumber_0 0 rfl rfl)
theorem dX6_readsNumber_1 : decode cX6_readsNumber 1 = .ok (.getfield 142, 3) := dk_180 0 142 (dk_at dksX6_readsNumber_0 1 rfl rfl)
theorem dX6_readsNumber_4 : decode cX6_readsNumber 4 = .ok (.istore_n 1, 1) := dk_60 (dk_at dksX6_readsNumber_0 4 rfl rfl)
theorem dX6_readsNumber_5 : decode cX6_readsNumber 5 = .ok (.aload_n 0, 1) := dk_42 (dk_at dksX6_readsNumber_0 5 rfl rfl)
theorem dX6_readsNumber_6 : decode cX6_readsNumber 6 = .ok (.iconst 0, 1) := dk_3 (dk_at dksX6_readsNumber_0 6 rfl rfl)
theorem dX6_readsNumber_7 : decode cX6_readsNumber 7 = .ok (.putfield 158, 3) := dk_181 0 158 (dk_at dksX6_readsNumber_0 7 rfl rfl)
theorem dX6_readsNumber_10 : decode cX6_readsNumber 10 = .ok (.aload_n 0, 1) := dk_42 (dk_at dksX6_readsNumber_0 10 rfl rfl)
theorem dX6_readsNumber_11 : decode cX6_readsNumber 11 = .ok (.invokevirtual 161, 3) := dk_182 0 161 (dk_at dksX6_readsNumber_0 11 rfl rfl)
theorem dX6_readsNumber_14 : decode cX6_readsNumber 14 = .ok (.ifCond .eq 55, 3) := dk_153 0 55 (dk_at dksX6_readsNumber_0 14 rfl rfl)
theorem dX6_readsNumber_17 : decode cX6_readsNumber 17 = .ok (.aload_n 0, 1) := dk_42 (dk_at dksX6_readsNumber_0 17 rfl rfl)
theorem dX6_readsNumber_18 : decode cX6_readsNumber 18 = .ok (.getfield 142, 3) := dk_180 0 142 (dk_at dksX6_readsNumber_0 18 rfl rfl)
theorem dX6_readsNumber_21 : decode cX6_readsNumber 21 = .ok (.iload_n 1, 1) := dk_27 (dk_at dksX6_readsNumber_0 21 rfl rfl)
theorem dX6_readsNumber_22 : decode cX6_readsNumber 22 = .ok (.iconst 5, 1) := dk_8 (dk_at dksX6_readsNumber_0 22 rfl rfl)
theorem dX6_readsNumber_23 : decode cX6_readsNumber 23 = .ok (.iadd, 1) := dk_96 (dk_at dksX6_readsNumber_0 23 rfl rfl)
theorem dX6_readsNumber_24 : decode cX6_readsNumber 24 = .ok (.if_icmp .ne 13, 3) := dk_160 0 13 (dk_at dksX6_readsNumber_1 0 rfl rfl)
theorem dX6_readsNumber_27 : decode cX6_readsNumber 27 = .ok (.aload_n 0, 1) := dk_42 (dk_at dksX6_readsNumber_1 3 rfl rfl)
theorem dX6_readsNumber_28 : decode cX6_readsNumber 28 = .ok (.iconst 2, 1) := dk_5 (dk_at dksX6_readsNumber_1 4 rfl rfl)
theorem dX6_readsNumber_29 : decode cX6_readsNumber 29 = .ok (.aload_n 0, 1) := dk_42 (dk_at dksX6_readsNumber_1 5 rfl rfl)
theorem dX6_readsNumber_30 : decode cX6_readsNumber 30 = .ok (.getfield 142, 3) := dk_180 0 142 (dk_at dksX6_readsNumber_1 6 rfl rfl)
theorem dX6_readsNumber_33 : decode cX6_readsNumber 33 = .ok (.invokevirtual 155, 3) := dk_182 0 155 (dk_at dksX6_readsNumber_1 9 rfl rfl)
theorem dX6_readsNumber_36 : decode cX6_readsNumber 36 = .ok (.ireturn, 1) := dk_172 (dk_at dksX6_readsNumber_1 12 rfl rfl)
theorem dX6_readsNumber_37 : decode cX6_readsNumber 37 = .ok (.aload_n 0, 1) := dk_42 (dk_at dksX6_readsNumber_1 13 rfl rfl)
theorem dX6_readsNumber_38 : decode cX6_readsNumber 38 = .ok (.bipush 10, 2) := dk_16 10 (dk_at dksX6_readsNumber_1 14 rfl rfl)
theorem dX6_readsNumber_40 : decode cX6_readsNumber 40 = .ok (.aload_n 0, 1) := dk_42 (dk_at dksX6_readsNumber_1 16 rfl rfl)
theorem dX6_readsNumber_41 : decode cX6_readsNumber 41 = .ok (.getfield 158, 3) := dk_180 0 158 (dk_at dksX6_readsNumber_1 17 rfl rfl)
theorem dX6_readsNumber_44 : decode cX6_readsNumber 44 = .ok (.imul, 1) := dk_104 (dk_at dksX6_readsNumber_1 20 rfl rfl)
theorem dX6_readsNumber_45 : decode cX6_readsNumber 45 = .ok (.aload_n 0, 1) := dk_42 (dk_at dksX6_readsNumber_1 21 rfl rfl)
theorem dX6_readsNumber_46 : decode cX6_readsNumber 46 = .ok (.invokevirtual 148, 3) := dk_182 0 148 (dk_at dksX6_readsNumber_2 0 rfl rfl)
theorem dX6_readsNumber_49 : decode cX6_readsNumber 49 = .ok (.iadd, 1) := dk_96 (dk_at dksX6_readsNumber_2 3 rfl rfl)
theorem dX6_readsNumber_50 : decode cX6_readsNumber 50 = .ok (.bipush 48, 2) := dk_16 48 (dk_at dksX6_readsNumber_2 4 rfl rfl)
theorem dX6_readsNumber_52 : decode cX6_readsNumber 52 = .ok (.isub, 1) := dk_100 (dk_at dksX6_readsNumber_2 6 rfl rfl)
theorem dX6_readsNumber_53 : decode cX6_readsNumber 53 = .ok (.putfield 158, 3) := dk_181 0 158 (dk_at dksX6_readsNumber_2 7 rfl rfl)
theorem dX6_readsNumber_56 : decode cX6_readsNumber 56 = .ok (.aload_n 0, 1) := dk_42 (dk_at dksX6_readsNumber_2 10 rfl rfl)
theorem dX6_readsNumber_57 : decode cX6_readsNumber 57 = .ok (.aload_n 0, 1) := dk_42 (dk_at dksX6_readsNumber_2 11 rfl rfl)
theorem dX6_readsNumber_58 : decode cX6_readsNumber 58 = .ok (.getfield 142, 3) := dk_180 0 142 (dk_at dksX6_readsNumber_2 12 rfl rfl)
theorem dX6_readsNumber_61 : decode cX6_readsNumber 61 = .ok (.iconst 1, 1) := dk_4 (dk_at dksX6_readsNumber_2 15 rfl rfl)
theorem dX6_readsNumber_62 : decode cX6_readsNumber 62 = .ok (.iadd, 1) := dk_96 (dk_at dksX6_readsNumber_2 16 rfl rfl)
theorem dX6_readsNumber_63 : decode cX6_readsNumber 63 = .ok (.putfield 142, 3) := dk_181 0 142 (dk_at dksX6_readsNumber_2 17 rfl rfl)
theorem dX6_readsNumber_66 : decode cX6_readsNumber 66 = .ok (.goto (-56), 3) := dk_167 255 200 (dk_at dksX6_readsNumber_2 20 rfl rfl)
theorem dX6_readsNumber_69 : decode cX6_readsNumber 69 = .ok (.iconst 1, 1) := dk_4 (dk_at dksX6_readsNumber_2 23 rfl rfl)
theorem dX6_readsNumber_70 : decode cX6_readsNumber 70 = .ok (.ireturn, 1) := dk_172 (dk_at dksX6_readsNumber_3 0 rfl rfl)
abbrev cX6_notes : ByteArray := prog_20_method_28_code
def yX6_notes : MethodName := ⟨RX6, "notes", "(II)V"⟩
def dkwX6_notes_1 : List UInt8 := [181, 0, 165, 177]
abbrev dktX6_notes_1 : List UInt8 := dkwX6_notes_1 ++ []
def dkwX6_notes_0 : List UInt8 := [42, 180, 0, 23, 42, 180, 0, 165, 18, 168, 27, 104, 28, 96, 79, 42, 42, 180, 0, 165, 4, 96]
abbrev dktX6_notes_0 : List UInt8 := dkwX6_notes_0 ++ dktX6_notes_1
theorem dksX6_notes_0 : cX6_notes.data.toList.drop 0 = dktX6_notes_0 := by decide +kernel
theorem dksX6_notes_1 : cX6_notes.data.toList.drop 22 = dktX6_notes_1 := dk_seg dksX6_notes_0 22 rfl rfl
theorem dX6_notes_0 : decode cX6_notes 0 = .ok (.aload_n 0, 1) := dk_42 (dk_at dksX6_notes_0 0 rfl rfl)
theorem dX6_notes_1 : decode cX6_notes 1 = .ok (.getfield 23, 3) := dk_180 0 23 (dk_at dksX6_notes_0 1 rfl rfl)
theorem dX6_notes_4 : decode cX6_notes 4 = .ok (.aload_n 0, 1) := dk_42 (dk_at dksX6_notes_0 4 rfl rfl)
theorem dX6_notes_5 : decode cX6_notes 5 = .ok (.getfield 165, 3) := dk_180 0 165 (dk_at dksX6_notes_0 5 rfl rfl)
theorem dX6_notes_8 : decode cX6_notes 8 = .ok (.ldc 168, 2) := dk_18 168 (dk_at dksX6_notes_0 8 rfl rfl)
theorem dX6_notes_10 : decode cX6_notes 10 = .ok (.iload_n 1, 1) := dk_27 (dk_at dksX6_notes_0 10 rfl rfl)
theorem dX6_notes_11 : decode cX6_notes 11 = .ok (.imul, 1) := dk_104 (dk_at dksX6_notes_0 11 rfl rfl)
theorem dX6_notes_12 : decode cX6_notes 12 = .ok (.iload_n 2, 1) := dk_28 (dk_at dksX6_notes_0 12 rfl rfl)
theorem dX6_notes_13 : decode cX6_notes 13 = .ok (.iadd, 1) := dk_96 (dk_at dksX6_notes_0 13 rfl rfl)
theorem dX6_notes_14 : decode cX6_notes 14 = .ok (.iastore, 1) := dk_79 (dk_at dksX6_notes_0 14 rfl rfl)
theorem dX6_notes_15 : decode cX6_notes 15 = .ok (.aload_n 0, 1) := dk_42 (dk_at dksX6_notes_0 15 rfl rfl)
theorem dX6_notes_16 : decode cX6_notes 16 = .ok (.aload_n 0, 1) := dk_42 (dk_at dksX6_notes_0 16 rfl rfl)
theorem dX6_notes_17 : decode cX6_notes 17 = .ok (.getfield 165, 3) := dk_180 0 165 (dk_at dksX6_notes_0 17 rfl rfl)
theorem dX6_notes_20 : decode cX6_notes 20 = .ok (.iconst 1, 1) := dk_4 (dk_at dksX6_notes_0 20 rfl rfl)
theorem dX6_notes_21 : decode cX6_notes 21 = .ok (.iadd, 1) := dk_96 (dk_at dksX6_notes_0 21 rfl rfl)
theorem dX6_notes_22 : decode cX6_notes 22 = .ok (.putfield 165, 3) := dk_181 0 165 (dk_at dksX6_notes_1 0 rfl rfl)
theorem dX6_notes_25 : decode cX6_notes 25 = .ok (.return_, 1) := dk_177 (dk_at dksX6_notes_1 3 rfl rfl)
abbrev cX6_factOf : ByteArray := prog_20_method_31_code
def yX6_factOf : MethodName := ⟨RX6, "factOf", "(I)I"⟩
def dkwX6_factOf_2 : List UInt8 := [3, 172, 4, 172, 5, 172, 6, 172, 7, 172, 8, 172, 16, 6, 172, 16, 7, 172, 2, 172]
abbrev dktX6_factOf_2 : List UInt8 := dkwX6_factOf_2 ++ []
def dkwX6_factOf_1 : List UInt8 := [170, 0, 0, 0, 0, 0, 77, 0, 0, 0, 107, 0, 0, 0, 117, 0, 0, 0, 61, 0, 0, 0, 77, 0, 0, 0, 67, 0, 0, 0, 71, 0, 0, 0, 69, 0, 0, 0, 59, 0, 0, 0, 77, 0, 0, 0, 77, 0, 0, 0, 63, 0, 0, 0, 74, 0, 0, 0, 65]
abbrev dktX6_factOf_1 : List UInt8 := dkwX6_factOf_1 ++ dktX6_factOf_2
def dkwX6_factOf_0 : List UInt8 := [26]
abbrev dktX6_factOf_0 : List UInt8 := dkwX6_factOf_0 ++ dktX6_factOf_1
theorem dksX6_factOf_0 : cX6_factOf.data.toList.drop 0 = dktX6_factOf_0 := by decide +kernel
theorem dksX6_factOf_1 : cX6_factOf.data.toList.drop 1 = dktX6_factOf_1 := dk_seg dksX6_factOf_0 1 rfl rfl
theorem dksX6_factOf_2 : cX6_factOf.data.toList.drop 60 = dktX6_factOf_2 := dk_seg dksX6_factOf_1 59 rfl rfl
theorem dX6_factOf_0 : decode cX6_factOf 0 = .ok (.iload_n 0, 1) := dk_26 (dk_at dksX6_factOf_0 0 rfl rfl)
theorem dX6_factOf_1 : decode cX6_factOf 1 = .ok (.tableswitch 77 107 117 #[61, 77, 67, 71, 69, 59, 77, 77, 63, 74, 65], 59) := by decide +kernel
theorem dX6_factOf_60 : decode cX6_factOf 60 = .ok (.iconst 0, 1) := dk_3 (dk_at dksX6_factOf_2 0 rfl rfl)
theorem dX6_factOf_61 : decode cX6_factOf 61 = .ok (.ireturn, 1) := dk_172 (dk_at dksX6_factOf_2 1 rfl rfl)
theorem dX6_factOf_62 : decode cX6_factOf 62 = .ok (.iconst 1, 1) := dk_4 (dk_at dksX6_factOf_2 2 rfl rfl)
theorem dX6_factOf_63 : decode cX6_factOf 63 = .ok (.ireturn, 1) := dk_172 (dk_at dksX6_factOf_2 3 rfl rfl)
theorem dX6_factOf_64 : decode cX6_factOf 64 = .ok (.iconst 2, 1) := dk_5 (dk_at dksX6_factOf_2 4 rfl rfl)
theorem dX6_factOf_65 : decode cX6_factOf 65 = .ok (.ireturn, 1) := dk_172 (dk_at dksX6_factOf_2 5 rfl rfl)
theorem dX6_factOf_66 : decode cX6_factOf 66 = .ok (.iconst 3, 1) := dk_6 (dk_at dksX6_factOf_2 6 rfl rfl)
theorem dX6_factOf_67 : decode cX6_factOf 67 = .ok (.ireturn, 1) := dk_172 (dk_at dksX6_factOf_2 7 rfl rfl)
theorem dX6_factOf_68 : decode cX6_factOf 68 = .ok (.iconst 4, 1) := dk_7 (dk_at dksX6_factOf_2 8 rfl rfl)
theorem dX6_factOf_69 : decode cX6_factOf 69 = .ok (.ireturn, 1) := dk_172 (dk_at dksX6_factOf_2 9 rfl rfl)
theorem dX6_factOf_70 : decode cX6_factOf 70 = .ok (.iconst 5, 1) := dk_8 (dk_at dksX6_factOf_2 10 rfl rfl)
theorem dX6_factOf_71 : decode cX6_factOf 71 = .ok (.ireturn, 1) := dk_172 (dk_at dksX6_factOf_2 11 rfl rfl)
theorem dX6_factOf_72 : decode cX6_factOf 72 = .ok (.bipush 6, 2) := dk_16 6 (dk_at dksX6_factOf_2 12 rfl rfl)
theorem dX6_factOf_74 : decode cX6_factOf 74 = .ok (.ireturn, 1) := dk_172 (dk_at dksX6_factOf_2 14 rfl rfl)
theorem dX6_factOf_75 : decode cX6_factOf 75 = .ok (.bipush 7, 2) := dk_16 7 (dk_at dksX6_factOf_2 15 rfl rfl)
theorem dX6_factOf_77 : decode cX6_factOf 77 = .ok (.ireturn, 1) := dk_172 (dk_at dksX6_factOf_2 17 rfl rfl)
theorem dX6_factOf_78 : decode cX6_factOf 78 = .ok (.iconst (-1), 1) := dk_2 (dk_at dksX6_factOf_2 18 rfl rfl)
theorem dX6_factOf_79 : decode cX6_factOf 79 = .ok (.ireturn, 1) := dk_172 (dk_at dksX6_factOf_2 19 rfl rfl)
abbrev cX6_sumSign : ByteArray := prog_20_method_32_code
def yX6_sumSign : MethodName := ⟨RX6, "sumSign", "(I)I"⟩
def dkwX6_sumSign_2 : List UInt8 := [16, 6, 167, 0, 4, 2, 172]
abbrev dktX6_sumSign_2 : List UInt8 := dkwX6_sumSign_2 ++ []
def dkwX6_sumSign_1 : List UInt8 := [160, 0, 7, 7, 167, 0, 25, 26, 16, 47, 160, 0, 7, 8, 167, 0, 15, 26, 16, 37, 160, 0, 8]
abbrev dktX6_sumSign_1 : List UInt8 := dkwX6_sumSign_1 ++ dktX6_sumSign_2
def dkwX6_sumSign_0 : List UInt8 := [26, 16, 43, 160, 0, 7, 5, 167, 0, 45, 26, 16, 45, 160, 0, 7, 6, 167, 0, 35, 26, 16, 42]
abbrev dktX6_sumSign_0 : List UInt8 := dkwX6_sumSign_0 ++ dktX6_sumSign_1
theorem dksX6_sumSign_0 : cX6_sumSign.data.toList.drop 0 = dktX6_sumSign_0 := by decide +kernel
theorem dksX6_sumSign_1 : cX6_sumSign.data.toList.drop 23 = dktX6_sumSign_1 := dk_seg dksX6_sumSign_0 23 rfl rfl
theorem dksX6_sumSign_2 : cX6_sumSign.data.toList.drop 46 = dktX6_sumSign_2 := dk_seg dksX6_sumSign_1 23 rfl rfl
theorem dX6_sumSign_0 : decode cX6_sumSign 0 = .ok (.iload_n 0, 1) := dk_26 (dk_at dksX6_sumSign_0 0 rfl rfl)
theorem dX6_sumSign_1 : decode cX6_sumSign 1 = .ok (.bipush 43, 2) := dk_16 43 (dk_at dksX6_sumSign_0 1 rfl rfl)
theorem dX6_sumSign_3 : decode cX6_sumSign 3 = .ok (.if_icmp .ne 7, 3) := dk_160 0 7 (dk_at dksX6_sumSign_0 3 rfl rfl)
theorem dX6_sumSign_6 : decode cX6_sumSign 6 = .ok (.iconst 2, 1) := dk_5 (dk_at dksX6_sumSign_0 6 rfl rfl)
theorem dX6_sumSign_7 : decode cX6_sumSign 7 = .ok (.goto 45, 3) := dk_167 0 45 (dk_at dksX6_sumSign_0 7 rfl rfl)
theorem dX6_sumSign_10 : decode cX6_sumSign 10 = .ok (.iload_n 0, 1) := dk_26 (dk_at dksX6_sumSign_0 10 rfl rfl)
theorem dX6_sumSign_11 : decode cX6_sumSign 11 = .ok (.bipush 45, 2) := dk_16 45 (dk_at dksX6_sumSign_0 11 rfl rfl)
theorem dX6_sumSign_13 : decode cX6_sumSign 13 = .ok (.if_icmp .ne 7, 3) := dk_160 0 7 (dk_at dksX6_sumSign_0 13 rfl rfl)
theorem dX6_sumSign_16 : decode cX6_sumSign 16 = .ok (.iconst 3, 1) := dk_6 (dk_at dksX6_sumSign_0 16 rfl rfl)
theorem dX6_sumSign_17 : decode cX6_sumSign 17 = .ok (.goto 35, 3) := dk_167 0 35 (dk_at dksX6_sumSign_0 17 rfl rfl)
theorem dX6_sumSign_20 : decode cX6_sumSign 20 = .ok (.iload_n 0, 1) := dk_26 (dk_at dksX6_sumSign_0 20 rfl rfl)
theorem dX6_sumSign_21 : decode cX6_sumSign 21 = .ok (.bipush 42, 2) := dk_16 42 (dk_at dksX6_sumSign_0 21 rfl rfl)
theorem dX6_sumSign_23 : decode cX6_sumSign 23 = .ok (.if_icmp .ne 7, 3) := dk_160 0 7 (dk_at dksX6_sumSign_1 0 rfl rfl)
theorem dX6_sumSign_26 : decode cX6_sumSign 26 = .ok (.iconst 4, 1) := dk_7 (dk_at dksX6_sumSign_1 3 rfl rfl)
theorem dX6_sumSign_27 : decode cX6_sumSign 27 = .ok (.goto 25, 3) := dk_167 0 25 (dk_at dksX6_sumSign_1 4 rfl rfl)
theorem dX6_sumSign_30 : decode cX6_sumSign 30 = .ok (.iload_n 0, 1) := dk_26 (dk_at dksX6_sumSign_1 7 rfl rfl)
theorem dX6_sumSign_31 : decode cX6_sumSign 31 = .ok (.bipush 47, 2) := dk_16 47 (dk_at dksX6_sumSign_1 8 rfl rfl)
theorem dX6_sumSign_33 : decode cX6_sumSign 33 = .ok (.if_icmp .ne 7, 3) := dk_160 0 7 (dk_at dksX6_sumSign_1 10 rfl rfl)
theorem dX6_sumSign_36 : decode cX6_sumSign 36 = .ok (.iconst 5, 1) := dk_8 (dk_at dksX6_sumSign_1 13 rfl rfl)
theorem dX6_sumSign_37 : decode cX6_sumSign 37 = .ok (.goto 15, 3) := dk_167 0 15 (dk_at dksX6_sumSign_1 14 rfl rfl)
theorem dX6_sumSign_40 : decode cX6_sumSign 40 = .ok (.iload_n 0, 1) := dk_26 (dk_at dksX6_sumSign_1 17 rfl rfl)
theorem dX6_sumSign_41 : decode cX6_sumSign 41 = .ok (.bipush 37, 2) := dk_16 37 (dk_at dksX6_sumSign_1 18 rfl rfl)
theorem dX6_sumSign_43 : decode cX6_sumSign 43 = .ok (.if_icmp .ne 8, 3) := dk_160 0 8 (dk_at dksX6_sumSign_1 20 rfl rfl)
theorem dX6_sumSign_46 : decode cX6_sumSign 46 = .ok (.bipush 6, 2) := dk_16 6 (dk_at dksX6_sumSign_2 0 rfl rfl)
theorem dX6_sumSign_48 : decode cX6_sumSign 48 = .ok (.goto 4, 3) := dk_167 0 4 (dk_at dksX6_sumSign_2 2 rfl rfl)
theorem dX6_sumSign_51 : decode cX6_sumSign 51 = .ok (.iconst (-1), 1) := dk_2 (dk_at dksX6_sumSign_2 5 rfl rfl)
theorem dX6_sumSign_52 : decode cX6_sumSign 52 = .ok (.ireturn, 1) := dk_172 (dk_at dksX6_sumSign_2 6 rfl rfl)
abbrev cX6_closesSums : ByteArray := prog_20_method_33_code
def yX6_closesSums : MethodName := ⟨RX6, "closesSums", "(Z)V"⟩
def dkwX6_closesSums_2 : List UInt8 := [42, 42, 180, 0, 172, 4, 100, 181, 0, 172, 167, 255, 200, 177]
abbrev dktX6_closesSums_2 : List UInt8 := dkwX6_closesSums_2 ++ []
def dkwX6_closesSums_1 : List UInt8 := [182, 0, 175, 5, 159, 0, 11, 42, 182, 0, 175, 6, 160, 0, 25, 42, 42, 182, 0, 175, 3, 182, 0, 178]
abbrev dktX6_closesSums_1 : List UInt8 := dkwX6_closesSums_1 ++ dktX6_closesSums_2
def dkwX6_closesSums_0 : List UInt8 := [42, 182, 0, 175, 7, 161, 0, 12, 42, 182, 0, 175, 16, 6, 164, 0, 23, 27, 153, 0, 41, 42]
abbrev dktX6_closesSums_0 : List UInt8 := dkwX6_closesSums_0 ++ dktX6_closesSums_1
theorem dksX6_closesSums_0 : cX6_closesSums.data.toList.drop 0 = dktX6_closesSums_0 := by decide +kernel
theorem dksX6_closesSums_1 : cX6_closesSums.data.toList.drop 22 = dktX6_closesSums_1 := dk_seg dksX6_closesSums_0 22 rfl rfl
theorem dksX6_closesSums_2 : cX6_closesSums.data.toList.drop 46 = dktX6_closesSums_2 := dk_seg dksX6_closesSums_1 24 rfl rfl
theorem dX6_closesSums_0 : decode cX6_closesSums 0 = .ok (.aload_n 0, 1) := dk_42 (dk_at dksX6_closesSums_0 0 rfl rfl)
theorem dX6_closesSums_1 : decode cX6_closesSums 1 = .ok (.invokevirtual 175, 3) := dk_182 0 175 (dk_at dksX6_closesSums_0 1 rfl rfl)
theorem dX6_closesSums_4 : decode cX6_closesSums 4 = .ok (.iconst 4, 1) := dk_7 (dk_at dksX6_closesSums_0 4 rfl rfl)
theorem dX6_closesSums_5 : decode cX6_closesSums 5 = .ok (.if_icmp .lt 12, 3) := dk_161 0 12 (dk_at dksX6_closesSums_0 5 rfl rfl)
theorem dX6_closesSums_8 : decode cX6_closesSums 8 = .ok (.aload_n 0, 1) := dk_42 (dk_at dksX6_closesSums_0 8 rfl rfl)
theorem dX6_closesSums_9 : decode cX6_closesSums 9 = .ok (.invokevirtual 175, 3) := dk_182 0 175 (dk_at dksX6_closesSums_0 9 rfl rfl)
theorem dX6_closesSums_12 : decode cX6_closesSums 12 = .ok (.bipush 6, 2) := dk_16 6 (dk_at dksX6_closesSums_0 12 rfl rfl)
theorem dX6_closesSums_14 : decode cX6_closesSums 14 = .ok (.if_icmp .le 23, 3) := dk_164 0 23 (dk_at dksX6_closesSums_0 14 rfl rfl)
theorem dX6_closesSums_17 : decode cX6_closesSums 17 = .ok (.iload_n 1, 1) := dk_27 (dk_at dksX6_closesSums_0 17 rfl rfl)
theorem dX6_closesSums_18 : decode cX6_closesSums 18 = .ok (.ifCond .eq 41, 3) := dk_153 0 41 (dk_at dksX6_closesSums_0 18 rfl rfl)
theorem dX6_closesSums_21 : decode cX6_closesSums 21 = .ok (.aload_n 0, 1) := dk_42 (dk_at dksX6_closesSums_0 21 rfl rfl)
theorem dX6_closesSums_22 : decode cX6_closesSums 22 = .ok (.invokevirtual 175, 3) := dk_182 0 175 (dk_at dksX6_closesSums_1 0 rfl rfl)
theorem dX6_closesSums_25 : decode cX6_closesSums 25 = .ok (.iconst 2, 1) := dk_5 (dk_at dksX6_closesSums_1 3 rfl rfl)
theorem dX6_closesSums_26 : decode cX6_closesSums 26 = .ok (.if_icmp .eq 11, 3) := dk_159 0 11 (dk_at dksX6_closesSums_1 4 rfl rfl)
theorem dX6_closesSums_29 : decode cX6_closesSums 29 = .ok (.aload_n 0, 1) := dk_42 (dk_at dksX6_closesSums_1 7 rfl rfl)
theorem dX6_closesSums_30 : decode cX6_closesSums 30 = .ok (.invokevirtual 175, 3) := dk_182 0 175 (dk_at dksX6_closesSums_1 8 rfl rfl)
theorem dX6_closesSums_33 : decode cX6_closesSums 33 = .ok (.iconst 3, 1) := dk_6 (dk_at dksX6_closesSums_1 11 rfl rfl)
theorem dX6_closesSums_34 : decode cX6_closesSums 34 = .ok (.if_icmp .ne 25, 3) := dk_160 0 25 (dk_at dksX6_closesSums_1 12 rfl rfl)
theorem dX6_closesSums_37 : decode cX6_closesSums 37 = .ok (.aload_n 0, 1) := dk_42 (dk_at dksX6_closesSums_1 15 rfl rfl)
theorem dX6_closesSums_38 : decode cX6_closesSums 38 = .ok (.aload_n 0, 1) := dk_42 (dk_at dksX6_closesSums_1 16 rfl rfl)
theorem dX6_closesSums_39 : decode cX6_closesSums 39 = .ok (.invokevirtual 175, 3) := dk_182 0 175 (dk_at dksX6_closesSums_1 17 rfl rfl)
theorem dX6_closesSums_42 : decode cX6_closesSums 42 = .ok (.iconst 0, 1) := dk_3 (dk_at dksX6_closesSums_1 20 rfl rfl)
theorem dX6_closesSums_43 : decode cX6_closesSums 43 = .ok (.invokevirtual 178, 3) := dk_182 0 178 (dk_at dksX6_closesSums_1 21 rfl rfl)
theorem dX6_closesSums_46 : decode cX6_closesSums 46 = .ok (.aload_n 0, 1) := dk_42 (dk_at dksX6_closesSums_2 0 rfl rfl)
theorem dX6_closesSums_47 : decode cX6_closesSums 47 = .ok (.aload_n 0, 1) := dk_42 (dk_at dksX6_closesSums_2 1 rfl rfl)
theorem dX6_closesSums_48 : decode cX6_closesSums 48 = .ok (.getfield 172, 3) := dk_180 0 172 (dk_at dksX6_closesSums_2 2 rfl rfl)
theorem dX6_closesSums_51 : decode cX6_closesSums 51 = .ok (.iconst 1, 1) := dk_4 (dk_at dksX6_closesSums_2 5 rfl rfl)
theorem dX6_closesSums_52 : decode cX6_closesSums 52 = .ok (.isub, 1) := dk_100 (dk_at dksX6_closesSums_2 6 rfl rfl)
theorem dX6_closesSums_53 : decode cX6_closesSums 53 = .ok (.putfield 172, 3) := dk_181 0 172 (dk_at dksX6_closesSums_2 7 rfl rfl)
theorem dX6_closesSums_56 : decode cX6_closesSums 56 = .ok (.goto (-56), 3) := dk_167 255 200 (dk_at dksX6_closesSums_2 10 rfl rfl)
theorem dX6_closesSums_59 : decode cX6_closesSums 59 = .ok (.return_, 1) := dk_177 (dk_at dksX6_closesSums_2 13 rfl rfl)
abbrev cX6_waitTop : ByteArray := prog_20_method_30_code
def yX6_waitTop : MethodName := ⟨RX6, "waitTop", "()I"⟩
def dkwX6_waitTop_1 : List UInt8 := [108, 172]
abbrev dktX6_waitTop_1 : List UInt8 := dkwX6_waitTop_1 ++ []
def dkwX6_waitTop_0 : List UInt8 := [42, 180, 0, 172, 154, 0, 7, 2, 167, 0, 17, 42, 180, 0, 26, 42, 180, 0, 172, 4, 100, 46, 18, 168]
abbrev dktX6_waitTop_0 : List UInt8 := dkwX6_waitTop_0 ++ dktX6_waitTop_1
theorem dksX6_waitTop_0 : cX6_waitTop.data.toList.drop 0 = dktX6_waitTop_0 := by decide +kernel
theorem dksX6_waitTop_1 : cX6_waitTop.data.toList.drop 24 = dktX6_waitTop_1 := dk_seg dksX6_waitTop_0 24 rfl rfl
theorem dX6_waitTop_0 : decode cX6_waitTop 0 = .ok (.aload_n 0, 1) := dk_42 (dk_at dksX6_waitTop_0 0 rfl rfl)
theorem dX6_waitTop_1 : decode cX6_waitTop 1 = .ok (.getfield 172, 3) := dk_180 0 172 (dk_at dksX6_waitTop_0 1 rfl rfl)
theorem dX6_waitTop_4 : decode cX6_waitTop 4 = .ok (.ifCond .ne 7, 3) := dk_154 0 7 (dk_at dksX6_waitTop_0 4 rfl rfl)
theorem dX6_waitTop_7 : decode cX6_waitTop 7 = .ok (.iconst (-1), 1) := dk_2 (dk_at dksX6_waitTop_0 7 rfl rfl)
theorem dX6_waitTop_8 : decode cX6_waitTop 8 = .ok (.goto 17, 3) := dk_167 0 17 (dk_at dksX6_waitTop_0 8 rfl rfl)
theorem dX6_waitTop_11 : decode cX6_waitTop 11 = .ok (.aload_n 0, 1) := dk_42 (dk_at dksX6_waitTop_0 11 rfl rfl)
theorem dX6_waitTop_12 : decode cX6_waitTop 12 = .ok (.getfield 26, 3) := dk_180 0 26 (dk_at dksX6_waitTop_0 12 rfl rfl)
theorem dX6_waitTop_15 : decode cX6_waitTop 15 = .ok (.aload_n 0, 1) := dk_42 (dk_at dksX6_waitTop_0 15 rfl rfl)
theorem dX6_waitTop_16 : decode cX6_waitTop 16 = .ok (.getfield 172, 3) := dk_180 0 172 (dk_at dksX6_waitTop_0 16 rfl rfl)
theorem dX6_waitTop_19 : decode cX6_waitTop 19 = .ok (.iconst 1, 1) := dk_4 (dk_at dksX6_waitTop_0 19 rfl rfl)
theorem dX6_waitTop_20 : decode cX6_waitTop 20 = .ok (.isub, 1) := dk_100 (dk_at dksX6_waitTop_0 20 rfl rfl)
theorem dX6_waitTop_21 : decode cX6_waitTop 21 = .ok (.iaload, 1) := dk_46 (dk_at dksX6_waitTop_0 21 rfl rfl)
theorem dX6_waitTop_22 : decode cX6_waitTop 22 = .ok (.ldc 168, 2) := dk_18 168 (dk_at dksX6_waitTop_0 22 rfl rfl)
theorem dX6_waitTop_24 : decode cX6_waitTop 24 = .ok (.idiv, 1) := dk_108 (dk_at dksX6_waitTop_1 0 rfl rfl)
theorem dX6_waitTop_25 : decode cX6_waitTop 25 = .ok (.ireturn, 1) := dk_172 (dk_at dksX6_waitTop_1 1 rfl rfl)
abbrev cX6_hasOpenSum : ByteArray := prog_20_method_35_code
def yX6_hasOpenSum : MethodName := ⟨RX6, "hasOpenSum", "(I)Z"⟩
def dkwX6_hasOpenSum_1 : List UInt8 := [4, 172, 132, 2, 1, 167, 255, 229, 3, 172]
abbrev dktX6_hasOpenSum_1 : List UInt8 := dkwX6_hasOpenSum_1 ++ []
def dkwX6_hasOpenSum_0 : List UInt8 := [27, 61, 28, 42, 180, 0, 172, 162, 0, 25, 42, 180, 0, 26, 28, 46, 18, 168, 108, 16, 14, 160, 0, 5]
abbrev dktX6_hasOpenSum_0 : List UInt8 := dkwX6_hasOpenSum_0 ++ dktX6_hasOpenSum_1
theorem dksX6_hasOpenSum_0 : cX6_hasOpenSum.data.toList.drop 0 = dktX6_hasOpenSum_0 := by decide +kernel
theorem dksX6_hasOpenSum_1 : cX6_hasOpenSum.data.toList.drop 24 = dktX6_hasOpenSum_1 := dk_seg dksX6_hasOpenSum_0 24 rfl rfl
theorem dX6_hasOpenSum_0 : decode cX6_hasOpenSum 0 = .ok (.iload_n 1, 1) := dk_27 (dk_at dksX6_hasOpenSum_0 0 rfl rfl)
theorem dX6_hasOpenSum_1 : decode cX6_hasOpenSum 1 = .ok (.istore_n 2, 1) := dk_61 (dk_at dksX6_hasOpenSum_0 1 rfl rfl)
theorem dX6_hasOpenSum_2 : decode cX6_hasOpenSum 2 = .ok (.iload_n 2, 1) := dk_28 (dk_at dksX6_hasOpenSum_0 2 rfl rfl)
theorem dX6_hasOpenSum_3 : decode cX6_hasOpenSum 3 = .ok (.aload_n 0, 1) := dk_42 (dk_at dksX6_hasOpenSum_0 3 rfl rfl)
theorem dX6_hasOpenSum_4 : decode cX6_hasOpenSum 4 = .ok (.getfield 172, 3) := dk_180 0 172 (dk_at dksX6_hasOpenSum_0 4 rfl rfl)
theorem dX6_hasOpenSum_7 : decode cX6_hasOpenSum 7 = .ok (.if_icmp .ge 25, 3) := dk_162 0 25 (dk_at dksX6_hasOpenSum_0 7 rfl rfl)
theorem dX6_hasOpenSum_10 : decode cX6_hasOpenSum 10 = .ok (.aload_n 0, 1) := dk_42 (dk_at dksX6_hasOpenSum_0 10 rfl rfl)
theorem dX6_hasOpenSum_11 : decode cX6_hasOpenSum 11 = .ok (.getfield 26, 3) := dk_180 0 26 (dk_at dksX6_hasOpenSum_0 11 rfl rfl)
theorem dX6_hasOpenSum_14 : decode cX6_hasOpenSum 14 = .ok (.iload_n 2, 1) := dk_28 (dk_at dksX6_hasOpenSum_0 14 rfl rfl)
theorem dX6_hasOpenSum_15 : decode cX6_hasOpenSum 15 = .ok (.iaload, 1) := dk_46 (dk_at dksX6_hasOpenSum_0 15 rfl rfl)
theorem dX6_hasOpenSum_16 : decode cX6_hasOpenSum 16 = .ok (.ldc 168, 2) := dk_18 168 (dk_at dksX6_hasOpenSum_0 16 rfl rfl)
theorem dX6_hasOpenSum_18 : decode cX6_hasOpenSum 18 = .ok (.idiv, 1) := dk_108 (dk_at dksX6_hasOpenSum_0 18 rfl rfl)
theorem dX6_hasOpenSum_19 : decode cX6_hasOpenSum 19 = .ok (.bipush 14, 2) := dk_16 14 (dk_at dksX6_hasOpenSum_0 19 rfl rfl)
theorem dX6_hasOpenSum_21 : decode cX6_hasOpenSum 21 = .ok (.if_icmp .ne 5, 3) := dk_160 0 5 (dk_at dksX6_hasOpenSum_0 21 rfl rfl)
theorem dX6_hasOpenSum_24 : decode cX6_hasOpenSum 24 = .ok (.iconst 1, 1) := dk_4 (dk_at dksX6_hasOpenSum_1 0 rfl rfl)
theorem dX6_hasOpenSum_25 : decode cX6_hasOpenSum 25 = .ok (.ireturn, 1) := dk_172 (dk_at dksX6_hasOpenSum_1 1 rfl rfl)
theorem dX6_hasOpenSum_26 : decode cX6_hasOpenSum 26 = .ok (.iinc 2 1, 3) := dk_132 2 1 (dk_at dksX6_hasOpenSum_1 2 rfl rfl)
theorem dX6_hasOpenSum_29 : decode cX6_hasOpenSum 29 = .ok (.goto (-27), 3) := dk_167 255 229 (dk_at dksX6_hasOpenSum_1 5 rfl rfl)
theorem dX6_hasOpenSum_32 : decode cX6_hasOpenSum 32 = .ok (.iconst 0, 1) := dk_3 (dk_at dksX6_hasOpenSum_1 8 rfl rfl)
theorem dX6_hasOpenSum_33 : decode cX6_hasOpenSum 33 = .ok (.ireturn, 1) := dk_172 (dk_at dksX6_hasOpenSum_1 9 rfl rfl)
abbrev cX6_readsCondition : ByteArray := prog_20_method_41_code
def yX6_readsCondition : MethodName := ⟨RX6, "readsCondition", "()Z"⟩
def dkwX6_readsCondition_9 : List UInt8 := [16, 11, 167, 0, 5, 16, 12, 182, 0, 216, 167, 255, 78]
abbrev dktX6_readsCondition_9 : List UInt8 := dkwX6_readsCondition_9 ++ []
def dkwX6_readsCondition_8 : List UInt8 := [16, 124, 160, 0, 7, 4, 167, 0, 4, 3, 182, 0, 213, 42, 42, 182, 0, 148, 16, 38, 160, 0, 8]
abbrev dktX6_readsCondition_8 : List UInt8 := dkwX6_readsCondition_8 ++ dktX6_readsCondition_9
def dkwX6_readsCondition_7 : List UInt8 := [182, 0, 148, 16, 124, 159, 0, 13, 42, 4, 42, 180, 0, 142, 182, 0, 155, 172, 42, 42, 182, 0, 148]
abbrev dktX6_readsCondition_7 : List UInt8 := dkwX6_readsCondition_7 ++ dktX6_readsCondition_8
def dkwX6_readsCondition_6 : List UInt8 := [154, 0, 5, 4, 172, 42, 182, 0, 207, 167, 255, 199, 42, 182, 0, 148, 16, 38, 159, 0, 22, 42]
abbrev dktX6_readsCondition_6 : List UInt8 := dkwX6_readsCondition_6 ++ dktX6_readsCondition_7
def dkwX6_readsCondition_5 : List UInt8 := [42, 180, 0, 169, 4, 100, 181, 0, 169, 42, 42, 180, 0, 142, 4, 96, 181, 0, 142, 42, 180, 0, 172]
abbrev dktX6_readsCondition_5 : List UInt8 := dkwX6_readsCondition_5 ++ dktX6_readsCondition_6
def dkwX6_readsCondition_4 : List UInt8 := [182, 0, 148, 16, 41, 160, 0, 54, 42, 4, 182, 0, 213, 42, 42, 180, 0, 172, 4, 100, 181, 0, 172, 42]
abbrev dktX6_readsCondition_4 : List UInt8 := dkwX6_readsCondition_4 ++ dktX6_readsCondition_5
def dkwX6_readsCondition_3 : List UInt8 := [167, 0, 5, 16, 13, 182, 0, 182, 154, 255, 218, 3, 172, 42, 182, 0, 210, 154, 0, 5, 3, 172, 42]
abbrev dktX6_readsCondition_3 : List UInt8 := dkwX6_readsCondition_3 ++ dktX6_readsCondition_4
def dkwX6_readsCondition_2 : List UInt8 := [159, 0, 12, 42, 182, 0, 148, 16, 40, 160, 0, 28, 42, 42, 182, 0, 148, 16, 33, 160, 0, 8, 16, 10]
abbrev dktX6_readsCondition_2 : List UInt8 := dkwX6_readsCondition_2 ++ dktX6_readsCondition_3
def dkwX6_readsCondition_1 : List UInt8 := [42, 3, 181, 0, 172, 42, 16, 13, 182, 0, 182, 154, 0, 5, 3, 172, 42, 182, 0, 148, 16, 33]
abbrev dktX6_readsCondition_1 : List UInt8 := dkwX6_readsCondition_1 ++ dktX6_readsCondition_2
def dkwX6_readsCondition_0 : List UInt8 := [42, 182, 0, 148, 16, 40, 159, 0, 13, 42, 4, 42, 180, 0, 142, 182, 0, 155, 172, 42, 3, 181, 0, 169]
abbrev dktX6_readsCondition_0 : List UInt8 := dkwX6_readsCondition_0 ++ dktX6_readsCondition_1
theorem dksX6_readsCondition_0 : cX6_readsCondition.data.toList.drop 0 = dktX6_readsCondition_0 := by decide +kernel
theorem dksX6_readsCondition_1 : cX6_readsCondition.data.toList.drop 24 = dktX6_readsCondition_1 := dk_seg dksX6_readsCondition_0 24 rfl rfl
theorem dksX6_readsCondition_2 : cX6_readsCondition.data.toList.drop 46 = dktX6_readsCondition_2 := dk_seg dksX6_readsCondition_1 22 rfl rfl
theorem dksX6_readsCondition_3 : cX6_readsCondition.data.toList.drop 70 = dktX6_readsCondition_3 := dk_seg dksX6_readsCondition_2 24 rfl rfl
theorem dksX6_readsCondition_4 : cX6_readsCondition.data.toList.drop 93 = dktX6_readsCondition_4 := dk_seg dksX6_readsCondition_3 23 rfl rfl
theorem dksX6_readsCondition_5 : cX6_readsCondition.data.toList.drop 117 = dktX6_readsCondition_5 := dk_seg dksX6_readsCondition_4 24 rfl rfl
theorem dksX6_readsCondition_6 : cX6_readsCondition.data.toList.drop 140 = dktX6_readsCondition_6 := dk_seg dksX6_readsCondition_5 23 rfl rfl
theorem dksX6_readsCondition_7 : cX6_readsCondition.data.toList.drop 162 = dktX6_readsCondition_7 := dk_seg dksX6_readsCondition_6 22 rfl rfl
theorem dksX6_readsCondition_8 : cX6_readsCondition.data.toList.drop 185 = dktX6_readsCondition_8 := dk_seg dksX6_readsCondition_7 23 rfl rfl
theorem dksX6_readsCondition_9 : cX6_readsCondition.data.toList.drop 208 = dktX6_readsCondition_9 := dk_seg dksX6_readsCondition_8 23 rfl rfl
theorem dX6_readsCondition_0 : decode cX6_readsCondition 0 = .ok (.aload_n 0, 1) := dk_42 (dk_at dksX6_readsCondition_0 0 rfl rfl)
theorem dX6_readsCondition_1 : decode cX6_readsCondition 1 = .ok (.invokevirtual 148, 3) := dk_182 0 148 (dk_at dksX6_readsCondition_0 1 rfl rfl)
theorem dX6_readsCondition_4 : decode cX6_readsCondition 4 = .ok (.bipush 40, 2) := dk_16 40 (dk_at dksX6_readsCondition_0 4 rfl rfl)
theorem dX6_readsCondition_6 : decode cX6_readsCondition 6 = .ok (.if_icmp .eq 13, 3) := dk_159 0 13 (dk_at dksX6_readsCondition_0 6 rfl rfl)
theorem dX6_readsCondition_9 : decode cX6_readsCondition 9 = .ok (.aload_n 0, 1) := dk_42 (dk_at dksX6_readsCondition_0 9 rfl rfl)
theorem dX6_readsCondition_10 : decode cX6_readsCondition 10 = .ok (.iconst 1, 1) := dk_4 (dk_at dksX6_readsCondition_0 10 rfl rfl)
theorem dX6_readsCondition_11 : decode cX6_readsCondition 11 = .ok (.aload_n 0, 1) := dk_42 (dk_at dksX6_readsCondition_0 11 rfl rfl)
theorem dX6_readsCondition_12 : decode cX6_readsCondition 12 = .ok (.getfield 142, 3) := dk_180 0 142 (dk_at dksX6_readsCondition_0 12 rfl rfl)
theorem dX6_readsCondition_15 : decode cX6_readsCondition 15 = .ok (.invokevirtual 155, 3) := dk_182 0 155 (dk_at dksX6_readsCondition_0 15 rfl rfl)
theorem dX6_readsCondition_18 : decode cX6_readsCondition 18 = .ok (.ireturn, 1) := dk_172 (dk_at dksX6_readsCondition_0 18 rfl rfl)
theorem dX6_readsCondition_19 : decode cX6_readsCondition 19 = .ok (.aload_n 0, 1) := dk_42 (dk_at dksX6_readsCondition_0 19 rfl rfl)
theorem dX6_readsCondition_20 : decode cX6_readsCondition 20 = .ok (.iconst 0, 1) := dk_3 (dk_at dksX6_readsCondition_0 20 rfl rfl)
theorem dX6_readsCondition_21 : decode cX6_readsCondition 21 = .ok (.putfield 169, 3) := dk_181 0 169 (dk_at dksX6_readsCondition_0 21 rfl rfl)
theorem dX6_readsCondition_24 : decode cX6_readsCondition 24 = .ok (.aload_n 0, 1) := dk_42 (dk_at dksX6_readsCondition_1 0 rfl rfl)
theorem dX6_readsCondition_25 : decode cX6_readsCondition 25 = .ok (.iconst 0, 1) := dk_3 (dk_at dksX6_readsCondition_1 1 rfl rfl)
theorem dX6_readsCondition_26 : decode cX6_readsCondition 26 = .ok (.putfield 172, 3) := dk_181 0 172 (dk_at dksX6_readsCondition_1 2 rfl rfl)
theorem dX6_readsCondition_29 : decode cX6_readsCondition 29 = .ok (.aload_n 0, 1) := dk_42 (dk_at dksX6_readsCondition_1 5 rfl rfl)
theorem dX6_readsCondition_30 : decode cX6_readsCondition 30 = .ok (.bipush 13, 2) := dk_16 13 (dk_at dksX6_readsCondition_1 6 rfl rfl)
theorem dX6_readsCondition_32 : decode cX6_readsCondition 32 = .ok (.invokevirtual 182, 3) := dk_182 0 182 (dk_at dksX6_readsCondition_1 8 rfl rfl)
theorem dX6_readsCondition_35 : decode cX6_readsCondition 35 = .ok (.ifCond .ne 5, 3) := dk_154 0 5 (dk_at dksX6_readsCondition_1 11 rfl rfl)
theorem dX6_readsCondition_38 : decode cX6_readsCondition 38 = .ok (.iconst 0, 1) := dk_3 (dk_at dksX6_readsCondition_1 14 rfl rfl)
theorem dX6_readsCondition_39 : decode cX6_readsCondition 39 = .ok (.ireturn, 1) := dk_172 (dk_at dksX6_readsCondition_1 15 rfl rfl)
theorem dX6_readsCondition_40 : decode cX6_readsCondition 40 = .ok (.aload_n 0, 1) := dk_42 (dk_at dksX6_readsCondition_1 16 rfl rfl)
theorem dX6_readsCondition_41 : decode cX6_readsCondition 41 = .ok (.invokevirtual 148, 3) := dk_182 0 148 (dk_at dksX6_readsCondition_1 17 rfl rfl)
theorem dX6_readsCondition_44 : decode cX6_readsCondition 44 = .ok (.bipush 33, 2) := dk_16 33 (dk_at dksX6_readsCondition_1 20 rfl rfl)
theorem dX6_readsCondition_46 : decode cX6_readsCondition 46 = .ok (.if_icmp .eq 12, 3) := dk_159 0 12 (dk_at dksX6_readsCondition_2 0 rfl rfl)
theorem dX6_readsCondition_49 : decode cX6_readsCondition 49 = .ok (.aload_n 0, 1) := dk_42 (dk_at dksX6_readsCondition_2 3 rfl rfl)
theorem dX6_readsCondition_50 : decode cX6_readsCondition 50 = .ok (.invokevirtual 148, 3) := dk_182 0 148 (dk_at dksX6_readsCondition_2 4 rfl rfl)
theorem dX6_readsCondition_53 : decode cX6_readsCondition 53 = .ok (.bipush 40, 2) := dk_16 40 (dk_at dksX6_readsCondition_2 7 rfl rfl)
theorem dX6_readsCondition_55 : decode cX6_readsCondition 55 = .ok (.if_icmp .ne 28, 3) := dk_160 0 28 (dk_at dksX6_readsCondition_2 9 rfl rfl)
theorem dX6_readsCondition_58 : decode cX6_readsCondition 58 = .ok (.aload_n 0, 1) := dk_42 (dk_at dksX6_readsCondition_2 12 rfl rfl)
theorem dX6_readsCondition_59 : decode cX6_readsCondition 59 = .ok (.aload_n 0, 1) := dk_42 (dk_at dksX6_readsCondition_2 13 rfl rfl)
theorem dX6_readsCondition_60 : decode cX6_readsCondition 60 = .ok (.invokevirtual 148, 3) := dk_182 0 148 (dk_at dksX6_readsCondition_2 14 rfl rfl)
theorem dX6_readsCondition_63 : decode cX6_readsCondition 63 = .ok (.bipush 33, 2) := dk_16 33 (dk_at dksX6_readsCondition_2 17 rfl rfl)
theorem dX6_readsCondition_65 : decode cX6_readsCondition 65 = .ok (.if_icmp .ne 8, 3) := dk_160 0 8 (dk_at dksX6_readsCondition_2 19 rfl rfl)
theorem dX6_readsCondition_68 : decode cX6_readsCondition 68 = .ok (.bipush 10, 2) := dk_16 10 (dk_at dksX6_readsCondition_2 22 rfl rfl)
theorem dX6_readsCondition_70 : decode cX6_readsCondition 70 = .ok (.goto 5, 3) := dk_167 0 5 (dk_at dksX6_readsCondition_3 0 rfl rfl)
theorem dX6_readsCondition_73 : decode cX6_readsCondition 73 = .ok (.bipush 13, 2) := dk_16 13 (dk_at dksX6_readsCondition_3 3 rfl rfl)
theorem dX6_readsCondition_75 : decode cX6_readsCondition 75 = .ok (.invokevirtual 182, 3) := dk_182 0 182 (dk_at dksX6_readsCondition_3 5 rfl rfl)
theorem dX6_readsCondition_78 : decode cX6_readsCondition 78 = .ok (.ifCond .ne (-38), 3) := dk_154 255 218 (dk_at dksX6_readsCondition_3 8 rfl rfl)
theorem dX6_readsCondition_81 : decode cX6_readsCondition 81 = .ok (.iconst 0, 1) := dk_3 (dk_at dksX6_readsCondition_3 11 rfl rfl)
theorem dX6_readsCondition_82 : decode cX6_readsCondition 82 = .ok (.ireturn, 1) := dk_172 (dk_at dksX6_readsCondition_3 12 rfl rfl)
theorem dX6_readsCondition_83 : decode cX6_readsCondition 83 = .ok (.aload_n 0, 1) := dk_42 (dk_at dksX6_readsCondition_3 13 rfl rfl)
theorem dX6_readsCondition_84 : decode cX6_readsCondition 84 = .ok (.invokevirtual 210, 3) := dk_182 0 210 (dk_at dksX6_readsCondition_3 14 rfl rfl)
theorem dX6_readsCondition_87 : decode cX6_readsCondition 87 = .ok (.ifCond .ne 5, 3) := dk_154 0 5 (dk_at dksX6_readsCondition_3 17 rfl rfl)
theorem dX6_readsCondition_90 : decode cX6_readsCondition 90 = .ok (.iconst 0, 1) := dk_3 (dk_at dksX6_readsCondition_3 20 rfl rfl)
theorem dX6_readsCondition_91 : decode cX6_readsCondition 91 = .ok (.ireturn, 1) := dk_172 (dk_at dksX6_readsCondition_3 21 rfl rfl)
theorem dX6_readsCondition_92 : decode cX6_readsCondition 92 = .ok (.aload_n 0, 1) := dk_42 (dk_at dksX6_readsCondition_3 22 rfl rfl)
theorem dX6_readsCondition_93 : decode cX6_readsCondition 93 = .ok (.invokevirtual 148, 3) := dk_182 0 148 (dk_at dksX6_readsCondition_4 0 rfl rfl)
theorem dX6_readsCondition_96 : decode cX6_readsCondition 96 = .ok (.bipush 41, 2) := dk_16 41 (dk_at dksX6_readsCondition_4 3 rfl rfl)
theorem dX6_readsCondition_98 : decode cX6_readsCondition 98 = .ok (.if_icmp .ne 54, 3) := dk_160 0 54 (dk_at dksX6_readsCondition_4 5 rfl rfl)
theorem dX6_readsCondition_101 : decode cX6_readsCondition 101 = .ok (.aload_n 0, 1) := dk_42 (dk_at dksX6_readsCondition_4 8 rfl rfl)
theorem dX6_readsCondition_102 : decode cX6_readsCondition 102 = .ok (.iconst 1, 1) := dk_4 (dk_at dksX6_readsCondition_4 9 rfl rfl)
theorem dX6_readsCondition_103 : decode cX6_readsCondition 103 = .ok (.invokevirtual 213, 3) := dk_182 0 213 (dk_at dksX6_readsCondition_4 10 rfl rfl)
theorem dX6_readsCondition_106 : decode cX6_readsCondition 106 = .ok (.aload_n 0, 1) := dk_42 (dk_at dksX6_readsCondition_4 13 rfl rfl)
theorem dX6_readsCondition_107 : decode cX6_readsCondition 107 = .ok (.aload_n 0, 1) := dk_42 (dk_at dksX6_readsCondition_4 14 rfl rfl)
theorem dX6_readsCondition_108 : decode cX6_readsCondition 108 = .ok (.getfield 172, 3) := dk_180 0 172 (dk_at dksX6_readsCondition_4 15 rfl rfl)
theorem dX6_readsCondition_111 : decode cX6_readsCondition 111 = .ok (.iconst 1, 1) := dk_4 (dk_at dksX6_readsCondition_4 18 rfl rfl)
theorem dX6_readsCondition_112 : decode cX6_readsCondition 112 = .ok (.isub, 1) := dk_100 (dk_at dksX6_readsCondition_4 19 rfl rfl)
theorem dX6_readsCondition_113 : decode cX6_readsCondition 113 = .ok (.putfield 172, 3) := dk_181 0 172 (dk_at dksX6_readsCondition_4 20 rfl rfl)
theorem dX6_readsCondition_116 : decode cX6_readsCondition 116 = .ok (.aload_n 0, 1) := dk_42 (dk_at dksX6_readsCondition_4 23 rfl rfl)
theorem dX6_readsCondition_117 : decode cX6_readsCondition 117 = .ok (.aload_n 0, 1) := dk_42 (dk_at dksX6_readsCondition_5 0 rfl rfl)
theorem dX6_readsCondition_118 : decode cX6_readsCondition 118 = .ok (.getfield 169, 3) := dk_180 0 169 (dk_at dksX6_readsCondition_5 1 rfl rfl)
theorem dX6_readsCondition_121 : decode cX6_readsCondition 121 = .ok (.iconst 1, 1) := dk_4 (dk_at dksX6_readsCondition_5 4 rfl rfl)
theorem dX6_readsCondition_122 : decode cX6_readsCondition 122 = .ok (.isub, 1) := dk_100 (dk_at dksX6_readsCondition_5 5 rfl rfl)
theorem dX6_readsCondition_123 : decode cX6_readsCondition 123 = .ok (.putfield 169, 3) := dk_181 0 169 (dk_at dksX6_readsCondition_5 6 rfl rfl)
theorem dX6_readsCondition_126 : decode cX6_readsCondition 126 = .ok (.aload_n 0, 1) := dk_42 (dk_at dksX6_readsCondition_5 9 rfl rfl)
theorem dX6_readsCondition_127 : decode cX6_readsCondition 127 = .ok (.aload_n 0, 1) := dk_42 (dk_at dksX6_readsCondition_5 10 rfl rfl)
theorem dX6_readsCondition_128 : decode cX6_readsCondition 128 = .ok (.getfield 142, 3) := dk_180 0 142 (dk_at dksX6_readsCondition_5 11 rfl rfl)
theorem dX6_readsCondition_131 : decode cX6_readsCondition 131 = .ok (.iconst 1, 1) := dk_4 (dk_at dksX6_readsCondition_5 14 rfl rfl)
theorem dX6_readsCondition_132 : decode cX6_readsCondition 132 = .ok (.iadd, 1) := dk_96 (dk_at dksX6_readsCondition_5 15 rfl rfl)
theorem dX6_readsCondition_133 : decode cX6_readsCondition 133 = .ok (.putfield 142, 3) := dk_181 0 142 (dk_at dksX6_readsCondition_5 16 rfl rfl)
theorem dX6_readsCondition_136 : decode cX6_readsCondition 136 = .ok (.aload_n 0, 1) := dk_42 (dk_at dksX6_readsCondition_5 19 rfl rfl)
theorem dX6_readsCondition_137 : decode cX6_readsCondition 137 = .ok (.getfield 172, 3) := dk_180 0 172 (dk_at dksX6_readsCondition_5 20 rfl rfl)
theorem dX6_readsCondition_140 : decode cX6_readsCondition 140 = .ok (.ifCond .ne 5, 3) := dk_154 0 5 (dk_at dksX6_readsCondition_6 0 rfl rfl)
theorem dX6_readsCondition_143 : decode cX6_readsCondition 143 = .ok (.iconst 1, 1) := dk_4 (dk_at dksX6_readsCondition_6 3 rfl rfl)
theorem dX6_readsCondition_144 : decode cX6_readsCondition 144 = .ok (.ireturn, 1) := dk_172 (dk_at dksX6_readsCondition_6 4 rfl rfl)
theorem dX6_readsCondition_145 : decode cX6_readsCondition 145 = .ok (.aload_n 0, 1) := dk_42 (dk_at dksX6_readsCondition_6 5 rfl rfl)
theorem dX6_readsCondition_146 : decode cX6_readsCondition 146 = .ok (.invokevirtual 207, 3) := dk_182 0 207 (dk_at dksX6_readsCondition_6 6 rfl rfl)
theorem dX6_readsCondition_149 : decode cX6_readsCondition 149 = .ok (.goto (-57), 3) := dk_167 255 199 (dk_at dksX6_readsCondition_6 9 rfl rfl)
theorem dX6_readsCondition_152 : decode cX6_readsCondition 152 = .ok (.aload_n 0, 1) := dk_42 (dk_at dksX6_readsCondition_6 12 rfl rfl)
theorem dX6_readsCondition_153 : decode cX6_readsCondition 153 = .ok (.invokevirtual 148, 3) := dk_182 0 148 (dk_at dksX6_readsCondition_6 13 rfl rfl)
theorem dX6_readsCondition_156 : decode cX6_readsCondition 156 = .ok (.bipush 38, 2) := dk_16 38 (dk_at dksX6_readsCondition_6 16 rfl rfl)
theorem dX6_readsCondition_158 : decode cX6_readsCondition 158 = .ok (.if_icmp .eq 22, 3) := dk_159 0 22 (dk_at dksX6_readsCondition_6 18 rfl rfl)
theorem dX6_readsCondition_161 : decode cX6_readsCondition 161 = .ok (.aload_n 0, 1) := dk_42 (dk_at dksX6_readsCondition_6 21 rfl rfl)
theorem dX6_readsCondition_162 : decode cX6_readsCondition 162 = .ok (.invokevirtual 148, 3) := dk_182 0 148 (dk_at dksX6_readsCondition_7 0 rfl rfl)
theorem dX6_readsCondition_165 : decode cX6_readsCondition 165 = .ok (.bipush 124, 2) := dk_16 124 (dk_at dksX6_readsCondition_7 3 rfl rfl)
theorem dX6_readsCondition_167 : decode cX6_readsCondition 167 = .ok (.if_icmp .eq 13, 3) := dk_159 0 13 (dk_at dksX6_readsCondition_7 5 rfl rfl)
theorem dX6_readsCondition_170 : decode cX6_readsCondition 170 = .ok (.aload_n 0, 1) := dk_42 (dk_at dksX6_readsCondition_7 8 rfl rfl)
theorem dX6_readsCondition_171 : decode cX6_readsCondition 171 = .ok (.iconst 1, 1) := dk_4 (dk_at dksX6_readsCondition_7 9 rfl rfl)
theorem dX6_readsCondition_172 : decode cX6_readsCondition 172 = .ok (.aload_n 0, 1) := dk_42 (dk_at dksX6_readsCondition_7 10 rfl rfl)
theorem dX6_readsCondition_173 : decode cX6_readsCondition 173 = .ok (.getfield 142, 3) := dk_180 0 142 (dk_at dksX6_readsCondition_7 11 rfl rfl)
theorem dX6_readsCondition_176 : decode cX6_readsCondition 176 = .ok (.invokevirtual 155, 3) := dk_182 0 155 (dk_at dksX6_readsCondition_7 14 rfl rfl)
theorem dX6_readsCondition_179 : decode cX6_readsCondition 179 = .ok (.ireturn, 1) := dk_172 (dk_at dksX6_readsCondition_7 17 rfl rfl)
theorem dX6_readsCondition_180 : decode cX6_readsCondition 180 = .ok (.aload_n 0, 1) := dk_42 (dk_at dksX6_readsCondition_7 18 rfl rfl)
theorem dX6_readsCondition_181 : decode cX6_readsCondition 181 = .ok (.aload_n 0, 1) := dk_42 (dk_at dksX6_readsCondition_7 19 rfl rfl)
theorem dX6_readsCondition_182 : decode cX6_readsCondition 182 = .ok (.invokevirtual 148, 3) := dk_182 0 148 (dk_at dksX6_readsCondition_7 20 rfl rfl)
theorem dX6_readsCondition_185 : decode cX6_readsCondition 185 = .ok (.bipush 124, 2) := dk_16 124 (dk_at dksX6_readsCondition_8 0 rfl rfl)
theorem dX6_readsCondition_187 : decode cX6_readsCondition 187 = .ok (.if_icmp .ne 7, 3) := dk_160 0 7 (dk_at dksX6_readsCondition_8 2 rfl rfl)
theorem dX6_readsCondition_190 : decode cX6_readsCondition 190 = .ok (.iconst 1, 1) := dk_4 (dk_at dksX6_readsCondition_8 5 rfl rfl)
theorem dX6_readsCondition_191 : decode cX6_readsCondition 191 = .ok (.goto 4, 3) := dk_167 0 4 (dk_at dksX6_readsCondition_8 6 rfl rfl)
theorem dX6_readsCondition_194 : decode cX6_readsCondition 194 = .ok (.iconst 0, 1) := dk_3 (dk_at dksX6_readsCondition_8 9 rfl rfl)
theorem dX6_readsCondition_195 : decode cX6_readsCondition 195 = .ok (.invokevirtual 213, 3) := dk_182 0 213 (dk_at dksX6_readsCondition_8 10 rfl rfl)
theorem dX6_readsCondition_198 : decode cX6_readsCondition 198 = .ok (.aload_n 0, 1) := dk_42 (dk_at dksX6_readsCondition_8 13 rfl rfl)
theorem dX6_readsCondition_199 : decode cX6_readsCondition 199 = .ok (.aload_n 0, 1) := dk_42 (dk_at dksX6_readsCondition_8 14 rfl rfl)
theorem dX6_readsCondition_200 : decode cX6_readsCondition 200 = .ok (.invokevirtual 148, 3) := dk_182 0 148 (dk_at dksX6_readsCondition_8 15 rfl rfl)
theorem dX6_readsCondition_203 : decode cX6_readsCondition 203 = .ok (.bipush 38, 2) := dk_16 38 (dk_at dksX6_readsCondition_8 18 rfl rfl)
theorem dX6_readsCondition_205 : decode cX6_readsCondition 205 = .ok (.if_icmp .ne 8, 3) := dk_160 0 8 (dk_at dksX6_readsCondition_8 20 rfl rfl)
theorem dX6_readsCondition_208 : decode cX6_readsCondition 208 = .ok (.bipush 11, 2) := dk_16 11 (dk_at dksX6_readsCondition_9 0 rfl rfl)
theorem dX6_readsCondition_210 : decode cX6_readsCondition 210 = .ok (.goto 5, 3) := dk_167 0 5 (dk_at dksX6_readsCondition_9 2 rfl rfl)
theorem dX6_readsCondition_213 : decode cX6_readsCondition 213 = .ok (.bipush 12, 2) := dk_16 12 (dk_at dksX6_readsCondition_9 5 rfl rfl)
theorem dX6_readsCondition_215 : decode cX6_readsCondition 215 = .ok (.invokevirtual 216, 3) := dk_182 0 216 (dk_at dksX6_readsCondition_9 7 rfl rfl)
theorem dX6_readsCondition_218 : decode cX6_readsCondition 218 = .ok (.goto (-178), 3) := dk_167 255 78 (dk_at dksX6_readsCondition_9 10 rfl rfl)
abbrev cX6_readsCompared : ByteArray := prog_20_method_40_code
def yX6_readsCompared : MethodName := ⟨RX6, "readsCompared", "()Z"⟩
def dkwX6_readsCompared_4 : List UInt8 := [182, 0, 207, 4, 172]
abbrev dktX6_readsCompared_4 : List UInt8 := dkwX6_readsCompared_4 ++ []
def dkwX6_readsCompared_3 : List UInt8 := [180, 0, 142, 4, 96, 181, 0, 142, 42, 182, 0, 204, 154, 0, 5, 3, 172, 42, 27, 3, 182, 0, 178, 42]
abbrev dktX6_readsCompared_3 : List UInt8 := dkwX6_readsCompared_3 ++ dktX6_readsCompared_4
def dkwX6_readsCompared_2 : List UInt8 := [167, 0, 4, 2, 60, 27, 2, 160, 0, 13, 42, 4, 42, 180, 0, 142, 182, 0, 155, 172, 42, 42]
abbrev dktX6_readsCompared_2 : List UInt8 := dkwX6_readsCompared_2 ++ dktX6_readsCompared_3
def dkwX6_readsCompared_1 : List UInt8 := [182, 0, 148, 16, 62, 160, 0, 8, 16, 8, 167, 0, 18, 42, 182, 0, 148, 16, 61, 160, 0, 8, 16, 9]
abbrev dktX6_readsCompared_1 : List UInt8 := dkwX6_readsCompared_1 ++ dktX6_readsCompared_2
def dkwX6_readsCompared_0 : List UInt8 := [42, 182, 0, 204, 154, 0, 5, 3, 172, 42, 182, 0, 148, 16, 60, 160, 0, 8, 16, 7, 167, 0, 32, 42]
abbrev dktX6_readsCompared_0 : List UInt8 := dkwX6_readsCompared_0 ++ dktX6_readsCompared_1
theorem dksX6_readsCompared_0 : cX6_readsCompared.data.toList.drop 0 = dktX6_readsCompared_0 := by decide +kernel
theorem dksX6_readsCompared_1 : cX6_readsCompared.data.toList.drop 24 = dktX6_readsCompared_1 := dk_seg dksX6_readsCompared_0 24 rfl rfl
theorem dksX6_readsCompared_2 : cX6_readsCompared.data.toList.drop 48 = dktX6_readsCompared_2 := dk_seg dksX6_readsCompared_1 24 rfl rfl
theorem dksX6_readsCompared_3 : cX6_readsCompared.data.toList.drop 70 = dktX6_readsCompared_3 := dk_seg dksX6_readsCompared_2 22 rfl rfl
theorem dksX6_readsCompared_4 : cX6_readsCompared.data.toList.drop 94 = dktX6_readsCompared_4 := dk_seg dksX6_readsCompared_3 24 rfl rfl
theorem dX6_readsCompared_0 : decode cX6_readsCompared 0 = .ok (.aload_n 0, 1) := dk_42 (dk_at dksX6_readsCompared_0 0 rfl rfl)
theorem dX6_readsCompared_1 : decode cX6_readsCompared 1 = .ok (.invokevirtual 204, 3) := dk_182 0 204 (dk_at dksX6_readsCompared_0 1 rfl rfl)
theorem dX6_readsCompared_4 : decode cX6_readsCompared 4 = .ok (.ifCond .ne 5, 3) := dk_154 0 5 (dk_at dksX6_readsCompared_0 4 rfl rfl)
theorem dX6_readsCompared_7 : decode cX6_readsCompared 7 = .ok (.iconst 0, 1) := dk_3 (dk_at dksX6_readsCompared_0 7 rfl rfl)
theorem dX6_readsCompared_8 : decode cX6_readsCompared 8 = .ok (.ireturn, 1) := dk_172 (dk_at dksX6_readsCompared_0 8 rfl rfl)
theorem dX6_readsCompared_9 : decode cX6_readsCompared 9 = .ok (.aload_n 0, 1) := dk_42 (dk_at dksX6_readsCompared_0 9 rfl rfl)
theorem dX6_readsCompared_10 : decode cX6_readsCompared 10 = .ok (.invokevirtual 148, 3) := dk_182 0 148 (dk_at dksX6_readsCompared_0 10 rfl rfl)
theorem dX6_readsCompared_13 : decode cX6_readsCompared 13 = .ok (.bipush 60, 2) := dk_16 60 (dk_at dksX6_readsCompared_0 13 rfl rfl)
theorem dX6_readsCompared_15 : decode cX6_readsCompared 15 = .ok (.if_icmp .ne 8, 3) := dk_160 0 8 (dk_at dksX6_readsCompared_0 15 rfl rfl)
theorem dX6_readsCompared_18 : decode cX6_readsCompared 18 = .ok (.bipush 7, 2) := dk_16 7 (dk_at dksX6_readsCompared_0 18 rfl rfl)
theorem dX6_readsCompared_20 : decode cX6_readsCompared 20 = .ok (.goto 32, 3) := dk_167 0 32 (dk_at dksX6_readsCompared_0 20 rfl rfl)
theorem dX6_readsCompared_23 : decode cX6_readsCompared 23 = .ok (.aload_n 0, 1) := dk_42 (dk_at dksX6_readsCompared_0 23 rfl rfl)
theorem dX6_readsCompared_24 : decode cX6_readsCompared 24 = .ok (.invokevirtual 148, 3) := dk_182 0 148 (dk_at dksX6_readsCompared_1 0 rfl rfl)
theorem dX6_readsCompared_27 : decode cX6_readsCompared 27 = .ok (.bipush 62, 2) := dk_16 62 (dk_at dksX6_readsCompared_1 3 rfl rfl)
theorem dX6_readsCompared_29 : decode cX6_readsCompared 29 = .ok (.if_icmp .ne 8, 3) := dk_160 0 8 (dk_at dksX6_readsCompared_1 5 rfl rfl)
theorem dX6_readsCompared_32 : decode cX6_readsCompared 32 = .ok (.bipush 8, 2) := dk_16 8 (dk_at dksX6_readsCompared_1 8 rfl rfl)
theorem dX6_readsCompared_34 : decode cX6_readsCompared 34 = .ok (.goto 18, 3) := dk_167 0 18 (dk_at dksX6_readsCompared_1 10 rfl rfl)
theorem dX6_readsCompared_37 : decode cX6_readsCompared 37 = .ok (.aload_n 0, 1) := dk_42 (dk_at dksX6_readsCompared_1 13 rfl rfl)
theorem dX6_readsCompared_38 : decode cX6_readsCompared 38 = .ok (.invokevirtual 148, 3) := dk_182 0 148 (dk_at dksX6_readsCompared_1 14 rfl rfl)
theorem dX6_readsCompared_41 : decode cX6_readsCompared 41 = .ok (.bipush 61, 2) := dk_16 61 (dk_at dksX6_readsCompared_1 17 rfl rfl)
theorem dX6_readsCompared_43 : decode cX6_readsCompared 43 = .ok (.if_icmp .ne 8, 3) := dk_160 0 8 (dk_at dksX6_readsCompared_1 19 rfl rfl)
theorem dX6_readsCompared_46 : decode cX6_readsCompared 46 = .ok (.bipush 9, 2) := dk_16 9 (dk_at dksX6_readsCompared_1 22 rfl rfl)
theorem dX6_readsCompared_48 : decode cX6_readsCompared 48 = .ok (.goto 4, 3) := dk_167 0 4 (dk_at dksX6_readsCompared_2 0 rfl rfl)
theorem dX6_readsCompared_51 : decode cX6_readsCompared 51 = .ok (.iconst (-1), 1) := dk_2 (dk_at dksX6_readsCompared_2 3 rfl rfl)
theorem dX6_readsCompared_52 : decode cX6_readsCompared 52 = .ok (.istore_n 1, 1) := dk_60 (dk_at dksX6_readsCompared_2 4 rfl rfl)
theorem dX6_readsCompared_53 : decode cX6_readsCompared 53 = .ok (.iload_n 1, 1) := dk_27 (dk_at dksX6_readsCompared_2 5 rfl rfl)
theorem dX6_readsCompared_54 : decode cX6_readsCompared 54 = .ok (.iconst (-1), 1) := dk_2 (dk_at dksX6_readsCompared_2 6 rfl rfl)
theorem dX6_readsCompared_55 : decode cX6_readsCompared 55 = .ok (.if_icmp .ne 13, 3) := dk_160 0 13 (dk_at dksX6_readsCompared_2 7 rfl rfl)
theorem dX6_readsCompared_58 : decode cX6_readsCompared 58 = .ok (.aload_n 0, 1) := dk_42 (dk_at dksX6_readsCompared_2 10 rfl rfl)
theorem dX6_readsCompared_59 : decode cX6_readsCompared 59 = .ok (.iconst 1, 1) := dk_4 (dk_at dksX6_readsCompared_2 11 rfl rfl)
theorem dX6_readsCompared_60 : decode cX6_readsCompared 60 = .ok (.aload_n 0, 1) := dk_42 (dk_at dksX6_readsCompared_2 12 rfl rfl)
theorem dX6_readsCompared_61 : decode cX6_readsCompared 61 = .ok (.getfield 142, 3) := dk_180 0 142 (dk_at dksX6_readsCompared_2 13 rfl rfl)
theorem dX6_readsCompared_64 : decode cX6_readsCompared 64 = .ok (.invokevirtual 155, 3) := dk_182 0 155 (dk_at dksX6_readsCompared_2 16 rfl rfl)
theorem dX6_readsCompared_67 : decode cX6_readsCompared 67 = .ok (.ireturn, 1) := dk_172 (dk_at dksX6_readsCompared_2 19 rfl rfl)
theorem dX6_readsCompared_68 : decode cX6_readsCompared 68 = .ok (.aload_n 0, 1) := dk_42 (dk_at dksX6_readsCompared_2 20 rfl rfl)
theorem dX6_readsCompared_69 : decode cX6_readsCompared 69 = .ok (.aload_n 0, 1) := dk_42 (dk_at dksX6_readsCompared_2 21 rfl rfl)
theorem dX6_readsCompared_70 : decode cX6_readsCompared 70 = .ok (.getfield 142, 3) := dk_180 0 142 (dk_at dksX6_readsCompared_3 0 rfl rfl)
theorem dX6_readsCompared_73 : decode cX6_readsCompared 73 = .ok (.iconst 1, 1) := dk_4 (dk_at dksX6_readsCompared_3 3 rfl rfl)
theorem dX6_readsCompared_74 : decode cX6_readsCompared 74 = .ok (.iadd, 1) := dk_96 (dk_at dksX6_readsCompared_3 4 rfl rfl)
theorem dX6_readsCompared_75 : decode cX6_readsCompared 75 = .ok (.putfield 142, 3) := dk_181 0 142 (dk_at dksX6_readsCompared_3 5 rfl rfl)
theorem dX6_readsCompared_78 : decode cX6_readsCompared 78 = .ok (.aload_n 0, 1) := dk_42 (dk_at dksX6_readsCompared_3 8 rfl rfl)
theorem dX6_readsCompared_79 : decode cX6_readsCompared 79 = .ok (.invokevirtual 204, 3) := dk_182 0 204 (dk_at dksX6_readsCompared_3 9 rfl rfl)
theorem dX6_readsCompared_82 : decode cX6_readsCompared 82 = .ok (.ifCond .ne 5, 3) := dk_154 0 5 (dk_at dksX6_readsCompared_3 12 rfl rfl)
theorem dX6_readsCompared_85 : decode cX6_readsCompared 85 = .ok (.iconst 0, 1) := dk_3 (dk_at dksX6_readsCompared_3 15 rfl rfl)
theorem dX6_readsCompared_86 : decode cX6_readsCompared 86 = .ok (.ireturn, 1) := dk_172 (dk_at dksX6_readsCompared_3 16 rfl rfl)
theorem dX6_readsCompared_87 : decode cX6_readsCompared 87 = .ok (.aload_n 0, 1) := dk_42 (dk_at dksX6_readsCompared_3 17 rfl rfl)
theorem dX6_readsCompared_88 : decode cX6_readsCompared 88 = .ok (.iload_n 1, 1) := dk_27 (dk_at dksX6_readsCompared_3 18 rfl rfl)
theorem dX6_readsCompared_89 : decode cX6_readsCompared 89 = .ok (.iconst 0, 1) := dk_3 (dk_at dksX6_readsCompared_3 19 rfl rfl)
theorem dX6_readsCompared_90 : decode cX6_readsCompared 90 = .ok (.invokevirtual 178, 3) := dk_182 0 178 (dk_at dksX6_readsCompared_3 20 rfl rfl)
theorem dX6_readsCompared_93 : decode cX6_readsCompared 93 = .ok (.aload_n 0, 1) := dk_42 (dk_at dksX6_readsCompared_3 23 rfl rfl)
theorem dX6_readsCompared_94 : decode cX6_readsCompared 94 = .ok (.invokevirtual 207, 3) := dk_182 0 207 (dk_at dksX6_readsCompared_4 0 rfl rfl)
theorem dX6_readsCompared_97 : decode cX6_readsCompared 97 = .ok (.iconst 1, 1) := dk_4 (dk_at dksX6_readsCompared_4 3 rfl rfl)
theorem dX6_readsCompared_98 : decode cX6_readsCompared 98 = .ok (.ireturn, 1) := dk_172 (dk_at dksX6_readsCompared_4 4 rfl rfl)
abbrev cX6_endsPiece : ByteArray := prog_20_method_37_code
def yX6_endsPiece : MethodName := ⟨RX6, "endsPiece", "()V"⟩
def dkwX6_endsPiece_1 : List UInt8 := [181, 0, 172, 42, 42, 180, 0, 169, 4, 100, 181, 0, 169, 167, 255, 220, 177]
abbrev dktX6_endsPiece_1 : List UInt8 := dkwX6_endsPiece_1 ++ []
def dkwX6_endsPiece_0 : List UInt8 := [42, 182, 0, 175, 16, 10, 160, 0, 33, 42, 16, 10, 3, 182, 0, 178, 42, 42, 180, 0, 172, 4, 100]
abbrev dktX6_endsPiece_0 : List UInt8 := dkwX6_endsPiece_0 ++ dktX6_endsPiece_1
theorem dksX6_endsPiece_0 : cX6_endsPiece.data.toList.drop 0 = dktX6_endsPiece_0 := by decide +kernel
theorem dksX6_endsPiece_1 : cX6_endsPiece.data.toList.drop 23 = dktX6_endsPiece_1 := dk_seg dksX6_endsPiece_0 23 rfl rfl
theorem dX6_endsPiece_0 : decode cX6_endsPiece 0 = .ok (.aload_n 0, 1) := dk_42 (dk_at dksX6_endsPiece_0 0 rfl rfl)
theorem dX6_endsPiece_1 : decode cX6_endsPiece 1 = .ok (.invokevirtual 175, 3) := dk_182 0 175 (dk_at dksX6_endsPiece_0 1 rfl rfl)
theorem dX6_endsPiece_4 : decode cX6_endsPiece 4 = .ok (.bipush 10, 2) := dk_16 10 (dk_at dksX6_endsPiece_0 4 rfl rfl)
theorem dX6_endsPiece_6 : decode cX6_endsPiece 6 = .ok (.if_icmp .ne 33, 3) := dk_160 0 33 (dk_at dksX6_endsPiece_0 6 rfl rfl)
theorem dX6_endsPiece_9 : decode cX6_endsPiece 9 = .ok (.aload_n 0, 1) := dk_42 (dk_at dksX6_endsPiece_0 9 rfl rfl)
theorem dX6_endsPiece_10 : decode cX6_endsPiece 10 = .ok (.bipush 10, 2) := dk_16 10 (dk_at dksX6_endsPiece_0 10 rfl rfl)
theorem dX6_endsPiece_12 : decode cX6_endsPiece 12 = .ok (.iconst 0, 1) := dk_3 (dk_at dksX6_endsPiece_0 12 rfl rfl)
theorem dX6_endsPiece_13 : decode cX6_endsPiece 13 = .ok (.invokevirtual 178, 3) := dk_182 0 178 (dk_at dksX6_endsPiece_0 13 rfl rfl)
theorem dX6_endsPiece_16 : decode cX6_endsPiece 16 = .ok (.aload_n 0, 1) := dk_42 (dk_at dksX6_endsPiece_0 16 rfl rfl)
theorem dX6_endsPiece_17 : decode cX6_endsPiece 17 = .ok (.aload_n 0, 1) := dk_42 (dk_at dksX6_endsPiece_0 17 rfl rfl)
theorem dX6_endsPiece_18 : decode cX6_endsPiece 18 = .ok (.getfield 172, 3) := dk_180 0 172 (dk_at dksX6_endsPiece_0 18 rfl rfl)
theorem dX6_endsPiece_21 : decode cX6_endsPiece 21 = .ok (.iconst 1, 1) := dk_4 (dk_at dksX6_endsPiece_0 21 rfl rfl)
theorem dX6_endsPiece_22 : decode cX6_endsPiece 22 = .ok (.isub, 1) := dk_100 (dk_at dksX6_endsPiece_0 22 rfl rfl)
theorem dX6_endsPiece_23 : decode cX6_endsPiece 23 = .ok (.putfield 172, 3) := dk_181 0 172 (dk_at dksX6_endsPiece_1 0 rfl rfl)
theorem dX6_endsPiece_26 : decode cX6_endsPiece 26 = .ok (.aload_n 0, 1) := dk_42 (dk_at dksX6_endsPiece_1 3 rfl rfl)
theorem dX6_endsPiece_27 : decode cX6_endsPiece 27 = .ok (.aload_n 0, 1) := dk_42 (dk_at dksX6_endsPiece_1 4 rfl rfl)
theorem dX6_endsPiece_28 : decode cX6_endsPiece 28 = .ok (.getfield 169, 3) := dk_180 0 169 (dk_at dksX6_endsPiece_1 5 rfl rfl)
theorem dX6_endsPiece_31 : decode cX6_endsPiece 31 = .ok (.iconst 1, 1) := dk_4 (dk_at dksX6_endsPiece_1 8 rfl rfl)
theorem dX6_endsPiece_32 : decode cX6_endsPiece 32 = .ok (.isub, 1) := dk_100 (dk_at dksX6_endsPiece_1 9 rfl rfl)
theorem dX6_endsPiece_33 : decode cX6_endsPiece 33 = .ok (.putfield 169, 3) := dk_181 0 169 (dk_at dksX6_endsPiece_1 10 rfl rfl)
theorem dX6_endsPiece_36 : decode cX6_endsPiece 36 = .ok (.goto (-36), 3) := dk_167 255 220 (dk_at dksX6_endsPiece_1 13 rfl rfl)
theorem dX6_endsPiece_39 : decode cX6_endsPiece 39 = .ok (.return_, 1) := dk_177 (dk_at dksX6_endsPiece_1 16 rfl rfl)
abbrev cX6_lands : ByteArray := prog_20_method_38_code
def yX6_lands : MethodName := ⟨RX6, "lands", "(Z)V"⟩
def dkwX6_lands_3 : List UInt8 := [181, 0, 172, 167, 255, 186, 177]
abbrev dktX6_lands_3 : List UInt8 := dkwX6_lands_3 ++ []
def dkwX6_lands_2 : List UInt8 := [180, 0, 23, 28, 46, 18, 168, 108, 104, 42, 180, 0, 165, 96, 79, 42, 42, 180, 0, 172, 4, 100]
abbrev dktX6_lands_2 : List UInt8 := dkwX6_lands_2 ++ dktX6_lands_3
def dkwX6_lands_1 : List UInt8 := [180, 0, 26, 42, 180, 0, 172, 4, 100, 46, 18, 168, 112, 61, 42, 180, 0, 23, 28, 18, 168, 42]
abbrev dktX6_lands_1 : List UInt8 := dkwX6_lands_1 ++ dktX6_lands_2
def dkwX6_lands_0 : List UInt8 := [42, 182, 0, 175, 16, 11, 159, 0, 16, 27, 153, 0, 63, 42, 182, 0, 175, 16, 12, 160, 0, 54, 42]
abbrev dktX6_lands_0 : List UInt8 := dkwX6_lands_0 ++ dktX6_lands_1
theorem dksX6_lands_0 : cX6_lands.data.toList.drop 0 = dktX6_lands_0 := by decide +kernel
theorem dksX6_lands_1 : cX6_lands.data.toList.drop 23 = dktX6_lands_1 := dk_seg dksX6_lands_0 23 rfl rfl
theorem dksX6_lands_2 : cX6_lands.data.toList.drop 45 = dktX6_lands_2 := dk_seg dksX6_lands_1 22 rfl rfl
theorem dksX6_lands_3 : cX6_lands.data.toList.drop 67 = dktX6_lands_3 := dk_seg dksX6_lands_2 22 rfl rfl
theorem dX6_lands_0 : decode cX6_lands 0 = .ok (.aload_n 0, 1) := dk_42 (dk_at dksX6_lands_0 0 rfl rfl)
theorem dX6_lands_1 : decode cX6_lands 1 = .ok (.invokevirtual 175, 3) := dk_182 0 175 (dk_at dksX6_lands_0 1 rfl rfl)
theorem dX6_lands_4 : decode cX6_lands 4 = .ok (.bipush 11, 2) := dk_16 11 (dk_at dksX6_lands_0 4 rfl rfl)
theorem dX6_lands_6 : decode cX6_lands 6 = .ok (.if_icmp .eq 16, 3) := dk_159 0 16 (dk_at dksX6_lands_0 6 rfl rfl)
theorem dX6_lands_9 : decode cX6_lands 9 = .ok (.iload_n 1, 1) := dk_27 (dk_at dksX6_lands_0 9 rfl rfl)
theorem dX6_lands_10 : decode cX6_lands 10 = .ok (.ifCond .eq 63, 3) := dk_153 0 63 (dk_at dksX6_lands_0 10 rfl rfl)
theorem dX6_lands_13 : decode cX6_lands 13 = .ok (.aload_n 0, 1) := dk_42 (dk_at dksX6_lands_0 13 rfl rfl)
theorem dX6_lands_14 : decode cX6_lands 14 = .ok (.invokevirtual 175, 3) := dk_182 0 175 (dk_at dksX6_lands_0 14 rfl rfl)
theorem dX6_lands_17 : decode cX6_lands 17 = .ok (.bipush 12, 2) := dk_16 12 (dk_at dksX6_lands_0 17 rfl rfl)
theorem dX6_lands_19 : decode cX6_lands 19 = .ok (.if_icmp .ne 54, 3) := dk_160 0 54 (dk_at dksX6_lands_0 19 rfl rfl)
theorem dX6_lands_22 : decode cX6_lands 22 = .ok (.aload_n 0, 1) := dk_42 (dk_at dksX6_lands_0 22 rfl rfl)
theorem dX6_lands_23 : decode cX6_lands 23 = .ok (.getfield 26, 3) := dk_180 0 26 (dk_at dksX6_lands_1 0 rfl rfl)
theorem dX6_lands_26 : decode cX6_lands 26 = .ok (.aload_n 0, 1) := dk_42 (dk_at dksX6_lands_1 3 rfl rfl)
theorem dX6_lands_27 : decode cX6_lands 27 = .ok (.getfield 172, 3) := dk_180 0 172 (dk_at dksX6_lands_1 4 rfl rfl)
theorem dX6_lands_30 : decode cX6_lands 30 = .ok (.iconst 1, 1) := dk_4 (dk_at dksX6_lands_1 7 rfl rfl)
theorem dX6_lands_31 : decode cX6_lands 31 = .ok (.isub, 1) := dk_100 (dk_at dksX6_lands_1 8 rfl rfl)
theorem dX6_lands_32 : decode cX6_lands 32 = .ok (.iaload, 1) := dk_46 (dk_at dksX6_lands_1 9 rfl rfl)
theorem dX6_lands_33 : decode cX6_lands 33 = .ok (.ldc 168, 2) := dk_18 168 (dk_at dksX6_lands_1 10 rfl rfl)
theorem dX6_lands_35 : decode cX6_lands 35 = .ok (.irem, 1) := dk_112 (dk_at dksX6_lands_1 12 rfl rfl)
theorem dX6_lands_36 : decode cX6_lands 36 = .ok (.istore_n 2, 1) := dk_61 (dk_at dksX6_lands_1 13 rfl rfl)
theorem dX6_lands_37 : decode cX6_lands 37 = .ok (.aload_n 0, 1) := dk_42 (dk_at dksX6_lands_1 14 rfl rfl)
theorem dX6_lands_38 : decode cX6_lands 38 = .ok (.getfield 23, 3) := dk_180 0 23 (dk_at dksX6_lands_1 15 rfl rfl)
theorem dX6_lands_41 : decode cX6_lands 41 = .ok (.iload_n 2, 1) := dk_28 (dk_at dksX6_lands_1 18 rfl rfl)
theorem dX6_lands_42 : decode cX6_lands 42 = .ok (.ldc 168, 2) := dk_18 168 (dk_at dksX6_lands_1 19 rfl rfl)
theorem dX6_lands_44 : decode cX6_lands 44 = .ok (.aload_n 0, 1) := dk_42 (dk_at dksX6_lands_1 21 rfl rfl)
theorem dX6_lands_45 : decode cX6_lands 45 = .ok (.getfield 23, 3) := dk_180 0 23 (dk_at dksX6_lands_2 0 rfl rfl)
theorem dX6_lands_48 : decode cX6_lands 48 = .ok (.iload_n 2, 1) := dk_28 (dk_at dksX6_lands_2 3 rfl rfl)
theorem dX6_lands_49 : decode cX6_lands 49 = .ok (.iaload, 1) := dk_46 (dk_at dksX6_lands_2 4 rfl rfl)
theorem dX6_lands_50 : decode cX6_lands 50 = .ok (.ldc 168, 2) := dk_18 168 (dk_at dksX6_lands_2 5 rfl rfl)
theorem dX6_lands_52 : decode cX6_lands 52 = .ok (.idiv, 1) := dk_108 (dk_at dksX6_lands_2 7 rfl rfl)
theorem dX6_lands_53 : decode cX6_lands 53 = .ok (.imul, 1) := dk_104 (dk_at dksX6_lands_2 8 rfl rfl)
theorem dX6_lands_54 : decode cX6_lands 54 = .ok (.aload_n 0, 1) := dk_42 (dk_at dksX6_lands_2 9 rfl rfl)
theorem dX6_lands_55 : decode cX6_lands 55 = .ok (.getfield 165, 3) := dk_180 0 165 (dk_at dksX6_lands_2 10 rfl rfl)
theorem dX6_lands_58 : decode cX6_lands 58 = .ok (.iadd, 1) := dk_96 (dk_at dksX6_lands_2 13 rfl rfl)
theorem dX6_lands_59 : decode cX6_lands 59 = .ok (.iastore, 1) := dk_79 (dk_at dksX6_lands_2 14 rfl rfl)
theorem dX6_lands_60 : decode cX6_lands 60 = .ok (.aload_n 0, 1) := dk_42 (dk_at dksX6_lands_2 15 rfl rfl)
theorem dX6_lands_61 : decode cX6_lands 61 = .ok (.aload_n 0, 1) := dk_42 (dk_at dksX6_lands_2 16 rfl rfl)
theorem dX6_lands_62 : decode cX6_lands 62 = .ok (.getfield 172, 3) := dk_180 0 172 (dk_at dksX6_lands_2 17 rfl rfl)
theorem dX6_lands_65 : decode cX6_lands 65 = .ok (.iconst 1, 1) := dk_4 (dk_at dksX6_lands_2 20 rfl rfl)
theorem dX6_lands_66 : decode cX6_lands 66 = .ok (.isub, 1) := dk_100 (dk_at dksX6_lands_2 21 rfl rfl)
theorem dX6_lands_67 : decode cX6_lands 67 = .ok (.putfield 172, 3) := dk_181 0 172 (dk_at dksX6_lands_3 0 rfl rfl)
theorem dX6_lands_70 : decode cX6_lands 70 = .ok (.goto (-70), 3) := dk_167 255 186 (dk_at dksX6_lands_3 3 rfl rfl)
theorem dX6_lands_73 : decode cX6_lands 73 = .ok (.return_, 1) := dk_177 (dk_at dksX6_lands_3 6 rfl rfl)
abbrev cX6_jumps : ByteArray := prog_20_method_39_code
def yX6_jumps : MethodName := ⟨RX6, "jumps", "(I)V"⟩
def dkwX6_jumps_1 : List UInt8 := [96, 181, 0, 172, 42, 27, 3, 182, 0, 178, 42, 42, 180, 0, 142, 4, 96, 181, 0, 142, 177]
abbrev dktX6_jumps_1 : List UInt8 := dkwX6_jumps_1 ++ []
def dkwX6_jumps_0 : List UInt8 := [42, 180, 0, 26, 42, 180, 0, 172, 18, 168, 27, 104, 42, 180, 0, 165, 96, 79, 42, 42, 180, 0, 172, 4]
abbrev dktX6_jumps_0 : List UInt8 := dkwX6_jumps_0 ++ dktX6_jumps_1
theorem dksX6_jumps_0 : cX6_jumps.data.toList.drop 0 = dktX6_jumps_0 := by decide +kernel
theorem dksX6_jumps_1 : cX6_jumps.data.toList.drop 24 = dktX6_jumps_1 := dk_seg dksX6_jumps_0 24 rfl rfl
theorem dX6_jumps_0 : decode cX6_jumps 0 = .ok (.aload_n 0, 1) := dk_42 (dk_at dksX6_jumps_0 0 rfl rfl)
theorem dX6_jumps_1 : decode cX6_jumps 1 = .ok (.getfield 26, 3) := dk_180 0 26 (dk_at dksX6_jumps_0 1 rfl rfl)
theorem dX6_jumps_4 : decode cX6_jumps 4 = .ok (.aload_n 0, 1) := dk_42 (dk_at dksX6_jumps_0 4 rfl rfl)
theorem dX6_jumps_5 : decode cX6_jumps 5 = .ok (.getfield 172, 3) := dk_180 0 172 (dk_at dksX6_jumps_0 5 rfl rfl)
theorem dX6_jumps_8 : decode cX6_jumps 8 = .ok (.ldc 168, 2) := dk_18 168 (dk_at dksX6_jumps_0 8 rfl rfl)
theorem dX6_jumps_10 : decode cX6_jumps 10 = .ok (.iload_n 1, 1) := dk_27 (dk_at dksX6_jumps_0 10 rfl rfl)
theorem dX6_jumps_11 : decode cX6_jumps 11 = .ok (.imul, 1) := dk_104 (dk_at dksX6_jumps_0 11 rfl rfl)
theorem dX6_jumps_12 : decode cX6_jumps 12 = .ok (.aload_n 0, 1) := dk_42 (dk_at dksX6_jumps_0 12 rfl rfl)
theorem dX6_jumps_13 : decode cX6_jumps 13 = .ok (.getfield 165, 3) := dk_180 0 165 (dk_at dksX6_jumps_0 13 rfl rfl)
theorem dX6_jumps_16 : decode cX6_jumps 16 = .ok (.iadd, 1) := dk_96 (dk_at dksX6_jumps_0 16 rfl rfl)
theorem dX6_jumps_17 : decode cX6_jumps 17 = .ok (.iastore, 1) := dk_79 (dk_at dksX6_jumps_0 17 rfl rfl)
theorem dX6_jumps_18 : decode cX6_jumps 18 = .ok (.aload_n 0, 1) := dk_42 (dk_at dksX6_jumps_0 18 rfl rfl)
theorem dX6_jumps_19 : decode cX6_jumps 19 = .ok (.aload_n 0, 1) := dk_42 (dk_at dksX6_jumps_0 19 rfl rfl)
theorem dX6_jumps_20 : decode cX6_jumps 20 = .ok (.getfield 172, 3) := dk_180 0 172 (dk_at dksX6_jumps_0 20 rfl rfl)
theorem dX6_jumps_23 : decode cX6_jumps 23 = .ok (.iconst 1, 1) := dk_4 (dk_at dksX6_jumps_0 23 rfl rfl)
theorem dX6_jumps_24 : decode cX6_jumps 24 = .ok (.iadd, 1) := dk_96 (dk_at dksX6_jumps_1 0 rfl rfl)
theorem dX6_jumps_25 : decode cX6_jumps 25 = .ok (.putfield 172, 3) := dk_181 0 172 (dk_at dksX6_jumps_1 1 rfl rfl)
theorem dX6_jumps_28 : decode cX6_jumps 28 = .ok (.aload_n 0, 1) := dk_42 (dk_at dksX6_jumps_1 4 rfl rfl)
theorem dX6_jumps_29 : decode cX6_jumps 29 = .ok (.iload_n 1, 1) := dk_27 (dk_at dksX6_jumps_1 5 rfl rfl)
theorem dX6_jumps_30 : decode cX6_jumps 30 = .ok (.iconst 0, 1) := dk_3 (dk_at dksX6_jumps_1 6 rfl rfl)
theorem dX6_jumps_31 : decode cX6_jumps 31 = .ok (.invokevirtual 178, 3) := dk_182 0 178 (dk_at dksX6_jumps_1 7 rfl rfl)
theorem dX6_jumps_34 : decode cX6_jumps 34 = .ok (.aload_n 0, 1) := dk_42 (dk_at dksX6_jumps_1 10 rfl rfl)
theorem dX6_jumps_35 : decode cX6_jumps 35 = .ok (.aload_n 0, 1) := dk_42 (dk_at dksX6_jumps_1 11 rfl rfl)
theorem dX6_jumps_36 : decode cX6_jumps 36 = .ok (.getfield 142, 3) := dk_180 0 142 (dk_at dksX6_jumps_1 12 rfl rfl)
theorem dX6_jumps_39 : decode cX6_jumps 39 = .ok (.iconst 1, 1) := dk_4 (dk_at dksX6_jumps_1 15 rfl rfl)
theorem dX6_jumps_40 : decode cX6_jumps 40 = .ok (.iadd, 1) := dk_96 (dk_at dksX6_jumps_1 16 rfl rfl)
theorem dX6_jumps_41 : decode cX6_jumps 41 = .ok (.putfield 142, 3) := dk_181 0 142 (dk_at dksX6_jumps_1 17 rfl rfl)
theorem dX6_jumps_44 : decode cX6_jumps 44 = .ok (.return_, 1) := dk_177 (dk_at dksX6_jumps_1 20 rfl rfl)
abbrev cX6_takes : ByteArray := prog_20_method_26_code
def yX6_takes : MethodName := ⟨RX6, "takes", "(I)Z"⟩
def dkwX6_takes_1 : List UInt8 := [96, 181, 0, 142, 4, 172]
abbrev dktX6_takes_1 : List UInt8 := dkwX6_takes_1 ++ []
def dkwX6_takes_0 : List UInt8 := [42, 182, 0, 148, 27, 159, 0, 13, 42, 4, 42, 180, 0, 142, 182, 0, 155, 172, 42, 42, 180, 0, 142, 4]
abbrev dktX6_takes_0 : List UInt8 := dkwX6_takes_0 ++ dktX6_takes_1
theorem dksX6_takes_0 : cX6_takes.data.toList.drop 0 = dktX6_takes_0 := by decide +kernel
theorem dksX6_takes_1 : cX6_takes.data.toList.drop 24 = dktX6_takes_1 := dk_seg dksX6_takes_0 24 rfl rfl
theorem dX6_takes_0 : decode cX6_takes 0 = .ok (.aload_n 0, 1) := dk_42 (dk_at dksX6_takes_0 0 rfl rfl)
theorem dX6_takes_1 : decode cX6_takes 1 = .ok (.invokevirtual 148, 3) := dk_182 0 148 (dk_at dksX6_takes_0 1 rfl rfl)
theorem dX6_takes_4 : decode cX6_takes 4 = .ok (.iload_n 1, 1) := dk_27 (dk_at dksX6_takes_0 4 rfl rfl)
theorem dX6_takes_5 : decode cX6_takes 5 = .ok (.if_icmp .eq 13, 3) := dk_159 0 13 (dk_at dksX6_takes_0 5 rfl rfl)
theorem dX6_takes_8 : decode cX6_takes 8 = .ok (.aload_n 0, 1) := dk_42 (dk_at dksX6_takes_0 8 rfl rfl)
theorem dX6_takes_9 : decode cX6_takes 9 = .ok (.iconst 1, 1) := dk_4 (dk_at dksX6_takes_0 9 rfl rfl)
theorem dX6_takes_10 : decode cX6_takes 10 = .ok (.aload_n 0, 1) := dk_42 (dk_at dksX6_takes_0 10 rfl rfl)
theorem dX6_takes_11 : decode cX6_takes 11 = .ok (.getfield 142, 3) := dk_180 0 142 (dk_at dksX6_takes_0 11 rfl rfl)
theorem dX6_takes_14 : decode cX6_takes 14 = .ok (.invokevirtual 155, 3) := dk_182 0 155 (dk_at dksX6_takes_0 14 rfl rfl)
theorem dX6_takes_17 : decode cX6_takes 17 = .ok (.ireturn, 1) := dk_172 (dk_at dksX6_takes_0 17 rfl rfl)
theorem dX6_takes_18 : decode cX6_takes 18 = .ok (.aload_n 0, 1) := dk_42 (dk_at dksX6_takes_0 18 rfl rfl)
theorem dX6_takes_19 : decode cX6_takes 19 = .ok (.aload_n 0, 1) := dk_42 (dk_at dksX6_takes_0 19 rfl rfl)
theorem dX6_takes_20 : decode cX6_takes 20 = .ok (.getfield 142, 3) := dk_180 0 142 (dk_at dksX6_takes_0 20 rfl rfl)
theorem dX6_takes_23 : decode cX6_takes 23 = .ok (.iconst 1, 1) := dk_4 (dk_at dksX6_takes_0 23 rfl rfl)
theorem dX6_takes_24 : decode cX6_takes 24 = .ok (.iadd, 1) := dk_96 (dk_at dksX6_takes_1 0 rfl rfl)
theorem dX6_takes_25 : decode cX6_takes 25 = .ok (.putfield 142, 3) := dk_181 0 142 (dk_at dksX6_takes_1 1 rfl rfl)
theorem dX6_takes_28 : decode cX6_takes 28 = .ok (.iconst 1, 1) := dk_4 (dk_at dksX6_takes_1 4 rfl rfl)
theorem dX6_takes_29 : decode cX6_takes 29 = .ok (.ireturn, 1) := dk_172 (dk_at dksX6_takes_1 5 rfl rfl)
abbrev cX6_burials : ByteArray := prog_20_method_55_code
def yX6_burials : MethodName := ⟨RX6, "burials", "(I)I"⟩
def dkwX6_burials_4 : List UInt8 := [153, 0, 8, 42, 180, 0, 253, 172, 42, 180, 0, 13, 42, 180, 0, 7, 184, 1, 10, 42, 180, 0, 152, 172]
abbrev dktX6_burials_4 : List UInt8 := dkwX6_burials_4 ++ []
def dkwX6_burials_3 : List UInt8 := [42, 182, 1, 14, 153, 0, 7, 4, 167, 0, 4, 3, 61, 167, 255, 219, 42, 3, 181, 0, 134, 28]
abbrev dktX6_burials_3 : List UInt8 := dkwX6_burials_3 ++ dktX6_burials_4
def dkwX6_burials_2 : List UInt8 := [28, 153, 0, 39, 42, 180, 0, 142, 42, 180, 0, 145, 162, 0, 28, 42, 16, 59, 182, 0, 231, 153, 0, 14]
abbrev dktX6_burials_2 : List UInt8 := dkwX6_burials_2 ++ dktX6_burials_3
def dkwX6_burials_1 : List UInt8 := [182, 0, 225, 42, 3, 181, 0, 253, 42, 180, 0, 7, 42, 180, 0, 13, 184, 1, 10, 42, 182, 1, 14, 61]
abbrev dktX6_burials_1 : List UInt8 := dkwX6_burials_1 ++ dktX6_burials_2
def dkwX6_burials_0 : List UInt8 := [27, 4, 16, 120, 184, 0, 104, 153, 0, 11, 27, 42, 180, 0, 134, 164, 0, 5, 2, 172, 42, 27]
abbrev dktX6_burials_0 : List UInt8 := dkwX6_burials_0 ++ dktX6_burials_1
theorem dksX6_burials_0 : cX6_burials.data.toList.drop 0 = dktX6_burials_0 := by decide +kernel
theorem dksX6_burials_1 : cX6_burials.data.toList.drop 22 = dktX6_burials_1 := dk_seg dksX6_burials_0 22 rfl rfl
theorem dksX6_burials_2 : cX6_burials.data.toList.drop 46 = dktX6_burials_2 := dk_seg dksX6_burials_1 24 rfl rfl
theorem dksX6_burials_3 : cX6_burials.data.toList.drop 70 = dktX6_burials_3 := dk_seg dksX6_burials_2 24 rfl rfl
theorem dksX6_burials_4 : cX6_burials.data.toList.drop 92 = dktX6_burials_4 := dk_seg dksX6_burials_3 22 rfl rfl
theorem dX6_burials_0 : decode cX6_burials 0 = .ok (.iload_n 1, 1) := dk_27 (dk_at dksX6_burials_0 0 rfl rfl)
theorem dX6_burials_1 : decode cX6_burials 1 = .ok (.iconst 1, 1) := dk_4 (dk_at dksX6_burials_0 1 rfl rfl)
theorem dX6_burials_2 : decode cX6_burials 2 = .ok (.bipush 120, 2) := dk_16 120 (dk_at dksX6_burials_0 2 rfl rfl)
theorem dX6_burials_4 : decode cX6_burials 4 = .ok (.invokestatic 104, 3) := dk_184 0 104 (dk_at dksX6_burials_0 4 rfl rfl)
theorem dX6_burials_7 : decode cX6_burials 7 = .ok (.ifCond .eq 11, 3) := dk_153 0 11 (dk_at dksX6_burials_0 7 rfl rfl)
theorem dX6_burials_10 : decode cX6_burials 10 = .ok (.iload_n 1, 1) := dk_27 (dk_at dksX6_burials_0 10 rfl rfl)
theorem dX6_burials_11 : decode cX6_burials 11 = .ok (.aload_n 0, 1) := dk_42 (dk_at dksX6_burials_0 11 rfl rfl)
theorem dX6_burials_12 : decode cX6_burials 12 = .ok (.getfield 134, 3) := dk_180 0 134 (dk_at dksX6_burials_0 12 rfl rfl)
theorem dX6_burials_15 : decode cX6_burials 15 = .ok (.if_icmp .le 5, 3) := dk_164 0 5 (dk_at dksX6_burials_0 15 rfl rfl)
theorem dX6_burials_18 : decode cX6_burials 18 = .ok (.iconst (-1), 1) := dk_2 (dk_at dksX6_burials_0 18 rfl rfl)
theorem dX6_burials_19 : decode cX6_burials 19 = .ok (.ireturn, 1) := dk_172 (dk_at dksX6_burials_0 19 rfl rfl)
theorem dX6_burials_20 : decode cX6_burials 20 = .ok (.aload_n 0, 1) := dk_42 (dk_at dksX6_burials_0 20 rfl rfl)
theorem dX6_burials_21 : decode cX6_burials 21 = .ok (.iload_n 1, 1) := dk_27 (dk_at dksX6_burials_0 21 rfl rfl)
theorem dX6_burials_22 : decode cX6_burials 22 = .ok (.invokevirtual 225, 3) := dk_182 0 225 (dk_at dksX6_burials_1 0 rfl rfl)
theorem dX6_burials_25 : decode cX6_burials 25 = .ok (.aload_n 0, 1) := dk_42 (dk_at dksX6_burials_1 3 rfl rfl)
theorem dX6_burials_26 : decode cX6_burials 26 = .ok (.iconst 0, 1) := dk_3 (dk_at dksX6_burials_1 4 rfl rfl)
theorem dX6_burials_27 : decode cX6_burials 27 = .ok (.putfield 253, 3) := dk_181 0 253 (dk_at dksX6_burials_1 5 rfl rfl)
theorem dX6_burials_30 : decode cX6_burials 30 = .ok (.aload_n 0, 1) := dk_42 (dk_at dksX6_burials_1 8 rfl rfl)
theorem dX6_burials_31 : decode cX6_burials 31 = .ok (.getfield 7, 3) := dk_180 0 7 (dk_at dksX6_burials_1 9 rfl rfl)
theorem dX6_burials_34 : decode cX6_burials 34 = .ok (.aload_n 0, 1) := dk_42 (dk_at dksX6_burials_1 12 rfl rfl)
theorem dX6_burials_35 : decode cX6_burials 35 = .ok (.getfield 13, 3) := dk_180 0 13 (dk_at dksX6_burials_1 13 rfl rfl)
theorem dX6_burials_38 : decode cX6_burials 38 = .ok (.invokestatic 266, 3) := dk_184 1 10 (dk_at dksX6_burials_1 16 rfl rfl)
theorem dX6_burials_41 : decode cX6_burials 41 = .ok (.aload_n 0, 1) := dk_42 (dk_at dksX6_burials_1 19 rfl rfl)
theorem dX6_burials_42 : decode cX6_burials 42 = .ok (.invokevirtual 270, 3) := dk_182 1 14 (dk_at dksX6_burials_1 20 rfl rfl)
theorem dX6_burials_45 : decode cX6_burials 45 = .ok (.istore_n 2, 1) := dk_61 (dk_at dksX6_burials_1 23 rfl rfl)
theorem dX6_burials_46 : decode cX6_burials 46 = .ok (.iload_n 2, 1) := dk_28 (dk_at dksX6_burials_2 0 rfl rfl)
theorem dX6_burials_47 : decode cX6_burials 47 = .ok (.ifCond .eq 39, 3) := dk_153 0 39 (dk_at dksX6_burials_2 1 rfl rfl)
theorem dX6_burials_50 : decode cX6_burials 50 = .ok (.aload_n 0, 1) := dk_42 (dk_at dksX6_burials_2 4 rfl rfl)
theorem dX6_burials_51 : decode cX6_burials 51 = .ok (.getfield 142, 3) := dk_180 0 142 (dk_at dksX6_burials_2 5 rfl rfl)
theorem dX6_burials_54 : decode cX6_burials 54 = .ok (.aload_n 0, 1) := dk_42 (dk_at dksX6_burials_2 8 rfl rfl)
theorem dX6_burials_55 : decode cX6_burials 55 = .ok (.getfield 145, 3) := dk_180 0 145 (dk_at dksX6_burials_2 9 rfl rfl)
theorem dX6_burials_58 : decode cX6_burials 58 = .ok (.if_icmp .ge 28, 3) := dk_162 0 28 (dk_at dksX6_burials_2 12 rfl rfl)
theorem dX6_burials_61 : decode cX6_burials 61 = .ok (.aload_n 0, 1) := dk_42 (dk_at dksX6_burials_2 15 rfl rfl)
theorem dX6_burials_62 : decode cX6_burials 62 = .ok (.bipush 59, 2) := dk_16 59 (dk_at dksX6_burials_2 16 rfl rfl)
theorem dX6_burials_64 : decode cX6_burials 64 = .ok (.invokevirtual 231, 3) := dk_182 0 231 (dk_at dksX6_burials_2 18 rfl rfl)
theorem dX6_burials_67 : decode cX6_burials 67 = .ok (.ifCond .eq 14, 3) := dk_153 0 14 (dk_at dksX6_burials_2 21 rfl rfl)
theorem dX6_burials_70 : decode cX6_burials 70 = .ok (.aload_n 0, 1) := dk_42 (dk_at dksX6_burials_3 0 rfl rfl)
theorem dX6_burials_71 : decode cX6_burials 71 = .ok (.invokevirtual 270, 3) := dk_182 1 14 (dk_at dksX6_burials_3 1 rfl rfl)
theorem dX6_burials_74 : decode cX6_burials 74 = .ok (.ifCond .eq 7, 3) := dk_153 0 7 (dk_at dksX6_burials_3 4 rfl rfl)
theorem dX6_burials_77 : decode cX6_burials 77 = .ok (.iconst 1, 1) := dk_4 (dk_at dksX6_burials_3 7 rfl rfl)
theorem dX6_burials_78 : decode cX6_burials 78 = .ok (.goto 4, 3) := dk_167 0 4 (dk_at dksX6_burials_3 8 rfl rfl)
theorem dX6_burials_81 : decode cX6_burials 81 = .ok (.iconst 0, 1) := dk_3 (dk_at dksX6_burials_3 11 rfl rfl)
theorem dX6_burials_82 : decode cX6_burials 82 = .ok (.istore_n 2, 1) := dk_61 (dk_at dksX6_burials_3 12 rfl rfl)
theorem dX6_burials_83 : decode cX6_burials 83 = .ok (.goto (-37), 3) := dk_167 255 219 (dk_at dksX6_burials_3 13 rfl rfl)
theorem dX6_burials_86 : decode cX6_burials 86 = .ok (.aload_n 0, 1) := dk_42 (dk_at dksX6_burials_3 16 rfl rfl)
theorem dX6_burials_87 : decode cX6_burials 87 = .ok (.iconst 0, 1) := dk_3 (dk_at dksX6_burials_3 17 rfl rfl)
theorem dX6_burials_88 : decode cX6_burials 88 = .ok (.putfield 134, 3) := dk_181 0 134 (dk_at dksX6_burials_3 18 rfl rfl)
theorem dX6_burials_91 : decode cX6_burials 91 = .ok (.iload_n 2, 1) := dk_28 (dk_at dksX6_burials_3 21 rfl rfl)
theorem dX6_burials_92 : decode cX6_burials 92 = .ok (.ifCond .eq 8, 3) := dk_153 0 8 (dk_at dksX6_burials_4 0 rfl rfl)
theorem dX6_burials_95 : decode cX6_burials 95 = .ok (.aload_n 0, 1) := dk_42 (dk_at dksX6_burials_4 3 rfl rfl)
theorem dX6_burials_96 : decode cX6_burials 96 = .ok (.getfield 253, 3) := dk_180 0 253 (dk_at dksX6_burials_4 4 rfl rfl)
theorem dX6_burials_99 : decode cX6_burials 99 = .ok (.ireturn, 1) := dk_172 (dk_at dksX6_burials_4 7 rfl rfl)
theorem dX6_burials_100 : decode cX6_burials 100 = .ok (.aload_n 0, 1) := dk_42 (dk_at dksX6_burials_4 8 rfl rfl)
theorem dX6_burials_101 : decode cX6_burials 101 = .ok (.getfield 13, 3) := dk_180 0 13 (dk_at dksX6_burials_4 9 rfl rfl)
theorem dX6_burials_104 : decode cX6_burials 104 = .ok (.aload_n 0, 1) := dk_42 (dk_at dksX6_burials_4 12 rfl rfl)
theorem dX6_burials_105 : decode cX6_burials 105 = .ok (.getfield 7, 3) := dk_180 0 7 (dk_at dksX6_burials_4 13 rfl rfl)
theorem dX6_burials_108 : decode cX6_burials 108 = .ok (.invokestatic 266, 3) := dk_184 1 10 (dk_at dksX6_burials_4 16 rfl rfl)
theorem dX6_burials_111 : decode cX6_burials 111 = .ok (.aload_n 0, 1) := dk_42 (dk_at dksX6_burials_4 19 rfl rfl)
theorem dX6_burials_112 : decode cX6_burials 112 = .ok (.getfield 152, 3) := dk_180 0 152 (dk_at dksX6_burials_4 20 rfl rfl)
theorem dX6_burials_115 : decode cX6_burials 115 = .ok (.ireturn, 1) := dk_172 (dk_at dksX6_burials_4 23 rfl rfl)
abbrev cX6_copies : ByteArray := prog_20_method_8_code
def yX6_copies : MethodName := ⟨RX6, "copies", "([I[I)V"⟩
def dkwX6_copies_0 : List UInt8 := [3, 61, 28, 16, 66, 162, 0, 15, 43, 28, 42, 28, 46, 79, 132, 2, 1, 167, 255, 241, 177]
abbrev dktX6_copies_0 : List UInt8 := dkwX6_copies_0 ++ []
theorem dksX6_copies_0 : cX6_copies.data.toList.drop 0 = dktX6_copies_0 := by decide +kernel
theorem dX6_copies_0 : decode cX6_copies 0 = .ok (.iconst 0, 1) := dk_3 (dk_at dksX6_copies_0 0 rfl rfl)
theorem dX6_copies_1 : decode cX6_copies 1 = .ok (.istore_n 2, 1) := dk_61 (dk_at dksX6_copies_0 1 rfl rfl)
theorem dX6_copies_2 : decode cX6_copies 2 = .ok (.iload_n 2, 1) := dk_28 (dk_at dksX6_copies_0 2 rfl rfl)
theorem dX6_copies_3 : decode cX6_copies 3 = .ok (.bipush 66, 2) := dk_16 66 (dk_at dksX6_copies_0 3 rfl rfl)
theorem dX6_copies_5 : decode cX6_copies 5 = .ok (.if_icmp .ge 15, 3) := dk_162 0 15 (dk_at dksX6_copies_0 5 rfl rfl)
theorem dX6_copies_8 : decode cX6_copies 8 = .ok (.aload_n 1, 1) := dk_43 (dk_at dksX6_copies_0 8 rfl rfl)
theorem dX6_copies_9 : decode cX6_copies 9 = .ok (.iload_n 2, 1) := dk_28 (dk_at dksX6_copies_0 9 rfl rfl)
theorem dX6_copies_10 : decode cX6_copies 10 = .ok (.aload_n 0, 1) := dk_42 (dk_at dksX6_copies_0 10 rfl rfl)
theorem dX6_copies_11 : decode cX6_copies 11 = .ok (.iload_n 2, 1) := dk_28 (dk_at dksX6_copies_0 11 rfl rfl)
theorem dX6_copies_12 : decode cX6_copies 12 = .ok (.iaload, 1) := dk_46 (dk_at dksX6_copies_0 12 rfl rfl)
theorem dX6_copies_13 : decode cX6_copies 13 = .ok (.iastore, 1) := dk_79 (dk_at dksX6_copies_0 13 rfl rfl)
theorem dX6_copies_14 : decode cX6_copies 14 = .ok (.iinc 2 1, 3) := dk_132 2 1 (dk_at dksX6_copies_0 14 rfl rfl)
theorem dX6_copies_17 : decode cX6_copies 17 = .ok (.goto (-15), 3) := dk_167 255 241 (dk_at dksX6_copies_0 17 rfl rfl)
theorem dX6_copies_20 : decode cX6_copies 20 = .ok (.return_, 1) := dk_177 (dk_at dksX6_copies_0 20 rfl rfl)
abbrev cX6_readsLine : ByteArray := prog_20_method_54_code
def yX6_readsLine : MethodName := ⟨RX6, "readsLine", "()Z"⟩
def dkwX6_readsLine_8 : List UInt8 := [180, 0, 7, 16, 48, 27, 96, 16, 254, 79, 4, 172]
abbrev dktX6_readsLine_8 : List UInt8 := dkwX6_readsLine_8 ++ []
def dkwX6_readsLine_7 : List UInt8 := [16, 33, 159, 0, 20, 42, 27, 28, 16, 43, 160, 0, 7, 4, 167, 0, 4, 3, 182, 1, 6, 172, 42]
abbrev dktX6_readsLine_7 : List UInt8 := dkwX6_readsLine_7 ++ dktX6_readsLine_8
def dkwX6_readsLine_6 : List UInt8 := [16, 64, 160, 0, 9, 42, 27, 182, 1, 0, 172, 28, 16, 61, 160, 0, 9, 42, 27, 182, 1, 3, 172, 28]
abbrev dktX6_readsLine_6 : List UInt8 := dkwX6_readsLine_6 ++ dktX6_readsLine_7
def dkwX6_readsLine_5 : List UInt8 := [159, 0, 13, 42, 4, 42, 180, 0, 142, 182, 0, 155, 172, 42, 42, 180, 0, 142, 4, 96, 181, 0, 142, 28]
abbrev dktX6_readsLine_5 : List UInt8 := dkwX6_readsLine_5 ++ dktX6_readsLine_6
def dkwX6_readsLine_4 : List UInt8 := [159, 0, 37, 28, 16, 33, 159, 0, 31, 28, 16, 61, 159, 0, 25, 28, 16, 43, 159, 0, 19, 28, 16, 45]
abbrev dktX6_readsLine_4 : List UInt8 := dkwX6_readsLine_4 ++ dktX6_readsLine_5
def dkwX6_readsLine_3 : List UInt8 := [182, 0, 155, 172, 42, 42, 180, 0, 142, 4, 96, 181, 0, 142, 42, 182, 0, 148, 61, 28, 16, 64]
abbrev dktX6_readsLine_3 : List UInt8 := dkwX6_readsLine_3 ++ dktX6_readsLine_4
def dkwX6_readsLine_2 : List UInt8 := [182, 0, 148, 16, 97, 100, 60, 42, 27, 182, 0, 108, 154, 0, 14, 42, 16, 7, 42, 180, 0, 142]
abbrev dktX6_readsLine_2 : List UInt8 := dkwX6_readsLine_2 ++ dktX6_readsLine_3
def dkwX6_readsLine_1 : List UInt8 := [160, 0, 13, 42, 7, 42, 180, 0, 142, 182, 0, 155, 172, 42, 42, 180, 0, 253, 4, 96, 181, 0, 253, 42]
abbrev dktX6_readsLine_1 : List UInt8 := dkwX6_readsLine_1 ++ dktX6_readsLine_2
def dkwX6_readsLine_0 : List UInt8 := [42, 182, 0, 250, 154, 0, 13, 42, 4, 42, 180, 0, 142, 182, 0, 155, 172, 42, 180, 0, 253, 16, 20]
abbrev dktX6_readsLine_0 : List UInt8 := dkwX6_readsLine_0 ++ dktX6_readsLine_1
theorem dksX6_readsLine_0 : cX6_readsLine.data.toList.drop 0 = dktX6_readsLine_0 := by decide +kernel
theorem dksX6_readsLine_1 : cX6_readsLine.data.toList.drop 23 = dktX6_readsLine_1 := dk_seg dksX6_readsLine_0 23 rfl rfl
theorem dksX6_readsLine_2 : cX6_readsLine.data.toList.drop 47 = dktX6_readsLine_2 := dk_seg dksX6_readsLine_1 24 rfl rfl
theorem dksX6_readsLine_3 : cX6_readsLine.data.toList.drop 69 = dktX6_readsLine_3 := dk_seg dksX6_readsLine_2 22 rfl rfl
theorem dksX6_readsLine_4 : cX6_readsLine.data.toList.drop 91 = dktX6_readsLine_4 := dk_seg dksX6_readsLine_3 22 rfl rfl
theorem dksX6_readsLine_5 : cX6_readsLine.data.toList.drop 115 = dktX6_readsLine_5 := dk_seg dksX6_readsLine_4 24 rfl rfl
theorem dksX6_readsLine_6 : cX6_readsLine.data.toList.drop 139 = dktX6_readsLine_6 := dk_seg dksX6_readsLine_5 24 rfl rfl
theorem dksX6_readsLine_7 : cX6_readsLine.data.toList.drop 163 = dktX6_readsLine_7 := dk_seg dksX6_readsLine_6 24 rfl rfl
theorem dksX6_readsLine_8 : cX6_readsLine.data.toList.drop 186 = dktX6_readsLine_8 := dk_seg dksX6_readsLine_7 23 rfl rfl
theorem dX6_readsLine_0 : decode cX6_readsLine 0 = .ok (.aload_n 0, 1) := dk_42 (dk_at dksX6_readsLine_0 0 rfl rfl)
theorem dX6_readsLine_1 : decode cX6_readsLine 1 = .ok (.invokevirtual 250, 3) := dk_182 0 250 (dk_at dksX6_readsLine_0 1 rfl rfl)
theorem dX6_readsLine_4 : decode cX6_readsLine 4 = .ok (.ifCond .ne 13, 3) := dk_154 0 13 (dk_at dksX6_readsLine_0 4 rfl rfl)
theorem dX6_readsLine_7 : decode cX6_readsLine 7 = .ok (.aload_n 0, 1) := dk_42 (dk_at dksX6_readsLine_0 7 rfl rfl)
theorem dX6_readsLine_8 : decode cX6_readsLine 8 = .ok (.iconst 1, 1) := dk_4 (dk_at dksX6_readsLine_0 8 rfl rfl)
theorem dX6_readsLine_9 : decode cX6_readsLine 9 = .ok (.aload_n 0, 1) := dk_42 (dk_at dksX6_readsLine_0 9 rfl rfl)
theorem dX6_readsLine_10 : decode cX6_readsLine 10 = .ok (.getfield 142, 3) := dk_180 0 142 (dk_at dksX6_readsLine_0 10 rfl rfl)
theorem dX6_readsLine_13 : decode cX6_readsLine 13 = .ok (.invokevirtual 155, 3) := dk_182 0 155 (dk_at dksX6_readsLine_0 13 rfl rfl)
theorem dX6_readsLine_16 : decode cX6_readsLine 16 = .ok (.ireturn, 1) := dk_172 (dk_at dksX6_readsLine_0 16 rfl rfl)
theorem dX6_readsLine_17 : decode cX6_readsLine 17 = .ok (.aload_n 0, 1) := dk_42 (dk_at dksX6_readsLine_0 17 rfl rfl)
theorem dX6_readsLine_18 : decode cX6_readsLine 18 = .ok (.getfield 253, 3) := dk_180 0 253 (dk_at dksX6_readsLine_0 18 rfl rfl)
theorem dX6_readsLine_21 : decode cX6_readsLine 21 = .ok (.bipush 20, 2) := dk_16 20 (dk_at dksX6_readsLine_0 21 rfl rfl)
theorem dX6_readsLine_23 : decode cX6_readsLine 23 = .ok (.if_icmp .ne 13, 3) := dk_160 0 13 (dk_at dksX6_readsLine_1 0 rfl rfl)
theorem dX6_readsLine_26 : decode cX6_readsLine 26 = .ok (.aload_n 0, 1) := dk_42 (dk_at dksX6_readsLine_1 3 rfl rfl)
theorem dX6_readsLine_27 : decode cX6_readsLine 27 = .ok (.iconst 4, 1) := dk_7 (dk_at dksX6_readsLine_1 4 rfl rfl)
theorem dX6_readsLine_28 : decode cX6_readsLine 28 = .ok (.aload_n 0, 1) := dk_42 (dk_at dksX6_readsLine_1 5 rfl rfl)
theorem dX6_readsLine_29 : decode cX6_readsLine 29 = .ok (.getfield 142, 3) := dk_180 0 142 (dk_at dksX6_readsLine_1 6 rfl rfl)
theorem dX6_readsLine_32 : decode cX6_readsLine 32 = .ok (.invokevirtual 155, 3) := dk_182 0 155 (dk_at dksX6_readsLine_1 9 rfl rfl)
theorem dX6_readsLine_35 : decode cX6_readsLine 35 = .ok (.ireturn, 1) := dk_172 (dk_at dksX6_readsLine_1 12 rfl rfl)
theorem dX6_readsLine_36 : decode cX6_readsLine 36 = .ok (.aload_n 0, 1) := dk_42 (dk_at dksX6_readsLine_1 13 rfl rfl)
theorem dX6_readsLine_37 : decode cX6_readsLine 37 = .ok (.aload_n 0, 1) := dk_42 (dk_at dksX6_readsLine_1 14 rfl rfl)
theorem dX6_readsLine_38 : decode cX6_readsLine 38 = .ok (.getfield 253, 3) := dk_180 0 253 (dk_at dksX6_readsLine_1 15 rfl rfl)
theorem dX6_readsLine_41 : decode cX6_readsLine 41 = .ok (.iconst 1, 1) := dk_4 (dk_at dksX6_readsLine_1 18 rfl rfl)
theorem dX6_readsLine_42 : decode cX6_readsLine 42 = .ok (.iadd, 1) := dk_96 (dk_at dksX6_readsLine_1 19 rfl rfl)
theorem dX6_readsLine_43 : decode cX6_readsLine 43 = .ok (.putfield 253, 3) := dk_181 0 253 (dk_at dksX6_readsLine_1 20 rfl rfl)
theorem dX6_readsLine_46 : decode cX6_readsLine 46 = .ok (.aload_n 0, 1) := dk_42 (dk_at dksX6_readsLine_1 23 rfl rfl)
theorem dX6_readsLine_47 : decode cX6_readsLine 47 = .ok (.invokevirtual 148, 3) := dk_182 0 148 (dk_at dksX6_readsLine_2 0 rfl rfl)
theorem dX6_readsLine_50 : decode cX6_readsLine 50 = .ok (.bipush 97, 2) := dk_16 97 (dk_at dksX6_readsLine_2 3 rfl rfl)
theorem dX6_readsLine_52 : decode cX6_readsLine 52 = .ok (.isub, 1) := dk_100 (dk_at dksX6_readsLine_2 5 rfl rfl)
theorem dX6_readsLine_53 : decode cX6_readsLine 53 = .ok (.istore_n 1, 1) := dk_60 (dk_at dksX6_readsLine_2 6 rfl rfl)
theorem dX6_readsLine_54 : decode cX6_readsLine 54 = .ok (.aload_n 0, 1) := dk_42 (dk_at dksX6_readsLine_2 7 rfl rfl)
theorem dX6_readsLine_55 : decode cX6_readsLine 55 = .ok (.iload_n 1, 1) := dk_27 (dk_at dksX6_readsLine_2 8 rfl rfl)
theorem dX6_readsLine_56 : decode cX6_readsLine 56 = .ok (.invokevirtual 108, 3) := dk_182 0 108 (dk_at dksX6_readsLine_2 9 rfl rfl)
theorem dX6_readsLine_59 : decode cX6_readsLine 59 = .ok (.ifCond .ne 14, 3) := dk_154 0 14 (dk_at dksX6_readsLine_2 12 rfl rfl)
theorem dX6_readsLine_62 : decode cX6_readsLine 62 = .ok (.aload_n 0, 1) := dk_42 (dk_at dksX6_readsLine_2 15 rfl rfl)
theorem dX6_readsLine_63 : decode cX6_readsLine 63 = .ok (.bipush 7, 2) := dk_16 7 (dk_at dksX6_readsLine_2 16 rfl rfl)
theorem dX6_readsLine_65 : decode cX6_readsLine 65 = .ok (.aload_n 0, 1) := dk_42 (dk_at dksX6_readsLine_2 18 rfl rfl)
theorem dX6_readsLine_66 : decode cX6_readsLine 66 = .ok (.getfield 142, 3) := dk_180 0 142 (dk_at dksX6_readsLine_2 19 rfl rfl)
theorem dX6_readsLine_69 : decode cX6_readsLine 69 = .ok (.invokevirtual 155, 3) := dk_182 0 155 (dk_at dksX6_readsLine_3 0 rfl rfl)
theorem dX6_readsLine_72 : decode cX6_readsLine 72 = .ok (.ireturn, 1) := dk_172 (dk_at dksX6_readsLine_3 3 rfl rfl)
theorem dX6_readsLine_73 : decode cX6_readsLine 73 = .ok (.aload_n 0, 1) := dk_42 (dk_at dksX6_readsLine_3 4 rfl rfl)
theorem dX6_readsLine_74 : decode cX6_readsLine 74 = .ok (.aload_n 0, 1) := dk_42 (dk_at dksX6_readsLine_3 5 rfl rfl)
theorem dX6_readsLine_75 : decode cX6_readsLine 75 = .ok (.getfield 142, 3) := dk_180 0 142 (dk_at dksX6_readsLine_3 6 rfl rfl)
theorem dX6_readsLine_78 : decode cX6_readsLine 78 = .ok (.iconst 1, 1) := dk_4 (dk_at dksX6_readsLine_3 9 rfl rfl)
theorem dX6_readsLine_79 : decode cX6_readsLine 79 = .ok (.iadd, 1) := dk_96 (dk_at dksX6_readsLine_3 10 rfl rfl)
theorem dX6_readsLine_80 : decode cX6_readsLine 80 = .ok (.putfield 142, 3) := dk_181 0 142 (dk_at dksX6_readsLine_3 11 rfl rfl)
theorem dX6_readsLine_83 : decode cX6_readsLine 83 = .ok (.aload_n 0, 1) := dk_42 (dk_at dksX6_readsLine_3 14 rfl rfl)
theorem dX6_readsLine_84 : decode cX6_readsLine 84 = .ok (.invokevirtual 148, 3) := dk_182 0 148 (dk_at dksX6_readsLine_3 15 rfl rfl)
theorem dX6_readsLine_87 : decode cX6_readsLine 87 = .ok (.istore_n 2, 1) := dk_61 (dk_at dksX6_readsLine_3 18 rfl rfl)
theorem dX6_readsLine_88 : decode cX6_readsLine 88 = .ok (.iload_n 2, 1) := dk_28 (dk_at dksX6_readsLine_3 19 rfl rfl)
theorem dX6_readsLine_89 : decode cX6_readsLine 89 = .ok (.bipush 64, 2) := dk_16 64 (dk_at dksX6_readsLine_3 20 rfl rfl)
theorem dX6_readsLine_91 : decode cX6_readsLine 91 = .ok (.if_icmp .eq 37, 3) := dk_159 0 37 (dk_at dksX6_readsLine_4 0 rfl rfl)
theorem dX6_readsLine_94 : decode cX6_readsLine 94 = .ok (.iload_n 2, 1) := dk_28 (dk_at dksX6_readsLine_4 3 rfl rfl)
theorem dX6_readsLine_95 : decode cX6_readsLine 95 = .ok (.bipush 33, 2) := dk_16 33 (dk_at dksX6_readsLine_4 4 rfl rfl)
theorem dX6_readsLine_97 : decode cX6_readsLine 97 = .ok (.if_icmp .eq 31, 3) := dk_159 0 31 (dk_at dksX6_readsLine_4 6 rfl rfl)
theorem dX6_readsLine_100 : decode cX6_readsLine 100 = .ok (.iload_n 2, 1) := dk_28 (dk_at dksX6_readsLine_4 9 rfl rfl)
theorem dX6_readsLine_101 : decode cX6_readsLine 101 = .ok (.bipush 61, 2) := dk_16 61 (dk_at dksX6_readsLine_4 10 rfl rfl)
theorem dX6_readsLine_103 : decode cX6_readsLine 103 = .ok (.if_icmp .eq 25, 3) := dk_159 0 25 (dk_at dksX6_readsLine_4 12 rfl rfl)
theorem dX6_readsLine_106 : decode cX6_readsLine 106 = .ok (.iload_n 2, 1) := dk_28 (dk_at dksX6_readsLine_4 15 rfl rfl)
theorem dX6_readsLine_107 : decode cX6_readsLine 107 = .ok (.bipush 43, 2) := dk_16 43 (dk_at dksX6_readsLine_4 16 rfl rfl)
theorem dX6_readsLine_109 : decode cX6_readsLine 109 = .ok (.if_icmp .eq 19, 3) := dk_159 0 19 (dk_at dksX6_readsLine_4 18 rfl rfl)
theorem dX6_readsLine_112 : decode cX6_readsLine 112 = .ok (.iload_n 2, 1) := dk_28 (dk_at dksX6_readsLine_4 21 rfl rfl)
theorem dX6_readsLine_113 : decode cX6_readsLine 113 = .ok (.bipush 45, 2) := dk_16 45 (dk_at dksX6_readsLine_4 22 rfl rfl)
theorem dX6_readsLine_115 : decode cX6_readsLine 115 = .ok (.if_icmp .eq 13, 3) := dk_159 0 13 (dk_at dksX6_readsLine_5 0 rfl rfl)
theorem dX6_readsLine_118 : decode cX6_readsLine 118 = .ok (.aload_n 0, 1) := dk_42 (dk_at dksX6_readsLine_5 3 rfl rfl)
theorem dX6_readsLine_119 : decode cX6_readsLine 119 = .ok (.iconst 1, 1) := dk_4 (dk_at dksX6_readsLine_5 4 rfl rfl)
theorem dX6_readsLine_120 : decode cX6_readsLine 120 = .ok (.aload_n 0, 1) := dk_42 (dk_at dksX6_readsLine_5 5 rfl rfl)
theorem dX6_readsLine_121 : decode cX6_readsLine 121 = .ok (.getfield 142, 3) := dk_180 0 142 (dk_at dksX6_readsLine_5 6 rfl rfl)
theorem dX6_readsLine_124 : decode cX6_readsLine 124 = .ok (.invokevirtual 155, 3) := dk_182 0 155 (dk_at dksX6_readsLine_5 9 rfl rfl)
theorem dX6_readsLine_127 : decode cX6_readsLine 127 = .ok (.ireturn, 1) := dk_172 (dk_at dksX6_readsLine_5 12 rfl rfl)
theorem dX6_readsLine_128 : decode cX6_readsLine 128 = .ok (.aload_n 0, 1) := dk_42 (dk_at dksX6_readsLine_5 13 rfl rfl)
theorem dX6_readsLine_129 : decode cX6_readsLine 129 = .ok (.aload_n 0, 1) := dk_42 (dk_at dksX6_readsLine_5 14 rfl rfl)
theorem dX6_readsLine_130 : decode cX6_readsLine 130 = .ok (.getfield 142, 3) := dk_180 0 142 (dk_at dksX6_readsLine_5 15 rfl rfl)
theorem dX6_readsLine_133 : decode cX6_readsLine 133 = .ok (.iconst 1, 1) := dk_4 (dk_at dksX6_readsLine_5 18 rfl rfl)
theorem dX6_readsLine_134 : decode cX6_readsLine 134 = .ok (.iadd, 1) := dk_96 (dk_at dksX6_readsLine_5 19 rfl rfl)
theorem dX6_readsLine_135 : decode cX6_readsLine 135 = .ok (.putfield 142, 3) := dk_181 0 142 (dk_at dksX6_readsLine_5 20 rfl rfl)
theorem dX6_readsLine_138 : decode cX6_readsLine 138 = .ok (.iload_n 2, 1) := dk_28 (dk_at dksX6_readsLine_5 23 rfl rfl)
theorem dX6_readsLine_139 : decode cX6_readsLine 139 = .ok (.bipush 64, 2) := dk_16 64 (dk_at dksX6_readsLine_6 0 rfl rfl)
theorem dX6_readsLine_141 : decode cX6_readsLine 141 = .ok (.if_icmp .ne 9, 3) := dk_160 0 9 (dk_at dksX6_readsLine_6 2 rfl rfl)
theorem dX6_readsLine_144 : decode cX6_readsLine 144 = .ok (.aload_n 0, 1) := dk_42 (dk_at dksX6_readsLine_6 5 rfl rfl)
theorem dX6_readsLine_145 : decode cX6_readsLine 145 = .ok (.iload_n 1, 1) := dk_27 (dk_at dksX6_readsLine_6 6 rfl rfl)
theorem dX6_readsLine_146 : decode cX6_readsLine 146 = .ok (.invokevirtual 256, 3) := dk_182 1 0 (dk_at dksX6_readsLine_6 7 rfl rfl)
theorem dX6_readsLine_149 : decode cX6_readsLine 149 = .ok (.ireturn, 1) := dk_172 (dk_at dksX6_readsLine_6 10 rfl rfl)
theorem dX6_readsLine_150 : decode cX6_readsLine 150 = .ok (.iload_n 2, 1) := dk_28 (dk_at dksX6_readsLine_6 11 rfl rfl)
theorem dX6_readsLine_151 : decode cX6_readsLine 151 = .ok (.bipush 61, 2) := dk_16 61 (dk_at dksX6_readsLine_6 12 rfl rfl)
theorem dX6_readsLine_153 : decode cX6_readsLine 153 = .ok (.if_icmp .ne 9, 3) := dk_160 0 9 (dk_at dksX6_readsLine_6 14 rfl rfl)
theorem dX6_readsLine_156 : decode cX6_readsLine 156 = .ok (.aload_n 0, 1) := dk_42 (dk_at dksX6_readsLine_6 17 rfl rfl)
theorem dX6_readsLine_157 : decode cX6_readsLine 157 = .ok (.iload_n 1, 1) := dk_27 (dk_at dksX6_readsLine_6 18 rfl rfl)
theorem dX6_readsLine_158 : decode cX6_readsLine 158 = .ok (.invokevirtual 259, 3) := dk_182 1 3 (dk_at dksX6_readsLine_6 19 rfl rfl)
theorem dX6_readsLine_161 : decode cX6_readsLine 161 = .ok (.ireturn, 1) := dk_172 (dk_at dksX6_readsLine_6 22 rfl rfl)
theorem dX6_readsLine_162 : decode cX6_readsLine 162 = .ok (.iload_n 2, 1) := dk_28 (dk_at dksX6_readsLine_6 23 rfl rfl)
theorem dX6_readsLine_163 : decode cX6_readsLine 163 = .ok (.bipush 33, 2) := dk_16 33 (dk_at dksX6_readsLine_7 0 rfl rfl)
theorem dX6_readsLine_165 : decode cX6_readsLine 165 = .ok (.if_icmp .eq 20, 3) := dk_159 0 20 (dk_at dksX6_readsLine_7 2 rfl rfl)
theorem dX6_readsLine_168 : decode cX6_readsLine 168 = .ok (.aload_n 0, 1) := dk_42 (dk_at dksX6_readsLine_7 5 rfl rfl)
theorem dX6_readsLine_169 : decode cX6_readsLine 169 = .ok (.iload_n 1, 1) := dk_27 (dk_at dksX6_readsLine_7 6 rfl rfl)
theorem dX6_readsLine_170 : decode cX6_readsLine 170 = .ok (.iload_n 2, 1) := dk_28 (dk_at dksX6_readsLine_7 7 rfl rfl)
theorem dX6_readsLine_171 : decode cX6_readsLine 171 = .ok (.bipush 43, 2) := dk_16 43 (dk_at dksX6_readsLine_7 8 rfl rfl)
theorem dX6_readsLine_173 : decode cX6_readsLine 173 = .ok (.if_icmp .ne 7, 3) := dk_160 0 7 (dk_at dksX6_readsLine_7 10 rfl rfl)
theorem dX6_readsLine_176 : decode cX6_readsLine 176 = .ok (.iconst 1, 1) := dk_4 (dk_at dksX6_readsLine_7 13 rfl rfl)
theorem dX6_readsLine_177 : decode cX6_readsLine 177 = .ok (.goto 4, 3) := dk_167 0 4 (dk_at dksX6_readsLine_7 14 rfl rfl)
theorem dX6_readsLine_180 : decode cX6_readsLine 180 = .ok (.iconst 0, 1) := dk_3 (dk_at dksX6_readsLine_7 17 rfl rfl)
theorem dX6_readsLine_181 : decode cX6_readsLine 181 = .ok (.invokevirtual 262, 3) := dk_182 1 6 (dk_at dksX6_readsLine_7 18 rfl rfl)
theorem dX6_readsLine_184 : decode cX6_readsLine 184 = .ok (.ireturn, 1) := dk_172 (dk_at dksX6_readsLine_7 21 rfl rfl)
theorem dX6_readsLine_185 : decode cX6_readsLine 185 = .ok (.aload_n 0, 1) := dk_42 (dk_at dksX6_readsLine_7 22 rfl rfl)
theorem dX6_readsLine_186 : decode cX6_readsLine 186 = .ok (.getfield 7, 3) := dk_180 0 7 (dk_at dksX6_readsLine_8 0 rfl rfl)
theorem dX6_readsLine_189 : decode cX6_readsLine 189 = .ok (.bipush 48, 2) := dk_16 48 (dk_at dksX6_readsLine_8 3 rfl rfl)
theorem dX6_readsLine_191 : decode cX6_readsLine 191 = .ok (.iload_n 1, 1) := dk_27 (dk_at dksX6_readsLine_8 5 rfl rfl)
theorem dX6_readsLine_192 : decode cX6_readsLine 192 = .ok (.iadd, 1) := dk_96 (dk_at dksX6_readsLine_8 6 rfl rfl)
theorem dX6_readsLine_193 : decode cX6_readsLine 193 = .ok (.bipush (-2), 2) := dk_16 254 (dk_at dksX6_readsLine_8 7 rfl rfl)
theorem dX6_readsLine_195 : decode cX6_readsLine 195 = .ok (.iastore, 1) := dk_79 (dk_at dksX6_readsLine_8 9 rfl rfl)
theorem dX6_readsLine_196 : decode cX6_readsLine 196 = .ok (.iconst 1, 1) := dk_4 (dk_at dksX6_readsLine_8 10 rfl rfl)
theorem dX6_readsLine_197 : decode cX6_readsLine 197 = .ok (.ireturn, 1) := dk_172 (dk_at dksX6_readsLine_8 11 rfl rfl)
abbrev cX6_isLetter : ByteArray := prog_20_method_50_code
def yX6_isLetter : MethodName := ⟨RX6, "isLetter", "()Z"⟩
def dkwX6_isLetter_0 : List UInt8 := [42, 182, 0, 148, 16, 97, 100, 3, 16, 15, 184, 0, 104, 172]
abbrev dktX6_isLetter_0 : List UInt8 := dkwX6_isLetter_0 ++ []
theorem dksX6_isLetter_0 : cX6_isLetter.data.toList.drop 0 = dktX6_isLetter_0 := by decide +kernel
theorem dX6_isLetter_0 : decode cX6_isLetter 0 = .ok (.aload_n 0, 1) := dk_42 (dk_at dksX6_isLetter_0 0 rfl rfl)
theorem dX6_isLetter_1 : decode cX6_isLetter 1 = .ok (.invokevirtual 148, 3) := dk_182 0 148 (dk_at dksX6_isLetter_0 1 rfl rfl)
theorem dX6_isLetter_4 : decode cX6_isLetter 4 = .ok (.bipush 97, 2) := dk_16 97 (dk_at dksX6_isLetter_0 4 rfl rfl)
theorem dX6_isLetter_6 : decode cX6_isLetter 6 = .ok (.isub, 1) := dk_100 (dk_at dksX6_isLetter_0 6 rfl rfl)
theorem dX6_isLetter_7 : decode cX6_isLetter 7 = .ok (.iconst 0, 1) := dk_3 (dk_at dksX6_isLetter_0 7 rfl rfl)
theorem dX6_isLetter_8 : decode cX6_isLetter 8 = .ok (.bipush 15, 2) := dk_16 15 (dk_at dksX6_isLetter_0 8 rfl rfl)
theorem dX6_isLetter_10 : decode cX6_isLetter 10 = .ok (.invokestatic 104, 3) := dk_184 0 104 (dk_at dksX6_isLetter_0 10 rfl rfl)
theorem dX6_isLetter_13 : decode cX6_isLetter 13 = .ok (.ireturn, 1) := dk_172 (dk_at dksX6_isLetter_0 13 rfl rfl)
abbrev cX6_isTold : ByteArray := prog_20_method_9_code
def yX6_isTold : MethodName := ⟨RX6, "isTold", "(I)Z"⟩
def dkwX6_isTold_1 : List UInt8 := [167, 0, 4, 3, 172]
abbrev dktX6_isTold_1 : List UInt8 := dkwX6_isTold_1 ++ []
def dkwX6_isTold_0 : List UInt8 := [27, 3, 16, 15, 184, 0, 104, 153, 0, 19, 42, 180, 0, 7, 3, 27, 96, 46, 4, 160, 0, 7, 4]
abbrev dktX6_isTold_0 : List UInt8 := dkwX6_isTold_0 ++ dktX6_isTold_1
theorem dksX6_isTold_0 : cX6_isTold.data.toList.drop 0 = dktX6_isTold_0 := by decide +kernel
theorem dksX6_isTold_1 : cX6_isTold.data.toList.drop 23 = dktX6_isTold_1 := dk_seg dksX6_isTold_0 23 rfl rfl
theorem dX6_isTold_0 : decode cX6_isTold 0 = .ok (.iload_n 1, 1) := dk_27 (dk_at dksX6_isTold_0 0 rfl rfl)
theorem dX6_isTold_1 : decode cX6_isTold 1 = .ok (.iconst 0, 1) := dk_3 (dk_at dksX6_isTold_0 1 rfl rfl)
theorem dX6_isTold_2 : decode cX6_isTold 2 = .ok (.bipush 15, 2) := dk_16 15 (dk_at dksX6_isTold_0 2 rfl rfl)
theorem dX6_isTold_4 : decode cX6_isTold 4 = .ok (.invokestatic 104, 3) := dk_184 0 104 (dk_at dksX6_isTold_0 4 rfl rfl)
theorem dX6_isTold_7 : decode cX6_isTold 7 = .ok (.ifCond .eq 19, 3) := dk_153 0 19 (dk_at dksX6_isTold_0 7 rfl rfl)
theorem dX6_isTold_10 : decode cX6_isTold 10 = .ok (.aload_n 0, 1) := dk_42 (dk_at dksX6_isTold_0 10 rfl rfl)
theorem dX6_isTold_11 : decode cX6_isTold 11 = .ok (.getfield 7, 3) := dk_180 0 7 (dk_at dksX6_isTold_0 11 rfl rfl)
theorem dX6_isTold_14 : decode cX6_isTold 14 = .ok (.iconst 0, 1) := dk_3 (dk_at dksX6_isTold_0 14 rfl rfl)
theorem dX6_isTold_15 : decode cX6_isTold 15 = .ok (.iload_n 1, 1) := dk_27 (dk_at dksX6_isTold_0 15 rfl rfl)
theorem dX6_isTold_16 : decode cX6_isTold 16 = .ok (.iadd, 1) := dk_96 (dk_at dksX6_isTold_0 16 rfl rfl)
theorem dX6_isTold_17 : decode cX6_isTold 17 = .ok (.iaload, 1) := dk_46 (dk_at dksX6_isTold_0 17 rfl rfl)
theorem dX6_isTold_18 : decode cX6_isTold 18 = .ok (.iconst 1, 1) := dk_4 (dk_at dksX6_isTold_0 18 rfl rfl)
theorem dX6_isTold_19 : decode cX6_isTold 19 = .ok (.if_icmp .ne 7, 3) := dk_160 0 7 (dk_at dksX6_isTold_0 19 rfl rfl)
theorem dX6_isTold_22 : decode cX6_isTold 22 = .ok (.iconst 1, 1) := dk_4 (dk_at dksX6_isTold_0 22 rfl rfl)
theorem dX6_isTold_23 : decode cX6_isTold 23 = .ok (.goto 4, 3) := dk_167 0 4 (dk_at dksX6_isTold_1 0 rfl rfl)
theorem dX6_isTold_26 : decode cX6_isTold 26 = .ok (.iconst 0, 1) := dk_3 (dk_at dksX6_isTold_1 3 rfl rfl)
theorem dX6_isTold_27 : decode cX6_isTold 27 = .ok (.ireturn, 1) := dk_172 (dk_at dksX6_isTold_1 4 rfl rfl)
abbrev cX6_readsPlot : ByteArray := prog_20_method_51_code
def yX6_readsPlot : MethodName := ⟨RX6, "readsPlot", "(I)Z"⟩
def dkwX6_readsPlot_6 : List UInt8 := [180, 0, 7, 16, 48, 27, 96, 16, 10, 21, 4, 104, 29, 96, 79, 4, 172]
abbrev dktX6_readsPlot_6 : List UInt8 := dkwX6_readsPlot_6 ++ []
def dkwX6_readsPlot_5 : List UInt8 := [21, 5, 16, 254, 159, 0, 17, 21, 5, 27, 159, 0, 11, 42, 16, 8, 28, 182, 0, 155, 172, 42]
abbrev dktX6_readsPlot_5 : List UInt8 := dkwX6_readsPlot_5 ++ dktX6_readsPlot_6
def dkwX6_readsPlot_4 : List UInt8 := [172, 42, 42, 180, 0, 142, 4, 96, 181, 0, 142, 42, 16, 10, 21, 4, 104, 29, 96, 182, 0, 247, 54, 5]
abbrev dktX6_readsPlot_4 : List UInt8 := dkwX6_readsPlot_4 ++ dktX6_readsPlot_5
def dkwX6_readsPlot_3 : List UInt8 := [182, 0, 148, 16, 48, 100, 54, 4, 21, 4, 16, 6, 161, 0, 13, 42, 6, 42, 180, 0, 142, 182, 0, 155]
abbrev dktX6_readsPlot_3 : List UInt8 := dkwX6_readsPlot_3 ++ dktX6_readsPlot_4
def dkwX6_readsPlot_2 : List UInt8 := [154, 0, 5, 3, 172, 42, 182, 0, 161, 154, 0, 13, 42, 4, 42, 180, 0, 142, 182, 0, 155, 172, 42]
abbrev dktX6_readsPlot_2 : List UInt8 := dkwX6_readsPlot_2 ++ dktX6_readsPlot_3
def dkwX6_readsPlot_1 : List UInt8 := [182, 0, 148, 16, 48, 100, 62, 42, 42, 180, 0, 142, 4, 96, 181, 0, 142, 42, 16, 44, 182, 0, 231]
abbrev dktX6_readsPlot_1 : List UInt8 := dkwX6_readsPlot_1 ++ dktX6_readsPlot_2
def dkwX6_readsPlot_0 : List UInt8 := [42, 180, 0, 142, 61, 42, 182, 0, 161, 154, 0, 13, 42, 4, 42, 180, 0, 142, 182, 0, 155, 172, 42]
abbrev dktX6_readsPlot_0 : List UInt8 := dkwX6_readsPlot_0 ++ dktX6_readsPlot_1
theorem dksX6_readsPlot_0 : cX6_readsPlot.data.toList.drop 0 = dktX6_readsPlot_0 := by decide +kernel
theorem dksX6_readsPlot_1 : cX6_readsPlot.data.toList.drop 23 = dktX6_readsPlot_1 := dk_seg dksX6_readsPlot_0 23 rfl rfl
theorem dksX6_readsPlot_2 : cX6_readsPlot.data.toList.drop 46 = dktX6_readsPlot_2 := dk_seg dksX6_readsPlot_1 23 rfl rfl
theorem dksX6_readsPlot_3 : cX6_readsPlot.data.toList.drop 69 = dktX6_readsPlot_3 := dk_seg dksX6_readsPlot_2 23 rfl rfl
theorem dksX6_readsPlot_4 : cX6_readsPlot.data.toList.drop 93 = dktX6_readsPlot_4 := dk_seg dksX6_readsPlot_3 24 rfl rfl
theorem dksX6_readsPlot_5 : cX6_readsPlot.data.toList.drop 117 = dktX6_readsPlot_5 := dk_seg dksX6_readsPlot_4 24 rfl rfl
theorem dksX6_readsPlot_6 : cX6_readsPlot.data.toList.drop 139 = dktX6_readsPlot_6 := dk_seg dksX6_readsPlot_5 22 rfl rfl
theorem dX6_readsPlot_0 : decode cX6_readsPlot 0 = .ok (.aload_n 0, 1) := dk_42 (dk_at dksX6_readsPlot_0 0 rfl rfl)
theorem dX6_readsPlot_1 : decode cX6_readsPlot 1 = .ok (.getfield 142, 3) := dk_180 0 142 (dk_at dksX6_readsPlot_0 1 rfl rfl)
theorem dX6_readsPlot_4 : decode cX6_readsPlot 4 = .ok (.istore_n 2, 1) := dk_61 (dk_at dksX6_readsPlot_0 4 rfl rfl)
theorem dX6_readsPlot_5 : decode cX6_readsPlot 5 = .ok (.aload_n 0, 1) := dk_42 (dk_at dksX6_readsPlot_0 5 rfl rfl)
theorem dX6_readsPlot_6 : decode cX6_readsPlot 6 = .ok (.invokevirtual 161, 3) := dk_182 0 161 (dk_at dksX6_readsPlot_0 6 rfl rfl)
theorem dX6_readsPlot_9 : decode cX6_readsPlot 9 = .ok (.ifCond .ne 13, 3) := dk_154 0 13 (dk_at dksX6_readsPlot_0 9 rfl rfl)
theorem dX6_readsPlot_12 : decode cX6_readsPlot 12 = .ok (.aload_n 0, 1) := dk_42 (dk_at dksX6_readsPlot_0 12 rfl rfl)
theorem dX6_readsPlot_13 : decode cX6_readsPlot 13 = .ok (.iconst 1, 1) := dk_4 (dk_at dksX6_readsPlot_0 13 rfl rfl)
theorem dX6_readsPlot_14 : decode cX6_readsPlot 14 = .ok (.aload_n 0, 1) := dk_42 (dk_at dksX6_readsPlot_0 14 rfl rfl)
theorem dX6_readsPlot_15 : decode cX6_readsPlot 15 = .ok (.getfield 142, 3) := dk_180 0 142 (dk_at dksX6_readsPlot_0 15 rfl rfl)
theorem dX6_readsPlot_18 : decode cX6_readsPlot 18 = .ok (.invokevirtual 155, 3) := dk_182 0 155 (dk_at dksX6_readsPlot_0 18 rfl rfl)
theorem dX6_readsPlot_21 : decode cX6_readsPlot 21 = .ok (.ireturn, 1) := dk_172 (dk_at dksX6_readsPlot_0 21 rfl rfl)
theorem dX6_readsPlot_22 : decode cX6_readsPlot 22 = .ok (.aload_n 0, 1) := dk_42 (dk_at dksX6_readsPlot_0 22 rfl rfl)
theorem dX6_readsPlot_23 : decode cX6_readsPlot 23 = .ok (.invokevirtual 148, 3) := dk_182 0 148 (dk_at dksX6_readsPlot_1 0 rfl rfl)
theorem dX6_readsPlot_26 : decode cX6_readsPlot 26 = .ok (.bipush 48, 2) := dk_16 48 (dk_at dksX6_readsPlot_1 3 rfl rfl)
theorem dX6_readsPlot_28 : decode cX6_readsPlot 28 = .ok (.isub, 1) := dk_100 (dk_at dksX6_readsPlot_1 5 rfl rfl)
theorem dX6_readsPlot_29 : decode cX6_readsPlot 29 = .ok (.istore_n 3, 1) := dk_62 (dk_at dksX6_readsPlot_1 6 rfl rfl)
theorem dX6_readsPlot_30 : decode cX6_readsPlot 30 = .ok (.aload_n 0, 1) := dk_42 (dk_at dksX6_readsPlot_1 7 rfl rfl)
theorem dX6_readsPlot_31 : decode cX6_readsPlot 31 = .ok (.aload_n 0, 1) := dk_42 (dk_at dksX6_readsPlot_1 8 rfl rfl)
theorem dX6_readsPlot_32 : decode cX6_readsPlot 32 = .ok (.getfield 142, 3) := dk_180 0 142 (dk_at dksX6_readsPlot_1 9 rfl rfl)
theorem dX6_readsPlot_35 : decode cX6_readsPlot 35 = .ok (.iconst 1, 1) := dk_4 (dk_at dksX6_readsPlot_1 12 rfl rfl)
theorem dX6_readsPlot_36 : decode cX6_readsPlot 36 = .ok (.iadd, 1) := dk_96 (dk_at dksX6_readsPlot_1 13 rfl rfl)
theorem dX6_readsPlot_37 : decode cX6_readsPlot 37 = .ok (.putfield 142, 3) := dk_181 0 142 (dk_at dksX6_readsPlot_1 14 rfl rfl)
theorem dX6_readsPlot_40 : decode cX6_readsPlot 40 = .ok (.aload_n 0, 1) := dk_42 (dk_at dksX6_readsPlot_1 17 rfl rfl)
theorem dX6_readsPlot_41 : decode cX6_readsPlot 41 = .ok (.bipush 44, 2) := dk_16 44 (dk_at dksX6_readsPlot_1 18 rfl rfl)
theorem dX6_readsPlot_43 : decode cX6_readsPlot 43 = .ok (.invokevirtual 231, 3) := dk_182 0 231 (dk_at dksX6_readsPlot_1 20 rfl rfl)
theorem dX6_readsPlot_46 : decode cX6_readsPlot 46 = .ok (.ifCond .ne 5, 3) := dk_154 0 5 (dk_at dksX6_readsPlot_2 0 rfl rfl)
theorem dX6_readsPlot_49 : decode cX6_readsPlot 49 = .ok (.iconst 0, 1) := dk_3 (dk_at dksX6_readsPlot_2 3 rfl rfl)
theorem dX6_readsPlot_50 : decode cX6_readsPlot 50 = .ok (.ireturn, 1) := dk_172 (dk_at dksX6_readsPlot_2 4 rfl rfl)
theorem dX6_readsPlot_51 : decode cX6_readsPlot 51 = .ok (.aload_n 0, 1) := dk_42 (dk_at dksX6_readsPlot_2 5 rfl rfl)
theorem dX6_readsPlot_52 : decode cX6_readsPlot 52 = .ok (.invokevirtual 161, 3) := dk_182 0 161 (dk_at dksX6_readsPlot_2 6 rfl rfl)
theorem dX6_readsPlot_55 : decode cX6_readsPlot 55 = .ok (.ifCond .ne 13, 3) := dk_154 0 13 (dk_at dksX6_readsPlot_2 9 rfl rfl)
theorem dX6_readsPlot_58 : decode cX6_readsPlot 58 = .ok (.aload_n 0, 1) := dk_42 (dk_at dksX6_readsPlot_2 12 rfl rfl)
theorem dX6_readsPlot_59 : decode cX6_readsPlot 59 = .ok (.iconst 1, 1) := dk_4 (dk_at dksX6_readsPlot_2 13 rfl rfl)
theorem dX6_readsPlot_60 : decode cX6_readsPlot 60 = .ok (.aload_n 0, 1) := dk_42 (dk_at dksX6_readsPlot_2 14 rfl rfl)
theorem dX6_readsPlot_61 : decode cX6_readsPlot 61 = .ok (.getfield 142, 3) := dk_180 0 142 (dk_at dksX6_readsPlot_2 15 rfl rfl)
theorem dX6_readsPlot_64 : decode cX6_readsPlot 64 = .ok (.invokevirtual 155, 3) := dk_182 0 155 (dk_at dksX6_readsPlot_2 18 rfl rfl)
theorem dX6_readsPlot_67 : decode cX6_readsPlot 67 = .ok (.ireturn, 1) := dk_172 (dk_at dksX6_readsPlot_2 21 rfl rfl)
theorem dX6_readsPlot_68 : decode cX6_readsPlot 68 = .ok (.aload_n 0, 1) := dk_42 (dk_at dksX6_readsPlot_2 22 rfl rfl)
theorem dX6_readsPlot_69 : decode cX6_readsPlot 69 = .ok (.invokevirtual 148, 3) := dk_182 0 148 (dk_at dksX6_readsPlot_3 0 rfl rfl)
theorem dX6_readsPlot_72 : decode cX6_readsPlot 72 = .ok (.bipush 48, 2) := dk_16 48 (dk_at dksX6_readsPlot_3 3 rfl rfl)
theorem dX6_readsPlot_74 : decode cX6_readsPlot 74 = .ok (.isub, 1) := dk_100 (dk_at dksX6_readsPlot_3 5 rfl rfl)
theorem dX6_readsPlot_75 : decode cX6_readsPlot 75 = .ok (.istore 4, 2) := dk_54 4 (dk_at dksX6_readsPlot_3 6 rfl rfl)
theorem dX6_readsPlot_77 : decode cX6_readsPlot 77 = .ok (.iload 4, 2) := dk_21 4 (dk_at dksX6_readsPlot_3 8 rfl rfl)
theorem dX6_readsPlot_79 : decode cX6_readsPlot 79 = .ok (.bipush 6, 2) := dk_16 6 (dk_at dksX6_readsPlot_3 10 rfl rfl)
theorem dX6_readsPlot_81 : decode cX6_readsPlot 81 = .ok (.if_icmp .lt 13, 3) := dk_161 0 13 (dk_at dksX6_readsPlot_3 12 rfl rfl)
theorem dX6_readsPlot_84 : decode cX6_readsPlot 84 = .ok (.aload_n 0, 1) := dk_42 (dk_at dksX6_readsPlot_3 15 rfl rfl)
theorem dX6_readsPlot_85 : decode cX6_readsPlot 85 = .ok (.iconst 3, 1) := dk_6 (dk_at dksX6_readsPlot_3 16 rfl rfl)
theorem dX6_readsPlot_86 : decode cX6_readsPlot 86 = .ok (.aload_n 0, 1) := dk_42 (dk_at dksX6_readsPlot_3 17 rfl rfl)
theorem dX6_readsPlot_87 : decode cX6_readsPlot 87 = .ok (.getfield 142, 3) := dk_180 0 142 (dk_at dksX6_readsPlot_3 18 rfl rfl)
theorem dX6_readsPlot_90 : decode cX6_readsPlot 90 = .ok (.invokevirtual 155, 3) := dk_182 0 155 (dk_at dksX6_readsPlot_3 21 rfl rfl)
theorem dX6_readsPlot_93 : decode cX6_readsPlot 93 = .ok (.ireturn, 1) := dk_172 (dk_at dksX6_readsPlot_4 0 rfl rfl)
theorem dX6_readsPlot_94 : decode cX6_readsPlot 94 = .ok (.aload_n 0, 1) := dk_42 (dk_at dksX6_readsPlot_4 1 rfl rfl)
theorem dX6_readsPlot_95 : decode cX6_readsPlot 95 = .ok (.aload_n 0, 1) := dk_42 (dk_at dksX6_readsPlot_4 2 rfl rfl)
theorem dX6_readsPlot_96 : decode cX6_readsPlot 96 = .ok (.getfield 142, 3) := dk_180 0 142 (dk_at dksX6_readsPlot_4 3 rfl rfl)
theorem dX6_readsPlot_99 : decode cX6_readsPlot 99 = .ok (.iconst 1, 1) := dk_4 (dk_at dksX6_readsPlot_4 6 rfl rfl)
theorem dX6_readsPlot_100 : decode cX6_readsPlot 100 = .ok (.iadd, 1) := dk_96 (dk_at dksX6_readsPlot_4 7 rfl rfl)
theorem dX6_readsPlot_101 : decode cX6_readsPlot 101 = .ok (.putfield 142, 3) := dk_181 0 142 (dk_at dksX6_readsPlot_4 8 rfl rfl)
theorem dX6_readsPlot_104 : decode cX6_readsPlot 104 = .ok (.aload_n 0, 1) := dk_42 (dk_at dksX6_readsPlot_4 11 rfl rfl)
theorem dX6_readsPlot_105 : decode cX6_readsPlot 105 = .ok (.bipush 10, 2) := dk_16 10 (dk_at dksX6_readsPlot_4 12 rfl rfl)
theorem dX6_readsPlot_107 : decode cX6_readsPlot 107 = .ok (.iload 4, 2) := dk_21 4 (dk_at dksX6_readsPlot_4 14 rfl rfl)
theorem dX6_readsPlot_109 : decode cX6_readsPlot 109 = .ok (.imul, 1) := dk_104 (dk_at dksX6_readsPlot_4 16 rfl rfl)
theorem dX6_readsPlot_110 : decode cX6_readsPlot 110 = .ok (.iload_n 3, 1) := dk_29 (dk_at dksX6_readsPlot_4 17 rfl rfl)
theorem dX6_readsPlot_111 : decode cX6_readsPlot 111 = .ok (.iadd, 1) := dk_96 (dk_at dksX6_readsPlot_4 18 rfl rfl)
theorem dX6_readsPlot_112 : decode cX6_readsPlot 112 = .ok (.invokevirtual 247, 3) := dk_182 0 247 (dk_at dksX6_readsPlot_4 19 rfl rfl)
theorem dX6_readsPlot_115 : decode cX6_readsPlot 115 = .ok (.istore 5, 2) := dk_54 5 (dk_at dksX6_readsPlot_4 22 rfl rfl)
theorem dX6_readsPlot_117 : decode cX6_readsPlot 117 = .ok (.iload 5, 2) := dk_21 5 (dk_at dksX6_readsPlot_5 0 rfl rfl)
theorem dX6_readsPlot_119 : decode cX6_readsPlot 119 = .ok (.bipush (-2), 2) := dk_16 254 (dk_at dksX6_readsPlot_5 2 rfl rfl)
theorem dX6_readsPlot_121 : decode cX6_readsPlot 121 = .ok (.if_icmp .eq 17, 3) := dk_159 0 17 (dk_at dksX6_readsPlot_5 4 rfl rfl)
theorem dX6_readsPlot_124 : decode cX6_readsPlot 124 = .ok (.iload 5, 2) := dk_21 5 (dk_at dksX6_readsPlot_5 7 rfl rfl)
theorem dX6_readsPlot_126 : decode cX6_readsPlot 126 = .ok (.iload_n 1, 1) := dk_27 (dk_at dksX6_readsPlot_5 9 rfl rfl)
theorem dX6_readsPlot_127 : decode cX6_readsPlot 127 = .ok (.if_icmp .eq 11, 3) := dk_159 0 11 (dk_at dksX6_readsPlot_5 10 rfl rfl)
theorem dX6_readsPlot_130 : decode cX6_readsPlot 130 = .ok (.aload_n 0, 1) := dk_42 (dk_at dksX6_readsPlot_5 13 rfl rfl)
theorem dX6_readsPlot_131 : decode cX6_readsPlot 131 = .ok (.bipush 8, 2) := dk_16 8 (dk_at dksX6_readsPlot_5 14 rfl rfl)
theorem dX6_readsPlot_133 : decode cX6_readsPlot 133 = .ok (.iload_n 2, 1) := dk_28 (dk_at dksX6_readsPlot_5 16 rfl rfl)
theorem dX6_readsPlot_134 : decode cX6_readsPlot 134 = .ok (.invokevirtual 155, 3) := dk_182 0 155 (dk_at dksX6_readsPlot_5 17 rfl rfl)
theorem dX6_readsPlot_137 : decode cX6_readsPlot 137 = .ok (.ireturn, 1) := dk_172 (dk_at dksX6_readsPlot_5 20 rfl rfl)
theorem dX6_readsPlot_138 : decode cX6_readsPlot 138 = .ok (.aload_n 0, 1) := dk_42 (dk_at dksX6_readsPlot_5 21 rfl rfl)
theorem dX6_readsPlot_139 : decode cX6_readsPlot 139 = .ok (.getfield 7, 3) := dk_180 0 7 (dk_at dksX6_readsPlot_6 0 rfl rfl)
theorem dX6_readsPlot_142 : decode cX6_readsPlot 142 = .ok (.bipush 48, 2) := dk_16 48 (dk_at dksX6_readsPlot_6 3 rfl rfl)
theorem dX6_readsPlot_144 : decode cX6_readsPlot 144 = .ok (.iload_n 1, 1) := dk_27 (dk_at dksX6_readsPlot_6 5 rfl rfl)
theorem dX6_readsPlot_145 : decode cX6_readsPlot 145 = .ok (.iadd, 1) := dk_96 (dk_at dksX6_readsPlot_6 6 rfl rfl)
theorem dX6_readsPlot_146 : decode cX6_readsPlot 146 = .ok (.bipush 10, 2) := dk_16 10 (dk_at dksX6_readsPlot_6 7 rfl rfl)
theorem dX6_readsPlot_148 : decode cX6_readsPlot 148 = .ok (.iload 4, 2) := dk_21 4 (dk_at dksX6_readsPlot_6 9 rfl rfl)
theorem dX6_readsPlot_150 : decode cX6_readsPlot 150 = .ok (.imul, 1) := dk_104 (dk_at dksX6_readsPlot_6 11 rfl rfl)
theorem dX6_readsPlot_151 : decode cX6_readsPlot 151 = .ok (.iload_n 3, 1) := dk_29 (dk_at dksX6_readsPlot_6 12 rfl rfl)
theorem dX6_readsPlot_152 : decode cX6_readsPlot 152 = .ok (.iadd, 1) := dk_96 (dk_at dksX6_readsPlot_6 13 rfl rfl)
theorem dX6_readsPlot_153 : decode cX6_readsPlot 153 = .ok (.iastore, 1) := dk_79 (dk_at dksX6_readsPlot_6 14 rfl rfl)
theorem dX6_readsPlot_154 : decode cX6_readsPlot 154 = .ok (.iconst 1, 1) := dk_4 (dk_at dksX6_readsPlot_6 15 rfl rfl)
theorem dX6_readsPlot_155 : decode cX6_readsPlot 155 = .ok (.ireturn, 1) := dk_172 (dk_at dksX6_readsPlot_6 16 rfl rfl)
abbrev cX6_whoLies : ByteArray := prog_20_method_13_code
def yX6_whoLies : MethodName := ⟨RX6, "whoLies", "(I)I"⟩
def dkwX6_whoLies_1 : List UInt8 := [46, 27, 160, 0, 5, 28, 172, 132, 2, 1, 167, 255, 224, 16, 254, 172]
abbrev dktX6_whoLies_1 : List UInt8 := dkwX6_whoLies_1 ++ []
def dkwX6_whoLies_0 : List UInt8 := [3, 61, 28, 16, 16, 162, 0, 32, 42, 28, 182, 0, 112, 153, 0, 18, 42, 180, 0, 7, 16, 48, 28, 96]
abbrev dktX6_whoLies_0 : List UInt8 := dkwX6_whoLies_0 ++ dktX6_whoLies_1
theorem dksX6_whoLies_0 : cX6_whoLies.data.toList.drop 0 = dktX6_whoLies_0 := by decide +kernel
theorem dksX6_whoLies_1 : cX6_whoLies.data.toList.drop 24 = dktX6_whoLies_1 := dk_seg dksX6_whoLies_0 24 rfl rfl
theorem dX6_whoLies_0 : decode cX6_whoLies 0 = .ok (.iconst 0, 1) := dk_3 (dk_at dksX6_whoLies_0 0 rfl rfl)
theorem dX6_whoLies_1 : decode cX6_whoLies 1 = .ok (.istore_n 2, 1) := dk_61 (dk_at dksX6_whoLies_0 1 rfl rfl)
theorem dX6_whoLies_2 : decode cX6_whoLies 2 = .ok (.iload_n 2, 1) := dk_28 (dk_at dksX6_whoLies_0 2 rfl rfl)
theorem dX6_whoLies_3 : decode cX6_whoLies 3 = .ok (.bipush 16, 2) := dk_16 16 (dk_at dksX6_whoLies_0 3 rfl rfl)
theorem dX6_whoLies_5 : decode cX6_whoLies 5 = .ok (.if_icmp .ge 32, 3) := dk_162 0 32 (dk_at dksX6_whoLies_0 5 rfl rfl)
theorem dX6_whoLies_8 : decode cX6_whoLies 8 = .ok (.aload_n 0, 1) := dk_42 (dk_at dksX6_whoLies_0 8 rfl rfl)
theorem dX6_whoLies_9 : decode cX6_whoLies 9 = .ok (.iload_n 2, 1) := dk_28 (dk_at dksX6_whoLies_0 9 rfl rfl)
theorem dX6_whoLies_10 : decode cX6_whoLies 10 = .ok (.invokevirtual 112, 3) := dk_182 0 112 (dk_at dksX6_whoLies_0 10 rfl rfl)
theorem dX6_whoLies_13 : decode cX6_whoLies 13 = .ok (.ifCond .eq 18, 3) := dk_153 0 18 (dk_at dksX6_whoLies_0 13 rfl rfl)
theorem dX6_whoLies_16 : decode cX6_whoLies 16 = .ok (.aload_n 0, 1) := dk_42 (dk_at dksX6_whoLies_0 16 rfl rfl)
theorem dX6_whoLies_17 : decode cX6_whoLies 17 = .ok (.getfield 7, 3) := dk_180 0 7 (dk_at dksX6_whoLies_0 17 rfl rfl)
theorem dX6_whoLies_20 : decode cX6_whoLies 20 = .ok (.bipush 48, 2) := dk_16 48 (dk_at dksX6_whoLies_0 20 rfl rfl)
theorem dX6_whoLies_22 : decode cX6_whoLies 22 = .ok (.iload_n 2, 1) := dk_28 (dk_at dksX6_whoLies_0 22 rfl rfl)
theorem dX6_whoLies_23 : decode cX6_whoLies 23 = .ok (.iadd, 1) := dk_96 (dk_at dksX6_whoLies_0 23 rfl rfl)
theorem dX6_whoLies_24 : decode cX6_whoLies 24 = .ok (.iaload, 1) := dk_46 (dk_at dksX6_whoLies_1 0 rfl rfl)
theorem dX6_whoLies_25 : decode cX6_whoLies 25 = .ok (.iload_n 1, 1) := dk_27 (dk_at dksX6_whoLies_1 1 rfl rfl)
theorem dX6_whoLies_26 : decode cX6_whoLies 26 = .ok (.if_icmp .ne 5, 3) := dk_160 0 5 (dk_at dksX6_whoLies_1 2 rfl rfl)
theorem dX6_whoLies_29 : decode cX6_whoLies 29 = .ok (.iload_n 2, 1) := dk_28 (dk_at dksX6_whoLies_1 5 rfl rfl)
theorem dX6_whoLies_30 : decode cX6_whoLies 30 = .ok (.ireturn, 1) := dk_172 (dk_at dksX6_whoLies_1 6 rfl rfl)
theorem dX6_whoLies_31 : decode cX6_whoLies 31 = .ok (.iinc 2 1, 3) := dk_132 2 1 (dk_at dksX6_whoLies_1 7 rfl rfl)
theorem dX6_whoLies_34 : decode cX6_whoLies 34 = .ok (.goto (-32), 3) := dk_167 255 224 (dk_at dksX6_whoLies_1 10 rfl rfl)
theorem dX6_whoLies_37 : decode cX6_whoLies 37 = .ok (.bipush (-2), 2) := dk_16 254 (dk_at dksX6_whoLies_1 13 rfl rfl)
theorem dX6_whoLies_39 : decode cX6_whoLies 39 = .ok (.ireturn, 1) := dk_172 (dk_at dksX6_whoLies_1 15 rfl rfl)
abbrev cX6_isLaid : ByteArray := prog_20_method_10_code
def yX6_isLaid : MethodName := ⟨RX6, "isLaid", "(I)Z"⟩
def dkwX6_isLaid_1 : List UInt8 := [4, 167, 0, 4, 3, 172]
abbrev dktX6_isLaid_1 : List UInt8 := dkwX6_isLaid_1 ++ []
def dkwX6_isLaid_0 : List UInt8 := [42, 180, 0, 7, 3, 27, 96, 46, 4, 160, 0, 19, 42, 180, 0, 7, 16, 48, 27, 96, 46, 155, 0, 7]
abbrev dktX6_isLaid_0 : List UInt8 := dkwX6_isLaid_0 ++ dktX6_isLaid_1
theorem dksX6_isLaid_0 : cX6_isLaid.data.toList.drop 0 = dktX6_isLaid_0 := by decide +kernel
theorem dksX6_isLaid_1 : cX6_isLaid.data.toList.drop 24 = dktX6_isLaid_1 := dk_seg dksX6_isLaid_0 24 rfl rfl
theorem dX6_isLaid_0 : decode cX6_isLaid 0 = .ok (.aload_n 0, 1) := dk_42 (dk_at dksX6_isLaid_0 0 rfl rfl)
theorem dX6_isLaid_1 : decode cX6_isLaid 1 = .ok (.getfield 7, 3) := dk_180 0 7 (dk_at dksX6_isLaid_0 1 rfl rfl)
theorem dX6_isLaid_4 : decode cX6_isLaid 4 = .ok (.iconst 0, 1) := dk_3 (dk_at dksX6_isLaid_0 4 rfl rfl)
theorem dX6_isLaid_5 : decode cX6_isLaid 5 = .ok (.iload_n 1, 1) := dk_27 (dk_at dksX6_isLaid_0 5 rfl rfl)
theorem dX6_isLaid_6 : decode cX6_isLaid 6 = .ok (.iadd, 1) := dk_96 (dk_at dksX6_isLaid_0 6 rfl rfl)
theorem dX6_isLaid_7 : decode cX6_isLaid 7 = .ok (.iaload, 1) := dk_46 (dk_at dksX6_isLaid_0 7 rfl rfl)
theorem dX6_isLaid_8 : decode cX6_isLaid 8 = .ok (.iconst 1, 1) := dk_4 (dk_at dksX6_isLaid_0 8 rfl rfl)
theorem dX6_isLaid_9 : decode cX6_isLaid 9 = .ok (.if_icmp .ne 19, 3) := dk_160 0 19 (dk_at dksX6_isLaid_0 9 rfl rfl)
theorem dX6_isLaid_12 : decode cX6_isLaid 12 = .ok (.aload_n 0, 1) := dk_42 (dk_at dksX6_isLaid_0 12 rfl rfl)
theorem dX6_isLaid_13 : decode cX6_isLaid 13 = .ok (.getfield 7, 3) := dk_180 0 7 (dk_at dksX6_isLaid_0 13 rfl rfl)
theorem dX6_isLaid_16 : decode cX6_isLaid 16 = .ok (.bipush 48, 2) := dk_16 48 (dk_at dksX6_isLaid_0 16 rfl rfl)
theorem dX6_isLaid_18 : decode cX6_isLaid 18 = .ok (.iload_n 1, 1) := dk_27 (dk_at dksX6_isLaid_0 18 rfl rfl)
theorem dX6_isLaid_19 : decode cX6_isLaid 19 = .ok (.iadd, 1) := dk_96 (dk_at dksX6_isLaid_0 19 rfl rfl)
theorem dX6_isLaid_20 : decode cX6_isLaid 20 = .ok (.iaload, 1) := dk_46 (dk_at dksX6_isLaid_0 20 rfl rfl)
theorem dX6_isLaid_21 : decode cX6_isLaid 21 = .ok (.ifCond .lt 7, 3) := dk_155 0 7 (dk_at dksX6_isLaid_0 21 rfl rfl)
theorem dX6_isLaid_24 : decode cX6_isLaid 24 = .ok (.iconst 1, 1) := dk_4 (dk_at dksX6_isLaid_1 0 rfl rfl)
theorem dX6_isLaid_25 : decode cX6_isLaid 25 = .ok (.goto 4, 3) := dk_167 0 4 (dk_at dksX6_isLaid_1 1 rfl rfl)
theorem dX6_isLaid_28 : decode cX6_isLaid 28 = .ok (.iconst 0, 1) := dk_3 (dk_at dksX6_isLaid_1 4 rfl rfl)
theorem dX6_isLaid_29 : decode cX6_isLaid 29 = .ok (.ireturn, 1) := dk_172 (dk_at dksX6_isLaid_1 5 rfl rfl)
abbrev cX6_readsOther : ByteArray := prog_20_method_52_code
def yX6_readsOther : MethodName := ⟨RX6, "readsOther", "(I)Z"⟩
def dkwX6_readsOther_3 : List UInt8 := [27, 96, 42, 180, 0, 7, 16, 48, 28, 96, 46, 79, 42, 180, 0, 7, 16, 48, 28, 96, 29, 79, 4, 172]
abbrev dktX6_readsOther_3 : List UInt8 := dkwX6_readsOther_3 ++ []
def dkwX6_readsOther_2 : List UInt8 := [180, 0, 142, 4, 96, 181, 0, 142, 42, 180, 0, 7, 16, 48, 27, 96, 46, 62, 42, 180, 0, 7, 16, 48]
abbrev dktX6_readsOther_2 : List UInt8 := dkwX6_readsOther_2 ++ dktX6_readsOther_3
def dkwX6_readsOther_1 : List UInt8 := [61, 42, 28, 182, 0, 108, 154, 0, 14, 42, 16, 7, 42, 180, 0, 142, 182, 0, 155, 172, 42, 42]
abbrev dktX6_readsOther_1 : List UInt8 := dkwX6_readsOther_1 ++ dktX6_readsOther_2
def dkwX6_readsOther_0 : List UInt8 := [42, 182, 0, 250, 154, 0, 13, 42, 4, 42, 180, 0, 142, 182, 0, 155, 172, 42, 182, 0, 148, 16, 97, 100]
abbrev dktX6_readsOther_0 : List UInt8 := dkwX6_readsOther_0 ++ dktX6_readsOther_1
theorem dksX6_readsOther_0 : cX6_readsOther.data.toList.drop 0 = dktX6_readsOther_0 := by decide +kernel
theorem dksX6_readsOther_1 : cX6_readsOther.data.toList.drop 24 = dktX6_readsOther_1 := dk_seg dksX6_readsOther_0 24 rfl rfl
theorem dksX6_readsOther_2 : cX6_readsOther.data.toList.drop 46 = dktX6_readsOther_2 := dk_seg dksX6_readsOther_1 22 rfl rfl
theorem dksX6_readsOther_3 : cX6_readsOther.data.toList.drop 70 = dktX6_readsOther_3 := dk_seg dksX6_readsOther_2 24 rfl rfl
theorem dX6_readsOther_0 : decode cX6_readsOther 0 = .ok (.aload_n 0, 1) := dk_42 (dk_at dksX6_readsOther_0 0 rfl rfl)
theorem dX6_readsOther_1 : decode cX6_readsOther 1 = .ok (.invokevirtual 250, 3) := dk_182 0 250 (dk_at dksX6_readsOther_0 1 rfl rfl)
theorem dX6_readsOther_4 : decode cX6_readsOther 4 = .ok (.ifCond .ne 13, 3) := dk_154 0 13 (dk_at dksX6_readsOther_0 4 rfl rfl)
theorem dX6_readsOther_7 : decode cX6_readsOther 7 = .ok (.aload_n 0, 1) := dk_42 (dk_at dksX6_readsOther_0 7 rfl rfl)
theorem dX6_readsOther_8 : decode cX6_readsOther 8 = .ok (.iconst 1, 1) := dk_4 (dk_at dksX6_readsOther_0 8 rfl rfl)
theorem dX6_readsOther_9 : decode cX6_readsOther 9 = .ok (.aload_n 0, 1) := dk_42 (dk_at dksX6_readsOther_0 9 rfl rfl)
theorem dX6_readsOther_10 : decode cX6_readsOther 10 = .ok (.getfield 142, 3) := dk_180 0 142 (dk_at dksX6_readsOther_0 10 rfl rfl)
theorem dX6_readsOther_13 : decode cX6_readsOther 13 = .ok (.invokevirtual 155, 3) := dk_182 0 155 (dk_at dksX6_readsOther_0 13 rfl rfl)
theorem dX6_readsOther_16 : decode cX6_readsOther 16 = .ok (.ireturn, 1) := dk_172 (dk_at dksX6_readsOther_0 16 rfl rfl)
theorem dX6_readsOther_17 : decode cX6_readsOther 17 = .ok (.aload_n 0, 1) := dk_42 (dk_at dksX6_readsOther_0 17 rfl rfl)
theorem dX6_readsOther_18 : decode cX6_readsOther 18 = .ok (.invokevirtual 148, 3) := dk_182 0 148 (dk_at dksX6_readsOther_0 18 rfl rfl)
theorem dX6_readsOther_21 : decode cX6_readsOther 21 = .ok (.bipush 97, 2) := dk_16 97 (dk_at dksX6_readsOther_0 21 rfl rfl)
theorem dX6_readsOther_23 : decode cX6_readsOther 23 = .ok (.isub, 1) := dk_100 (dk_at dksX6_readsOther_0 23 rfl rfl)
theorem dX6_readsOther_24 : decode cX6_readsOther 24 = .ok (.istore_n 2, 1) := dk_61 (dk_at dksX6_readsOther_1 0 rfl rfl)
theorem dX6_readsOther_25 : decode cX6_readsOther 25 = .ok (.aload_n 0, 1) := dk_42 (dk_at dksX6_readsOther_1 1 rfl rfl)
theorem dX6_readsOther_26 : decode cX6_readsOther 26 = .ok (.iload_n 2, 1) := dk_28 (dk_at dksX6_readsOther_1 2 rfl rfl)
theorem dX6_readsOther_27 : decode cX6_readsOther 27 = .ok (.invokevirtual 108, 3) := dk_182 0 108 (dk_at dksX6_readsOther_1 3 rfl rfl)
theorem dX6_readsOther_30 : decode cX6_readsOther 30 = .ok (.ifCond .ne 14, 3) := dk_154 0 14 (dk_at dksX6_readsOther_1 6 rfl rfl)
theorem dX6_readsOther_33 : decode cX6_readsOther 33 = .ok (.aload_n 0, 1) := dk_42 (dk_at dksX6_readsOther_1 9 rfl rfl)
theorem dX6_readsOther_34 : decode cX6_readsOther 34 = .ok (.bipush 7, 2) := dk_16 7 (dk_at dksX6_readsOther_1 10 rfl rfl)
theorem dX6_readsOther_36 : decode cX6_readsOther 36 = .ok (.aload_n 0, 1) := dk_42 (dk_at dksX6_readsOther_1 12 rfl rfl)
theorem dX6_readsOther_37 : decode cX6_readsOther 37 = .ok (.getfield 142, 3) := dk_180 0 142 (dk_at dksX6_readsOther_1 13 rfl rfl)
theorem dX6_readsOther_40 : decode cX6_readsOther 40 = .ok (.invokevirtual 155, 3) := dk_182 0 155 (dk_at dksX6_readsOther_1 16 rfl rfl)
theorem dX6_readsOther_43 : decode cX6_readsOther 43 = .ok (.ireturn, 1) := dk_172 (dk_at dksX6_readsOther_1 19 rfl rfl)
theorem dX6_readsOther_44 : decode cX6_readsOther 44 = .ok (.aload_n 0, 1) := dk_42 (dk_at dksX6_readsOther_1 20 rfl rfl)
theorem dX6_readsOther_45 : decode cX6_readsOther 45 = .ok (.aload_n 0, 1) := dk_42 (dk_at dksX6_readsOther_1 21 rfl rfl)
theorem dX6_readsOther_46 : decode cX6_readsOther 46 = .ok (.getfield 142, 3) := dk_180 0 142 (dk_at dksX6_readsOther_2 0 rfl rfl)
theorem dX6_readsOther_49 : decode cX6_readsOther 49 = .ok (.iconst 1, 1) := dk_4 (dk_at dksX6_readsOther_2 3 rfl rfl)
theorem dX6_readsOther_50 : decode cX6_readsOther 50 = .ok (.iadd, 1) := dk_96 (dk_at dksX6_readsOther_2 4 rfl rfl)
theorem dX6_readsOther_51 : decode cX6_readsOther 51 = .ok (.putfield 142, 3) := dk_181 0 142 (dk_at dksX6_readsOther_2 5 rfl rfl)
theorem dX6_readsOther_54 : decode cX6_readsOther 54 = .ok (.aload_n 0, 1) := dk_42 (dk_at dksX6_readsOther_2 8 rfl rfl)
theorem dX6_readsOther_55 : decode cX6_readsOther 55 = .ok (.getfield 7, 3) := dk_180 0 7 (dk_at dksX6_readsOther_2 9 rfl rfl)
theorem dX6_readsOther_58 : decode cX6_readsOther 58 = .ok (.bipush 48, 2) := dk_16 48 (dk_at dksX6_readsOther_2 12 rfl rfl)
theorem dX6_readsOther_60 : decode cX6_readsOther 60 = .ok (.iload_n 1, 1) := dk_27 (dk_at dksX6_readsOther_2 14 rfl rfl)
theorem dX6_readsOther_61 : decode cX6_readsOther 61 = .ok (.iadd, 1) := dk_96 (dk_at dksX6_readsOther_2 15 rfl rfl)
theorem dX6_readsOther_62 : decode cX6_readsOther 62 = .ok (.iaload, 1) := dk_46 (dk_at dksX6_readsOther_2 16 rfl rfl)
theorem dX6_readsOther_63 : decode cX6_readsOther 63 = .ok (.istore_n 3, 1) := dk_62 (dk_at dksX6_readsOther_2 17 rfl rfl)
theorem dX6_readsOther_64 : decode cX6_readsOther 64 = .ok (.aload_n 0, 1) := dk_42 (dk_at dksX6_readsOther_2 18 rfl rfl)
theorem dX6_readsOther_65 : decode cX6_readsOther 65 = .ok (.getfield 7, 3) := dk_180 0 7 (dk_at dksX6_readsOther_2 19 rfl rfl)
theorem dX6_readsOther_68 : decode cX6_readsOther 68 = .ok (.bipush 48, 2) := dk_16 48 (dk_at dksX6_readsOther_2 22 rfl rfl)
theorem dX6_readsOther_70 : decode cX6_readsOther 70 = .ok (.iload_n 1, 1) := dk_27 (dk_at dksX6_readsOther_3 0 rfl rfl)
theorem dX6_readsOther_71 : decode cX6_readsOther 71 = .ok (.iadd, 1) := dk_96 (dk_at dksX6_readsOther_3 1 rfl rfl)
theorem dX6_readsOther_72 : decode cX6_readsOther 72 = .ok (.aload_n 0, 1) := dk_42 (dk_at dksX6_readsOther_3 2 rfl rfl)
theorem dX6_readsOther_73 : decode cX6_readsOther 73 = .ok (.getfield 7, 3) := dk_180 0 7 (dk_at dksX6_readsOther_3 3 rfl rfl)
theorem dX6_readsOther_76 : decode cX6_readsOther 76 = .ok (.bipush 48, 2) := dk_16 48 (dk_at dksX6_readsOther_3 6 rfl rfl)
theorem dX6_readsOther_78 : decode cX6_readsOther 78 = .ok (.iload_n 2, 1) := dk_28 (dk_at dksX6_readsOther_3 8 rfl rfl)
theorem dX6_readsOther_79 : decode cX6_readsOther 79 = .ok (.iadd, 1) := dk_96 (dk_at dksX6_readsOther_3 9 rfl rfl)
theorem dX6_readsOther_80 : decode cX6_readsOther 80 = .ok (.iaload, 1) := dk_46 (dk_at dksX6_readsOther_3 10 rfl rfl)
theorem dX6_readsOther_81 : decode cX6_readsOther 81 = .ok (.iastore, 1) := dk_79 (dk_at dksX6_readsOther_3 11 rfl rfl)
theorem dX6_readsOther_82 : decode cX6_readsOther 82 = .ok (.aload_n 0, 1) := dk_42 (dk_at dksX6_readsOther_3 12 rfl rfl)
theorem dX6_readsOther_83 : decode cX6_readsOther 83 = .ok (.getfield 7, 3) := dk_180 0 7 (dk_at dksX6_readsOther_3 13 rfl rfl)
theorem dX6_readsOther_86 : decode cX6_readsOther 86 = .ok (.bipush 48, 2) := dk_16 48 (dk_at dksX6_readsOther_3 16 rfl rfl)
theorem dX6_readsOther_88 : decode cX6_readsOther 88 = .ok (.iload_n 2, 1) := dk_28 (dk_at dksX6_readsOther_3 18 rfl rfl)
theorem dX6_readsOther_89 : decode cX6_readsOther 89 = .ok (.iadd, 1) := dk_96 (dk_at dksX6_readsOther_3 19 rfl rfl)
theorem dX6_readsOther_90 : decode cX6_readsOther 90 = .ok (.iload_n 3, 1) := dk_29 (dk_at dksX6_readsOther_3 20 rfl rfl)
theorem dX6_readsOther_91 : decode cX6_readsOther 91 = .ok (.iastore, 1) := dk_79 (dk_at dksX6_readsOther_3 21 rfl rfl)
theorem dX6_readsOther_92 : decode cX6_readsOther 92 = .ok (.iconst 1, 1) := dk_4 (dk_at dksX6_readsOther_3 22 rfl rfl)
theorem dX6_readsOther_93 : decode cX6_readsOther 93 = .ok (.ireturn, 1) := dk_172 (dk_at dksX6_readsOther_3 23 rfl rfl)
abbrev cX6_readsTopic : ByteArray := prog_20_method_53_code
def yX6_readsTopic : MethodName := ⟨RX6, "readsTopic", "(IZ)Z"⟩
def dkwX6_readsTopic_3 : List UInt8 := [16, 16, 27, 96, 46, 4, 29, 120, 2, 130, 126, 79, 4, 172]
abbrev dktX6_readsTopic_3 : List UInt8 := dkwX6_readsTopic_3 ++ []
def dkwX6_readsTopic_2 : List UInt8 := [153, 0, 19, 42, 180, 0, 7, 16, 16, 27, 96, 46, 4, 29, 120, 128, 167, 0, 18, 42, 180, 0, 7]
abbrev dktX6_readsTopic_2 : List UInt8 := dkwX6_readsTopic_2 ++ dktX6_readsTopic_3
def dkwX6_readsTopic_1 : List UInt8 := [182, 0, 155, 172, 42, 42, 180, 0, 142, 4, 96, 181, 0, 142, 42, 180, 0, 7, 16, 16, 27, 96, 28]
abbrev dktX6_readsTopic_1 : List UInt8 := dkwX6_readsTopic_1 ++ dktX6_readsTopic_2
def dkwX6_readsTopic_0 : List UInt8 := [42, 182, 0, 148, 16, 65, 100, 62, 29, 3, 16, 15, 184, 0, 104, 154, 0, 13, 42, 4, 42, 180, 0, 142]
abbrev dktX6_readsTopic_0 : List UInt8 := dkwX6_readsTopic_0 ++ dktX6_readsTopic_1
theorem dksX6_readsTopic_0 : cX6_readsTopic.data.toList.drop 0 = dktX6_readsTopic_0 := by decide +kernel
theorem dksX6_readsTopic_1 : cX6_readsTopic.data.toList.drop 24 = dktX6_readsTopic_1 := dk_seg dksX6_readsTopic_0 24 rfl rfl
theorem dksX6_readsTopic_2 : cX6_readsTopic.data.toList.drop 47 = dktX6_readsTopic_2 := dk_seg dksX6_readsTopic_1 23 rfl rfl
theorem dksX6_readsTopic_3 : cX6_readsTopic.data.toList.drop 70 = dktX6_readsTopic_3 := dk_seg dksX6_readsTopic_2 23 rfl rfl
theorem dX6_readsTopic_0 : decode cX6_readsTopic 0 = .ok (.aload_n 0, 1) := dk_42 (dk_at dksX6_readsTopic_0 0 rfl rfl)
theorem dX6_readsTopic_1 : decode cX6_readsTopic 1 = .ok (.invokevirtual 148, 3) := dk_182 0 148 (dk_at dksX6_readsTopic_0 1 rfl rfl)
theorem dX6_readsTopic_4 : decode cX6_readsTopic 4 = .ok (.bipush 65, 2) := dk_16 65 (dk_at dksX6_readsTopic_0 4 rfl rfl)
theorem dX6_readsTopic_6 : decode cX6_readsTopic 6 = .ok (.isub, 1) := dk_100 (dk_at dksX6_readsTopic_0 6 rfl rfl)
theorem dX6_readsTopic_7 : decode cX6_readsTopic 7 = .ok (.istore_n 3, 1) := dk_62 (dk_at dksX6_readsTopic_0 7 rfl rfl)
theorem dX6_readsTopic_8 : decode cX6_readsTopic 8 = .ok (.iload_n 3, 1) := dk_29 (dk_at dksX6_readsTopic_0 8 rfl rfl)
theorem dX6_readsTopic_9 : decode cX6_readsTopic 9 = .ok (.iconst 0, 1) := dk_3 (dk_at dksX6_readsTopic_0 9 rfl rfl)
theorem dX6_readsTopic_10 : decode cX6_readsTopic 10 = .ok (.bipush 15, 2) := dk_16 15 (dk_at dksX6_readsTopic_0 10 rfl rfl)
theorem dX6_readsTopic_12 : decode cX6_readsTopic 12 = .ok (.invokestatic 104, 3) := dk_184 0 104 (dk_at dksX6_readsTopic_0 12 rfl rfl)
theorem dX6_readsTopic_15 : decode cX6_readsTopic 15 = .ok (.ifCond .ne 13, 3) := dk_154 0 13 (dk_at dksX6_readsTopic_0 15 rfl rfl)
theorem dX6_readsTopic_18 : decode cX6_readsTopic 18 = .ok (.aload_n 0, 1) := dk_42 (dk_at dksX6_readsTopic_0 18 rfl rfl)
theorem dX6_readsTopic_19 : decode cX6_readsTopic 19 = .ok (.iconst 1, 1) := dk_4 (dk_at dksX6_readsTopic_0 19 rfl rfl)
theorem dX6_readsTopic_20 : decode cX6_readsTopic 20 = .ok (.aload_n 0, 1) := dk_42 (dk_at dksX6_readsTopic_0 20 rfl rfl)
theorem dX6_readsTopic_21 : decode cX6_readsTopic 21 = .ok (.getfield 142, 3) := dk_180 0 142 (dk_at dksX6_readsTopic_0 21 rfl rfl)
theorem dX6_readsTopic_24 : decode cX6_readsTopic 24 = .ok (.invokevirtual 155, 3) := dk_182 0 155 (dk_at dksX6_readsTopic_1 0 rfl rfl)
theorem dX6_readsTopic_27 : decode cX6_readsTopic 27 = .ok (.ireturn, 1) := dk_172 (dk_at dksX6_readsTopic_1 3 rfl rfl)
theorem dX6_readsTopic_28 : decode cX6_readsTopic 28 = .ok (.aload_n 0, 1) := dk_42 (dk_at dksX6_readsTopic_1 4 rfl rfl)
theorem dX6_readsTopic_29 : decode cX6_readsTopic 29 = .ok (.aload_n 0, 1) := dk_42 (dk_at dksX6_readsTopic_1 5 rfl rfl)
theorem dX6_readsTopic_30 : decode cX6_readsTopic 30 = .ok (.getfield 142, 3) := dk_180 0 142 (dk_at dksX6_readsTopic_1 6 rfl rfl)
theorem dX6_readsTopic_33 : decode cX6_readsTopic 33 = .ok (.iconst 1, 1) := dk_4 (dk_at dksX6_readsTopic_1 9 rfl rfl)
theorem dX6_readsTopic_34 : decode cX6_readsTopic 34 = .ok (.iadd, 1) := dk_96 (dk_at dksX6_readsTopic_1 10 rfl rfl)
theorem dX6_readsTopic_35 : decode cX6_readsTopic 35 = .ok (.putfield 142, 3) := dk_181 0 142 (dk_at dksX6_readsTopic_1 11 rfl rfl)
theorem dX6_readsTopic_38 : decode cX6_readsTopic 38 = .ok (.aload_n 0, 1) := dk_42 (dk_at dksX6_readsTopic_1 14 rfl rfl)
theorem dX6_readsTopic_39 : decode cX6_readsTopic 39 = .ok (.getfield 7, 3) := dk_180 0 7 (dk_at dksX6_readsTopic_1 15 rfl rfl)
theorem dX6_readsTopic_42 : decode cX6_readsTopic 42 = .ok (.bipush 16, 2) := dk_16 16 (dk_at dksX6_readsTopic_1 18 rfl rfl)
theorem dX6_readsTopic_44 : decode cX6_readsTopic 44 = .ok (.iload_n 1, 1) := dk_27 (dk_at dksX6_readsTopic_1 20 rfl rfl)
theorem dX6_readsTopic_45 : decode cX6_readsTopic 45 = .ok (.iadd, 1) := dk_96 (dk_at dksX6_readsTopic_1 21 rfl rfl)
theorem dX6_readsTopic_46 : decode cX6_readsTopic 46 = .ok (.iload_n 2, 1) := dk_28 (dk_at dksX6_readsTopic_1 22 rfl rfl)
theorem dX6_readsTopic_47 : decode cX6_readsTopic 47 = .ok (.ifCond .eq 19, 3) := dk_153 0 19 (dk_at dksX6_readsTopic_2 0 rfl rfl)
theorem dX6_readsTopic_50 : decode cX6_readsTopic 50 = .ok (.aload_n 0, 1) := dk_42 (dk_at dksX6_readsTopic_2 3 rfl rfl)
theorem dX6_readsTopic_51 : decode cX6_readsTopic 51 = .ok (.getfield 7, 3) := dk_180 0 7 (dk_at dksX6_readsTopic_2 4 rfl rfl)
theorem dX6_readsTopic_54 : decode cX6_readsTopic 54 = .ok (.bipush 16, 2) := dk_16 16 (dk_at dksX6_readsTopic_2 7 rfl rfl)
theorem dX6_readsTopic_56 : decode cX6_readsTopic 56 = .ok (.iload_n 1, 1) := dk_27 (dk_at dksX6_readsTopic_2 9 rfl rfl)
theorem dX6_readsTopic_57 : decode cX6_readsTopic 57 = .ok (.iadd, 1) := dk_96 (dk_at dksX6_readsTopic_2 10 rfl rfl)
theorem dX6_readsTopic_58 : decode cX6_readsTopic 58 = .ok (.iaload, 1) := dk_46 (dk_at dksX6_readsTopic_2 11 rfl rfl)
theorem dX6_readsTopic_59 : decode cX6_readsTopic 59 = .ok (.iconst 1, 1) := dk_4 (dk_at dksX6_readsTopic_2 12 rfl rfl)
theorem dX6_readsTopic_60 : decode cX6_readsTopic 60 = .ok (.iload_n 3, 1) := dk_29 (dk_at dksX6_readsTopic_2 13 rfl rfl)
theorem dX6_readsTopic_61 : decode cX6_readsTopic 61 = .ok (.ishl, 1) := dk_120 (dk_at dksX6_readsTopic_2 14 rfl rfl)
theorem dX6_readsTopic_62 : decode cX6_readsTopic 62 = .ok (.ior, 1) := dk_128 (dk_at dksX6_readsTopic_2 15 rfl rfl)
theorem dX6_readsTopic_63 : decode cX6_readsTopic 63 = .ok (.goto 18, 3) := dk_167 0 18 (dk_at dksX6_readsTopic_2 16 rfl rfl)
theorem dX6_readsTopic_66 : decode cX6_readsTopic 66 = .ok (.aload_n 0, 1) := dk_42 (dk_at dksX6_readsTopic_2 19 rfl rfl)
theorem dX6_readsTopic_67 : decode cX6_readsTopic 67 = .ok (.getfield 7, 3) := dk_180 0 7 (dk_at dksX6_readsTopic_2 20 rfl rfl)
theorem dX6_readsTopic_70 : decode cX6_readsTopic 70 = .ok (.bipush 16, 2) := dk_16 16 (dk_at dksX6_readsTopic_3 0 rfl rfl)
theorem dX6_readsTopic_72 : decode cX6_readsTopic 72 = .ok (.iload_n 1, 1) := dk_27 (dk_at dksX6_readsTopic_3 2 rfl rfl)
theorem dX6_readsTopic_73 : decode cX6_readsTopic 73 = .ok (.iadd, 1) := dk_96 (dk_at dksX6_readsTopic_3 3 rfl rfl)
theorem dX6_readsTopic_74 : decode cX6_readsTopic 74 = .ok (.iaload, 1) := dk_46 (dk_at dksX6_readsTopic_3 4 rfl rfl)
theorem dX6_readsTopic_75 : decode cX6_readsTopic 75 = .ok (.iconst 1, 1) := dk_4 (dk_at dksX6_readsTopic_3 5 rfl rfl)
theorem dX6_readsTopic_76 : decode cX6_readsTopic 76 = .ok (.iload_n 3, 1) := dk_29 (dk_at dksX6_readsTopic_3 6 rfl rfl)
theorem dX6_readsTopic_77 : decode cX6_readsTopic 77 = .ok (.ishl, 1) := dk_120 (dk_at dksX6_readsTopic_3 7 rfl rfl)
theorem dX6_readsTopic_78 : decode cX6_readsTopic 78 = .ok (.iconst (-1), 1) := dk_2 (dk_at dksX6_readsTopic_3 8 rfl rfl)
theorem dX6_readsTopic_79 : decode cX6_readsTopic 79 = .ok (.ixor, 1) := dk_130 (dk_at dksX6_readsTopic_3 9 rfl rfl)
theorem dX6_readsTopic_80 : decode cX6_readsTopic 80 = .ok (.iand, 1) := dk_126 (dk_at dksX6_readsTopic_3 10 rfl rfl)
theorem dX6_readsTopic_81 : decode cX6_readsTopic 81 = .ok (.iastore, 1) := dk_79 (dk_at dksX6_readsTopic_3 11 rfl rfl)
theorem dX6_readsTopic_82 : decode cX6_readsTopic 82 = .ok (.iconst 1, 1) := dk_4 (dk_at dksX6_readsTopic_3 12 rfl rfl)
theorem dX6_readsTopic_83 : decode cX6_readsTopic 83 = .ok (.ireturn, 1) := dk_172 (dk_at dksX6_readsTopic_3 13 rfl rfl)
abbrev cX6_wishes : ByteArray := prog_20_method_57_code
def yX6_wishes : MethodName := ⟨RX6, "wishes", "(I)I"⟩
def dkwX6_wishes_6 : List UInt8 := [180, 0, 77, 29, 46, 79, 132, 3, 1, 167, 255, 209, 42, 180, 1, 17, 172]
abbrev dktX6_wishes_6 : List UInt8 := dkwX6_wishes_6 ++ []
def dkwX6_wishes_5 : List UInt8 := [180, 0, 71, 29, 46, 79, 42, 180, 0, 65, 29, 42, 180, 0, 74, 29, 46, 79, 42, 180, 0, 68, 29, 42]
abbrev dktX6_wishes_5 : List UInt8 := dkwX6_wishes_5 ++ dktX6_wishes_6
def dkwX6_wishes_4 : List UInt8 := [180, 1, 17, 181, 1, 23, 3, 62, 29, 42, 180, 1, 17, 162, 0, 45, 42, 180, 0, 62, 29, 42]
abbrev dktX6_wishes_4 : List UInt8 := dkwX6_wishes_4 ++ dktX6_wishes_5
def dkwX6_wishes_3 : List UInt8 := [167, 0, 4, 3, 61, 167, 255, 219, 42, 3, 181, 0, 134, 28, 154, 0, 8, 42, 180, 0, 152, 172, 42, 42]
abbrev dktX6_wishes_3 : List UInt8 := dkwX6_wishes_3 ++ dktX6_wishes_4
def dkwX6_wishes_2 : List UInt8 := [180, 0, 145, 162, 0, 28, 42, 16, 59, 182, 0, 231, 153, 0, 14, 42, 182, 1, 20, 153, 0, 7, 4]
abbrev dktX6_wishes_2 : List UInt8 := dkwX6_wishes_2 ++ dktX6_wishes_3
def dkwX6_wishes_1 : List UInt8 := [182, 0, 225, 42, 3, 181, 1, 17, 42, 182, 1, 20, 61, 28, 153, 0, 39, 42, 180, 0, 142, 42]
abbrev dktX6_wishes_1 : List UInt8 := dkwX6_wishes_1 ++ dktX6_wishes_2
def dkwX6_wishes_0 : List UInt8 := [27, 4, 16, 120, 184, 0, 104, 153, 0, 11, 27, 42, 180, 0, 134, 164, 0, 5, 2, 172, 42, 27]
abbrev dktX6_wishes_0 : List UInt8 := dkwX6_wishes_0 ++ dktX6_wishes_1
theorem dksX6_wishes_0 : cX6_wishes.data.toList.drop 0 = dktX6_wishes_0 := by decide +kernel
theorem dksX6_wishes_1 : cX6_wishes.data.toList.drop 22 = dktX6_wishes_1 := dk_seg dksX6_wishes_0 22 rfl rfl
theorem dksX6_wishes_2 : cX6_wishes.data.toList.drop 44 = dktX6_wishes_2 := dk_seg dksX6_wishes_1 22 rfl rfl
theorem dksX6_wishes_3 : cX6_wishes.data.toList.drop 67 = dktX6_wishes_3 := dk_seg dksX6_wishes_2 23 rfl rfl
theorem dksX6_wishes_4 : cX6_wishes.data.toList.drop 91 = dktX6_wishes_4 := dk_seg dksX6_wishes_3 24 rfl rfl
theorem dksX6_wishes_5 : cX6_wishes.data.toList.drop 113 = dktX6_wishes_5 := dk_seg dksX6_wishes_4 22 rfl rfl
theorem dksX6_wishes_6 : cX6_wishes.data.toList.drop 137 = dktX6_wishes_6 := dk_seg dksX6_wishes_5 24 rfl rfl
theorem dX6_wishes_0 : decode cX6_wishes 0 = .ok (.iload_n 1, 1) := dk_27 (dk_at dksX6_wishes_0 0 rfl rfl)
theorem dX6_wishes_1 : decode cX6_wishes 1 = .ok (.iconst 1, 1) := dk_4 (dk_at dksX6_wishes_0 1 rfl rfl)
theorem dX6_wishes_2 : decode cX6_wishes 2 = .ok (.bipush 120, 2) := dk_16 120 (dk_at dksX6_wishes_0 2 rfl rfl)
theorem dX6_wishes_4 : decode cX6_wishes 4 = .ok (.invokestatic 104, 3) := dk_184 0 104 (dk_at dksX6_wishes_0 4 rfl rfl)
theorem dX6_wishes_7 : decode cX6_wishes 7 = .ok (.ifCond .eq 11, 3) := dk_153 0 11 (dk_at dksX6_wishes_0 7 rfl rfl)
theorem dX6_wishes_10 : decode cX6_wishes 10 = .ok (.iload_n 1, 1) := dk_27 (dk_at dksX6_wishes_0 10 rfl rfl)
theorem dX6_wishes_11 : decode cX6_wishes 11 = .ok (.aload_n 0, 1) := dk_42 (dk_at dksX6_wishes_0 11 rfl rfl)
theorem dX6_wishes_12 : decode cX6_wishes 12 = .ok (.getfield 134, 3) := dk_180 0 134 (dk_at dksX6_wishes_0 12 rfl rfl)
theorem dX6_wishes_15 : decode cX6_wishes 15 = .ok (.if_icmp .le 5, 3) := dk_164 0 5 (dk_at dksX6_wishes_0 15 rfl rfl)
theorem dX6_wishes_18 : decode cX6_wishes 18 = .ok (.iconst (-1), 1) := dk_2 (dk_at dksX6_wishes_0 18 rfl rfl)
theorem dX6_wishes_19 : decode cX6_wishes 19 = .ok (.ireturn, 1) := dk_172 (dk_at dksX6_wishes_0 19 rfl rfl)
theorem dX6_wishes_20 : decode cX6_wishes 20 = .ok (.aload_n 0, 1) := dk_42 (dk_at dksX6_wishes_0 20 rfl rfl)
theorem dX6_wishes_21 : decode cX6_wishes 21 = .ok (.iload_n 1, 1) := dk_27 (dk_at dksX6_wishes_0 21 rfl rfl)
theorem dX6_wishes_22 : decode cX6_wishes 22 = .ok (.invokevirtual 225, 3) := dk_182 0 225 (dk_at dksX6_wishes_1 0 rfl rfl)
theorem dX6_wishes_25 : decode cX6_wishes 25 = .ok (.aload_n 0, 1) := dk_42 (dk_at dksX6_wishes_1 3 rfl rfl)
theorem dX6_wishes_26 : decode cX6_wishes 26 = .ok (.iconst 0, 1) := dk_3 (dk_at dksX6_wishes_1 4 rfl rfl)
theorem dX6_wishes_27 : decode cX6_wishes 27 = .ok (.putfield 273, 3) := dk_181 1 17 (dk_at dksX6_wishes_1 5 rfl rfl)
theorem dX6_wishes_30 : decode cX6_wishes 30 = .ok (.aload_n 0, 1) := dk_42 (dk_at dksX6_wishes_1 8 rfl rfl)
theorem dX6_wishes_31 : decode cX6_wishes 31 = .ok (.invokevirtual 276, 3) := dk_182 1 20 (dk_at dksX6_wishes_1 9 rfl rfl)
theorem dX6_wishes_34 : decode cX6_wishes 34 = .ok (.istore_n 2, 1) := dk_61 (dk_at dksX6_wishes_1 12 rfl rfl)
theorem dX6_wishes_35 : decode cX6_wishes 35 = .ok (.iload_n 2, 1) := dk_28 (dk_at dksX6_wishes_1 13 rfl rfl)
theorem dX6_wishes_36 : decode cX6_wishes 36 = .ok (.ifCond .eq 39, 3) := dk_153 0 39 (dk_at dksX6_wishes_1 14 rfl rfl)
theorem dX6_wishes_39 : decode cX6_wishes 39 = .ok (.aload_n 0, 1) := dk_42 (dk_at dksX6_wishes_1 17 rfl rfl)
theorem dX6_wishes_40 : decode cX6_wishes 40 = .ok (.getfield 142, 3) := dk_180 0 142 (dk_at dksX6_wishes_1 18 rfl rfl)
theorem dX6_wishes_43 : decode cX6_wishes 43 = .ok (.aload_n 0, 1) := dk_42 (dk_at dksX6_wishes_1 21 rfl rfl)
theorem dX6_wishes_44 : decode cX6_wishes 44 = .ok (.getfield 145, 3) := dk_180 0 145 (dk_at dksX6_wishes_2 0 rfl rfl)
theorem dX6_wishes_47 : decode cX6_wishes 47 = .ok (.if_icmp .ge 28, 3) := dk_162 0 28 (dk_at dksX6_wishes_2 3 rfl rfl)
theorem dX6_wishes_50 : decode cX6_wishes 50 = .ok (.aload_n 0, 1) := dk_42 (dk_at dksX6_wishes_2 6 rfl rfl)
theorem dX6_wishes_51 : decode cX6_wishes 51 = .ok (.bipush 59, 2) := dk_16 59 (dk_at dksX6_wishes_2 7 rfl rfl)
theorem dX6_wishes_53 : decode cX6_wishes 53 = .ok (.invokevirtual 231, 3) := dk_182 0 231 (dk_at dksX6_wishes_2 9 rfl rfl)
theorem dX6_wishes_56 : decode cX6_wishes 56 = .ok (.ifCond .eq 14, 3) := dk_153 0 14 (dk_at dksX6_wishes_2 12 rfl rfl)
theorem dX6_wishes_59 : decode cX6_wishes 59 = .ok (.aload_n 0, 1) := dk_42 (dk_at dksX6_wishes_2 15 rfl rfl)
theorem dX6_wishes_60 : decode cX6_wishes 60 = .ok (.invokevirtual 276, 3) := dk_182 1 20 (dk_at dksX6_wishes_2 16 rfl rfl)
theorem dX6_wishes_63 : decode cX6_wishes 63 = .ok (.ifCond .eq 7, 3) := dk_153 0 7 (dk_at dksX6_wishes_2 19 rfl rfl)
theorem dX6_wishes_66 : decode cX6_wishes 66 = .ok (.iconst 1, 1) := dk_4 (dk_at dksX6_wishes_2 22 rfl rfl)
theorem dX6_wishes_67 : decode cX6_wishes 67 = .ok (.goto 4, 3) := dk_167 0 4 (dk_at dksX6_wishes_3 0 rfl rfl)
theorem dX6_wishes_70 : decode cX6_wishes 70 = .ok (.iconst 0, 1) := dk_3 (dk_at dksX6_wishes_3 3 rfl rfl)
theorem dX6_wishes_71 : decode cX6_wishes 71 = .ok (.istore_n 2, 1) := dk_61 (dk_at dksX6_wishes_3 4 rfl rfl)
theorem dX6_wishes_72 : decode cX6_wishes 72 = .ok (.goto (-37), 3) := dk_167 255 219 (dk_at dksX6_wishes_3 5 rfl rfl)
theorem dX6_wishes_75 : decode cX6_wishes 75 = .ok (.aload_n 0, 1) := dk_42 (dk_at dksX6_wishes_3 8 rfl rfl)
theorem dX6_wishes_76 : decode cX6_wishes 76 = .ok (.iconst 0, 1) := dk_3 (dk_at dksX6_wishes_3 9 rfl rfl)
theorem dX6_wishes_77 : decode cX6_wishes 77 = .ok (.putfield 134, 3) := dk_181 0 134 (dk_at dksX6_wishes_3 10 rfl rfl)
theorem dX6_wishes_80 : decode cX6_wishes 80 = .ok (.iload_n 2, 1) := dk_28 (dk_at dksX6_wishes_3 13 rfl rfl)
theorem dX6_wishes_81 : decode cX6_wishes 81 = .ok (.ifCond .ne 8, 3) := dk_154 0 8 (dk_at dksX6_wishes_3 14 rfl rfl)
theorem dX6_wishes_84 : decode cX6_wishes 84 = .ok (.aload_n 0, 1) := dk_42 (dk_at dksX6_wishes_3 17 rfl rfl)
theorem dX6_wishes_85 : decode cX6_wishes 85 = .ok (.getfield 152, 3) := dk_180 0 152 (dk_at dksX6_wishes_3 18 rfl rfl)
theorem dX6_wishes_88 : decode cX6_wishes 88 = .ok (.ireturn, 1) := dk_172 (dk_at dksX6_wishes_3 21 rfl rfl)
theorem dX6_wishes_89 : decode cX6_wishes 89 = .ok (.aload_n 0, 1) := dk_42 (dk_at dksX6_wishes_3 22 rfl rfl)
theorem dX6_wishes_90 : decode cX6_wishes 90 = .ok (.aload_n 0, 1) := dk_42 (dk_at dksX6_wishes_3 23 rfl rfl)
theorem dX6_wishes_91 : decode cX6_wishes 91 = .ok (.getfield 273, 3) := dk_180 1 17 (dk_at dksX6_wishes_4 0 rfl rfl)
theorem dX6_wishes_94 : decode cX6_wishes 94 = .ok (.putfield 279, 3) := dk_181 1 23 (dk_at dksX6_wishes_4 3 rfl rfl)
theorem dX6_wishes_97 : decode cX6_wishes 97 = .ok (.iconst 0, 1) := dk_3 (dk_at dksX6_wishes_4 6 rfl rfl)
theorem dX6_wishes_98 : decode cX6_wishes 98 = .ok (.istore_n 3, 1) := dk_62 (dk_at dksX6_wishes_4 7 rfl rfl)
theorem dX6_wishes_99 : decode cX6_wishes 99 = .ok (.iload_n 3, 1) := dk_29 (dk_at dksX6_wishes_4 8 rfl rfl)
theorem dX6_wishes_100 : decode cX6_wishes 100 = .ok (.aload_n 0, 1) := dk_42 (dk_at dksX6_wishes_4 9 rfl rfl)
theorem dX6_wishes_101 : decode cX6_wishes 101 = .ok (.getfield 273, 3) := dk_180 1 17 (dk_at dksX6_wishes_4 10 rfl rfl)
theorem dX6_wishes_104 : decode cX6_wishes 104 = .ok (.if_icmp .ge 45, 3) := dk_162 0 45 (dk_at dksX6_wishes_4 13 rfl rfl)
theorem dX6_wishes_107 : decode cX6_wishes 107 = .ok (.aload_n 0, 1) := dk_42 (dk_at dksX6_wishes_4 16 rfl rfl)
theorem dX6_wishes_108 : decode cX6_wishes 108 = .ok (.getfield 62, 3) := dk_180 0 62 (dk_at dksX6_wishes_4 17 rfl rfl)
theorem dX6_wishes_111 : decode cX6_wishes 111 = .ok (.iload_n 3, 1) := dk_29 (dk_at dksX6_wishes_4 20 rfl rfl)
theorem dX6_wishes_112 : decode cX6_wishes 112 = .ok (.aload_n 0, 1) := dk_42 (dk_at dksX6_wishes_4 21 rfl rfl)
theorem dX6_wishes_113 : decode cX6_wishes 113 = .ok (.getfield 71, 3) := dk_180 0 71 (dk_at dksX6_wishes_5 0 rfl rfl)
theorem dX6_wishes_116 : decode cX6_wishes 116 = .ok (.iload_n 3, 1) := dk_29 (dk_at dksX6_wishes_5 3 rfl rfl)
theorem dX6_wishes_117 : decode cX6_wishes 117 = .ok (.iaload, 1) := dk_46 (dk_at dksX6_wishes_5 4 rfl rfl)
theorem dX6_wishes_118 : decode cX6_wishes 118 = .ok (.iastore, 1) := dk_79 (dk_at dksX6_wishes_5 5 rfl rfl)
theorem dX6_wishes_119 : decode cX6_wishes 119 = .ok (.aload_n 0, 1) := dk_42 (dk_at dksX6_wishes_5 6 rfl rfl)
theorem dX6_wishes_120 : decode cX6_wishes 120 = .ok (.getfield 65, 3) := dk_180 0 65 (dk_at dksX6_wishes_5 7 rfl rfl)
theorem dX6_wishes_123 : decode cX6_wishes 123 = .ok (.iload_n 3, 1) := dk_29 (dk_at dksX6_wishes_5 10 rfl rfl)
theorem dX6_wishes_124 : decode cX6_wishes 124 = .ok (.aload_n 0, 1) := dk_42 (dk_at dksX6_wishes_5 11 rfl rfl)
theorem dX6_wishes_125 : decode cX6_wishes 125 = .ok (.getfield 74, 3) := dk_180 0 74 (dk_at dksX6_wishes_5 12 rfl rfl)
theorem dX6_wishes_128 : decode cX6_wishes 128 = .ok (.iload_n 3, 1) := dk_29 (dk_at dksX6_wishes_5 15 rfl rfl)
theorem dX6_wishes_129 : decode cX6_wishes 129 = .ok (.iaload, 1) := dk_46 (dk_at dksX6_wishes_5 16 rfl rfl)
theorem dX6_wishes_130 : decode cX6_wishes 130 = .ok (.iastore, 1) := dk_79 (dk_at dksX6_wishes_5 17 rfl rfl)
theorem dX6_wishes_131 : decode cX6_wishes 131 = .ok (.aload_n 0, 1) := dk_42 (dk_at dksX6_wishes_5 18 rfl rfl)
theorem dX6_wishes_132 : decode cX6_wishes 132 = .ok (.getfield 68, 3) := dk_180 0 68 (dk_at dksX6_wishes_5 19 rfl rfl)
theorem dX6_wishes_135 : decode cX6_wishes 135 = .ok (.iload_n 3, 1) := dk_29 (dk_at dksX6_wishes_5 22 rfl rfl)
theorem dX6_wishes_136 : decode cX6_wishes 136 = .ok (.aload_n 0, 1) := dk_42 (dk_at dksX6_wishes_5 23 rfl rfl)
theorem dX6_wishes_137 : decode cX6_wishes 137 = .ok (.getfield 77, 3) := dk_180 0 77 (dk_at dksX6_wishes_6 0 rfl rfl)
theorem dX6_wishes_140 : decode cX6_wishes 140 = .ok (.iload_n 3, 1) := dk_29 (dk_at dksX6_wishes_6 3 rfl rfl)
theorem dX6_wishes_141 : decode cX6_wishes 141 = .ok (.iaload, 1) := dk_46 (dk_at dksX6_wishes_6 4 rfl rfl)
theorem dX6_wishes_142 : decode cX6_wishes 142 = .ok (.iastore, 1) := dk_79 (dk_at dksX6_wishes_6 5 rfl rfl)
theorem dX6_wishes_143 : decode cX6_wishes 143 = .ok (.iinc 3 1, 3) := dk_132 3 1 (dk_at dksX6_wishes_6 6 rfl rfl)
theorem dX6_wishes_146 : decode cX6_wishes 146 = .ok (.goto (-47), 3) := dk_167 255 209 (dk_at dksX6_wishes_6 9 rfl rfl)
theorem dX6_wishes_149 : decode cX6_wishes 149 = .ok (.aload_n 0, 1) := dk_42 (dk_at dksX6_wishes_6 12 rfl rfl)
theorem dX6_wishes_150 : decode cX6_wishes 150 = .ok (.getfield 273, 3) := dk_180 1 17 (dk_at dksX6_wishes_6 13 rfl rfl)
theorem dX6_wishes_153 : decode cX6_wishes 153 = .ok (.ireturn, 1) := dk_172 (dk_at dksX6_wishes_6 16 rfl rfl)
abbrev cX6_readsWish : ByteArray := prog_20_method_56_code
def yX6_readsWish : MethodName := ⟨RX6, "readsWish", "()Z"⟩
def dkwX6_readsWish_8 : List UInt8 := [180, 0, 77, 42, 180, 1, 17, 28, 79, 42, 42, 180, 1, 17, 4, 96, 181, 1, 17, 4, 172]
abbrev dktX6_readsWish_8 : List UInt8 := dkwX6_readsWish_8 ++ []
def dkwX6_readsWish_7 : List UInt8 := [181, 0, 142, 42, 180, 0, 71, 42, 180, 1, 17, 27, 79, 42, 180, 0, 74, 42, 180, 1, 17, 29, 79, 42]
abbrev dktX6_readsWish_7 : List UInt8 := dkwX6_readsWish_7 ++ dktX6_readsWish_8
def dkwX6_readsWish_6 : List UInt8 := [28, 27, 160, 0, 14, 42, 16, 6, 42, 180, 0, 142, 182, 0, 155, 172, 42, 42, 180, 0, 142, 4, 96]
abbrev dktX6_readsWish_6 : List UInt8 := dkwX6_readsWish_6 ++ dktX6_readsWish_7
def dkwX6_readsWish_5 : List UInt8 := [182, 0, 250, 154, 0, 13, 42, 4, 42, 180, 0, 142, 182, 0, 155, 172, 42, 182, 0, 148, 16, 97, 100, 61]
abbrev dktX6_readsWish_5 : List UInt8 := dkwX6_readsWish_5 ++ dktX6_readsWish_6
def dkwX6_readsWish_4 : List UInt8 := [172, 42, 42, 180, 0, 142, 4, 96, 181, 0, 142, 29, 16, 43, 159, 0, 9, 29, 16, 45, 160, 0, 54, 42]
abbrev dktX6_readsWish_4 : List UInt8 := dkwX6_readsWish_4 ++ dktX6_readsWish_5
def dkwX6_readsWish_3 : List UInt8 := [159, 0, 25, 29, 16, 35, 159, 0, 19, 29, 16, 46, 159, 0, 13, 42, 4, 42, 180, 0, 142, 182, 0, 155]
abbrev dktX6_readsWish_3 : List UInt8 := dkwX6_readsWish_3 ++ dktX6_readsWish_4
def dkwX6_readsWish_2 : List UInt8 := [42, 180, 0, 142, 4, 96, 181, 0, 142, 42, 182, 0, 148, 62, 29, 16, 43, 159, 0, 31, 29, 16, 45]
abbrev dktX6_readsWish_2 : List UInt8 := dkwX6_readsWish_2 ++ dktX6_readsWish_3
def dkwX6_readsWish_1 : List UInt8 := [160, 0, 13, 42, 7, 42, 180, 0, 142, 182, 0, 155, 172, 42, 182, 0, 148, 16, 97, 100, 60, 2, 61, 42]
abbrev dktX6_readsWish_1 : List UInt8 := dkwX6_readsWish_1 ++ dktX6_readsWish_2
def dkwX6_readsWish_0 : List UInt8 := [42, 182, 0, 250, 154, 0, 13, 42, 4, 42, 180, 0, 142, 182, 0, 155, 172, 42, 180, 1, 17, 16, 24]
abbrev dktX6_readsWish_0 : List UInt8 := dkwX6_readsWish_0 ++ dktX6_readsWish_1
theorem dksX6_readsWish_0 : cX6_readsWish.data.toList.drop 0 = dktX6_readsWish_0 := by decide +kernel
theorem dksX6_readsWish_1 : cX6_readsWish.data.toList.drop 23 = dktX6_readsWish_1 := dk_seg dksX6_readsWish_0 23 rfl rfl
theorem dksX6_readsWish_2 : cX6_readsWish.data.toList.drop 47 = dktX6_readsWish_2 := dk_seg dksX6_readsWish_1 24 rfl rfl
theorem dksX6_readsWish_3 : cX6_readsWish.data.toList.drop 70 = dktX6_readsWish_3 := dk_seg dksX6_readsWish_2 23 rfl rfl
theorem dksX6_readsWish_4 : cX6_readsWish.data.toList.drop 94 = dktX6_readsWish_4 := dk_seg dksX6_readsWish_3 24 rfl rfl
theorem dksX6_readsWish_5 : cX6_readsWish.data.toList.drop 118 = dktX6_readsWish_5 := dk_seg dksX6_readsWish_4 24 rfl rfl
theorem dksX6_readsWish_6 : cX6_readsWish.data.toList.drop 142 = dktX6_readsWish_6 := dk_seg dksX6_readsWish_5 24 rfl rfl
theorem dksX6_readsWish_7 : cX6_readsWish.data.toList.drop 165 = dktX6_readsWish_7 := dk_seg dksX6_readsWish_6 23 rfl rfl
theorem dksX6_readsWish_8 : cX6_readsWish.data.toList.drop 189 = dktX6_readsWish_8 := dk_seg dksX6_readsWish_7 24 rfl rfl
theorem dX6_readsWish_0 : decode cX6_readsWish 0 = .ok (.aload_n 0, 1) := dk_42 (dk_at dksX6_readsWish_0 0 rfl rfl)
theorem dX6_readsWish_1 : decode cX6_readsWish 1 = .ok (.invokevirtual 250, 3) := dk_182 0 250 (dk_at dksX6_readsWish_0 1 rfl rfl)
theorem dX6_readsWish_4 : decode cX6_readsWish 4 = .ok (.ifCond .ne 13, 3) := dk_154 0 13 (dk_at dksX6_readsWish_0 4 rfl rfl)
theorem dX6_readsWish_7 : decode cX6_readsWish 7 = .ok (.aload_n 0, 1) := dk_42 (dk_at dksX6_readsWish_0 7 rfl rfl)
theorem dX6_readsWish_8 : decode cX6_readsWish 8 = .ok (.iconst 1, 1) := dk_4 (dk_at dksX6_readsWish_0 8 rfl rfl)
theorem dX6_readsWish_9 : decode cX6_readsWish 9 = .ok (.aload_n 0, 1) := dk_42 (dk_at dksX6_readsWish_0 9 rfl rfl)
theorem dX6_readsWish_10 : decode cX6_readsWish 10 = .ok (.getfield 142, 3) := dk_180 0 142 (dk_at dksX6_readsWish_0 10 rfl rfl)
theorem dX6_readsWish_13 : decode cX6_readsWish 13 = .ok (.invokevirtual 155, 3) := dk_182 0 155 (dk_at dksX6_readsWish_0 13 rfl rfl)
theorem dX6_readsWish_16 : decode cX6_readsWish 16 = .ok (.ireturn, 1) := dk_172 (dk_at dksX6_readsWish_0 16 rfl rfl)
theorem dX6_readsWish_17 : decode cX6_readsWish 17 = .ok (.aload_n 0, 1) := dk_42 (dk_at dksX6_readsWish_0 17 rfl rfl)
theorem dX6_readsWish_18 : decode cX6_readsWish 18 = .ok (.getfield 273, 3) := dk_180 1 17 (dk_at dksX6_readsWish_0 18 rfl rfl)
theorem dX6_readsWish_21 : decode cX6_readsWish 21 = .ok (.bipush 24, 2) := dk_16 24 (dk_at dksX6_readsWish_0 21 rfl rfl)
theorem dX6_readsWish_23 : decode cX6_readsWish 23 = .ok (.if_icmp .ne 13, 3) := dk_160 0 13 (dk_at dksX6_readsWish_1 0 rfl rfl)
theorem dX6_readsWish_26 : decode cX6_readsWish 26 = .ok (.aload_n 0, 1) := dk_42 (dk_at dksX6_readsWish_1 3 rfl rfl)
theorem dX6_readsWish_27 : decode cX6_readsWish 27 = .ok (.iconst 4, 1) := dk_7 (dk_at dksX6_readsWish_1 4 rfl rfl)
theorem dX6_readsWish_28 : decode cX6_readsWish 28 = .ok (.aload_n 0, 1) := dk_42 (dk_at dksX6_readsWish_1 5 rfl rfl)
theorem dX6_readsWish_29 : decode cX6_readsWish 29 = .ok (.getfield 142, 3) := dk_180 0 142 (dk_at dksX6_readsWish_1 6 rfl rfl)
theorem dX6_readsWish_32 : decode cX6_readsWish 32 = .ok (.invokevirtual 155, 3) := dk_182 0 155 (dk_at dksX6_readsWish_1 9 rfl rfl)
theorem dX6_readsWish_35 : decode cX6_readsWish 35 = .ok (.ireturn, 1) := dk_172 (dk_at dksX6_readsWish_1 12 rfl rfl)
theorem dX6_readsWish_36 : decode cX6_readsWish 36 = .ok (.aload_n 0, 1) := dk_42 (dk_at dksX6_readsWish_1 13 rfl rfl)
theorem dX6_readsWish_37 : decode cX6_readsWish 37 = .ok (.invokevirtual 148, 3) := dk_182 0 148 (dk_at dksX6_readsWish_1 14 rfl rfl)
theorem dX6_readsWish_40 : decode cX6_readsWish 40 = .ok (.bipush 97, 2) := dk_16 97 (dk_at dksX6_readsWish_1 17 rfl rfl)
theorem dX6_readsWish_42 : decode cX6_readsWish 42 = .ok (.isub, 1) := dk_100 (dk_at dksX6_readsWish_1 19 rfl rfl)
theorem dX6_readsWish_43 : decode cX6_readsWish 43 = .ok (.istore_n 1, 1) := dk_60 (dk_at dksX6_readsWish_1 20 rfl rfl)
theorem dX6_readsWish_44 : decode cX6_readsWish 44 = .ok (.iconst (-1), 1) := dk_2 (dk_at dksX6_readsWish_1 21 rfl rfl)
theorem dX6_readsWish_45 : decode cX6_readsWish 45 = .ok (.istore_n 2, 1) := dk_61 (dk_at dksX6_readsWish_1 22 rfl rfl)
theorem dX6_readsWish_46 : decode cX6_readsWish 46 = .ok (.aload_n 0, 1) := dk_42 (dk_at dksX6_readsWish_1 23 rfl rfl)
theorem dX6_readsWish_47 : decode cX6_readsWish 47 = .ok (.aload_n 0, 1) := dk_42 (dk_at dksX6_readsWish_2 0 rfl rfl)
theorem dX6_readsWish_48 : decode cX6_readsWish 48 = .ok (.getfield 142, 3) := dk_180 0 142 (dk_at dksX6_readsWish_2 1 rfl rfl)
theorem dX6_readsWish_51 : decode cX6_readsWish 51 = .ok (.iconst 1, 1) := dk_4 (dk_at dksX6_readsWish_2 4 rfl rfl)
theorem dX6_readsWish_52 : decode cX6_readsWish 52 = .ok (.iadd, 1) := dk_96 (dk_at dksX6_readsWish_2 5 rfl rfl)
theorem dX6_readsWish_53 : decode cX6_readsWish 53 = .ok (.putfield 142, 3) := dk_181 0 142 (dk_at dksX6_readsWish_2 6 rfl rfl)
theorem dX6_readsWish_56 : decode cX6_readsWish 56 = .ok (.aload_n 0, 1) := dk_42 (dk_at dksX6_readsWish_2 9 rfl rfl)
theorem dX6_readsWish_57 : decode cX6_readsWish 57 = .ok (.invokevirtual 148, 3) := dk_182 0 148 (dk_at dksX6_readsWish_2 10 rfl rfl)
theorem dX6_readsWish_60 : decode cX6_readsWish 60 = .ok (.istore_n 3, 1) := dk_62 (dk_at dksX6_readsWish_2 13 rfl rfl)
theorem dX6_readsWish_61 : decode cX6_readsWish 61 = .ok (.iload_n 3, 1) := dk_29 (dk_at dksX6_readsWish_2 14 rfl rfl)
theorem dX6_readsWish_62 : decode cX6_readsWish 62 = .ok (.bipush 43, 2) := dk_16 43 (dk_at dksX6_readsWish_2 15 rfl rfl)
theorem dX6_readsWish_64 : decode cX6_readsWish 64 = .ok (.if_icmp .eq 31, 3) := dk_159 0 31 (dk_at dksX6_readsWish_2 17 rfl rfl)
theorem dX6_readsWish_67 : decode cX6_readsWish 67 = .ok (.iload_n 3, 1) := dk_29 (dk_at dksX6_readsWish_2 20 rfl rfl)
theorem dX6_readsWish_68 : decode cX6_readsWish 68 = .ok (.bipush 45, 2) := dk_16 45 (dk_at dksX6_readsWish_2 21 rfl rfl)
theorem dX6_readsWish_70 : decode cX6_readsWish 70 = .ok (.if_icmp .eq 25, 3) := dk_159 0 25 (dk_at dksX6_readsWish_3 0 rfl rfl)
theorem dX6_readsWish_73 : decode cX6_readsWish 73 = .ok (.iload_n 3, 1) := dk_29 (dk_at dksX6_readsWish_3 3 rfl rfl)
theorem dX6_readsWish_74 : decode cX6_readsWish 74 = .ok (.bipush 35, 2) := dk_16 35 (dk_at dksX6_readsWish_3 4 rfl rfl)
theorem dX6_readsWish_76 : decode cX6_readsWish 76 = .ok (.if_icmp .eq 19, 3) := dk_159 0 19 (dk_at dksX6_readsWish_3 6 rfl rfl)
theorem dX6_readsWish_79 : decode cX6_readsWish 79 = .ok (.iload_n 3, 1) := dk_29 (dk_at dksX6_readsWish_3 9 rfl rfl)
theorem dX6_readsWish_80 : decode cX6_readsWish 80 = .ok (.bipush 46, 2) := dk_16 46 (dk_at dksX6_readsWish_3 10 rfl rfl)
theorem dX6_readsWish_82 : decode cX6_readsWish 82 = .ok (.if_icmp .eq 13, 3) := dk_159 0 13 (dk_at dksX6_readsWish_3 12 rfl rfl)
theorem dX6_readsWish_85 : decode cX6_readsWish 85 = .ok (.aload_n 0, 1) := dk_42 (dk_at dksX6_readsWish_3 15 rfl rfl)
theorem dX6_readsWish_86 : decode cX6_readsWish 86 = .ok (.iconst 1, 1) := dk_4 (dk_at dksX6_readsWish_3 16 rfl rfl)
theorem dX6_readsWish_87 : decode cX6_readsWish 87 = .ok (.aload_n 0, 1) := dk_42 (dk_at dksX6_readsWish_3 17 rfl rfl)
theorem dX6_readsWish_88 : decode cX6_readsWish 88 = .ok (.getfield 142, 3) := dk_180 0 142 (dk_at dksX6_readsWish_3 18 rfl rfl)
theorem dX6_readsWish_91 : decode cX6_readsWish 91 = .ok (.invokevirtual 155, 3) := dk_182 0 155 (dk_at dksX6_readsWish_3 21 rfl rfl)
theorem dX6_readsWish_94 : decode cX6_readsWish 94 = .ok (.ireturn, 1) := dk_172 (dk_at dksX6_readsWish_4 0 rfl rfl)
theorem dX6_readsWish_95 : decode cX6_readsWish 95 = .ok (.aload_n 0, 1) := dk_42 (dk_at dksX6_readsWish_4 1 rfl rfl)
theorem dX6_readsWish_96 : decode cX6_readsWish 96 = .ok (.aload_n 0, 1) := dk_42 (dk_at dksX6_readsWish_4 2 rfl rfl)
theorem dX6_readsWish_97 : decode cX6_readsWish 97 = .ok (.getfield 142, 3) := dk_180 0 142 (dk_at dksX6_readsWish_4 3 rfl rfl)
theorem dX6_readsWish_100 : decode cX6_readsWish 100 = .ok (.iconst 1, 1) := dk_4 (dk_at dksX6_readsWish_4 6 rfl rfl)
theorem dX6_readsWish_101 : decode cX6_readsWish 101 = .ok (.iadd, 1) := dk_96 (dk_at dksX6_readsWish_4 7 rfl rfl)
theorem dX6_readsWish_102 : decode cX6_readsWish 102 = .ok (.putfield 142, 3) := dk_181 0 142 (dk_at dksX6_readsWish_4 8 rfl rfl)
theorem dX6_readsWish_105 : decode cX6_readsWish 105 = .ok (.iload_n 3, 1) := dk_29 (dk_at dksX6_readsWish_4 11 rfl rfl)
theorem dX6_readsWish_106 : decode cX6_readsWish 106 = .ok (.bipush 43, 2) := dk_16 43 (dk_at dksX6_readsWish_4 12 rfl rfl)
theorem dX6_readsWish_108 : decode cX6_readsWish 108 = .ok (.if_icmp .eq 9, 3) := dk_159 0 9 (dk_at dksX6_readsWish_4 14 rfl rfl)
theorem dX6_readsWish_111 : decode cX6_readsWish 111 = .ok (.iload_n 3, 1) := dk_29 (dk_at dksX6_readsWish_4 17 rfl rfl)
theorem dX6_readsWish_112 : decode cX6_readsWish 112 = .ok (.bipush 45, 2) := dk_16 45 (dk_at dksX6_readsWish_4 18 rfl rfl)
theorem dX6_readsWish_114 : decode cX6_readsWish 114 = .ok (.if_icmp .ne 54, 3) := dk_160 0 54 (dk_at dksX6_readsWish_4 20 rfl rfl)
theorem dX6_readsWish_117 : decode cX6_readsWish 117 = .ok (.aload_n 0, 1) := dk_42 (dk_at dksX6_readsWish_4 23 rfl rfl)
theorem dX6_readsWish_118 : decode cX6_readsWish 118 = .ok (.invokevirtual 250, 3) := dk_182 0 250 (dk_at dksX6_readsWish_5 0 rfl rfl)
theorem dX6_readsWish_121 : decode cX6_readsWish 121 = .ok (.ifCond .ne 13, 3) := dk_154 0 13 (dk_at dksX6_readsWish_5 3 rfl rfl)
theorem dX6_readsWish_124 : decode cX6_readsWish 124 = .ok (.aload_n 0, 1) := dk_42 (dk_at dksX6_readsWish_5 6 rfl rfl)
theorem dX6_readsWish_125 : decode cX6_readsWish 125 = .ok (.iconst 1, 1) := dk_4 (dk_at dksX6_readsWish_5 7 rfl rfl)
theorem dX6_readsWish_126 : decode cX6_readsWish 126 = .ok (.aload_n 0, 1) := dk_42 (dk_at dksX6_readsWish_5 8 rfl rfl)
theorem dX6_readsWish_127 : decode cX6_readsWish 127 = .ok (.getfield 142, 3) := dk_180 0 142 (dk_at dksX6_readsWish_5 9 rfl rfl)
theorem dX6_readsWish_130 : decode cX6_readsWish 130 = .ok (.invokevirtual 155, 3) := dk_182 0 155 (dk_at dksX6_readsWish_5 12 rfl rfl)
theorem dX6_readsWish_133 : decode cX6_readsWish 133 = .ok (.ireturn, 1) := dk_172 (dk_at dksX6_readsWish_5 15 rfl rfl)
theorem dX6_readsWish_134 : decode cX6_readsWish 134 = .ok (.aload_n 0, 1) := dk_42 (dk_at dksX6_readsWish_5 16 rfl rfl)
theorem dX6_readsWish_135 : decode cX6_readsWish 135 = .ok (.invokevirtual 148, 3) := dk_182 0 148 (dk_at dksX6_readsWish_5 17 rfl rfl)
theorem dX6_readsWish_138 : decode cX6_readsWish 138 = .ok (.bipush 97, 2) := dk_16 97 (dk_at dksX6_readsWish_5 20 rfl rfl)
theorem dX6_readsWish_140 : decode cX6_readsWish 140 = .ok (.isub, 1) := dk_100 (dk_at dksX6_readsWish_5 22 rfl rfl)
theorem dX6_readsWish_141 : decode cX6_readsWish 141 = .ok (.istore_n 2, 1) := dk_61 (dk_at dksX6_readsWish_5 23 rfl rfl)
theorem dX6_readsWish_142 : decode cX6_readsWish 142 = .ok (.iload_n 2, 1) := dk_28 (dk_at dksX6_readsWish_6 0 rfl rfl)
theorem dX6_readsWish_143 : decode cX6_readsWish 143 = .ok (.iload_n 1, 1) := dk_27 (dk_at dksX6_readsWish_6 1 rfl rfl)
theorem dX6_readsWish_144 : decode cX6_readsWish 144 = .ok (.if_icmp .ne 14, 3) := dk_160 0 14 (dk_at dksX6_readsWish_6 2 rfl rfl)
theorem dX6_readsWish_147 : decode cX6_readsWish 147 = .ok (.aload_n 0, 1) := dk_42 (dk_at dksX6_readsWish_6 5 rfl rfl)
theorem dX6_readsWish_148 : decode cX6_readsWish 148 = .ok (.bipush 6, 2) := dk_16 6 (dk_at dksX6_readsWish_6 6 rfl rfl)
theorem dX6_readsWish_150 : decode cX6_readsWish 150 = .ok (.aload_n 0, 1) := dk_42 (dk_at dksX6_readsWish_6 8 rfl rfl)
theorem dX6_readsWish_151 : decode cX6_readsWish 151 = .ok (.getfield 142, 3) := dk_180 0 142 (dk_at dksX6_readsWish_6 9 rfl rfl)
theorem dX6_readsWish_154 : decode cX6_readsWish 154 = .ok (.invokevirtual 155, 3) := dk_182 0 155 (dk_at dksX6_readsWish_6 12 rfl rfl)
theorem dX6_readsWish_157 : decode cX6_readsWish 157 = .ok (.ireturn, 1) := dk_172 (dk_at dksX6_readsWish_6 15 rfl rfl)
theorem dX6_readsWish_158 : decode cX6_readsWish 158 = .ok (.aload_n 0, 1) := dk_42 (dk_at dksX6_readsWish_6 16 rfl rfl)
theorem dX6_readsWish_159 : decode cX6_readsWish 159 = .ok (.aload_n 0, 1) := dk_42 (dk_at dksX6_readsWish_6 17 rfl rfl)
theorem dX6_readsWish_160 : decode cX6_readsWish 160 = .ok (.getfield 142, 3) := dk_180 0 142 (dk_at dksX6_readsWish_6 18 rfl rfl)
theorem dX6_readsWish_163 : decode cX6_readsWish 163 = .ok (.iconst 1, 1) := dk_4 (dk_at dksX6_readsWish_6 21 rfl rfl)
theorem dX6_readsWish_164 : decode cX6_readsWish 164 = .ok (.iadd, 1) := dk_96 (dk_at dksX6_readsWish_6 22 rfl rfl)
theorem dX6_readsWish_165 : decode cX6_readsWish 165 = .ok (.putfield 142, 3) := dk_181 0 142 (dk_at dksX6_readsWish_7 0 rfl rfl)
theorem dX6_readsWish_168 : decode cX6_readsWish 168 = .ok (.aload_n 0, 1) := dk_42 (dk_at dksX6_readsWish_7 3 rfl rfl)
theorem dX6_readsWish_169 : decode cX6_readsWish 169 = .ok (.getfield 71, 3) := dk_180 0 71 (dk_at dksX6_readsWish_7 4 rfl rfl)
theorem dX6_readsWish_172 : decode cX6_readsWish 172 = .ok (.aload_n 0, 1) := dk_42 (dk_at dksX6_readsWish_7 7 rfl rfl)
theorem dX6_readsWish_173 : decode cX6_readsWish 173 = .ok (.getfield 273, 3) := dk_180 1 17 (dk_at dksX6_readsWish_7 8 rfl rfl)
theorem dX6_readsWish_176 : decode cX6_readsWish 176 = .ok (.iload_n 1, 1) := dk_27 (dk_at dksX6_readsWish_7 11 rfl rfl)
theorem dX6_readsWish_177 : decode cX6_readsWish 177 = .ok (.iastore, 1) := dk_79 (dk_at dksX6_readsWish_7 12 rfl rfl)
theorem dX6_readsWish_178 : decode cX6_readsWish 178 = .ok (.aload_n 0, 1) := dk_42 (dk_at dksX6_readsWish_7 13 rfl rfl)
theorem dX6_readsWish_179 : decode cX6_readsWish 179 = .ok (.getfield 74, 3) := dk_180 0 74 (dk_at dksX6_readsWish_7 14 rfl rfl)
theorem dX6_readsWish_182 : decode cX6_readsWish 182 = .ok (.aload_n 0, 1) := dk_42 (dk_at dksX6_readsWish_7 17 rfl rfl)
theorem dX6_readsWish_183 : decode cX6_readsWish 183 = .ok (.getfield 273, 3) := dk_180 1 17 (dk_at dksX6_readsWish_7 18 rfl rfl)
theorem dX6_readsWish_186 : decode cX6_readsWish 186 = .ok (.iload_n 3, 1) := dk_29 (dk_at dksX6_readsWish_7 21 rfl rfl)
theorem dX6_readsWish_187 : decode cX6_readsWish 187 = .ok (.iastore, 1) := dk_79 (dk_at dksX6_readsWish_7 22 rfl rfl)
theorem dX6_readsWish_188 : decode cX6_readsWish 188 = .ok (.aload_n 0, 1) := dk_42 (dk_at dksX6_readsWish_7 23 rfl rfl)
theorem dX6_readsWish_189 : decode cX6_readsWish 189 = .ok (.getfield 77, 3) := dk_180 0 77 (dk_at dksX6_readsWish_8 0 rfl rfl)
theorem dX6_readsWish_192 : decode cX6_readsWish 192 = .ok (.aload_n 0, 1) := dk_42 (dk_at dksX6_readsWish_8 3 rfl rfl)
theorem dX6_readsWish_193 : decode cX6_readsWish 193 = .ok (.getfield 273, 3) := dk_180 1 17 (dk_at dksX6_readsWish_8 4 rfl rfl)
theorem dX6_readsWish_196 : decode cX6_readsWish 196 = .ok (.iload_n 2, 1) := dk_28 (dk_at dksX6_readsWish_8 7 rfl rfl)
theorem dX6_readsWish_197 : decode cX6_readsWish 197 = .ok (.iastore, 1) := dk_79 (dk_at dksX6_readsWish_8 8 rfl rfl)
theorem dX6_readsWish_198 : decode cX6_readsWish 198 = .ok (.aload_n 0, 1) := dk_42 (dk_at dksX6_readsWish_8 9 rfl rfl)
theorem dX6_readsWish_199 : decode cX6_readsWish 199 = .ok (.aload_n 0, 1) := dk_42 (dk_at dksX6_readsWish_8 10 rfl rfl)
theorem dX6_readsWish_200 : decode cX6_readsWish 200 = .ok (.getfield 273, 3) := dk_180 1 17 (dk_at dksX6_readsWish_8 11 rfl rfl)
theorem dX6_readsWish_203 : decode cX6_readsWish 203 = .ok (.iconst 1, 1) := dk_4 (dk_at dksX6_readsWish_8 14 rfl rfl)
theorem dX6_readsWish_204 : decode cX6_readsWish 204 = .ok (.iadd, 1) := dk_96 (dk_at dksX6_readsWish_8 15 rfl rfl)
theorem dX6_readsWish_205 : decode cX6_readsWish 205 = .ok (.putfield 273, 3) := dk_181 1 17 (dk_at dksX6_readsWish_8 16 rfl rfl)
theorem dX6_readsWish_208 : decode cX6_readsWish 208 = .ok (.iconst 1, 1) := dk_4 (dk_at dksX6_readsWish_8 19 rfl rfl)
theorem dX6_readsWish_209 : decode cX6_readsWish 209 = .ok (.ireturn, 1) := dk_172 (dk_at dksX6_readsWish_8 20 rfl rfl)
abbrev cX6_nights : ByteArray := prog_20_method_62_code
def yX6_nights : MethodName := ⟨RX6, "nights", "(I)I"⟩
def dkwX6_nights_0 : List UInt8 := [27, 4, 17, 0, 240, 184, 0, 104, 154, 0, 5, 2, 172, 42, 27, 182, 1, 60, 42, 180, 1, 44, 172]
abbrev dktX6_nights_0 : List UInt8 := dkwX6_nights_0 ++ []
theorem dksX6_nights_0 : cX6_nights.data.toList.drop 0 = dktX6_nights_0 := by decide +kernel
theorem dX6_nights_0 : decode cX6_nights 0 = .ok (.iload_n 1, 1) := dk_27 (dk_at dksX6_nights_0 0 rfl rfl)
theorem dX6_nights_1 : decode cX6_nights 1 = .ok (.iconst 1, 1) := dk_4 (dk_at dksX6_nights_0 1 rfl rfl)
theorem dX6_nights_2 : decode cX6_nights 2 = .ok (.sipush 240, 3) := dk_17 0 240 (dk_at dksX6_nights_0 2 rfl rfl)
theorem dX6_nights_5 : decode cX6_nights 5 = .ok (.invokestatic 104, 3) := dk_184 0 104 (dk_at dksX6_nights_0 5 rfl rfl)
theorem dX6_nights_8 : decode cX6_nights 8 = .ok (.ifCond .ne 5, 3) := dk_154 0 5 (dk_at dksX6_nights_0 8 rfl rfl)
theorem dX6_nights_11 : decode cX6_nights 11 = .ok (.iconst (-1), 1) := dk_2 (dk_at dksX6_nights_0 11 rfl rfl)
theorem dX6_nights_12 : decode cX6_nights 12 = .ok (.ireturn, 1) := dk_172 (dk_at dksX6_nights_0 12 rfl rfl)
theorem dX6_nights_13 : decode cX6_nights 13 = .ok (.aload_n 0, 1) := dk_42 (dk_at dksX6_nights_0 13 rfl rfl)
theorem dX6_nights_14 : decode cX6_nights 14 = .ok (.iload_n 1, 1) := dk_27 (dk_at dksX6_nights_0 14 rfl rfl)
theorem dX6_nights_15 : decode cX6_nights 15 = .ok (.invokevirtual 316, 3) := dk_182 1 60 (dk_at dksX6_nights_0 15 rfl rfl)
theorem dX6_nights_18 : decode cX6_nights 18 = .ok (.aload_n 0, 1) := dk_42 (dk_at dksX6_nights_0 18 rfl rfl)
theorem dX6_nights_19 : decode cX6_nights 19 = .ok (.getfield 300, 3) := dk_180 1 44 (dk_at dksX6_nights_0 19 rfl rfl)
theorem dX6_nights_22 : decode cX6_nights 22 = .ok (.ireturn, 1) := dk_172 (dk_at dksX6_nights_0 22 rfl rfl)
abbrev cX6_nightsGo : ByteArray := prog_20_method_61_code
def yX6_nightsGo : MethodName := ⟨RX6, "nightsGo", "(I)V"⟩
def dkwX6_nightsGo_3 : List UInt8 := [180, 0, 7, 16, 64, 42, 180, 0, 7, 16, 64, 46, 4, 96, 79, 132, 2, 1, 167, 255, 180, 177]
abbrev dktX6_nightsGo_3 : List UInt8 := dkwX6_nightsGo_3 ++ []
def dkwX6_nightsGo_2 : List UInt8 := [180, 0, 7, 16, 32, 29, 96, 46, 158, 0, 8, 42, 29, 182, 1, 57, 132, 3, 1, 167, 255, 222, 42]
abbrev dktX6_nightsGo_2 : List UInt8 := dkwX6_nightsGo_2 ++ dktX6_nightsGo_3
def dkwX6_nightsGo_1 : List UInt8 := [17, 39, 15, 162, 0, 64, 3, 62, 29, 16, 16, 162, 0, 34, 42, 29, 182, 0, 112, 153, 0, 20, 42]
abbrev dktX6_nightsGo_1 : List UInt8 := dkwX6_nightsGo_1 ++ dktX6_nightsGo_2
def dkwX6_nightsGo_0 : List UInt8 := [42, 3, 181, 1, 44, 42, 3, 181, 1, 35, 3, 61, 28, 27, 162, 0, 77, 42, 180, 0, 7, 16, 64, 46]
abbrev dktX6_nightsGo_0 : List UInt8 := dkwX6_nightsGo_0 ++ dktX6_nightsGo_1
theorem dksX6_nightsGo_0 : cX6_nightsGo.data.toList.drop 0 = dktX6_nightsGo_0 := by decide +kernel
theorem dksX6_nightsGo_1 : cX6_nightsGo.data.toList.drop 24 = dktX6_nightsGo_1 := dk_seg dksX6_nightsGo_0 24 rfl rfl
theorem dksX6_nightsGo_2 : cX6_nightsGo.data.toList.drop 47 = dktX6_nightsGo_2 := dk_seg dksX6_nightsGo_1 23 rfl rfl
theorem dksX6_nightsGo_3 : cX6_nightsGo.data.toList.drop 70 = dktX6_nightsGo_3 := dk_seg dksX6_nightsGo_2 23 rfl rfl
theorem dX6_nightsGo_0 : decode cX6_nightsGo 0 = .ok (.aload_n 0, 1) := dk_42 (dk_at dksX6_nightsGo_0 0 rfl rfl)
theorem dX6_nightsGo_1 : decode cX6_nightsGo 1 = .ok (.iconst 0, 1) := dk_3 (dk_at dksX6_nightsGo_0 1 rfl rfl)
theorem dX6_nightsGo_2 : decode cX6_nightsGo 2 = .ok (.putfield 300, 3) := dk_181 1 44 (dk_at dksX6_nightsGo_0 2 rfl rfl)
theorem dX6_nightsGo_5 : decode cX6_nightsGo 5 = .ok (.aload_n 0, 1) := dk_42 (dk_at dksX6_nightsGo_0 5 rfl rfl)
theorem dX6_nightsGo_6 : decode cX6_nightsGo 6 = .ok (.iconst 0, 1) := dk_3 (dk_at dksX6_nightsGo_0 6 rfl rfl)
theorem dX6_nightsGo_7 : decode cX6_nightsGo 7 = .ok (.putfield 291, 3) := dk_181 1 35 (dk_at dksX6_nightsGo_0 7 rfl rfl)
theorem dX6_nightsGo_10 : decode cX6_nightsGo 10 = .ok (.iconst 0, 1) := dk_3 (dk_at dksX6_nightsGo_0 10 rfl rfl)
theorem dX6_nightsGo_11 : decode cX6_nightsGo 11 = .ok (.istore_n 2, 1) := dk_61 (dk_at dksX6_nightsGo_0 11 rfl rfl)
theorem dX6_nightsGo_12 : decode cX6_nightsGo 12 = .ok (.iload_n 2, 1) := dk_28 (dk_at dksX6_nightsGo_0 12 rfl rfl)
theorem dX6_nightsGo_13 : decode cX6_nightsGo 13 = .ok (.iload_n 1, 1) := dk_27 (dk_at dksX6_nightsGo_0 13 rfl rfl)
theorem dX6_nightsGo_14 : decode cX6_nightsGo 14 = .ok (.if_icmp .ge 77, 3) := dk_162 0 77 (dk_at dksX6_nightsGo_0 14 rfl rfl)
theorem dX6_nightsGo_17 : decode cX6_nightsGo 17 = .ok (.aload_n 0, 1) := dk_42 (dk_at dksX6_nightsGo_0 17 rfl rfl)
theorem dX6_nightsGo_18 : decode cX6_nightsGo 18 = .ok (.getfield 7, 3) := dk_180 0 7 (dk_at dksX6_nightsGo_0 18 rfl rfl)
theorem dX6_nightsGo_21 : decode cX6_nightsGo 21 = .ok (.bipush 64, 2) := dk_16 64 (dk_at dksX6_nightsGo_0 21 rfl rfl)
theorem dX6_nightsGo_23 : decode cX6_nightsGo 23 = .ok (.iaload, 1) := dk_46 (dk_at dksX6_nightsGo_0 23 rfl rfl)
theorem dX6_nightsGo_24 : decode cX6_nightsGo 24 = .ok (.sipush 9999, 3) := dk_17 39 15 (dk_at dksX6_nightsGo_1 0 rfl rfl)
theorem dX6_nightsGo_27 : decode cX6_nightsGo 27 = .ok (.if_icmp .ge 64, 3) := dk_162 0 64 (dk_at dksX6_nightsGo_1 3 rfl rfl)
theorem dX6_nightsGo_30 : decode cX6_nightsGo 30 = .ok (.iconst 0, 1) := dk_3 (dk_at dksX6_nightsGo_1 6 rfl rfl)
theorem dX6_nightsGo_31 : decode cX6_nightsGo 31 = .ok (.istore_n 3, 1) := dk_62 (dk_at dksX6_nightsGo_1 7 rfl rfl)
theorem dX6_nightsGo_32 : decode cX6_nightsGo 32 = .ok (.iload_n 3, 1) := dk_29 (dk_at dksX6_nightsGo_1 8 rfl rfl)
theorem dX6_nightsGo_33 : decode cX6_nightsGo 33 = .ok (.bipush 16, 2) := dk_16 16 (dk_at dksX6_nightsGo_1 9 rfl rfl)
theorem dX6_nightsGo_35 : decode cX6_nightsGo 35 = .ok (.if_icmp .ge 34, 3) := dk_162 0 34 (dk_at dksX6_nightsGo_1 11 rfl rfl)
theorem dX6_nightsGo_38 : decode cX6_nightsGo 38 = .ok (.aload_n 0, 1) := dk_42 (dk_at dksX6_nightsGo_1 14 rfl rfl)
theorem dX6_nightsGo_39 : decode cX6_nightsGo 39 = .ok (.iload_n 3, 1) := dk_29 (dk_at dksX6_nightsGo_1 15 rfl rfl)
theorem dX6_nightsGo_40 : decode cX6_nightsGo 40 = .ok (.invokevirtual 112, 3) := dk_182 0 112 (dk_at dksX6_nightsGo_1 16 rfl rfl)
theorem dX6_nightsGo_43 : decode cX6_nightsGo 43 = .ok (.ifCond .eq 20, 3) := dk_153 0 20 (dk_at dksX6_nightsGo_1 19 rfl rfl)
theorem dX6_nightsGo_46 : decode cX6_nightsGo 46 = .ok (.aload_n 0, 1) := dk_42 (dk_at dksX6_nightsGo_1 22 rfl rfl)
theorem dX6_nightsGo_47 : decode cX6_nightsGo 47 = .ok (.getfield 7, 3) := dk_180 0 7 (dk_at dksX6_nightsGo_2 0 rfl rfl)
theorem dX6_nightsGo_50 : decode cX6_nightsGo 50 = .ok (.bipush 32, 2) := dk_16 32 (dk_at dksX6_nightsGo_2 3 rfl rfl)
theorem dX6_nightsGo_52 : decode cX6_nightsGo 52 = .ok (.iload_n 3, 1) := dk_29 (dk_at dksX6_nightsGo_2 5 rfl rfl)
theorem dX6_nightsGo_53 : decode cX6_nightsGo 53 = .ok (.iadd, 1) := dk_96 (dk_at dksX6_nightsGo_2 6 rfl rfl)
theorem dX6_nightsGo_54 : decode cX6_nightsGo 54 = .ok (.iaload, 1) := dk_46 (dk_at dksX6_nightsGo_2 7 rfl rfl)
theorem dX6_nightsGo_55 : decode cX6_nightsGo 55 = .ok (.ifCond .le 8, 3) := dk_158 0 8 (dk_at dksX6_nightsGo_2 8 rfl rfl)
theorem dX6_nightsGo_58 : decode cX6_nightsGo 58 = .ok (.aload_n 0, 1) := dk_42 (dk_at dksX6_nightsGo_2 11 rfl rfl)
theorem dX6_nightsGo_59 : decode cX6_nightsGo 59 = .ok (.iload_n 3, 1) := dk_29 (dk_at dksX6_nightsGo_2 12 rfl rfl)
theorem dX6_nightsGo_60 : decode cX6_nightsGo 60 = .ok (.invokevirtual 313, 3) := dk_182 1 57 (dk_at dksX6_nightsGo_2 13 rfl rfl)
theorem dX6_nightsGo_63 : decode cX6_nightsGo 63 = .ok (.iinc 3 1, 3) := dk_132 3 1 (dk_at dksX6_nightsGo_2 16 rfl rfl)
theorem dX6_nightsGo_66 : decode cX6_nightsGo 66 = .ok (.goto (-34), 3) := dk_167 255 222 (dk_at dksX6_nightsGo_2 19 rfl rfl)
theorem dX6_nightsGo_69 : decode cX6_nightsGo 69 = .ok (.aload_n 0, 1) := dk_42 (dk_at dksX6_nightsGo_2 22 rfl rfl)
theorem dX6_nightsGo_70 : decode cX6_nightsGo 70 = .ok (.getfield 7, 3) := dk_180 0 7 (dk_at dksX6_nightsGo_3 0 rfl rfl)
theorem dX6_nightsGo_73 : decode cX6_nightsGo 73 = .ok (.bipush 64, 2) := dk_16 64 (dk_at dksX6_nightsGo_3 3 rfl rfl)
theorem dX6_nightsGo_75 : decode cX6_nightsGo 75 = .ok (.aload_n 0, 1) := dk_42 (dk_at dksX6_nightsGo_3 5 rfl rfl)
theorem dX6_nightsGo_76 : decode cX6_nightsGo 76 = .ok (.getfield 7, 3) := dk_180 0 7 (dk_at dksX6_nightsGo_3 6 rfl rfl)
theorem dX6_nightsGo_79 : decode cX6_nightsGo 79 = .ok (.bipush 64, 2) := dk_16 64 (dk_at dksX6_nightsGo_3 9 rfl rfl)
theorem dX6_nightsGo_81 : decode cX6_nightsGo 81 = .ok (.iaload, 1) := dk_46 (dk_at dksX6_nightsGo_3 11 rfl rfl)
theorem dX6_nightsGo_82 : decode cX6_nightsGo 82 = .ok (.iconst 1, 1) := dk_4 (dk_at dksX6_nightsGo_3 12 rfl rfl)
theorem dX6_nightsGo_83 : decode cX6_nightsGo 83 = .ok (.iadd, 1) := dk_96 (dk_at dksX6_nightsGo_3 13 rfl rfl)
theorem dX6_nightsGo_84 : decode cX6_nightsGo 84 = .ok (.iastore, 1) := dk_79 (dk_at dksX6_nightsGo_3 14 rfl rfl)
theorem dX6_nightsGo_85 : decode cX6_nightsGo 85 = .ok (.iinc 2 1, 3) := dk_132 2 1 (dk_at dksX6_nightsGo_3 15 rfl rfl)
theorem dX6_nightsGo_88 : decode cX6_nightsGo 88 = .ok (.goto (-76), 3) := dk_167 255 180 (dk_at dksX6_nightsGo_3 18 rfl rfl)
theorem dX6_nightsGo_91 : decode cX6_nightsGo 91 = .ok (.return_, 1) := dk_177 (dk_at dksX6_nightsGo_3 21 rfl rfl)
abbrev cX6_turnOf : ByteArray := prog_20_method_60_code
def yX6_turnOf : MethodName := ⟨RX6, "turnOf", "(I)V"⟩
def dkwX6_turnOf_6 : List UInt8 := [100, 184, 1, 51, 184, 1, 54, 79, 177]
abbrev dktX6_turnOf_6 : List UInt8 := dkwX6_turnOf_6 ++ []
def dkwX6_turnOf_5 : List UInt8 := [180, 0, 7, 16, 32, 27, 96, 3, 16, 99, 42, 180, 0, 7, 16, 32, 27, 96, 46, 21, 4, 96, 21, 5]
abbrev dktX6_turnOf_5 : List UInt8 := dkwX6_turnOf_5 ++ dktX6_turnOf_6
def dkwX6_turnOf_4 : List UInt8 := [112, 79, 42, 180, 0, 7, 16, 65, 46, 16, 10, 112, 29, 162, 0, 9, 42, 27, 28, 182, 1, 48, 42]
abbrev dktX6_turnOf_4 : List UInt8 := dkwX6_turnOf_4 ++ dktX6_turnOf_5
def dkwX6_turnOf_3 : List UInt8 := [42, 180, 0, 7, 16, 65, 17, 98, 85, 42, 180, 0, 7, 16, 65, 46, 104, 17, 54, 25, 96, 19, 1, 47]
abbrev dktX6_turnOf_3 : List UInt8 := dkwX6_turnOf_3 ++ dktX6_turnOf_4
def dkwX6_turnOf_2 : List UInt8 := [16, 98, 16, 99, 182, 1, 29, 54, 5, 28, 2, 159, 0, 59, 42, 42, 180, 1, 44, 4, 96, 181, 1, 44]
abbrev dktX6_turnOf_2 : List UInt8 := dkwX6_turnOf_2 ++ dktX6_turnOf_3
def dkwX6_turnOf_1 : List UInt8 := [28, 182, 1, 26, 42, 16, 104, 16, 10, 182, 1, 29, 62, 42, 16, 103, 16, 99, 182, 1, 29, 54, 4, 42]
abbrev dktX6_turnOf_1 : List UInt8 := dkwX6_turnOf_1 ++ dktX6_turnOf_2
def dkwX6_turnOf_0 : List UInt8 := [42, 27, 2, 182, 1, 26, 42, 16, 113, 182, 1, 38, 153, 0, 4, 177, 42, 27, 182, 1, 41, 61, 42, 27]
abbrev dktX6_turnOf_0 : List UInt8 := dkwX6_turnOf_0 ++ dktX6_turnOf_1
theorem dksX6_turnOf_0 : cX6_turnOf.data.toList.drop 0 = dktX6_turnOf_0 := by decide +kernel
theorem dksX6_turnOf_1 : cX6_turnOf.data.toList.drop 24 = dktX6_turnOf_1 := dk_seg dksX6_turnOf_0 24 rfl rfl
theorem dksX6_turnOf_2 : cX6_turnOf.data.toList.drop 48 = dktX6_turnOf_2 := dk_seg dksX6_turnOf_1 24 rfl rfl
theorem dksX6_turnOf_3 : cX6_turnOf.data.toList.drop 72 = dktX6_turnOf_3 := dk_seg dksX6_turnOf_2 24 rfl rfl
theorem dksX6_turnOf_4 : cX6_turnOf.data.toList.drop 96 = dktX6_turnOf_4 := dk_seg dksX6_turnOf_3 24 rfl rfl
theorem dksX6_turnOf_5 : cX6_turnOf.data.toList.drop 119 = dktX6_turnOf_5 := dk_seg dksX6_turnOf_4 23 rfl rfl
theorem dksX6_turnOf_6 : cX6_turnOf.data.toList.drop 143 = dktX6_turnOf_6 := dk_seg dksX6_turnOf_5 24 rfl rfl
theorem dX6_turnOf_0 : decode cX6_turnOf 0 = .ok (.aload_n 0, 1) := dk_42 (dk_at dksX6_turnOf_0 0 rfl rfl)
theorem dX6_turnOf_1 : decode cX6_turnOf 1 = .ok (.iload_n 1, 1) := dk_27 (dk_at dksX6_turnOf_0 1 rfl rfl)
theorem dX6_turnOf_2 : decode cX6_turnOf 2 = .ok (.iconst (-1), 1) := dk_2 (dk_at dksX6_turnOf_0 2 rfl rfl)
theorem dX6_turnOf_3 : decode cX6_turnOf 3 = .ok (.invokevirtual 282, 3) := dk_182 1 26 (dk_at dksX6_turnOf_0 3 rfl rfl)
theorem dX6_turnOf_6 : decode cX6_turnOf 6 = .ok (.aload_n 0, 1) := dk_42 (dk_at dksX6_turnOf_0 6 rfl rfl)
theorem dX6_turnOf_7 : decode cX6_turnOf 7 = .ok (.bipush 113, 2) := dk_16 113 (dk_at dksX6_turnOf_0 7 rfl rfl)
theorem dX6_turnOf_9 : decode cX6_turnOf 9 = .ok (.invokevirtual 294, 3) := dk_182 1 38 (dk_at dksX6_turnOf_0 9 rfl rfl)
theorem dX6_turnOf_12 : decode cX6_turnOf 12 = .ok (.ifCond .eq 4, 3) := dk_153 0 4 (dk_at dksX6_turnOf_0 12 rfl rfl)
theorem dX6_turnOf_15 : decode cX6_turnOf 15 = .ok (.return_, 1) := dk_177 (dk_at dksX6_turnOf_0 15 rfl rfl)
theorem dX6_turnOf_16 : decode cX6_turnOf 16 = .ok (.aload_n 0, 1) := dk_42 (dk_at dksX6_turnOf_0 16 rfl rfl)
theorem dX6_turnOf_17 : decode cX6_turnOf 17 = .ok (.iload_n 1, 1) := dk_27 (dk_at dksX6_turnOf_0 17 rfl rfl)
theorem dX6_turnOf_18 : decode cX6_turnOf 18 = .ok (.invokevirtual 297, 3) := dk_182 1 41 (dk_at dksX6_turnOf_0 18 rfl rfl)
theorem dX6_turnOf_21 : decode cX6_turnOf 21 = .ok (.istore_n 2, 1) := dk_61 (dk_at dksX6_turnOf_0 21 rfl rfl)
theorem dX6_turnOf_22 : decode cX6_turnOf 22 = .ok (.aload_n 0, 1) := dk_42 (dk_at dksX6_turnOf_0 22 rfl rfl)
theorem dX6_turnOf_23 : decode cX6_turnOf 23 = .ok (.iload_n 1, 1) := dk_27 (dk_at dksX6_turnOf_0 23 rfl rfl)
theorem dX6_turnOf_24 : decode cX6_turnOf 24 = .ok (.iload_n 2, 1) := dk_28 (dk_at dksX6_turnOf_1 0 rfl rfl)
theorem dX6_turnOf_25 : decode cX6_turnOf 25 = .ok (.invokevirtual 282, 3) := dk_182 1 26 (dk_at dksX6_turnOf_1 1 rfl rfl)
theorem dX6_turnOf_28 : decode cX6_turnOf 28 = .ok (.aload_n 0, 1) := dk_42 (dk_at dksX6_turnOf_1 4 rfl rfl)
theorem dX6_turnOf_29 : decode cX6_turnOf 29 = .ok (.bipush 104, 2) := dk_16 104 (dk_at dksX6_turnOf_1 5 rfl rfl)
theorem dX6_turnOf_31 : decode cX6_turnOf 31 = .ok (.bipush 10, 2) := dk_16 10 (dk_at dksX6_turnOf_1 7 rfl rfl)
theorem dX6_turnOf_33 : decode cX6_turnOf 33 = .ok (.invokevirtual 285, 3) := dk_182 1 29 (dk_at dksX6_turnOf_1 9 rfl rfl)
theorem dX6_turnOf_36 : decode cX6_turnOf 36 = .ok (.istore_n 3, 1) := dk_62 (dk_at dksX6_turnOf_1 12 rfl rfl)
theorem dX6_turnOf_37 : decode cX6_turnOf 37 = .ok (.aload_n 0, 1) := dk_42 (dk_at dksX6_turnOf_1 13 rfl rfl)
theorem dX6_turnOf_38 : decode cX6_turnOf 38 = .ok (.bipush 103, 2) := dk_16 103 (dk_at dksX6_turnOf_1 14 rfl rfl)
theorem dX6_turnOf_40 : decode cX6_turnOf 40 = .ok (.bipush 99, 2) := dk_16 99 (dk_at dksX6_turnOf_1 16 rfl rfl)
theorem dX6_turnOf_42 : decode cX6_turnOf 42 = .ok (.invokevirtual 285, 3) := dk_182 1 29 (dk_at dksX6_turnOf_1 18 rfl rfl)
theorem dX6_turnOf_45 : decode cX6_turnOf 45 = .ok (.istore 4, 2) := dk_54 4 (dk_at dksX6_turnOf_1 21 rfl rfl)
theorem dX6_turnOf_47 : decode cX6_turnOf 47 = .ok (.aload_n 0, 1) := dk_42 (dk_at dksX6_turnOf_1 23 rfl rfl)
theorem dX6_turnOf_48 : decode cX6_turnOf 48 = .ok (.bipush 98, 2) := dk_16 98 (dk_at dksX6_turnOf_2 0 rfl rfl)
theorem dX6_turnOf_50 : decode cX6_turnOf 50 = .ok (.bipush 99, 2) := dk_16 99 (dk_at dksX6_turnOf_2 2 rfl rfl)
theorem dX6_turnOf_52 : decode cX6_turnOf 52 = .ok (.invokevirtual 285, 3) := dk_182 1 29 (dk_at dksX6_turnOf_2 4 rfl rfl)
theorem dX6_turnOf_55 : decode cX6_turnOf 55 = .ok (.istore 5, 2) := dk_54 5 (dk_at dksX6_turnOf_2 7 rfl rfl)
theorem dX6_turnOf_57 : decode cX6_turnOf 57 = .ok (.iload_n 2, 1) := dk_28 (dk_at dksX6_turnOf_2 9 rfl rfl)
theorem dX6_turnOf_58 : decode cX6_turnOf 58 = .ok (.iconst (-1), 1) := dk_2 (dk_at dksX6_turnOf_2 10 rfl rfl)
theorem dX6_turnOf_59 : decode cX6_turnOf 59 = .ok (.if_icmp .eq 59, 3) := dk_159 0 59 (dk_at dksX6_turnOf_2 11 rfl rfl)
theorem dX6_turnOf_62 : decode cX6_turnOf 62 = .ok (.aload_n 0, 1) := dk_42 (dk_at dksX6_turnOf_2 14 rfl rfl)
theorem dX6_turnOf_63 : decode cX6_turnOf 63 = .ok (.aload_n 0, 1) := dk_42 (dk_at dksX6_turnOf_2 15 rfl rfl)
theorem dX6_turnOf_64 : decode cX6_turnOf 64 = .ok (.getfield 300, 3) := dk_180 1 44 (dk_at dksX6_turnOf_2 16 rfl rfl)
theorem dX6_turnOf_67 : decode cX6_turnOf 67 = .ok (.iconst 1, 1) := dk_4 (dk_at dksX6_turnOf_2 19 rfl rfl)
theorem dX6_turnOf_68 : decode cX6_turnOf 68 = .ok (.iadd, 1) := dk_96 (dk_at dksX6_turnOf_2 20 rfl rfl)
theorem dX6_turnOf_69 : decode cX6_turnOf 69 = .ok (.putfield 300, 3) := dk_181 1 44 (dk_at dksX6_turnOf_2 21 rfl rfl)
theorem dX6_turnOf_72 : decode cX6_turnOf 72 = .ok (.aload_n 0, 1) := dk_42 (dk_at dksX6_turnOf_3 0 rfl rfl)
theorem dX6_turnOf_73 : decode cX6_turnOf 73 = .ok (.getfield 7, 3) := dk_180 0 7 (dk_at dksX6_turnOf_3 1 rfl rfl)
theorem dX6_turnOf_76 : decode cX6_turnOf 76 = .ok (.bipush 65, 2) := dk_16 65 (dk_at dksX6_turnOf_3 4 rfl rfl)
theorem dX6_turnOf_78 : decode cX6_turnOf 78 = .ok (.sipush 25173, 3) := dk_17 98 85 (dk_at dksX6_turnOf_3 6 rfl rfl)
theorem dX6_turnOf_81 : decode cX6_turnOf 81 = .ok (.aload_n 0, 1) := dk_42 (dk_at dksX6_turnOf_3 9 rfl rfl)
theorem dX6_turnOf_82 : decode cX6_turnOf 82 = .ok (.getfield 7, 3) := dk_180 0 7 (dk_at dksX6_turnOf_3 10 rfl rfl)
theorem dX6_turnOf_85 : decode cX6_turnOf 85 = .ok (.bipush 65, 2) := dk_16 65 (dk_at dksX6_turnOf_3 13 rfl rfl)
theorem dX6_turnOf_87 : decode cX6_turnOf 87 = .ok (.iaload, 1) := dk_46 (dk_at dksX6_turnOf_3 15 rfl rfl)
theorem dX6_turnOf_88 : decode cX6_turnOf 88 = .ok (.imul, 1) := dk_104 (dk_at dksX6_turnOf_3 16 rfl rfl)
theorem dX6_turnOf_89 : decode cX6_turnOf 89 = .ok (.sipush 13849, 3) := dk_17 54 25 (dk_at dksX6_turnOf_3 17 rfl rfl)
theorem dX6_turnOf_92 : decode cX6_turnOf 92 = .ok (.iadd, 1) := dk_96 (dk_at dksX6_turnOf_3 20 rfl rfl)
theorem dX6_turnOf_93 : decode cX6_turnOf 93 = .ok (.ldc_w 303, 3) := dk_19 1 47 (dk_at dksX6_turnOf_3 21 rfl rfl)
theorem dX6_turnOf_96 : decode cX6_turnOf 96 = .ok (.irem, 1) := dk_112 (dk_at dksX6_turnOf_4 0 rfl rfl)
theorem dX6_turnOf_97 : decode cX6_turnOf 97 = .ok (.iastore, 1) := dk_79 (dk_at dksX6_turnOf_4 1 rfl rfl)
theorem dX6_turnOf_98 : decode cX6_turnOf 98 = .ok (.aload_n 0, 1) := dk_42 (dk_at dksX6_turnOf_4 2 rfl rfl)
theorem dX6_turnOf_99 : decode cX6_turnOf 99 = .ok (.getfield 7, 3) := dk_180 0 7 (dk_at dksX6_turnOf_4 3 rfl rfl)
theorem dX6_turnOf_102 : decode cX6_turnOf 102 = .ok (.bipush 65, 2) := dk_16 65 (dk_at dksX6_turnOf_4 6 rfl rfl)
theorem dX6_turnOf_104 : decode cX6_turnOf 104 = .ok (.iaload, 1) := dk_46 (dk_at dksX6_turnOf_4 8 rfl rfl)
theorem dX6_turnOf_105 : decode cX6_turnOf 105 = .ok (.bipush 10, 2) := dk_16 10 (dk_at dksX6_turnOf_4 9 rfl rfl)
theorem dX6_turnOf_107 : decode cX6_turnOf 107 = .ok (.irem, 1) := dk_112 (dk_at dksX6_turnOf_4 11 rfl rfl)
theorem dX6_turnOf_108 : decode cX6_turnOf 108 = .ok (.iload_n 3, 1) := dk_29 (dk_at dksX6_turnOf_4 12 rfl rfl)
theorem dX6_turnOf_109 : decode cX6_turnOf 109 = .ok (.if_icmp .ge 9, 3) := dk_162 0 9 (dk_at dksX6_turnOf_4 13 rfl rfl)
theorem dX6_turnOf_112 : decode cX6_turnOf 112 = .ok (.aload_n 0, 1) := dk_42 (dk_at dksX6_turnOf_4 16 rfl rfl)
theorem dX6_turnOf_113 : decode cX6_turnOf 113 = .ok (.iload_n 1, 1) := dk_27 (dk_at dksX6_turnOf_4 17 rfl rfl)
theorem dX6_turnOf_114 : decode cX6_turnOf 114 = .ok (.iload_n 2, 1) := dk_28 (dk_at dksX6_turnOf_4 18 rfl rfl)
theorem dX6_turnOf_115 : decode cX6_turnOf 115 = .ok (.invokevirtual 304, 3) := dk_182 1 48 (dk_at dksX6_turnOf_4 19 rfl rfl)
theorem dX6_turnOf_118 : decode cX6_turnOf 118 = .ok (.aload_n 0, 1) := dk_42 (dk_at dksX6_turnOf_4 22 rfl rfl)
theorem dX6_turnOf_119 : decode cX6_turnOf 119 = .ok (.getfield 7, 3) := dk_180 0 7 (dk_at dksX6_turnOf_5 0 rfl rfl)
theorem dX6_turnOf_122 : decode cX6_turnOf 122 = .ok (.bipush 32, 2) := dk_16 32 (dk_at dksX6_turnOf_5 3 rfl rfl)
theorem dX6_turnOf_124 : decode cX6_turnOf 124 = .ok (.iload_n 1, 1) := dk_27 (dk_at dksX6_turnOf_5 5 rfl rfl)
theorem dX6_turnOf_125 : decode cX6_turnOf 125 = .ok (.iadd, 1) := dk_96 (dk_at dksX6_turnOf_5 6 rfl rfl)
theorem dX6_turnOf_126 : decode cX6_turnOf 126 = .ok (.iconst 0, 1) := dk_3 (dk_at dksX6_turnOf_5 7 rfl rfl)
theorem dX6_turnOf_127 : decode cX6_turnOf 127 = .ok (.bipush 99, 2) := dk_16 99 (dk_at dksX6_turnOf_5 8 rfl rfl)
theorem dX6_turnOf_129 : decode cX6_turnOf 129 = .ok (.aload_n 0, 1) := dk_42 (dk_at dksX6_turnOf_5 10 rfl rfl)
theorem dX6_turnOf_130 : decode cX6_turnOf 130 = .ok (.getfield 7, 3) := dk_180 0 7 (dk_at dksX6_turnOf_5 11 rfl rfl)
theorem dX6_turnOf_133 : decode cX6_turnOf 133 = .ok (.bipush 32, 2) := dk_16 32 (dk_at dksX6_turnOf_5 14 rfl rfl)
theorem dX6_turnOf_135 : decode cX6_turnOf 135 = .ok (.iload_n 1, 1) := dk_27 (dk_at dksX6_turnOf_5 16 rfl rfl)
theorem dX6_turnOf_136 : decode cX6_turnOf 136 = .ok (.iadd, 1) := dk_96 (dk_at dksX6_turnOf_5 17 rfl rfl)
theorem dX6_turnOf_137 : decode cX6_turnOf 137 = .ok (.iaload, 1) := dk_46 (dk_at dksX6_turnOf_5 18 rfl rfl)
theorem dX6_turnOf_138 : decode cX6_turnOf 138 = .ok (.iload 4, 2) := dk_21 4 (dk_at dksX6_turnOf_5 19 rfl rfl)
theorem dX6_turnOf_140 : decode cX6_turnOf 140 = .ok (.iadd, 1) := dk_96 (dk_at dksX6_turnOf_5 21 rfl rfl)
theorem dX6_turnOf_141 : decode cX6_turnOf 141 = .ok (.iload 5, 2) := dk_21 5 (dk_at dksX6_turnOf_5 22 rfl rfl)
theorem dX6_turnOf_143 : decode cX6_turnOf 143 = .ok (.isub, 1) := dk_100 (dk_at dksX6_turnOf_6 0 rfl rfl)
theorem dX6_turnOf_144 : decode cX6_turnOf 144 = .ok (.invokestatic 307, 3) := dk_184 1 51 (dk_at dksX6_turnOf_6 1 rfl rfl)
theorem dX6_turnOf_147 : decode cX6_turnOf 147 = .ok (.invokestatic 310, 3) := dk_184 1 54 (dk_at dksX6_turnOf_6 4 rfl rfl)
theorem dX6_turnOf_150 : decode cX6_turnOf 150 = .ok (.iastore, 1) := dk_79 (dk_at dksX6_turnOf_6 7 rfl rfl)
theorem dX6_turnOf_151 : decode cX6_turnOf 151 = .ok (.return_, 1) := dk_177 (dk_at dksX6_turnOf_6 8 rfl rfl)
abbrev cX6_feels : ByteArray := prog_20_method_49_code
def yX6_feels : MethodName := ⟨RX6, "feels", "(II)V"⟩
def dkwX6_feels_6 : List UInt8 := [79, 42, 180, 0, 59, 16, 7, 42, 180, 0, 7, 16, 64, 46, 16, 100, 112, 79, 177]
abbrev dktX6_feels_6 : List UInt8 := dkwX6_feels_6 ++ []
def dkwX6_feels_5 : List UInt8 := [16, 32, 28, 96, 46, 167, 0, 4, 3, 79, 42, 180, 0, 59, 16, 6, 42, 27, 182, 0, 244, 184, 0, 126]
abbrev dktX6_feels_5 : List UInt8 := dkwX6_feels_5 ++ dktX6_feels_6
def dkwX6_feels_4 : List UInt8 := [42, 180, 0, 7, 16, 32, 27, 96, 46, 79, 42, 180, 0, 59, 8, 29, 153, 0, 15, 42, 180, 0, 7]
abbrev dktX6_feels_4 : List UInt8 := dkwX6_feels_4 ++ dktX6_feels_5
def dkwX6_feels_3 : List UInt8 := [180, 0, 7, 16, 16, 27, 96, 46, 2, 130, 126, 184, 0, 126, 167, 0, 4, 3, 79, 42, 180, 0, 59, 7]
abbrev dktX6_feels_3 : List UInt8 := dkwX6_feels_3 ++ dktX6_feels_4
def dkwX6_feels_2 : List UInt8 := [167, 0, 4, 3, 79, 42, 180, 0, 59, 6, 29, 153, 0, 30, 42, 180, 0, 7, 16, 16, 28, 96, 46, 42]
abbrev dktX6_feels_2 : List UInt8 := dkwX6_feels_2 ++ dktX6_feels_3
def dkwX6_feels_1 : List UInt8 := [153, 0, 7, 28, 167, 0, 4, 3, 79, 42, 180, 0, 59, 5, 29, 153, 0, 12, 42, 27, 28, 182, 0, 129]
abbrev dktX6_feels_1 : List UInt8 := dkwX6_feels_1 ++ dktX6_feels_2
def dkwX6_feels_0 : List UInt8 := [28, 2, 159, 0, 7, 4, 167, 0, 4, 3, 62, 42, 180, 0, 59, 3, 27, 79, 42, 180, 0, 59, 4, 29]
abbrev dktX6_feels_0 : List UInt8 := dkwX6_feels_0 ++ dktX6_feels_1
theorem dksX6_feels_0 : cX6_feels.data.toList.drop 0 = dktX6_feels_0 := by decide +kernel
theorem dksX6_feels_1 : cX6_feels.data.toList.drop 24 = dktX6_feels_1 := dk_seg dksX6_feels_0 24 rfl rfl
theorem dksX6_feels_2 : cX6_feels.data.toList.drop 48 = dktX6_feels_2 := dk_seg dksX6_feels_1 24 rfl rfl
theorem dksX6_feels_3 : cX6_feels.data.toList.drop 72 = dktX6_feels_3 := dk_seg dksX6_feels_2 24 rfl rfl
theorem dksX6_feels_4 : cX6_feels.data.toList.drop 96 = dktX6_feels_4 := dk_seg dksX6_feels_3 24 rfl rfl
theorem dksX6_feels_5 : cX6_feels.data.toList.drop 119 = dktX6_feels_5 := dk_seg dksX6_feels_4 23 rfl rfl
theorem dksX6_feels_6 : cX6_feels.data.toList.drop 143 = dktX6_feels_6 := dk_seg dksX6_feels_5 24 rfl rfl
theorem dX6_feels_0 : decode cX6_feels 0 = .ok (.iload_n 2, 1) := dk_28 (dk_at dksX6_feels_0 0 rfl rfl)
theorem dX6_feels_1 : decode cX6_feels 1 = .ok (.iconst (-1), 1) := dk_2 (dk_at dksX6_feels_0 1 rfl rfl)
theorem dX6_feels_2 : decode cX6_feels 2 = .ok (.if_icmp .eq 7, 3) := dk_159 0 7 (dk_at dksX6_feels_0 2 rfl rfl)
theorem dX6_feels_5 : decode cX6_feels 5 = .ok (.iconst 1, 1) := dk_4 (dk_at dksX6_feels_0 5 rfl rfl)
theorem dX6_feels_6 : decode cX6_feels 6 = .ok (.goto 4, 3) := dk_167 0 4 (dk_at dksX6_feels_0 6 rfl rfl)
theorem dX6_feels_9 : decode cX6_feels 9 = .ok (.iconst 0, 1) := dk_3 (dk_at dksX6_feels_0 9 rfl rfl)
theorem dX6_feels_10 : decode cX6_feels 10 = .ok (.istore_n 3, 1) := dk_62 (dk_at dksX6_feels_0 10 rfl rfl)
theorem dX6_feels_11 : decode cX6_feels 11 = .ok (.aload_n 0, 1) := dk_42 (dk_at dksX6_feels_0 11 rfl rfl)
theorem dX6_feels_12 : decode cX6_feels 12 = .ok (.getfield 59, 3) := dk_180 0 59 (dk_at dksX6_feels_0 12 rfl rfl)
theorem dX6_feels_15 : decode cX6_feels 15 = .ok (.iconst 0, 1) := dk_3 (dk_at dksX6_feels_0 15 rfl rfl)
theorem dX6_feels_16 : decode cX6_feels 16 = .ok (.iload_n 1, 1) := dk_27 (dk_at dksX6_feels_0 16 rfl rfl)
theorem dX6_feels_17 : decode cX6_feels 17 = .ok (.iastore, 1) := dk_79 (dk_at dksX6_feels_0 17 rfl rfl)
theorem dX6_feels_18 : decode cX6_feels 18 = .ok (.aload_n 0, 1) := dk_42 (dk_at dksX6_feels_0 18 rfl rfl)
theorem dX6_feels_19 : decode cX6_feels 19 = .ok (.getfield 59, 3) := dk_180 0 59 (dk_at dksX6_feels_0 19 rfl rfl)
theorem dX6_feels_22 : decode cX6_feels 22 = .ok (.iconst 1, 1) := dk_4 (dk_at dksX6_feels_0 22 rfl rfl)
theorem dX6_feels_23 : decode cX6_feels 23 = .ok (.iload_n 3, 1) := dk_29 (dk_at dksX6_feels_0 23 rfl rfl)
theorem dX6_feels_24 : decode cX6_feels 24 = .ok (.ifCond .eq 7, 3) := dk_153 0 7 (dk_at dksX6_feels_1 0 rfl rfl)
theorem dX6_feels_27 : decode cX6_feels 27 = .ok (.iload_n 2, 1) := dk_28 (dk_at dksX6_feels_1 3 rfl rfl)
theorem dX6_feels_28 : decode cX6_feels 28 = .ok (.goto 4, 3) := dk_167 0 4 (dk_at dksX6_feels_1 4 rfl rfl)
theorem dX6_feels_31 : decode cX6_feels 31 = .ok (.iconst 0, 1) := dk_3 (dk_at dksX6_feels_1 7 rfl rfl)
theorem dX6_feels_32 : decode cX6_feels 32 = .ok (.iastore, 1) := dk_79 (dk_at dksX6_feels_1 8 rfl rfl)
theorem dX6_feels_33 : decode cX6_feels 33 = .ok (.aload_n 0, 1) := dk_42 (dk_at dksX6_feels_1 9 rfl rfl)
theorem dX6_feels_34 : decode cX6_feels 34 = .ok (.getfield 59, 3) := dk_180 0 59 (dk_at dksX6_feels_1 10 rfl rfl)
theorem dX6_feels_37 : decode cX6_feels 37 = .ok (.iconst 2, 1) := dk_5 (dk_at dksX6_feels_1 13 rfl rfl)
theorem dX6_feels_38 : decode cX6_feels 38 = .ok (.iload_n 3, 1) := dk_29 (dk_at dksX6_feels_1 14 rfl rfl)
theorem dX6_feels_39 : decode cX6_feels 39 = .ok (.ifCond .eq 12, 3) := dk_153 0 12 (dk_at dksX6_feels_1 15 rfl rfl)
theorem dX6_feels_42 : decode cX6_feels 42 = .ok (.aload_n 0, 1) := dk_42 (dk_at dksX6_feels_1 18 rfl rfl)
theorem dX6_feels_43 : decode cX6_feels 43 = .ok (.iload_n 1, 1) := dk_27 (dk_at dksX6_feels_1 19 rfl rfl)
theorem dX6_feels_44 : decode cX6_feels 44 = .ok (.iload_n 2, 1) := dk_28 (dk_at dksX6_feels_1 20 rfl rfl)
theorem dX6_feels_45 : decode cX6_feels 45 = .ok (.invokevirtual 129, 3) := dk_182 0 129 (dk_at dksX6_feels_1 21 rfl rfl)
theorem dX6_feels_48 : decode cX6_feels 48 = .ok (.goto 4, 3) := dk_167 0 4 (dk_at dksX6_feels_2 0 rfl rfl)
theorem dX6_feels_51 : decode cX6_feels 51 = .ok (.iconst 0, 1) := dk_3 (dk_at dksX6_feels_2 3 rfl rfl)
theorem dX6_feels_52 : decode cX6_feels 52 = .ok (.iastore, 1) := dk_79 (dk_at dksX6_feels_2 4 rfl rfl)
theorem dX6_feels_53 : decode cX6_feels 53 = .ok (.aload_n 0, 1) := dk_42 (dk_at dksX6_feels_2 5 rfl rfl)
theorem dX6_feels_54 : decode cX6_feels 54 = .ok (.getfield 59, 3) := dk_180 0 59 (dk_at dksX6_feels_2 6 rfl rfl)
theorem dX6_feels_57 : decode cX6_feels 57 = .ok (.iconst 3, 1) := dk_6 (dk_at dksX6_feels_2 9 rfl rfl)
theorem dX6_feels_58 : decode cX6_feels 58 = .ok (.iload_n 3, 1) := dk_29 (dk_at dksX6_feels_2 10 rfl rfl)
theorem dX6_feels_59 : decode cX6_feels 59 = .ok (.ifCond .eq 30, 3) := dk_153 0 30 (dk_at dksX6_feels_2 11 rfl rfl)
theorem dX6_feels_62 : decode cX6_feels 62 = .ok (.aload_n 0, 1) := dk_42 (dk_at dksX6_feels_2 14 rfl rfl)
theorem dX6_feels_63 : decode cX6_feels 63 = .ok (.getfield 7, 3) := dk_180 0 7 (dk_at dksX6_feels_2 15 rfl rfl)
theorem dX6_feels_66 : decode cX6_feels 66 = .ok (.bipush 16, 2) := dk_16 16 (dk_at dksX6_feels_2 18 rfl rfl)
theorem dX6_feels_68 : decode cX6_feels 68 = .ok (.iload_n 2, 1) := dk_28 (dk_at dksX6_feels_2 20 rfl rfl)
theorem dX6_feels_69 : decode cX6_feels 69 = .ok (.iadd, 1) := dk_96 (dk_at dksX6_feels_2 21 rfl rfl)
theorem dX6_feels_70 : decode cX6_feels 70 = .ok (.iaload, 1) := dk_46 (dk_at dksX6_feels_2 22 rfl rfl)
theorem dX6_feels_71 : decode cX6_feels 71 = .ok (.aload_n 0, 1) := dk_42 (dk_at dksX6_feels_2 23 rfl rfl)
theorem dX6_feels_72 : decode cX6_feels 72 = .ok (.getfield 7, 3) := dk_180 0 7 (dk_at dksX6_feels_3 0 rfl rfl)
theorem dX6_feels_75 : decode cX6_feels 75 = .ok (.bipush 16, 2) := dk_16 16 (dk_at dksX6_feels_3 3 rfl rfl)
theorem dX6_feels_77 : decode cX6_feels 77 = .ok (.iload_n 1, 1) := dk_27 (dk_at dksX6_feels_3 5 rfl rfl)
theorem dX6_feels_78 : decode cX6_feels 78 = .ok (.iadd, 1) := dk_96 (dk_at dksX6_feels_3 6 rfl rfl)
theorem dX6_feels_79 : decode cX6_feels 79 = .ok (.iaload, 1) := dk_46 (dk_at dksX6_feels_3 7 rfl rfl)
theorem dX6_feels_80 : decode cX6_feels 80 = .ok (.iconst (-1), 1) := dk_2 (dk_at dksX6_feels_3 8 rfl rfl)
theorem dX6_feels_81 : decode cX6_feels 81 = .ok (.ixor, 1) := dk_130 (dk_at dksX6_feels_3 9 rfl rfl)
theorem dX6_feels_82 : decode cX6_feels 82 = .ok (.iand, 1) := dk_126 (dk_at dksX6_feels_3 10 rfl rfl)
theorem dX6_feels_83 : decode cX6_feels 83 = .ok (.invokestatic 126, 3) := dk_184 0 126 (dk_at dksX6_feels_3 11 rfl rfl)
theorem dX6_feels_86 : decode cX6_feels 86 = .ok (.goto 4, 3) := dk_167 0 4 (dk_at dksX6_feels_3 14 rfl rfl)
theorem dX6_feels_89 : decode cX6_feels 89 = .ok (.iconst 0, 1) := dk_3 (dk_at dksX6_feels_3 17 rfl rfl)
theorem dX6_feels_90 : decode cX6_feels 90 = .ok (.iastore, 1) := dk_79 (dk_at dksX6_feels_3 18 rfl rfl)
theorem dX6_feels_91 : decode cX6_feels 91 = .ok (.aload_n 0, 1) := dk_42 (dk_at dksX6_feels_3 19 rfl rfl)
theorem dX6_feels_92 : decode cX6_feels 92 = .ok (.getfield 59, 3) := dk_180 0 59 (dk_at dksX6_feels_3 20 rfl rfl)
theorem dX6_feels_95 : decode cX6_feels 95 = .ok (.iconst 4, 1) := dk_7 (dk_at dksX6_feels_3 23 rfl rfl)
theorem dX6_feels_96 : decode cX6_feels 96 = .ok (.aload_n 0, 1) := dk_42 (dk_at dksX6_feels_4 0 rfl rfl)
theorem dX6_feels_97 : decode cX6_feels 97 = .ok (.getfield 7, 3) := dk_180 0 7 (dk_at dksX6_feels_4 1 rfl rfl)
theorem dX6_feels_100 : decode cX6_feels 100 = .ok (.bipush 32, 2) := dk_16 32 (dk_at dksX6_feels_4 4 rfl rfl)
theorem dX6_feels_102 : decode cX6_feels 102 = .ok (.iload_n 1, 1) := dk_27 (dk_at dksX6_feels_4 6 rfl rfl)
theorem dX6_feels_103 : decode cX6_feels 103 = .ok (.iadd, 1) := dk_96 (dk_at dksX6_feels_4 7 rfl rfl)
theorem dX6_feels_104 : decode cX6_feels 104 = .ok (.iaload, 1) := dk_46 (dk_at dksX6_feels_4 8 rfl rfl)
theorem dX6_feels_105 : decode cX6_feels 105 = .ok (.iastore, 1) := dk_79 (dk_at dksX6_feels_4 9 rfl rfl)
theorem dX6_feels_106 : decode cX6_feels 106 = .ok (.aload_n 0, 1) := dk_42 (dk_at dksX6_feels_4 10 rfl rfl)
theorem dX6_feels_107 : decode cX6_feels 107 = .ok (.getfield 59, 3) := dk_180 0 59 (dk_at dksX6_feels_4 11 rfl rfl)
theorem dX6_feels_110 : decode cX6_feels 110 = .ok (.iconst 5, 1) := dk_8 (dk_at dksX6_feels_4 14 rfl rfl)
theorem dX6_feels_111 : decode cX6_feels 111 = .ok (.iload_n 3, 1) := dk_29 (dk_at dksX6_feels_4 15 rfl rfl)
theorem dX6_feels_112 : decode cX6_feels 112 = .ok (.ifCond .eq 15, 3) := dk_153 0 15 (dk_at dksX6_feels_4 16 rfl rfl)
theorem dX6_feels_115 : decode cX6_feels 115 = .ok (.aload_n 0, 1) := dk_42 (dk_at dksX6_feels_4 19 rfl rfl)
theorem dX6_feels_116 : decode cX6_feels 116 = .ok (.getfield 7, 3) := dk_180 0 7 (dk_at dksX6_feels_4 20 rfl rfl)
theorem dX6_feels_119 : decode cX6_feels 119 = .ok (.bipush 32, 2) := dk_16 32 (dk_at dksX6_feels_5 0 rfl rfl)
theorem dX6_feels_121 : decode cX6_feels 121 = .ok (.iload_n 2, 1) := dk_28 (dk_at dksX6_feels_5 2 rfl rfl)
theorem dX6_feels_122 : decode cX6_feels 122 = .ok (.iadd, 1) := dk_96 (dk_at dksX6_feels_5 3 rfl rfl)
theorem dX6_feels_123 : decode cX6_feels 123 = .ok (.iaload, 1) := dk_46 (dk_at dksX6_feels_5 4 rfl rfl)
theorem dX6_feels_124 : decode cX6_feels 124 = .ok (.goto 4, 3) := dk_167 0 4 (dk_at dksX6_feels_5 5 rfl rfl)
theorem dX6_feels_127 : decode cX6_feels 127 = .ok (.iconst 0, 1) := dk_3 (dk_at dksX6_feels_5 8 rfl rfl)
theorem dX6_feels_128 : decode cX6_feels 128 = .ok (.iastore, 1) := dk_79 (dk_at dksX6_feels_5 9 rfl rfl)
theorem dX6_feels_129 : decode cX6_feels 129 = .ok (.aload_n 0, 1) := dk_42 (dk_at dksX6_feels_5 10 rfl rfl)
theorem dX6_feels_130 : decode cX6_feels 130 = .ok (.getfield 59, 3) := dk_180 0 59 (dk_at dksX6_feels_5 11 rfl rfl)
theorem dX6_feels_133 : decode cX6_feels 133 = .ok (.bipush 6, 2) := dk_16 6 (dk_at dksX6_feels_5 14 rfl rfl)
theorem dX6_feels_135 : decode cX6_feels 135 = .ok (.aload_n 0, 1) := dk_42 (dk_at dksX6_feels_5 16 rfl rfl)
theorem dX6_feels_136 : decode cX6_feels 136 = .ok (.iload_n 1, 1) := dk_27 (dk_at dksX6_feels_5 17 rfl rfl)
theorem dX6_feels_137 : decode cX6_feels 137 = .ok (.invokevirtual 244, 3) := dk_182 0 244 (dk_at dksX6_feels_5 18 rfl rfl)
theorem dX6_feels_140 : decode cX6_feels 140 = .ok (.invokestatic 126, 3) := dk_184 0 126 (dk_at dksX6_feels_5 21 rfl rfl)
theorem dX6_feels_143 : decode cX6_feels 143 = .ok (.iastore, 1) := dk_79 (dk_at dksX6_feels_6 0 rfl rfl)
theorem dX6_feels_144 : decode cX6_feels 144 = .ok (.aload_n 0, 1) := dk_42 (dk_at dksX6_feels_6 1 rfl rfl)
theorem dX6_feels_145 : decode cX6_feels 145 = .ok (.getfield 59, 3) := dk_180 0 59 (dk_at dksX6_feels_6 2 rfl rfl)
theorem dX6_feels_148 : decode cX6_feels 148 = .ok (.bipush 7, 2) := dk_16 7 (dk_at dksX6_feels_6 5 rfl rfl)
theorem dX6_feels_150 : decode cX6_feels 150 = .ok (.aload_n 0, 1) := dk_42 (dk_at dksX6_feels_6 7 rfl rfl)
theorem dX6_feels_151 : decode cX6_feels 151 = .ok (.getfield 7, 3) := dk_180 0 7 (dk_at dksX6_feels_6 8 rfl rfl)
theorem dX6_feels_154 : decode cX6_feels 154 = .ok (.bipush 64, 2) := dk_16 64 (dk_at dksX6_feels_6 11 rfl rfl)
theorem dX6_feels_156 : decode cX6_feels 156 = .ok (.iaload, 1) := dk_46 (dk_at dksX6_feels_6 13 rfl rfl)
theorem dX6_feels_157 : decode cX6_feels 157 = .ok (.bipush 100, 2) := dk_16 100 (dk_at dksX6_feels_6 14 rfl rfl)
theorem dX6_feels_159 : decode cX6_feels 159 = .ok (.irem, 1) := dk_112 (dk_at dksX6_feels_6 16 rfl rfl)
theorem dX6_feels_160 : decode cX6_feels 160 = .ok (.iastore, 1) := dk_79 (dk_at dksX6_feels_6 17 rfl rfl)
theorem dX6_feels_161 : decode cX6_feels 161 = .ok (.return_, 1) := dk_177 (dk_at dksX6_feels_6 18 rfl rfl)
abbrev cX6_shared : ByteArray := prog_20_method_17_code
def yX6_shared : MethodName := ⟨RX6, "shared", "(II)I"⟩
def dkwX6_shared_0 : List UInt8 := [42, 180, 0, 7, 16, 16, 27, 96, 46, 42, 180, 0, 7, 16, 16, 28, 96, 46, 126, 184, 0, 126, 172]
abbrev dktX6_shared_0 : List UInt8 := dkwX6_shared_0 ++ []
theorem dksX6_shared_0 : cX6_shared.data.toList.drop 0 = dktX6_shared_0 := by decide +kernel
theorem dX6_shared_0 : decode cX6_shared 0 = .ok (.aload_n 0, 1) := dk_42 (dk_at dksX6_shared_0 0 rfl rfl)
theorem dX6_shared_1 : decode cX6_shared 1 = .ok (.getfield 7, 3) := dk_180 0 7 (dk_at dksX6_shared_0 1 rfl rfl)
theorem dX6_shared_4 : decode cX6_shared 4 = .ok (.bipush 16, 2) := dk_16 16 (dk_at dksX6_shared_0 4 rfl rfl)
theorem dX6_shared_6 : decode cX6_shared 6 = .ok (.iload_n 1, 1) := dk_27 (dk_at dksX6_shared_0 6 rfl rfl)
theorem dX6_shared_7 : decode cX6_shared 7 = .ok (.iadd, 1) := dk_96 (dk_at dksX6_shared_0 7 rfl rfl)
theorem dX6_shared_8 : decode cX6_shared 8 = .ok (.iaload, 1) := dk_46 (dk_at dksX6_shared_0 8 rfl rfl)
theorem dX6_shared_9 : decode cX6_shared 9 = .ok (.aload_n 0, 1) := dk_42 (dk_at dksX6_shared_0 9 rfl rfl)
theorem dX6_shared_10 : decode cX6_shared 10 = .ok (.getfield 7, 3) := dk_180 0 7 (dk_at dksX6_shared_0 10 rfl rfl)
theorem dX6_shared_13 : decode cX6_shared 13 = .ok (.bipush 16, 2) := dk_16 16 (dk_at dksX6_shared_0 13 rfl rfl)
theorem dX6_shared_15 : decode cX6_shared 15 = .ok (.iload_n 2, 1) := dk_28 (dk_at dksX6_shared_0 15 rfl rfl)
theorem dX6_shared_16 : decode cX6_shared 16 = .ok (.iadd, 1) := dk_96 (dk_at dksX6_shared_0 16 rfl rfl)
theorem dX6_shared_17 : decode cX6_shared 17 = .ok (.iaload, 1) := dk_46 (dk_at dksX6_shared_0 17 rfl rfl)
theorem dX6_shared_18 : decode cX6_shared 18 = .ok (.iand, 1) := dk_126 (dk_at dksX6_shared_0 18 rfl rfl)
theorem dX6_shared_19 : decode cX6_shared 19 = .ok (.invokestatic 126, 3) := dk_184 0 126 (dk_at dksX6_shared_0 19 rfl rfl)
theorem dX6_shared_22 : decode cX6_shared 22 = .ok (.ireturn, 1) := dk_172 (dk_at dksX6_shared_0 22 rfl rfl)
abbrev cX6_bits : ByteArray := prog_20_method_7_code
def yX6_bits : MethodName := ⟨RX6, "bits", "(I)I"⟩
def dkwX6_bits_1 : List UInt8 := [27, 172]
abbrev dktX6_bits_1 : List UInt8 := dkwX6_bits_1 ++ []
def dkwX6_bits_0 : List UInt8 := [3, 60, 3, 61, 28, 16, 16, 162, 0, 17, 27, 26, 28, 122, 4, 126, 96, 60, 132, 2, 1, 167, 255, 239]
abbrev dktX6_bits_0 : List UInt8 := dkwX6_bits_0 ++ dktX6_bits_1
theorem dksX6_bits_0 : cX6_bits.data.toList.drop 0 = dktX6_bits_0 := by decide +kernel
theorem dksX6_bits_1 : cX6_bits.data.toList.drop 24 = dktX6_bits_1 := dk_seg dksX6_bits_0 24 rfl rfl
theorem dX6_bits_0 : decode cX6_bits 0 = .ok (.iconst 0, 1) := dk_3 (dk_at dksX6_bits_0 0 rfl rfl)
theorem dX6_bits_1 : decode cX6_bits 1 = .ok (.istore_n 1, 1) := dk_60 (dk_at dksX6_bits_0 1 rfl rfl)
theorem dX6_bits_2 : decode cX6_bits 2 = .ok (.iconst 0, 1) := dk_3 (dk_at dksX6_bits_0 2 rfl rfl)
theorem dX6_bits_3 : decode cX6_bits 3 = .ok (.istore_n 2, 1) := dk_61 (dk_at dksX6_bits_0 3 rfl rfl)
theorem dX6_bits_4 : decode cX6_bits 4 = .ok (.iload_n 2, 1) := dk_28 (dk_at dksX6_bits_0 4 rfl rfl)
theorem dX6_bits_5 : decode cX6_bits 5 = .ok (.bipush 16, 2) := dk_16 16 (dk_at dksX6_bits_0 5 rfl rfl)
theorem dX6_bits_7 : decode cX6_bits 7 = .ok (.if_icmp .ge 17, 3) := dk_162 0 17 (dk_at dksX6_bits_0 7 rfl rfl)
theorem dX6_bits_10 : decode cX6_bits 10 = .ok (.iload_n 1, 1) := dk_27 (dk_at dksX6_bits_0 10 rfl rfl)
theorem dX6_bits_11 : decode cX6_bits 11 = .ok (.iload_n 0, 1) := dk_26 (dk_at dksX6_bits_0 11 rfl rfl)
theorem dX6_bits_12 : decode cX6_bits 12 = .ok (.iload_n 2, 1) := dk_28 (dk_at dksX6_bits_0 12 rfl rfl)
theorem dX6_bits_13 : decode cX6_bits 13 = .ok (.ishr, 1) := dk_122 (dk_at dksX6_bits_0 13 rfl rfl)
theorem dX6_bits_14 : decode cX6_bits 14 = .ok (.iconst 1, 1) := dk_4 (dk_at dksX6_bits_0 14 rfl rfl)
theorem dX6_bits_15 : decode cX6_bits 15 = .ok (.iand, 1) := dk_126 (dk_at dksX6_bits_0 15 rfl rfl)
theorem dX6_bits_16 : decode cX6_bits 16 = .ok (.iadd, 1) := dk_96 (dk_at dksX6_bits_0 16 rfl rfl)
theorem dX6_bits_17 : decode cX6_bits 17 = .ok (.istore_n 1, 1) := dk_60 (dk_at dksX6_bits_0 17 rfl rfl)
theorem dX6_bits_18 : decode cX6_bits 18 = .ok (.iinc 2 1, 3) := dk_132 2 1 (dk_at dksX6_bits_0 18 rfl rfl)
theorem dX6_bits_21 : decode cX6_bits 21 = .ok (.goto (-17), 3) := dk_167 255 239 (dk_at dksX6_bits_0 21 rfl rfl)
theorem dX6_bits_24 : decode cX6_bits 24 = .ok (.iload_n 1, 1) := dk_27 (dk_at dksX6_bits_1 0 rfl rfl)
theorem dX6_bits_25 : decode cX6_bits 25 = .ok (.ireturn, 1) := dk_172 (dk_at dksX6_bits_1 1 rfl rfl)
abbrev cX6_besideSet : ByteArray := prog_20_method_16_code
def yX6_besideSet : MethodName := ⟨RX6, "besideSet", "(I)I"⟩
def dkwX6_besideSet_1 : List UInt8 := [61, 132, 3, 1, 167, 255, 232, 28, 172]
abbrev dktX6_besideSet_1 : List UInt8 := dkwX6_besideSet_1 ++ []
def dkwX6_besideSet_0 : List UInt8 := [3, 61, 3, 62, 29, 16, 16, 162, 0, 24, 42, 27, 29, 182, 0, 123, 153, 0, 9, 28, 4, 29, 120, 128]
abbrev dktX6_besideSet_0 : List UInt8 := dkwX6_besideSet_0 ++ dktX6_besideSet_1
theorem dksX6_besideSet_0 : cX6_besideSet.data.toList.drop 0 = dktX6_besideSet_0 := by decide +kernel
theorem dksX6_besideSet_1 : cX6_besideSet.data.toList.drop 24 = dktX6_besideSet_1 := dk_seg dksX6_besideSet_0 24 rfl rfl
theorem dX6_besideSet_0 : decode cX6_besideSet 0 = .ok (.iconst 0, 1) := dk_3 (dk_at dksX6_besideSet_0 0 rfl rfl)
theorem dX6_besideSet_1 : decode cX6_besideSet 1 = .ok (.istore_n 2, 1) := dk_61 (dk_at dksX6_besideSet_0 1 rfl rfl)
theorem dX6_besideSet_2 : decode cX6_besideSet 2 = .ok (.iconst 0, 1) := dk_3 (dk_at dksX6_besideSet_0 2 rfl rfl)
theorem dX6_besideSet_3 : decode cX6_besideSet 3 = .ok (.istore_n 3, 1) := dk_62 (dk_at dksX6_besideSet_0 3 rfl rfl)
theorem dX6_besideSet_4 : decode cX6_besideSet 4 = .ok (.iload_n 3, 1) := dk_29 (dk_at dksX6_besideSet_0 4 rfl rfl)
theorem dX6_besideSet_5 : decode cX6_besideSet 5 = .ok (.bipush 16, 2) := dk_16 16 (dk_at dksX6_besideSet_0 5 rfl rfl)
theorem dX6_besideSet_7 : decode cX6_besideSet 7 = .ok (.if_icmp .ge 24, 3) := dk_162 0 24 (dk_at dksX6_besideSet_0 7 rfl rfl)
theorem dX6_besideSet_10 : decode cX6_besideSet 10 = .ok (.aload_n 0, 1) := dk_42 (dk_at dksX6_besideSet_0 10 rfl rfl)
theorem dX6_besideSet_11 : decode cX6_besideSet 11 = .ok (.iload_n 1, 1) := dk_27 (dk_at dksX6_besideSet_0 11 rfl rfl)
theorem dX6_besideSet_12 : decode cX6_besideSet 12 = .ok (.iload_n 3, 1) := dk_29 (dk_at dksX6_besideSet_0 12 rfl rfl)
theorem dX6_besideSet_13 : decode cX6_besideSet 13 = .ok (.invokevirtual 123, 3) := dk_182 0 123 (dk_at dksX6_besideSet_0 13 rfl rfl)
theorem dX6_besideSet_16 : decode cX6_besideSet 16 = .ok (.ifCond .eq 9, 3) := dk_153 0 9 (dk_at dksX6_besideSet_0 16 rfl rfl)
theorem dX6_besideSet_19 : decode cX6_besideSet 19 = .ok (.iload_n 2, 1) := dk_28 (dk_at dksX6_besideSet_0 19 rfl rfl)
theorem dX6_besideSet_20 : decode cX6_besideSet 20 = .ok (.iconst 1, 1) := dk_4 (dk_at dksX6_besideSet_0 20 rfl rfl)
theorem dX6_besideSet_21 : decode cX6_besideSet 21 = .ok (.iload_n 3, 1) := dk_29 (dk_at dksX6_besideSet_0 21 rfl rfl)
theorem dX6_besideSet_22 : decode cX6_besideSet 22 = .ok (.ishl, 1) := dk_120 (dk_at dksX6_besideSet_0 22 rfl rfl)
theorem dX6_besideSet_23 : decode cX6_besideSet 23 = .ok (.ior, 1) := dk_128 (dk_at dksX6_besideSet_0 23 rfl rfl)
theorem dX6_besideSet_24 : decode cX6_besideSet 24 = .ok (.istore_n 2, 1) := dk_61 (dk_at dksX6_besideSet_1 0 rfl rfl)
theorem dX6_besideSet_25 : decode cX6_besideSet 25 = .ok (.iinc 3 1, 3) := dk_132 3 1 (dk_at dksX6_besideSet_1 1 rfl rfl)
theorem dX6_besideSet_28 : decode cX6_besideSet 28 = .ok (.goto (-24), 3) := dk_167 255 232 (dk_at dksX6_besideSet_1 4 rfl rfl)
theorem dX6_besideSet_31 : decode cX6_besideSet 31 = .ok (.iload_n 2, 1) := dk_28 (dk_at dksX6_besideSet_1 7 rfl rfl)
theorem dX6_besideSet_32 : decode cX6_besideSet 32 = .ok (.ireturn, 1) := dk_172 (dk_at dksX6_besideSet_1 8 rfl rfl)
abbrev cX6_areBeside : ByteArray := prog_20_method_15_code
def yX6_areBeside : MethodName := ⟨RX6, "areBeside", "(II)Z"⟩
def dkwX6_areBeside_1 : List UInt8 := [46, 42, 180, 0, 7, 16, 48, 28, 96, 46, 184, 0, 119, 153, 0, 7, 4, 167, 0, 4, 3, 172]
abbrev dktX6_areBeside_1 : List UInt8 := dkwX6_areBeside_1 ++ []
def dkwX6_areBeside_0 : List UInt8 := [42, 27, 182, 0, 112, 153, 0, 39, 42, 28, 182, 0, 112, 153, 0, 31, 42, 180, 0, 7, 16, 48, 27, 96]
abbrev dktX6_areBeside_0 : List UInt8 := dkwX6_areBeside_0 ++ dktX6_areBeside_1
theorem dksX6_areBeside_0 : cX6_areBeside.data.toList.drop 0 = dktX6_areBeside_0 := by decide +kernel
theorem dksX6_areBeside_1 : cX6_areBeside.data.toList.drop 24 = dktX6_areBeside_1 := dk_seg dksX6_areBeside_0 24 rfl rfl
theorem dX6_areBeside_0 : decode cX6_areBeside 0 = .ok (.aload_n 0, 1) := dk_42 (dk_at dksX6_areBeside_0 0 rfl rfl)
theorem dX6_areBeside_1 : decode cX6_areBeside 1 = .ok (.iload_n 1, 1) := dk_27 (dk_at dksX6_areBeside_0 1 rfl rfl)
theorem dX6_areBeside_2 : decode cX6_areBeside 2 = .ok (.invokevirtual 112, 3) := dk_182 0 112 (dk_at dksX6_areBeside_0 2 rfl rfl)
theorem dX6_areBeside_5 : decode cX6_areBeside 5 = .ok (.ifCond .eq 39, 3) := dk_153 0 39 (dk_at dksX6_areBeside_0 5 rfl rfl)
theorem dX6_areBeside_8 : decode cX6_areBeside 8 = .ok (.aload_n 0, 1) := dk_42 (dk_at dksX6_areBeside_0 8 rfl rfl)
theorem dX6_areBeside_9 : decode cX6_areBeside 9 = .ok (.iload_n 2, 1) := dk_28 (dk_at dksX6_areBeside_0 9 rfl rfl)
theorem dX6_areBeside_10 : decode cX6_areBeside 10 = .ok (.invokevirtual 112, 3) := dk_182 0 112 (dk_at dksX6_areBeside_0 10 rfl rfl)
theorem dX6_areBeside_13 : decode cX6_areBeside 13 = .ok (.ifCond .eq 31, 3) := dk_153 0 31 (dk_at dksX6_areBeside_0 13 rfl rfl)
theorem dX6_areBeside_16 : decode cX6_areBeside 16 = .ok (.aload_n 0, 1) := dk_42 (dk_at dksX6_areBeside_0 16 rfl rfl)
theorem dX6_areBeside_17 : decode cX6_areBeside 17 = .ok (.getfield 7, 3) := dk_180 0 7 (dk_at dksX6_areBeside_0 17 rfl rfl)
theorem dX6_areBeside_20 : decode cX6_areBeside 20 = .ok (.bipush 48, 2) := dk_16 48 (dk_at dksX6_areBeside_0 20 rfl rfl)
theorem dX6_areBeside_22 : decode cX6_areBeside 22 = .ok (.iload_n 1, 1) := dk_27 (dk_at dksX6_areBeside_0 22 rfl rfl)
theorem dX6_areBeside_23 : decode cX6_areBeside 23 = .ok (.iadd, 1) := dk_96 (dk_at dksX6_areBeside_0 23 rfl rfl)
theorem dX6_areBeside_24 : decode cX6_areBeside 24 = .ok (.iaload, 1) := dk_46 (dk_at dksX6_areBeside_1 0 rfl rfl)
theorem dX6_areBeside_25 : decode cX6_areBeside 25 = .ok (.aload_n 0, 1) := dk_42 (dk_at dksX6_areBeside_1 1 rfl rfl)
theorem dX6_areBeside_26 : decode cX6_areBeside 26 = .ok (.getfield 7, 3) := dk_180 0 7 (dk_at dksX6_areBeside_1 2 rfl rfl)
theorem dX6_areBeside_29 : decode cX6_areBeside 29 = .ok (.bipush 48, 2) := dk_16 48 (dk_at dksX6_areBeside_1 5 rfl rfl)
theorem dX6_areBeside_31 : decode cX6_areBeside 31 = .ok (.iload_n 2, 1) := dk_28 (dk_at dksX6_areBeside_1 7 rfl rfl)
theorem dX6_areBeside_32 : decode cX6_areBeside 32 = .ok (.iadd, 1) := dk_96 (dk_at dksX6_areBeside_1 8 rfl rfl)
theorem dX6_areBeside_33 : decode cX6_areBeside 33 = .ok (.iaload, 1) := dk_46 (dk_at dksX6_areBeside_1 9 rfl rfl)
theorem dX6_areBeside_34 : decode cX6_areBeside 34 = .ok (.invokestatic 119, 3) := dk_184 0 119 (dk_at dksX6_areBeside_1 10 rfl rfl)
theorem dX6_areBeside_37 : decode cX6_areBeside 37 = .ok (.ifCond .eq 7, 3) := dk_153 0 7 (dk_at dksX6_areBeside_1 13 rfl rfl)
theorem dX6_areBeside_40 : decode cX6_areBeside 40 = .ok (.iconst 1, 1) := dk_4 (dk_at dksX6_areBeside_1 16 rfl rfl)
theorem dX6_areBeside_41 : decode cX6_areBeside 41 = .ok (.goto 4, 3) := dk_167 0 4 (dk_at dksX6_areBeside_1 17 rfl rfl)
theorem dX6_areBeside_44 : decode cX6_areBeside 44 = .ok (.iconst 0, 1) := dk_3 (dk_at dksX6_areBeside_1 20 rfl rfl)
theorem dX6_areBeside_45 : decode cX6_areBeside 45 = .ok (.ireturn, 1) := dk_172 (dk_at dksX6_areBeside_1 21 rfl rfl)
abbrev cX6_areNext : ByteArray := prog_20_method_14_code
def yX6_areNext : MethodName := ⟨RX6, "areNext", "(II)Z"⟩
def dkwX6_areNext_1 : List UInt8 := [96, 4, 160, 0, 7, 4, 167, 0, 4, 3, 172]
abbrev dktX6_areNext_1 : List UInt8 := dkwX6_areNext_1 ++ []
def dkwX6_areNext_0 : List UInt8 := [26, 16, 10, 112, 27, 16, 10, 112, 100, 184, 0, 115, 26, 16, 10, 108, 27, 16, 10, 108, 100, 184, 0, 115]
abbrev dktX6_areNext_0 : List UInt8 := dkwX6_areNext_0 ++ dktX6_areNext_1
theorem dksX6_areNext_0 : cX6_areNext.data.toList.drop 0 = dktX6_areNext_0 := by decide +kernel
theorem dksX6_areNext_1 : cX6_areNext.data.toList.drop 24 = dktX6_areNext_1 := dk_seg dksX6_areNext_0 24 rfl rfl
theorem dX6_areNext_0 : decode cX6_areNext 0 = .ok (.iload_n 0, 1) := dk_26 (dk_at dksX6_areNext_0 0 rfl rfl)
theorem dX6_areNext_1 : decode cX6_areNext 1 = .ok (.bipush 10, 2) := dk_16 10 (dk_at dksX6_areNext_0 1 rfl rfl)
theorem dX6_areNext_3 : decode cX6_areNext 3 = .ok (.irem, 1) := dk_112 (dk_at dksX6_areNext_0 3 rfl rfl)
theorem dX6_areNext_4 : decode cX6_areNext 4 = .ok (.iload_n 1, 1) := dk_27 (dk_at dksX6_areNext_0 4 rfl rfl)
theorem dX6_areNext_5 : decode cX6_areNext 5 = .ok (.bipush 10, 2) := dk_16 10 (dk_at dksX6_areNext_0 5 rfl rfl)
theorem dX6_areNext_7 : decode cX6_areNext 7 = .ok (.irem, 1) := dk_112 (dk_at dksX6_areNext_0 7 rfl rfl)
theorem dX6_areNext_8 : decode cX6_areNext 8 = .ok (.isub, 1) := dk_100 (dk_at dksX6_areNext_0 8 rfl rfl)
theorem dX6_areNext_9 : decode cX6_areNext 9 = .ok (.invokestatic 115, 3) := dk_184 0 115 (dk_at dksX6_areNext_0 9 rfl rfl)
theorem dX6_areNext_12 : decode cX6_areNext 12 = .ok (.iload_n 0, 1) := dk_26 (dk_at dksX6_areNext_0 12 rfl rfl)
theorem dX6_areNext_13 : decode cX6_areNext 13 = .ok (.bipush 10, 2) := dk_16 10 (dk_at dksX6_areNext_0 13 rfl rfl)
theorem dX6_areNext_15 : decode cX6_areNext 15 = .ok (.idiv, 1) := dk_108 (dk_at dksX6_areNext_0 15 rfl rfl)
theorem dX6_areNext_16 : decode cX6_areNext 16 = .ok (.iload_n 1, 1) := dk_27 (dk_at dksX6_areNext_0 16 rfl rfl)
theorem dX6_areNext_17 : decode cX6_areNext 17 = .ok (.bipush 10, 2) := dk_16 10 (dk_at dksX6_areNext_0 17 rfl rfl)
theorem dX6_areNext_19 : decode cX6_areNext 19 = .ok (.idiv, 1) := dk_108 (dk_at dksX6_areNext_0 19 rfl rfl)
theorem dX6_areNext_20 : decode cX6_areNext 20 = .ok (.isub, 1) := dk_100 (dk_at dksX6_areNext_0 20 rfl rfl)
theorem dX6_areNext_21 : decode cX6_areNext 21 = .ok (.invokestatic 115, 3) := dk_184 0 115 (dk_at dksX6_areNext_0 21 rfl rfl)
theorem dX6_areNext_24 : decode cX6_areNext 24 = .ok (.iadd, 1) := dk_96 (dk_at dksX6_areNext_1 0 rfl rfl)
theorem dX6_areNext_25 : decode cX6_areNext 25 = .ok (.iconst 1, 1) := dk_4 (dk_at dksX6_areNext_1 1 rfl rfl)
theorem dX6_areNext_26 : decode cX6_areNext 26 = .ok (.if_icmp .ne 7, 3) := dk_160 0 7 (dk_at dksX6_areNext_1 2 rfl rfl)
theorem dX6_areNext_29 : decode cX6_areNext 29 = .ok (.iconst 1, 1) := dk_4 (dk_at dksX6_areNext_1 5 rfl rfl)
theorem dX6_areNext_30 : decode cX6_areNext 30 = .ok (.goto 4, 3) := dk_167 0 4 (dk_at dksX6_areNext_1 6 rfl rfl)
theorem dX6_areNext_33 : decode cX6_areNext 33 = .ok (.iconst 0, 1) := dk_3 (dk_at dksX6_areNext_1 9 rfl rfl)
theorem dX6_areNext_34 : decode cX6_areNext 34 = .ok (.ireturn, 1) := dk_172 (dk_at dksX6_areNext_1 10 rfl rfl)
abbrev cX6_size : ByteArray := prog_20_method_5_code
def yX6_size : MethodName := ⟨RX6, "size", "(I)I"⟩
def dkwX6_size_0 : List UInt8 := [26, 156, 0, 8, 26, 116, 167, 0, 4, 26, 172]
abbrev dktX6_size_0 : List UInt8 := dkwX6_size_0 ++ []
theorem dksX6_size_0 : cX6_size.data.toList.drop 0 = dktX6_size_0 := by decide +kernel
theorem dX6_size_0 : decode cX6_size 0 = .ok (.iload_n 0, 1) := dk_26 (dk_at dksX6_size_0 0 rfl rfl)
theorem dX6_size_1 : decode cX6_size 1 = .ok (.ifCond .ge 8, 3) := dk_156 0 8 (dk_at dksX6_size_0 1 rfl rfl)
theorem dX6_size_4 : decode cX6_size 4 = .ok (.iload_n 0, 1) := dk_26 (dk_at dksX6_size_0 4 rfl rfl)
theorem dX6_size_5 : decode cX6_size 5 = .ok (.ineg, 1) := dk_116 (dk_at dksX6_size_0 5 rfl rfl)
theorem dX6_size_6 : decode cX6_size 6 = .ok (.goto 4, 3) := dk_167 0 4 (dk_at dksX6_size_0 6 rfl rfl)
theorem dX6_size_9 : decode cX6_size 9 = .ok (.iload_n 0, 1) := dk_26 (dk_at dksX6_size_0 9 rfl rfl)
theorem dX6_size_10 : decode cX6_size 10 = .ok (.ireturn, 1) := dk_172 (dk_at dksX6_size_0 10 rfl rfl)
abbrev cX6_holdsAny : ByteArray := prog_20_method_48_code
def yX6_holdsAny : MethodName := ⟨RX6, "holdsAny", "(I)Z"⟩
def dkwX6_holdsAny_2 : List UInt8 := [167, 255, 213, 3, 172]
abbrev dktX6_holdsAny_2 : List UInt8 := dkwX6_holdsAny_2 ++ []
def dkwX6_holdsAny_1 : List UInt8 := [180, 0, 50, 28, 46, 42, 180, 0, 53, 28, 46, 182, 0, 241, 4, 160, 0, 5, 4, 172, 132, 2, 1]
abbrev dktX6_holdsAny_1 : List UInt8 := dkwX6_holdsAny_1 ++ dktX6_holdsAny_2
def dkwX6_holdsAny_0 : List UInt8 := [3, 61, 28, 42, 180, 0, 234, 162, 0, 41, 42, 180, 0, 44, 28, 46, 27, 160, 0, 25, 42, 42]
abbrev dktX6_holdsAny_0 : List UInt8 := dkwX6_holdsAny_0 ++ dktX6_holdsAny_1
theorem dksX6_holdsAny_0 : cX6_holdsAny.data.toList.drop 0 = dktX6_holdsAny_0 := by decide +kernel
theorem dksX6_holdsAny_1 : cX6_holdsAny.data.toList.drop 22 = dktX6_holdsAny_1 := dk_seg dksX6_holdsAny_0 22 rfl rfl
theorem dksX6_holdsAny_2 : cX6_holdsAny.data.toList.drop 45 = dktX6_holdsAny_2 := dk_seg dksX6_holdsAny_1 23 rfl rfl
theorem dX6_holdsAny_0 : decode cX6_holdsAny 0 = .ok (.iconst 0, 1) := dk_3 (dk_at dksX6_holdsAny_0 0 rfl rfl)
theorem dX6_holdsAny_1 : decode cX6_holdsAny 1 = .ok (.istore_n 2, 1) := dk_61 (dk_at dksX6_holdsAny_0 1 rfl rfl)
theorem dX6_holdsAny_2 : decode cX6_holdsAny 2 = .ok (.iload_n 2, 1) := dk_28 (dk_at dksX6_holdsAny_0 2 rfl rfl)
theorem dX6_holdsAny_3 : decode cX6_holdsAny 3 = .ok (.aload_n 0, 1) := dk_42 (dk_at dksX6_holdsAny_0 3 rfl rfl)
theorem dX6_holdsAny_4 : decode cX6_holdsAny 4 = .ok (.getfield 234, 3) := dk_180 0 234 (dk_at dksX6_holdsAny_0 4 rfl rfl)
theorem dX6_holdsAny_7 : decode cX6_holdsAny 7 = .ok (.if_icmp .ge 41, 3) := dk_162 0 41 (dk_at dksX6_holdsAny_0 7 rfl rfl)
theorem dX6_holdsAny_10 : decode cX6_holdsAny 10 = .ok (.aload_n 0, 1) := dk_42 (dk_at dksX6_holdsAny_0 10 rfl rfl)
theorem dX6_holdsAny_11 : decode cX6_holdsAny 11 = .ok (.getfield 44, 3) := dk_180 0 44 (dk_at dksX6_holdsAny_0 11 rfl rfl)
theorem dX6_holdsAny_14 : decode cX6_holdsAny 14 = .ok (.iload_n 2, 1) := dk_28 (dk_at dksX6_holdsAny_0 14 rfl rfl)
theorem dX6_holdsAny_15 : decode cX6_holdsAny 15 = .ok (.iaload, 1) := dk_46 (dk_at dksX6_holdsAny_0 15 rfl rfl)
theorem dX6_holdsAny_16 : decode cX6_holdsAny 16 = .ok (.iload_n 1, 1) := dk_27 (dk_at dksX6_holdsAny_0 16 rfl rfl)
theorem dX6_holdsAny_17 : decode cX6_holdsAny 17 = .ok (.if_icmp .ne 25, 3) := dk_160 0 25 (dk_at dksX6_holdsAny_0 17 rfl rfl)
theorem dX6_holdsAny_20 : decode cX6_holdsAny 20 = .ok (.aload_n 0, 1) := dk_42 (dk_at dksX6_holdsAny_0 20 rfl rfl)
theorem dX6_holdsAny_21 : decode cX6_holdsAny 21 = .ok (.aload_n 0, 1) := dk_42 (dk_at dksX6_holdsAny_0 21 rfl rfl)
theorem dX6_holdsAny_22 : decode cX6_holdsAny 22 = .ok (.getfield 50, 3) := dk_180 0 50 (dk_at dksX6_holdsAny_1 0 rfl rfl)
theorem dX6_holdsAny_25 : decode cX6_holdsAny 25 = .ok (.iload_n 2, 1) := dk_28 (dk_at dksX6_holdsAny_1 3 rfl rfl)
theorem dX6_holdsAny_26 : decode cX6_holdsAny 26 = .ok (.iaload, 1) := dk_46 (dk_at dksX6_holdsAny_1 4 rfl rfl)
theorem dX6_holdsAny_27 : decode cX6_holdsAny 27 = .ok (.aload_n 0, 1) := dk_42 (dk_at dksX6_holdsAny_1 5 rfl rfl)
theorem dX6_holdsAny_28 : decode cX6_holdsAny 28 = .ok (.getfield 53, 3) := dk_180 0 53 (dk_at dksX6_holdsAny_1 6 rfl rfl)
theorem dX6_holdsAny_31 : decode cX6_holdsAny 31 = .ok (.iload_n 2, 1) := dk_28 (dk_at dksX6_holdsAny_1 9 rfl rfl)
theorem dX6_holdsAny_32 : decode cX6_holdsAny 32 = .ok (.iaload, 1) := dk_46 (dk_at dksX6_holdsAny_1 10 rfl rfl)
theorem dX6_holdsAny_33 : decode cX6_holdsAny 33 = .ok (.invokevirtual 241, 3) := dk_182 0 241 (dk_at dksX6_holdsAny_1 11 rfl rfl)
theorem dX6_holdsAny_36 : decode cX6_holdsAny 36 = .ok (.iconst 1, 1) := dk_4 (dk_at dksX6_holdsAny_1 14 rfl rfl)
theorem dX6_holdsAny_37 : decode cX6_holdsAny 37 = .ok (.if_icmp .ne 5, 3) := dk_160 0 5 (dk_at dksX6_holdsAny_1 15 rfl rfl)
theorem dX6_holdsAny_40 : decode cX6_holdsAny 40 = .ok (.iconst 1, 1) := dk_4 (dk_at dksX6_holdsAny_1 18 rfl rfl)
theorem dX6_holdsAny_41 : decode cX6_holdsAny 41 = .ok (.ireturn, 1) := dk_172 (dk_at dksX6_holdsAny_1 19 rfl rfl)
theorem dX6_holdsAny_42 : decode cX6_holdsAny 42 = .ok (.iinc 2 1, 3) := dk_132 2 1 (dk_at dksX6_holdsAny_1 20 rfl rfl)
theorem dX6_holdsAny_45 : decode cX6_holdsAny 45 = .ok (.goto (-43), 3) := dk_167 255 213 (dk_at dksX6_holdsAny_2 0 rfl rfl)
theorem dX6_holdsAny_48 : decode cX6_holdsAny 48 = .ok (.iconst 0, 1) := dk_3 (dk_at dksX6_holdsAny_2 3 rfl rfl)
theorem dX6_holdsAny_49 : decode cX6_holdsAny 49 = .ok (.ireturn, 1) := dk_172 (dk_at dksX6_holdsAny_2 4 rfl rfl)
abbrev cX6_comesTo : ByteArray := prog_20_method_46_code
def yX6_comesTo : MethodName := ⟨RX6, "comesTo", "(II)I"⟩
def dkwX6_comesTo_10 : List UInt8 := [3, 46, 172]
abbrev dktX6_comesTo_10 : List UInt8 := dkwX6_comesTo_10 ++ []
def dkwX6_comesTo_9 : List UInt8 := [180, 0, 56, 29, 4, 100, 46, 42, 180, 0, 56, 29, 46, 184, 0, 237, 79, 167, 255, 42, 42, 180, 0, 56]
abbrev dktX6_comesTo_9 : List UInt8 := dkwX6_comesTo_9 ++ dktX6_comesTo_10
def dkwX6_comesTo_8 : List UInt8 := [160, 0, 14, 42, 180, 0, 56, 29, 46, 154, 0, 5, 3, 172, 42, 180, 0, 56, 29, 4, 100, 21, 6, 42]
abbrev dktX6_comesTo_8 : List UInt8 := dkwX6_comesTo_8 ++ dktX6_comesTo_9
def dkwX6_comesTo_7 : List UInt8 := [167, 0, 65, 29, 4, 100, 62, 167, 0, 58, 29, 4, 100, 62, 21, 6, 8, 159, 0, 10, 21, 6, 16, 6]
abbrev dktX6_comesTo_7 : List UInt8 := dkwX6_comesTo_7 ++ dktX6_comesTo_8
def dkwX6_comesTo_6 : List UInt8 := [100, 46, 21, 6, 16, 12, 160, 0, 7, 4, 167, 0, 4, 3, 160, 0, 13, 21, 4, 21, 7, 96, 54, 5]
abbrev dktX6_comesTo_6 : List UInt8 := dkwX6_comesTo_6 ++ dktX6_comesTo_7
def dkwX6_comesTo_5 : List UInt8 := [79, 167, 0, 112, 21, 6, 16, 11, 159, 0, 10, 21, 6, 16, 12, 160, 0, 43, 42, 180, 0, 56, 29, 4]
abbrev dktX6_comesTo_5 : List UInt8 := dkwX6_comesTo_5 ++ dktX6_comesTo_6
def dkwX6_comesTo_4 : List UInt8 := [21, 6, 16, 10, 160, 0, 24, 42, 180, 0, 56, 29, 4, 100, 4, 42, 180, 0, 56, 29, 4, 100, 46, 100]
abbrev dktX6_comesTo_4 : List UInt8 := dkwX6_comesTo_4 ++ dktX6_comesTo_5
def dkwX6_comesTo_3 : List UInt8 := [154, 0, 8, 21, 7, 167, 0, 10, 42, 180, 0, 59, 21, 7, 46, 79, 29, 4, 96, 62, 167, 0, 140]
abbrev dktX6_comesTo_3 : List UInt8 := dkwX6_comesTo_3 ++ dktX6_comesTo_4
def dkwX6_comesTo_2 : List UInt8 := [21, 5, 4, 96, 54, 5, 21, 6, 153, 0, 9, 21, 6, 4, 160, 0, 33, 42, 180, 0, 56, 29, 21, 6]
abbrev dktX6_comesTo_2 : List UInt8 := dkwX6_comesTo_2 ++ dktX6_comesTo_3
def dkwX6_comesTo_1 : List UInt8 := [180, 0, 41, 21, 5, 46, 18, 168, 108, 54, 6, 42, 180, 0, 41, 21, 5, 46, 18, 168, 112, 54, 7]
abbrev dktX6_comesTo_1 : List UInt8 := dkwX6_comesTo_1 ++ dktX6_comesTo_2
def dkwX6_comesTo_0 : List UInt8 := [3, 62, 17, 1, 4, 27, 17, 1, 4, 108, 104, 54, 4, 27, 54, 5, 21, 5, 28, 162, 0, 214, 42]
abbrev dktX6_comesTo_0 : List UInt8 := dkwX6_comesTo_0 ++ dktX6_comesTo_1
theorem dksX6_comesTo_0 : cX6_comesTo.data.toList.drop 0 = dktX6_comesTo_0 := by decide +kernel
theorem dksX6_comesTo_1 : cX6_comesTo.data.toList.drop 23 = dktX6_comesTo_1 := dk_seg dksX6_comesTo_0 23 rfl rfl
theorem dksX6_comesTo_2 : cX6_comesTo.data.toList.drop 46 = dktX6_comesTo_2 := dk_seg dksX6_comesTo_1 23 rfl rfl
theorem dksX6_comesTo_3 : cX6_comesTo.data.toList.drop 70 = dktX6_comesTo_3 := dk_seg dksX6_comesTo_2 24 rfl rfl
theorem dksX6_comesTo_4 : cX6_comesTo.data.toList.drop 93 = dktX6_comesTo_4 := dk_seg dksX6_comesTo_3 23 rfl rfl
theorem dksX6_comesTo_5 : cX6_comesTo.data.toList.drop 117 = dktX6_comesTo_5 := dk_seg dksX6_comesTo_4 24 rfl rfl
theorem dksX6_comesTo_6 : cX6_comesTo.data.toList.drop 141 = dktX6_comesTo_6 := dk_seg dksX6_comesTo_5 24 rfl rfl
theorem dksX6_comesTo_7 : cX6_comesTo.data.toList.drop 165 = dktX6_comesTo_7 := dk_seg dksX6_comesTo_6 24 rfl rfl
theorem dksX6_comesTo_8 : cX6_comesTo.data.toList.drop 189 = dktX6_comesTo_8 := dk_seg dksX6_comesTo_7 24 rfl rfl
theorem dksX6_comesTo_9 : cX6_comesTo.data.toList.drop 213 = dktX6_comesTo_9 := dk_seg dksX6_comesTo_8 24 rfl rfl
theorem dksX6_comesTo_10 : cX6_comesTo.data.toList.drop 237 = dktX6_comesTo_10 := dk_seg dksX6_comesTo_9 24 rfl rfl
theorem dX6_comesTo_0 : decode cX6_comesTo 0 = .ok (.iconst 0, 1) := dk_3 (dk_at dksX6_comesTo_0 0 rfl rfl)
theorem dX6_comesTo_1 : decode cX6_comesTo 1 = .ok (.istore_n 3, 1) := dk_62 (dk_at dksX6_comesTo_0 1 rfl rfl)
theorem dX6_comesTo_2 : decode cX6_comesTo 2 = .ok (.sipush 260, 3) := dk_17 1 4 (dk_at dksX6_comesTo_0 2 rfl rfl)
theorem dX6_comesTo_5 : decode cX6_comesTo 5 = .ok (.iload_n 1, 1) := dk_27 (dk_at dksX6_comesTo_0 5 rfl rfl)
theorem dX6_comesTo_6 : decode cX6_comesTo 6 = .ok (.sipush 260, 3) := dk_17 1 4 (dk_at dksX6_comesTo_0 6 rfl rfl)
theorem dX6_comesTo_9 : decode cX6_comesTo 9 = .ok (.idiv, 1) := dk_108 (dk_at dksX6_comesTo_0 9 rfl rfl)
theorem dX6_comesTo_10 : decode cX6_comesTo 10 = .ok (.imul, 1) := dk_104 (dk_at dksX6_comesTo_0 10 rfl rfl)
theorem dX6_comesTo_11 : decode cX6_comesTo 11 = .ok (.istore 4, 2) := dk_54 4 (dk_at dksX6_comesTo_0 11 rfl rfl)
theorem dX6_comesTo_13 : decode cX6_comesTo 13 = .ok (.iload_n 1, 1) := dk_27 (dk_at dksX6_comesTo_0 13 rfl rfl)
theorem dX6_comesTo_14 : decode cX6_comesTo 14 = .ok (.istore 5, 2) := dk_54 5 (dk_at dksX6_comesTo_0 14 rfl rfl)
theorem dX6_comesTo_16 : decode cX6_comesTo 16 = .ok (.iload 5, 2) := dk_21 5 (dk_at dksX6_comesTo_0 16 rfl rfl)
theorem dX6_comesTo_18 : decode cX6_comesTo 18 = .ok (.iload_n 2, 1) := dk_28 (dk_at dksX6_comesTo_0 18 rfl rfl)
theorem dX6_comesTo_19 : decode cX6_comesTo 19 = .ok (.if_icmp .ge 214, 3) := dk_162 0 214 (dk_at dksX6_comesTo_0 19 rfl rfl)
theorem dX6_comesTo_22 : decode cX6_comesTo 22 = .ok (.aload_n 0, 1) := dk_42 (dk_at dksX6_comesTo_0 22 rfl rfl)
theorem dX6_comesTo_23 : decode cX6_comesTo 23 = .ok (.getfield 41, 3) := dk_180 0 41 (dk_at dksX6_comesTo_1 0 rfl rfl)
theorem dX6_comesTo_26 : decode cX6_comesTo 26 = .ok (.iload 5, 2) := dk_21 5 (dk_at dksX6_comesTo_1 3 rfl rfl)
theorem dX6_comesTo_28 : decode cX6_comesTo 28 = .ok (.iaload, 1) := dk_46 (dk_at dksX6_comesTo_1 5 rfl rfl)
theorem dX6_comesTo_29 : decode cX6_comesTo 29 = .ok (.ldc 168, 2) := dk_18 168 (dk_at dksX6_comesTo_1 6 rfl rfl)
theorem dX6_comesTo_31 : decode cX6_comesTo 31 = .ok (.idiv, 1) := dk_108 (dk_at dksX6_comesTo_1 8 rfl rfl)
theorem dX6_comesTo_32 : decode cX6_comesTo 32 = .ok (.istore 6, 2) := dk_54 6 (dk_at dksX6_comesTo_1 9 rfl rfl)
theorem dX6_comesTo_34 : decode cX6_comesTo 34 = .ok (.aload_n 0, 1) := dk_42 (dk_at dksX6_comesTo_1 11 rfl rfl)
theorem dX6_comesTo_35 : decode cX6_comesTo 35 = .ok (.getfield 41, 3) := dk_180 0 41 (dk_at dksX6_comesTo_1 12 rfl rfl)
theorem dX6_comesTo_38 : decode cX6_comesTo 38 = .ok (.iload 5, 2) := dk_21 5 (dk_at dksX6_comesTo_1 15 rfl rfl)
theorem dX6_comesTo_40 : decode cX6_comesTo 40 = .ok (.iaload, 1) := dk_46 (dk_at dksX6_comesTo_1 17 rfl rfl)
theorem dX6_comesTo_41 : decode cX6_comesTo 41 = .ok (.ldc 168, 2) := dk_18 168 (dk_at dksX6_comesTo_1 18 rfl rfl)
theorem dX6_comesTo_43 : decode cX6_comesTo 43 = .ok (.irem, 1) := dk_112 (dk_at dksX6_comesTo_1 20 rfl rfl)
theorem dX6_comesTo_44 : decode cX6_comesTo 44 = .ok (.istore 7, 2) := dk_54 7 (dk_at dksX6_comesTo_1 21 rfl rfl)
theorem dX6_comesTo_46 : decode cX6_comesTo 46 = .ok (.iload 5, 2) := dk_21 5 (dk_at dksX6_comesTo_2 0 rfl rfl)
theorem dX6_comesTo_48 : decode cX6_comesTo 48 = .ok (.iconst 1, 1) := dk_4 (dk_at dksX6_comesTo_2 2 rfl rfl)
theorem dX6_comesTo_49 : decode cX6_comesTo 49 = .ok (.iadd, 1) := dk_96 (dk_at dksX6_comesTo_2 3 rfl rfl)
theorem dX6_comesTo_50 : decode cX6_comesTo 50 = .ok (.istore 5, 2) := dk_54 5 (dk_at dksX6_comesTo_2 4 rfl rfl)
theorem dX6_comesTo_52 : decode cX6_comesTo 52 = .ok (.iload 6, 2) := dk_21 6 (dk_at dksX6_comesTo_2 6 rfl rfl)
theorem dX6_comesTo_54 : decode cX6_comesTo 54 = .ok (.ifCond .eq 9, 3) := dk_153 0 9 (dk_at dksX6_comesTo_2 8 rfl rfl)
theorem dX6_comesTo_57 : decode cX6_comesTo 57 = .ok (.iload 6, 2) := dk_21 6 (dk_at dksX6_comesTo_2 11 rfl rfl)
theorem dX6_comesTo_59 : decode cX6_comesTo 59 = .ok (.iconst 1, 1) := dk_4 (dk_at dksX6_comesTo_2 13 rfl rfl)
theorem dX6_comesTo_60 : decode cX6_comesTo 60 = .ok (.if_icmp .ne 33, 3) := dk_160 0 33 (dk_at dksX6_comesTo_2 14 rfl rfl)
theorem dX6_comesTo_63 : decode cX6_comesTo 63 = .ok (.aload_n 0, 1) := dk_42 (dk_at dksX6_comesTo_2 17 rfl rfl)
theorem dX6_comesTo_64 : decode cX6_comesTo 64 = .ok (.getfield 56, 3) := dk_180 0 56 (dk_at dksX6_comesTo_2 18 rfl rfl)
theorem dX6_comesTo_67 : decode cX6_comesTo 67 = .ok (.iload_n 3, 1) := dk_29 (dk_at dksX6_comesTo_2 21 rfl rfl)
theorem dX6_comesTo_68 : decode cX6_comesTo 68 = .ok (.iload 6, 2) := dk_21 6 (dk_at dksX6_comesTo_2 22 rfl rfl)
theorem dX6_comesTo_70 : decode cX6_comesTo 70 = .ok (.ifCond .ne 8, 3) := dk_154 0 8 (dk_at dksX6_comesTo_3 0 rfl rfl)
theorem dX6_comesTo_73 : decode cX6_comesTo 73 = .ok (.iload 7, 2) := dk_21 7 (dk_at dksX6_comesTo_3 3 rfl rfl)
theorem dX6_comesTo_75 : decode cX6_comesTo 75 = .ok (.goto 10, 3) := dk_167 0 10 (dk_at dksX6_comesTo_3 5 rfl rfl)
theorem dX6_comesTo_78 : decode cX6_comesTo 78 = .ok (.aload_n 0, 1) := dk_42 (dk_at dksX6_comesTo_3 8 rfl rfl)
theorem dX6_comesTo_79 : decode cX6_comesTo 79 = .ok (.getfield 59, 3) := dk_180 0 59 (dk_at dksX6_comesTo_3 9 rfl rfl)
theorem dX6_comesTo_82 : decode cX6_comesTo 82 = .ok (.iload 7, 2) := dk_21 7 (dk_at dksX6_comesTo_3 12 rfl rfl)
theorem dX6_comesTo_84 : decode cX6_comesTo 84 = .ok (.iaload, 1) := dk_46 (dk_at dksX6_comesTo_3 14 rfl rfl)
theorem dX6_comesTo_85 : decode cX6_comesTo 85 = .ok (.iastore, 1) := dk_79 (dk_at dksX6_comesTo_3 15 rfl rfl)
theorem dX6_comesTo_86 : decode cX6_comesTo 86 = .ok (.iload_n 3, 1) := dk_29 (dk_at dksX6_comesTo_3 16 rfl rfl)
theorem dX6_comesTo_87 : decode cX6_comesTo 87 = .ok (.iconst 1, 1) := dk_4 (dk_at dksX6_comesTo_3 17 rfl rfl)
theorem dX6_comesTo_88 : decode cX6_comesTo 88 = .ok (.iadd, 1) := dk_96 (dk_at dksX6_comesTo_3 18 rfl rfl)
theorem dX6_comesTo_89 : decode cX6_comesTo 89 = .ok (.istore_n 3, 1) := dk_62 (dk_at dksX6_comesTo_3 19 rfl rfl)
theorem dX6_comesTo_90 : decode cX6_comesTo 90 = .ok (.goto 140, 3) := dk_167 0 140 (dk_at dksX6_comesTo_3 20 rfl rfl)
theorem dX6_comesTo_93 : decode cX6_comesTo 93 = .ok (.iload 6, 2) := dk_21 6 (dk_at dksX6_comesTo_4 0 rfl rfl)
theorem dX6_comesTo_95 : decode cX6_comesTo 95 = .ok (.bipush 10, 2) := dk_16 10 (dk_at dksX6_comesTo_4 2 rfl rfl)
theorem dX6_comesTo_97 : decode cX6_comesTo 97 = .ok (.if_icmp .ne 24, 3) := dk_160 0 24 (dk_at dksX6_comesTo_4 4 rfl rfl)
theorem dX6_comesTo_100 : decode cX6_comesTo 100 = .ok (.aload_n 0, 1) := dk_42 (dk_at dksX6_comesTo_4 7 rfl rfl)
theorem dX6_comesTo_101 : decode cX6_comesTo 101 = .ok (.getfield 56, 3) := dk_180 0 56 (dk_at dksX6_comesTo_4 8 rfl rfl)
theorem dX6_comesTo_104 : decode cX6_comesTo 104 = .ok (.iload_n 3, 1) := dk_29 (dk_at dksX6_comesTo_4 11 rfl rfl)
theorem dX6_comesTo_105 : decode cX6_comesTo 105 = .ok (.iconst 1, 1) := dk_4 (dk_at dksX6_comesTo_4 12 rfl rfl)
theorem dX6_comesTo_106 : decode cX6_comesTo 106 = .ok (.isub, 1) := dk_100 (dk_at dksX6_comesTo_4 13 rfl rfl)
theorem dX6_comesTo_107 : decode cX6_comesTo 107 = .ok (.iconst 1, 1) := dk_4 (dk_at dksX6_comesTo_4 14 rfl rfl)
theorem dX6_comesTo_108 : decode cX6_comesTo 108 = .ok (.aload_n 0, 1) := dk_42 (dk_at dksX6_comesTo_4 15 rfl rfl)
theorem dX6_comesTo_109 : decode cX6_comesTo 109 = .ok (.getfield 56, 3) := dk_180 0 56 (dk_at dksX6_comesTo_4 16 rfl rfl)
theorem dX6_comesTo_112 : decode cX6_comesTo 112 = .ok (.iload_n 3, 1) := dk_29 (dk_at dksX6_comesTo_4 19 rfl rfl)
theorem dX6_comesTo_113 : decode cX6_comesTo 113 = .ok (.iconst 1, 1) := dk_4 (dk_at dksX6_comesTo_4 20 rfl rfl)
theorem dX6_comesTo_114 : decode cX6_comesTo 114 = .ok (.isub, 1) := dk_100 (dk_at dksX6_comesTo_4 21 rfl rfl)
theorem dX6_comesTo_115 : decode cX6_comesTo 115 = .ok (.iaload, 1) := dk_46 (dk_at dksX6_comesTo_4 22 rfl rfl)
theorem dX6_comesTo_116 : decode cX6_comesTo 116 = .ok (.isub, 1) := dk_100 (dk_at dksX6_comesTo_4 23 rfl rfl)
theorem dX6_comesTo_117 : decode cX6_comesTo 117 = .ok (.iastore, 1) := dk_79 (dk_at dksX6_comesTo_5 0 rfl rfl)
theorem dX6_comesTo_118 : decode cX6_comesTo 118 = .ok (.goto 112, 3) := dk_167 0 112 (dk_at dksX6_comesTo_5 1 rfl rfl)
theorem dX6_comesTo_121 : decode cX6_comesTo 121 = .ok (.iload 6, 2) := dk_21 6 (dk_at dksX6_comesTo_5 4 rfl rfl)
theorem dX6_comesTo_123 : decode cX6_comesTo 123 = .ok (.bipush 11, 2) := dk_16 11 (dk_at dksX6_comesTo_5 6 rfl rfl)
theorem dX6_comesTo_125 : decode cX6_comesTo 125 = .ok (.if_icmp .eq 10, 3) := dk_159 0 10 (dk_at dksX6_comesTo_5 8 rfl rfl)
theorem dX6_comesTo_128 : decode cX6_comesTo 128 = .ok (.iload 6, 2) := dk_21 6 (dk_at dksX6_comesTo_5 11 rfl rfl)
theorem dX6_comesTo_130 : decode cX6_comesTo 130 = .ok (.bipush 12, 2) := dk_16 12 (dk_at dksX6_comesTo_5 13 rfl rfl)
theorem dX6_comesTo_132 : decode cX6_comesTo 132 = .ok (.if_icmp .ne 43, 3) := dk_160 0 43 (dk_at dksX6_comesTo_5 15 rfl rfl)
theorem dX6_comesTo_135 : decode cX6_comesTo 135 = .ok (.aload_n 0, 1) := dk_42 (dk_at dksX6_comesTo_5 18 rfl rfl)
theorem dX6_comesTo_136 : decode cX6_comesTo 136 = .ok (.getfield 56, 3) := dk_180 0 56 (dk_at dksX6_comesTo_5 19 rfl rfl)
theorem dX6_comesTo_139 : decode cX6_comesTo 139 = .ok (.iload_n 3, 1) := dk_29 (dk_at dksX6_comesTo_5 22 rfl rfl)
theorem dX6_comesTo_140 : decode cX6_comesTo 140 = .ok (.iconst 1, 1) := dk_4 (dk_at dksX6_comesTo_5 23 rfl rfl)
theorem dX6_comesTo_141 : decode cX6_comesTo 141 = .ok (.isub, 1) := dk_100 (dk_at dksX6_comesTo_6 0 rfl rfl)
theorem dX6_comesTo_142 : decode cX6_comesTo 142 = .ok (.iaload, 1) := dk_46 (dk_at dksX6_comesTo_6 1 rfl rfl)
theorem dX6_comesTo_143 : decode cX6_comesTo 143 = .ok (.iload 6, 2) := dk_21 6 (dk_at dksX6_comesTo_6 2 rfl rfl)
theorem dX6_comesTo_145 : decode cX6_comesTo 145 = .ok (.bipush 12, 2) := dk_16 12 (dk_at dksX6_comesTo_6 4 rfl rfl)
theorem dX6_comesTo_147 : decode cX6_comesTo 147 = .ok (.if_icmp .ne 7, 3) := dk_160 0 7 (dk_at dksX6_comesTo_6 6 rfl rfl)
theorem dX6_comesTo_150 : decode cX6_comesTo 150 = .ok (.iconst 1, 1) := dk_4 (dk_at dksX6_comesTo_6 9 rfl rfl)
theorem dX6_comesTo_151 : decode cX6_comesTo 151 = .ok (.goto 4, 3) := dk_167 0 4 (dk_at dksX6_comesTo_6 10 rfl rfl)
theorem dX6_comesTo_154 : decode cX6_comesTo 154 = .ok (.iconst 0, 1) := dk_3 (dk_at dksX6_comesTo_6 13 rfl rfl)
theorem dX6_comesTo_155 : decode cX6_comesTo 155 = .ok (.if_icmp .ne 13, 3) := dk_160 0 13 (dk_at dksX6_comesTo_6 14 rfl rfl)
theorem dX6_comesTo_158 : decode cX6_comesTo 158 = .ok (.iload 4, 2) := dk_21 4 (dk_at dksX6_comesTo_6 17 rfl rfl)
theorem dX6_comesTo_160 : decode cX6_comesTo 160 = .ok (.iload 7, 2) := dk_21 7 (dk_at dksX6_comesTo_6 19 rfl rfl)
theorem dX6_comesTo_162 : decode cX6_comesTo 162 = .ok (.iadd, 1) := dk_96 (dk_at dksX6_comesTo_6 21 rfl rfl)
theorem dX6_comesTo_163 : decode cX6_comesTo 163 = .ok (.istore 5, 2) := dk_54 5 (dk_at dksX6_comesTo_6 22 rfl rfl)
theorem dX6_comesTo_165 : decode cX6_comesTo 165 = .ok (.goto 65, 3) := dk_167 0 65 (dk_at dksX6_comesTo_7 0 rfl rfl)
theorem dX6_comesTo_168 : decode cX6_comesTo 168 = .ok (.iload_n 3, 1) := dk_29 (dk_at dksX6_comesTo_7 3 rfl rfl)
theorem dX6_comesTo_169 : decode cX6_comesTo 169 = .ok (.iconst 1, 1) := dk_4 (dk_at dksX6_comesTo_7 4 rfl rfl)
theorem dX6_comesTo_170 : decode cX6_comesTo 170 = .ok (.isub, 1) := dk_100 (dk_at dksX6_comesTo_7 5 rfl rfl)
theorem dX6_comesTo_171 : decode cX6_comesTo 171 = .ok (.istore_n 3, 1) := dk_62 (dk_at dksX6_comesTo_7 6 rfl rfl)
theorem dX6_comesTo_172 : decode cX6_comesTo 172 = .ok (.goto 58, 3) := dk_167 0 58 (dk_at dksX6_comesTo_7 7 rfl rfl)
theorem dX6_comesTo_175 : decode cX6_comesTo 175 = .ok (.iload_n 3, 1) := dk_29 (dk_at dksX6_comesTo_7 10 rfl rfl)
theorem dX6_comesTo_176 : decode cX6_comesTo 176 = .ok (.iconst 1, 1) := dk_4 (dk_at dksX6_comesTo_7 11 rfl rfl)
theorem dX6_comesTo_177 : decode cX6_comesTo 177 = .ok (.isub, 1) := dk_100 (dk_at dksX6_comesTo_7 12 rfl rfl)
theorem dX6_comesTo_178 : decode cX6_comesTo 178 = .ok (.istore_n 3, 1) := dk_62 (dk_at dksX6_comesTo_7 13 rfl rfl)
theorem dX6_comesTo_179 : decode cX6_comesTo 179 = .ok (.iload 6, 2) := dk_21 6 (dk_at dksX6_comesTo_7 14 rfl rfl)
theorem dX6_comesTo_181 : decode cX6_comesTo 181 = .ok (.iconst 5, 1) := dk_8 (dk_at dksX6_comesTo_7 16 rfl rfl)
theorem dX6_comesTo_182 : decode cX6_comesTo 182 = .ok (.if_icmp .eq 10, 3) := dk_159 0 10 (dk_at dksX6_comesTo_7 17 rfl rfl)
theorem dX6_comesTo_185 : decode cX6_comesTo 185 = .ok (.iload 6, 2) := dk_21 6 (dk_at dksX6_comesTo_7 20 rfl rfl)
theorem dX6_comesTo_187 : decode cX6_comesTo 187 = .ok (.bipush 6, 2) := dk_16 6 (dk_at dksX6_comesTo_7 22 rfl rfl)
theorem dX6_comesTo_189 : decode cX6_comesTo 189 = .ok (.if_icmp .ne 14, 3) := dk_160 0 14 (dk_at dksX6_comesTo_8 0 rfl rfl)
theorem dX6_comesTo_192 : decode cX6_comesTo 192 = .ok (.aload_n 0, 1) := dk_42 (dk_at dksX6_comesTo_8 3 rfl rfl)
theorem dX6_comesTo_193 : decode cX6_comesTo 193 = .ok (.getfield 56, 3) := dk_180 0 56 (dk_at dksX6_comesTo_8 4 rfl rfl)
theorem dX6_comesTo_196 : decode cX6_comesTo 196 = .ok (.iload_n 3, 1) := dk_29 (dk_at dksX6_comesTo_8 7 rfl rfl)
theorem dX6_comesTo_197 : decode cX6_comesTo 197 = .ok (.iaload, 1) := dk_46 (dk_at dksX6_comesTo_8 8 rfl rfl)
theorem dX6_comesTo_198 : decode cX6_comesTo 198 = .ok (.ifCond .ne 5, 3) := dk_154 0 5 (dk_at dksX6_comesTo_8 9 rfl rfl)
theorem dX6_comesTo_201 : decode cX6_comesTo 201 = .ok (.iconst 0, 1) := dk_3 (dk_at dksX6_comesTo_8 12 rfl rfl)
theorem dX6_comesTo_202 : decode cX6_comesTo 202 = .ok (.ireturn, 1) := dk_172 (dk_at dksX6_comesTo_8 13 rfl rfl)
theorem dX6_comesTo_203 : decode cX6_comesTo 203 = .ok (.aload_n 0, 1) := dk_42 (dk_at dksX6_comesTo_8 14 rfl rfl)
theorem dX6_comesTo_204 : decode cX6_comesTo 204 = .ok (.getfield 56, 3) := dk_180 0 56 (dk_at dksX6_comesTo_8 15 rfl rfl)
theorem dX6_comesTo_207 : decode cX6_comesTo 207 = .ok (.iload_n 3, 1) := dk_29 (dk_at dksX6_comesTo_8 18 rfl rfl)
theorem dX6_comesTo_208 : decode cX6_comesTo 208 = .ok (.iconst 1, 1) := dk_4 (dk_at dksX6_comesTo_8 19 rfl rfl)
theorem dX6_comesTo_209 : decode cX6_comesTo 209 = .ok (.isub, 1) := dk_100 (dk_at dksX6_comesTo_8 20 rfl rfl)
theorem dX6_comesTo_210 : decode cX6_comesTo 210 = .ok (.iload 6, 2) := dk_21 6 (dk_at dksX6_comesTo_8 21 rfl rfl)
theorem dX6_comesTo_212 : decode cX6_comesTo 212 = .ok (.aload_n 0, 1) := dk_42 (dk_at dksX6_comesTo_8 23 rfl rfl)
theorem dX6_comesTo_213 : decode cX6_comesTo 213 = .ok (.getfield 56, 3) := dk_180 0 56 (dk_at dksX6_comesTo_9 0 rfl rfl)
theorem dX6_comesTo_216 : decode cX6_comesTo 216 = .ok (.iload_n 3, 1) := dk_29 (dk_at dksX6_comesTo_9 3 rfl rfl)
theorem dX6_comesTo_217 : decode cX6_comesTo 217 = .ok (.iconst 1, 1) := dk_4 (dk_at dksX6_comesTo_9 4 rfl rfl)
theorem dX6_comesTo_218 : decode cX6_comesTo 218 = .ok (.isub, 1) := dk_100 (dk_at dksX6_comesTo_9 5 rfl rfl)
theorem dX6_comesTo_219 : decode cX6_comesTo 219 = .ok (.iaload, 1) := dk_46 (dk_at dksX6_comesTo_9 6 rfl rfl)
theorem dX6_comesTo_220 : decode cX6_comesTo 220 = .ok (.aload_n 0, 1) := dk_42 (dk_at dksX6_comesTo_9 7 rfl rfl)
theorem dX6_comesTo_221 : decode cX6_comesTo 221 = .ok (.getfield 56, 3) := dk_180 0 56 (dk_at dksX6_comesTo_9 8 rfl rfl)
theorem dX6_comesTo_224 : decode cX6_comesTo 224 = .ok (.iload_n 3, 1) := dk_29 (dk_at dksX6_comesTo_9 11 rfl rfl)
theorem dX6_comesTo_225 : decode cX6_comesTo 225 = .ok (.iaload, 1) := dk_46 (dk_at dksX6_comesTo_9 12 rfl rfl)
theorem dX6_comesTo_226 : decode cX6_comesTo 226 = .ok (.invokestatic 237, 3) := dk_184 0 237 (dk_at dksX6_comesTo_9 13 rfl rfl)
theorem dX6_comesTo_229 : decode cX6_comesTo 229 = .ok (.iastore, 1) := dk_79 (dk_at dksX6_comesTo_9 16 rfl rfl)
theorem dX6_comesTo_230 : decode cX6_comesTo 230 = .ok (.goto (-214), 3) := dk_167 255 42 (dk_at dksX6_comesTo_9 17 rfl rfl)
theorem dX6_comesTo_233 : decode cX6_comesTo 233 = .ok (.aload_n 0, 1) := dk_42 (dk_at dksX6_comesTo_9 20 rfl rfl)
theorem dX6_comesTo_234 : decode cX6_comesTo 234 = .ok (.getfield 56, 3) := dk_180 0 56 (dk_at dksX6_comesTo_9 21 rfl rfl)
theorem dX6_comesTo_237 : decode cX6_comesTo 237 = .ok (.iconst 0, 1) := dk_3 (dk_at dksX6_comesTo_10 0 rfl rfl)
theorem dX6_comesTo_238 : decode cX6_comesTo 238 = .ok (.iaload, 1) := dk_46 (dk_at dksX6_comesTo_10 1 rfl rfl)
theorem dX6_comesTo_239 : decode cX6_comesTo 239 = .ok (.ireturn, 1) := dk_172 (dk_at dksX6_comesTo_10 2 rfl rfl)
abbrev cX6_reckon : ByteArray := prog_20_method_45_code
def yX6_reckon : MethodName := ⟨RX6, "reckon", "(III)I"⟩
def dkwX6_reckon_4 : List UInt8 := [160, 0, 7, 4, 167, 0, 4, 3, 172]
abbrev dktX6_reckon_4 : List UInt8 := dkwX6_reckon_4 ++ []
def dkwX6_reckon_3 : List UInt8 := [162, 0, 7, 4, 167, 0, 4, 3, 172, 27, 28, 164, 0, 7, 4, 167, 0, 4, 3, 172, 27, 28]
abbrev dktX6_reckon_3 : List UInt8 := dkwX6_reckon_3 ++ dktX6_reckon_4
def dkwX6_reckon_2 : List UInt8 := [27, 28, 96, 172, 27, 28, 100, 172, 27, 28, 104, 172, 27, 28, 108, 172, 27, 28, 112, 172, 27, 28]
abbrev dktX6_reckon_2 : List UInt8 := dkwX6_reckon_2 ++ dktX6_reckon_3
def dkwX6_reckon_1 : List UInt8 := [170, 0, 0, 0, 0, 0, 85, 0, 0, 0, 2, 0, 0, 0, 8, 0, 0, 0, 43, 0, 0, 0, 47, 0, 0, 0, 51, 0, 0, 0, 55, 0, 0, 0, 59, 0, 0, 0, 63, 0, 0, 0, 74]
abbrev dktX6_reckon_1 : List UInt8 := dkwX6_reckon_1 ++ dktX6_reckon_2
def dkwX6_reckon_0 : List UInt8 := [26]
abbrev dktX6_reckon_0 : List UInt8 := dkwX6_reckon_0 ++ dktX6_reckon_1
theorem dksX6_reckon_0 : cX6_reckon.data.toList.drop 0 = dktX6_reckon_0 := by decide +kernel
theorem dksX6_reckon_1 : cX6_reckon.data.toList.drop 1 = dktX6_reckon_1 := dk_seg dksX6_reckon_0 1 rfl rfl
theorem dksX6_reckon_2 : cX6_reckon.data.toList.drop 44 = dktX6_reckon_2 := dk_seg dksX6_reckon_1 43 rfl rfl
theorem dksX6_reckon_3 : cX6_reckon.data.toList.drop 66 = dktX6_reckon_3 := dk_seg dksX6_reckon_2 22 rfl rfl
theorem dksX6_reckon_4 : cX6_reckon.data.toList.drop 88 = dktX6_reckon_4 := dk_seg dksX6_reckon_3 22 rfl rfl
theorem dX6_reckon_0 : decode cX6_reckon 0 = .ok (.iload_n 0, 1) := dk_26 (dk_at dksX6_reckon_0 0 rfl rfl)
theorem dX6_reckon_1 : decode cX6_reckon 1 = .ok (.tableswitch 85 2 8 #[43, 47, 51, 55, 59, 63, 74], 43) := by decide +kernel
theorem dX6_reckon_44 : decode cX6_reckon 44 = .ok (.iload_n 1, 1) := dk_27 (dk_at dksX6_reckon_2 0 rfl rfl)
theorem dX6_reckon_45 : decode cX6_reckon 45 = .ok (.iload_n 2, 1) := dk_28 (dk_at dksX6_reckon_2 1 rfl rfl)
theorem dX6_reckon_46 : decode cX6_reckon 46 = .ok (.iadd, 1) := dk_96 (dk_at dksX6_reckon_2 2 rfl rfl)
theorem dX6_reckon_47 : decode cX6_reckon 47 = .ok (.ireturn, 1) := dk_172 (dk_at dksX6_reckon_2 3 rfl rfl)
theorem dX6_reckon_48 : decode cX6_reckon 48 = .ok (.iload_n 1, 1) := dk_27 (dk_at dksX6_reckon_2 4 rfl rfl)
theorem dX6_reckon_49 : decode cX6_reckon 49 = .ok (.iload_n 2, 1) := dk_28 (dk_at dksX6_reckon_2 5 rfl rfl)
theorem dX6_reckon_50 : decode cX6_reckon 50 = .ok (.isub, 1) := dk_100 (dk_at dksX6_reckon_2 6 rfl rfl)
theorem dX6_reckon_51 : decode cX6_reckon 51 = .ok (.ireturn, 1) := dk_172 (dk_at dksX6_reckon_2 7 rfl rfl)
theorem dX6_reckon_52 : decode cX6_reckon 52 = .ok (.iload_n 1, 1) := dk_27 (dk_at dksX6_reckon_2 8 rfl rfl)
theorem dX6_reckon_53 : decode cX6_reckon 53 = .ok (.iload_n 2, 1) := dk_28 (dk_at dksX6_reckon_2 9 rfl rfl)
theorem dX6_reckon_54 : decode cX6_reckon 54 = .ok (.imul, 1) := dk_104 (dk_at dksX6_reckon_2 10 rfl rfl)
theorem dX6_reckon_55 : decode cX6_reckon 55 = .ok (.ireturn, 1) := dk_172 (dk_at dksX6_reckon_2 11 rfl rfl)
theorem dX6_reckon_56 : decode cX6_reckon 56 = .ok (.iload_n 1, 1) := dk_27 (dk_at dksX6_reckon_2 12 rfl rfl)
theorem dX6_reckon_57 : decode cX6_reckon 57 = .ok (.iload_n 2, 1) := dk_28 (dk_at dksX6_reckon_2 13 rfl rfl)
theorem dX6_reckon_58 : decode cX6_reckon 58 = .ok (.idiv, 1) := dk_108 (dk_at dksX6_reckon_2 14 rfl rfl)
theorem dX6_reckon_59 : decode cX6_reckon 59 = .ok (.ireturn, 1) := dk_172 (dk_at dksX6_reckon_2 15 rfl rfl)
theorem dX6_reckon_60 : decode cX6_reckon 60 = .ok (.iload_n 1, 1) := dk_27 (dk_at dksX6_reckon_2 16 rfl rfl)
theorem dX6_reckon_61 : decode cX6_reckon 61 = .ok (.iload_n 2, 1) := dk_28 (dk_at dksX6_reckon_2 17 rfl rfl)
theorem dX6_reckon_62 : decode cX6_reckon 62 = .ok (.irem, 1) := dk_112 (dk_at dksX6_reckon_2 18 rfl rfl)
theorem dX6_reckon_63 : decode cX6_reckon 63 = .ok (.ireturn, 1) := dk_172 (dk_at dksX6_reckon_2 19 rfl rfl)
theorem dX6_reckon_64 : decode cX6_reckon 64 = .ok (.iload_n 1, 1) := dk_27 (dk_at dksX6_reckon_2 20 rfl rfl)
theorem dX6_reckon_65 : decode cX6_reckon 65 = .ok (.iload_n 2, 1) := dk_28 (dk_at dksX6_reckon_2 21 rfl rfl)
theorem dX6_reckon_66 : decode cX6_reckon 66 = .ok (.if_icmp .ge 7, 3) := dk_162 0 7 (dk_at dksX6_reckon_3 0 rfl rfl)
theorem dX6_reckon_69 : decode cX6_reckon 69 = .ok (.iconst 1, 1) := dk_4 (dk_at dksX6_reckon_3 3 rfl rfl)
theorem dX6_reckon_70 : decode cX6_reckon 70 = .ok (.goto 4, 3) := dk_167 0 4 (dk_at dksX6_reckon_3 4 rfl rfl)
theorem dX6_reckon_73 : decode cX6_reckon 73 = .ok (.iconst 0, 1) := dk_3 (dk_at dksX6_reckon_3 7 rfl rfl)
theorem dX6_reckon_74 : decode cX6_reckon 74 = .ok (.ireturn, 1) := dk_172 (dk_at dksX6_reckon_3 8 rfl rfl)
theorem dX6_reckon_75 : decode cX6_reckon 75 = .ok (.iload_n 1, 1) := dk_27 (dk_at dksX6_reckon_3 9 rfl rfl)
theorem dX6_reckon_76 : decode cX6_reckon 76 = .ok (.iload_n 2, 1) := dk_28 (dk_at dksX6_reckon_3 10 rfl rfl)
theorem dX6_reckon_77 : decode cX6_reckon 77 = .ok (.if_icmp .le 7, 3) := dk_164 0 7 (dk_at dksX6_reckon_3 11 rfl rfl)
theorem dX6_reckon_80 : decode cX6_reckon 80 = .ok (.iconst 1, 1) := dk_4 (dk_at dksX6_reckon_3 14 rfl rfl)
theorem dX6_reckon_81 : decode cX6_reckon 81 = .ok (.goto 4, 3) := dk_167 0 4 (dk_at dksX6_reckon_3 15 rfl rfl)
theorem dX6_reckon_84 : decode cX6_reckon 84 = .ok (.iconst 0, 1) := dk_3 (dk_at dksX6_reckon_3 18 rfl rfl)
theorem dX6_reckon_85 : decode cX6_reckon 85 = .ok (.ireturn, 1) := dk_172 (dk_at dksX6_reckon_3 19 rfl rfl)
theorem dX6_reckon_86 : decode cX6_reckon 86 = .ok (.iload_n 1, 1) := dk_27 (dk_at dksX6_reckon_3 20 rfl rfl)
theorem dX6_reckon_87 : decode cX6_reckon 87 = .ok (.iload_n 2, 1) := dk_28 (dk_at dksX6_reckon_3 21 rfl rfl)
theorem dX6_reckon_88 : decode cX6_reckon 88 = .ok (.if_icmp .ne 7, 3) := dk_160 0 7 (dk_at dksX6_reckon_4 0 rfl rfl)
theorem dX6_reckon_91 : decode cX6_reckon 91 = .ok (.iconst 1, 1) := dk_4 (dk_at dksX6_reckon_4 3 rfl rfl)
theorem dX6_reckon_92 : decode cX6_reckon 92 = .ok (.goto 4, 3) := dk_167 0 4 (dk_at dksX6_reckon_4 4 rfl rfl)
theorem dX6_reckon_95 : decode cX6_reckon 95 = .ok (.iconst 0, 1) := dk_3 (dk_at dksX6_reckon_4 7 rfl rfl)
theorem dX6_reckon_96 : decode cX6_reckon 96 = .ok (.ireturn, 1) := dk_172 (dk_at dksX6_reckon_4 8 rfl rfl)
abbrev cX6_likesMost : ByteArray := prog_20_method_58_code
def yX6_likesMost : MethodName := ⟨RX6, "likesMost", "(I)I"⟩
def dkwX6_likesMost_3 : List UInt8 := [61, 132, 4, 1, 167, 255, 187, 28, 172]
abbrev dktX6_likesMost_3 : List UInt8 := dkwX6_likesMost_3 ++ []
def dkwX6_likesMost_2 : List UInt8 := [16, 101, 17, 39, 15, 182, 1, 29, 54, 5, 21, 5, 29, 163, 0, 6, 167, 0, 9, 21, 5, 62, 21, 4]
abbrev dktX6_likesMost_2 : List UInt8 := dkwX6_likesMost_2 ++ dktX6_likesMost_3
def dkwX6_likesMost_1 : List UInt8 := [42, 180, 0, 7, 16, 32, 21, 4, 96, 46, 154, 0, 6, 167, 0, 36, 42, 27, 21, 4, 182, 1, 26, 42]
abbrev dktX6_likesMost_1 : List UInt8 := dkwX6_likesMost_1 ++ dktX6_likesMost_2
def dkwX6_likesMost_0 : List UInt8 := [2, 61, 3, 62, 3, 54, 4, 21, 4, 16, 16, 162, 0, 68, 42, 27, 21, 4, 182, 0, 123, 153, 0, 52]
abbrev dktX6_likesMost_0 : List UInt8 := dkwX6_likesMost_0 ++ dktX6_likesMost_1
theorem dksX6_likesMost_0 : cX6_likesMost.data.toList.drop 0 = dktX6_likesMost_0 := by decide +kernel
theorem dksX6_likesMost_1 : cX6_likesMost.data.toList.drop 24 = dktX6_likesMost_1 := dk_seg dksX6_likesMost_0 24 rfl rfl
theorem dksX6_likesMost_2 : cX6_likesMost.data.toList.drop 48 = dktX6_likesMost_2 := dk_seg dksX6_likesMost_1 24 rfl rfl
theorem dksX6_likesMost_3 : cX6_likesMost.data.toList.drop 72 = dktX6_likesMost_3 := dk_seg dksX6_likesMost_2 24 rfl rfl
theorem dX6_likesMost_0 : decode cX6_likesMost 0 = .ok (.iconst (-1), 1) := dk_2 (dk_at dksX6_likesMost_0 0 rfl rfl)
theorem dX6_likesMost_1 : decode cX6_likesMost 1 = .ok (.istore_n 2, 1) := dk_61 (dk_at dksX6_likesMost_0 1 rfl rfl)
theorem dX6_likesMost_2 : decode cX6_likesMost 2 = .ok (.iconst 0, 1) := dk_3 (dk_at dksX6_likesMost_0 2 rfl rfl)
theorem dX6_likesMost_3 : decode cX6_likesMost 3 = .ok (.istore_n 3, 1) := dk_62 (dk_at dksX6_likesMost_0 3 rfl rfl)
theorem dX6_likesMost_4 : decode cX6_likesMost 4 = .ok (.iconst 0, 1) := dk_3 (dk_at dksX6_likesMost_0 4 rfl rfl)
theorem dX6_likesMost_5 : decode cX6_likesMost 5 = .ok (.istore 4, 2) := dk_54 4 (dk_at dksX6_likesMost_0 5 rfl rfl)
theorem dX6_likesMost_7 : decode cX6_likesMost 7 = .ok (.iload 4, 2) := dk_21 4 (dk_at dksX6_likesMost_0 7 rfl rfl)
theorem dX6_likesMost_9 : decode cX6_likesMost 9 = .ok (.bipush 16, 2) := dk_16 16 (dk_at dksX6_likesMost_0 9 rfl rfl)
theorem dX6_likesMost_11 : decode cX6_likesMost 11 = .ok (.if_icmp .ge 68, 3) := dk_162 0 68 (dk_at dksX6_likesMost_0 11 rfl rfl)
theorem dX6_likesMost_14 : decode cX6_likesMost 14 = .ok (.aload_n 0, 1) := dk_42 (dk_at dksX6_likesMost_0 14 rfl rfl)
theorem dX6_likesMost_15 : decode cX6_likesMost 15 = .ok (.iload_n 1, 1) := dk_27 (dk_at dksX6_likesMost_0 15 rfl rfl)
theorem dX6_likesMost_16 : decode cX6_likesMost 16 = .ok (.iload 4, 2) := dk_21 4 (dk_at dksX6_likesMost_0 16 rfl rfl)
theorem dX6_likesMost_18 : decode cX6_likesMost 18 = .ok (.invokevirtual 123, 3) := dk_182 0 123 (dk_at dksX6_likesMost_0 18 rfl rfl)
theorem dX6_likesMost_21 : decode cX6_likesMost 21 = .ok (.ifCond .eq 52, 3) := dk_153 0 52 (dk_at dksX6_likesMost_0 21 rfl rfl)
theorem dX6_likesMost_24 : decode cX6_likesMost 24 = .ok (.aload_n 0, 1) := dk_42 (dk_at dksX6_likesMost_1 0 rfl rfl)
theorem dX6_likesMost_25 : decode cX6_likesMost 25 = .ok (.getfield 7, 3) := dk_180 0 7 (dk_at dksX6_likesMost_1 1 rfl rfl)
theorem dX6_likesMost_28 : decode cX6_likesMost 28 = .ok (.bipush 32, 2) := dk_16 32 (dk_at dksX6_likesMost_1 4 rfl rfl)
theorem dX6_likesMost_30 : decode cX6_likesMost 30 = .ok (.iload 4, 2) := dk_21 4 (dk_at dksX6_likesMost_1 6 rfl rfl)
theorem dX6_likesMost_32 : decode cX6_likesMost 32 = .ok (.iadd, 1) := dk_96 (dk_at dksX6_likesMost_1 8 rfl rfl)
theorem dX6_likesMost_33 : decode cX6_likesMost 33 = .ok (.iaload, 1) := dk_46 (dk_at dksX6_likesMost_1 9 rfl rfl)
theorem dX6_likesMost_34 : decode cX6_likesMost 34 = .ok (.ifCond .ne 6, 3) := dk_154 0 6 (dk_at dksX6_likesMost_1 10 rfl rfl)
theorem dX6_likesMost_37 : decode cX6_likesMost 37 = .ok (.goto 36, 3) := dk_167 0 36 (dk_at dksX6_likesMost_1 13 rfl rfl)
theorem dX6_likesMost_40 : decode cX6_likesMost 40 = .ok (.aload_n 0, 1) := dk_42 (dk_at dksX6_likesMost_1 16 rfl rfl)
theorem dX6_likesMost_41 : decode cX6_likesMost 41 = .ok (.iload_n 1, 1) := dk_27 (dk_at dksX6_likesMost_1 17 rfl rfl)
theorem dX6_likesMost_42 : decode cX6_likesMost 42 = .ok (.iload 4, 2) := dk_21 4 (dk_at dksX6_likesMost_1 18 rfl rfl)
theorem dX6_likesMost_44 : decode cX6_likesMost 44 = .ok (.invokevirtual 282, 3) := dk_182 1 26 (dk_at dksX6_likesMost_1 20 rfl rfl)
theorem dX6_likesMost_47 : decode cX6_likesMost 47 = .ok (.aload_n 0, 1) := dk_42 (dk_at dksX6_likesMost_1 23 rfl rfl)
theorem dX6_likesMost_48 : decode cX6_likesMost 48 = .ok (.bipush 101, 2) := dk_16 101 (dk_at dksX6_likesMost_2 0 rfl rfl)
theorem dX6_likesMost_50 : decode cX6_likesMost 50 = .ok (.sipush 9999, 3) := dk_17 39 15 (dk_at dksX6_likesMost_2 2 rfl rfl)
theorem dX6_likesMost_53 : decode cX6_likesMost 53 = .ok (.invokevirtual 285, 3) := dk_182 1 29 (dk_at dksX6_likesMost_2 5 rfl rfl)
theorem dX6_likesMost_56 : decode cX6_likesMost 56 = .ok (.istore 5, 2) := dk_54 5 (dk_at dksX6_likesMost_2 8 rfl rfl)
theorem dX6_likesMost_58 : decode cX6_likesMost 58 = .ok (.iload 5, 2) := dk_21 5 (dk_at dksX6_likesMost_2 10 rfl rfl)
theorem dX6_likesMost_60 : decode cX6_likesMost 60 = .ok (.iload_n 3, 1) := dk_29 (dk_at dksX6_likesMost_2 12 rfl rfl)
theorem dX6_likesMost_61 : decode cX6_likesMost 61 = .ok (.if_icmp .gt 6, 3) := dk_163 0 6 (dk_at dksX6_likesMost_2 13 rfl rfl)
theorem dX6_likesMost_64 : decode cX6_likesMost 64 = .ok (.goto 9, 3) := dk_167 0 9 (dk_at dksX6_likesMost_2 16 rfl rfl)
theorem dX6_likesMost_67 : decode cX6_likesMost 67 = .ok (.iload 5, 2) := dk_21 5 (dk_at dksX6_likesMost_2 19 rfl rfl)
theorem dX6_likesMost_69 : decode cX6_likesMost 69 = .ok (.istore_n 3, 1) := dk_62 (dk_at dksX6_likesMost_2 21 rfl rfl)
theorem dX6_likesMost_70 : decode cX6_likesMost 70 = .ok (.iload 4, 2) := dk_21 4 (dk_at dksX6_likesMost_2 22 rfl rfl)
theorem dX6_likesMost_72 : decode cX6_likesMost 72 = .ok (.istore_n 2, 1) := dk_61 (dk_at dksX6_likesMost_3 0 rfl rfl)
theorem dX6_likesMost_73 : decode cX6_likesMost 73 = .ok (.iinc 4 1, 3) := dk_132 4 1 (dk_at dksX6_likesMost_3 1 rfl rfl)
theorem dX6_likesMost_76 : decode cX6_likesMost 76 = .ok (.goto (-69), 3) := dk_167 255 187 (dk_at dksX6_likesMost_3 4 rfl rfl)
theorem dX6_likesMost_79 : decode cX6_likesMost 79 = .ok (.iload_n 2, 1) := dk_28 (dk_at dksX6_likesMost_3 7 rfl rfl)
theorem dX6_likesMost_80 : decode cX6_likesMost 80 = .ok (.ireturn, 1) := dk_172 (dk_at dksX6_likesMost_3 8 rfl rfl)
abbrev cX6_byLaw : ByteArray := prog_20_method_47_code
def yX6_byLaw : MethodName := ⟨RX6, "byLaw", "(II)I"⟩
def dkwX6_byLaw_3 : List UInt8 := [167, 0, 15, 21, 4, 28, 164, 0, 7, 28, 167, 0, 5, 21, 4, 172, 132, 3, 1, 167, 255, 172, 3, 172]
abbrev dktX6_byLaw_3 : List UInt8 := dkwX6_byLaw_3 ++ []
def dkwX6_byLaw_2 : List UInt8 := [180, 0, 47, 29, 46, 42, 180, 0, 50, 29, 46, 182, 0, 241, 54, 4, 21, 4, 156, 0, 7, 3]
abbrev dktX6_byLaw_2 : List UInt8 := dkwX6_byLaw_2 ++ dktX6_byLaw_3
def dkwX6_byLaw_1 : List UInt8 := [180, 0, 50, 29, 46, 42, 180, 0, 53, 29, 46, 182, 0, 241, 4, 159, 0, 6, 167, 0, 43, 42, 42]
abbrev dktX6_byLaw_1 : List UInt8 := dkwX6_byLaw_1 ++ dktX6_byLaw_2
def dkwX6_byLaw_0 : List UInt8 := [3, 62, 29, 42, 180, 0, 234, 162, 0, 82, 42, 180, 0, 44, 29, 46, 27, 160, 0, 66, 42, 42]
abbrev dktX6_byLaw_0 : List UInt8 := dkwX6_byLaw_0 ++ dktX6_byLaw_1
theorem dksX6_byLaw_0 : cX6_byLaw.data.toList.drop 0 = dktX6_byLaw_0 := by decide +kernel
theorem dksX6_byLaw_1 : cX6_byLaw.data.toList.drop 22 = dktX6_byLaw_1 := dk_seg dksX6_byLaw_0 22 rfl rfl
theorem dksX6_byLaw_2 : cX6_byLaw.data.toList.drop 45 = dktX6_byLaw_2 := dk_seg dksX6_byLaw_1 23 rfl rfl
theorem dksX6_byLaw_3 : cX6_byLaw.data.toList.drop 67 = dktX6_byLaw_3 := dk_seg dksX6_byLaw_2 22 rfl rfl
theorem dX6_byLaw_0 : decode cX6_byLaw 0 = .ok (.iconst 0, 1) := dk_3 (dk_at dksX6_byLaw_0 0 rfl rfl)
theorem dX6_byLaw_1 : decode cX6_byLaw 1 = .ok (.istore_n 3, 1) := dk_62 (dk_at dksX6_byLaw_0 1 rfl rfl)
theorem dX6_byLaw_2 : decode cX6_byLaw 2 = .ok (.iload_n 3, 1) := dk_29 (dk_at dksX6_byLaw_0 2 rfl rfl)
theorem dX6_byLaw_3 : decode cX6_byLaw 3 = .ok (.aload_n 0, 1) := dk_42 (dk_at dksX6_byLaw_0 3 rfl rfl)
theorem dX6_byLaw_4 : decode cX6_byLaw 4 = .ok (.getfield 234, 3) := dk_180 0 234 (dk_at dksX6_byLaw_0 4 rfl rfl)
theorem dX6_byLaw_7 : decode cX6_byLaw 7 = .ok (.if_icmp .ge 82, 3) := dk_162 0 82 (dk_at dksX6_byLaw_0 7 rfl rfl)
theorem dX6_byLaw_10 : decode cX6_byLaw 10 = .ok (.aload_n 0, 1) := dk_42 (dk_at dksX6_byLaw_0 10 rfl rfl)
theorem dX6_byLaw_11 : decode cX6_byLaw 11 = .ok (.getfield 44, 3) := dk_180 0 44 (dk_at dksX6_byLaw_0 11 rfl rfl)
theorem dX6_byLaw_14 : decode cX6_byLaw 14 = .ok (.iload_n 3, 1) := dk_29 (dk_at dksX6_byLaw_0 14 rfl rfl)
theorem dX6_byLaw_15 : decode cX6_byLaw 15 = .ok (.iaload, 1) := dk_46 (dk_at dksX6_byLaw_0 15 rfl rfl)
theorem dX6_byLaw_16 : decode cX6_byLaw 16 = .ok (.iload_n 1, 1) := dk_27 (dk_at dksX6_byLaw_0 16 rfl rfl)
theorem dX6_byLaw_17 : decode cX6_byLaw 17 = .ok (.if_icmp .ne 66, 3) := dk_160 0 66 (dk_at dksX6_byLaw_0 17 rfl rfl)
theorem dX6_byLaw_20 : decode cX6_byLaw 20 = .ok (.aload_n 0, 1) := dk_42 (dk_at dksX6_byLaw_0 20 rfl rfl)
theorem dX6_byLaw_21 : decode cX6_byLaw 21 = .ok (.aload_n 0, 1) := dk_42 (dk_at dksX6_byLaw_0 21 rfl rfl)
theorem dX6_byLaw_22 : decode cX6_byLaw 22 = .ok (.getfield 50, 3) := dk_180 0 50 (dk_at dksX6_byLaw_1 0 rfl rfl)
theorem dX6_byLaw_25 : decode cX6_byLaw 25 = .ok (.iload_n 3, 1) := dk_29 (dk_at dksX6_byLaw_1 3 rfl rfl)
theorem dX6_byLaw_26 : decode cX6_byLaw 26 = .ok (.iaload, 1) := dk_46 (dk_at dksX6_byLaw_1 4 rfl rfl)
theorem dX6_byLaw_27 : decode cX6_byLaw 27 = .ok (.aload_n 0, 1) := dk_42 (dk_at dksX6_byLaw_1 5 rfl rfl)
theorem dX6_byLaw_28 : decode cX6_byLaw 28 = .ok (.getfield 53, 3) := dk_180 0 53 (dk_at dksX6_byLaw_1 6 rfl rfl)
theorem dX6_byLaw_31 : decode cX6_byLaw 31 = .ok (.iload_n 3, 1) := dk_29 (dk_at dksX6_byLaw_1 9 rfl rfl)
theorem dX6_byLaw_32 : decode cX6_byLaw 32 = .ok (.iaload, 1) := dk_46 (dk_at dksX6_byLaw_1 10 rfl rfl)
theorem dX6_byLaw_33 : decode cX6_byLaw 33 = .ok (.invokevirtual 241, 3) := dk_182 0 241 (dk_at dksX6_byLaw_1 11 rfl rfl)
theorem dX6_byLaw_36 : decode cX6_byLaw 36 = .ok (.iconst 1, 1) := dk_4 (dk_at dksX6_byLaw_1 14 rfl rfl)
theorem dX6_byLaw_37 : decode cX6_byLaw 37 = .ok (.if_icmp .eq 6, 3) := dk_159 0 6 (dk_at dksX6_byLaw_1 15 rfl rfl)
theorem dX6_byLaw_40 : decode cX6_byLaw 40 = .ok (.goto 43, 3) := dk_167 0 43 (dk_at dksX6_byLaw_1 18 rfl rfl)
theorem dX6_byLaw_43 : decode cX6_byLaw 43 = .ok (.aload_n 0, 1) := dk_42 (dk_at dksX6_byLaw_1 21 rfl rfl)
theorem dX6_byLaw_44 : decode cX6_byLaw 44 = .ok (.aload_n 0, 1) := dk_42 (dk_at dksX6_byLaw_1 22 rfl rfl)
theorem dX6_byLaw_45 : decode cX6_byLaw 45 = .ok (.getfield 47, 3) := dk_180 0 47 (dk_at dksX6_byLaw_2 0 rfl rfl)
theorem dX6_byLaw_48 : decode cX6_byLaw 48 = .ok (.iload_n 3, 1) := dk_29 (dk_at dksX6_byLaw_2 3 rfl rfl)
theorem dX6_byLaw_49 : decode cX6_byLaw 49 = .ok (.iaload, 1) := dk_46 (dk_at dksX6_byLaw_2 4 rfl rfl)
theorem dX6_byLaw_50 : decode cX6_byLaw 50 = .ok (.aload_n 0, 1) := dk_42 (dk_at dksX6_byLaw_2 5 rfl rfl)
theorem dX6_byLaw_51 : decode cX6_byLaw 51 = .ok (.getfield 50, 3) := dk_180 0 50 (dk_at dksX6_byLaw_2 6 rfl rfl)
theorem dX6_byLaw_54 : decode cX6_byLaw 54 = .ok (.iload_n 3, 1) := dk_29 (dk_at dksX6_byLaw_2 9 rfl rfl)
theorem dX6_byLaw_55 : decode cX6_byLaw 55 = .ok (.iaload, 1) := dk_46 (dk_at dksX6_byLaw_2 10 rfl rfl)
theorem dX6_byLaw_56 : decode cX6_byLaw 56 = .ok (.invokevirtual 241, 3) := dk_182 0 241 (dk_at dksX6_byLaw_2 11 rfl rfl)
theorem dX6_byLaw_59 : decode cX6_byLaw 59 = .ok (.istore 4, 2) := dk_54 4 (dk_at dksX6_byLaw_2 14 rfl rfl)
theorem dX6_byLaw_61 : decode cX6_byLaw 61 = .ok (.iload 4, 2) := dk_21 4 (dk_at dksX6_byLaw_2 16 rfl rfl)
theorem dX6_byLaw_63 : decode cX6_byLaw 63 = .ok (.ifCond .ge 7, 3) := dk_156 0 7 (dk_at dksX6_byLaw_2 18 rfl rfl)
theorem dX6_byLaw_66 : decode cX6_byLaw 66 = .ok (.iconst 0, 1) := dk_3 (dk_at dksX6_byLaw_2 21 rfl rfl)
theorem dX6_byLaw_67 : decode cX6_byLaw 67 = .ok (.goto 15, 3) := dk_167 0 15 (dk_at dksX6_byLaw_3 0 rfl rfl)
theorem dX6_byLaw_70 : decode cX6_byLaw 70 = .ok (.iload 4, 2) := dk_21 4 (dk_at dksX6_byLaw_3 3 rfl rfl)
theorem dX6_byLaw_72 : decode cX6_byLaw 72 = .ok (.iload_n 2, 1) := dk_28 (dk_at dksX6_byLaw_3 5 rfl rfl)
theorem dX6_byLaw_73 : decode cX6_byLaw 73 = .ok (.if_icmp .le 7, 3) := dk_164 0 7 (dk_at dksX6_byLaw_3 6 rfl rfl)
theorem dX6_byLaw_76 : decode cX6_byLaw 76 = .ok (.iload_n 2, 1) := dk_28 (dk_at dksX6_byLaw_3 9 rfl rfl)
theorem dX6_byLaw_77 : decode cX6_byLaw 77 = .ok (.goto 5, 3) := dk_167 0 5 (dk_at dksX6_byLaw_3 10 rfl rfl)
theorem dX6_byLaw_80 : decode cX6_byLaw 80 = .ok (.iload 4, 2) := dk_21 4 (dk_at dksX6_byLaw_3 13 rfl rfl)
theorem dX6_byLaw_82 : decode cX6_byLaw 82 = .ok (.ireturn, 1) := dk_172 (dk_at dksX6_byLaw_3 15 rfl rfl)
theorem dX6_byLaw_83 : decode cX6_byLaw 83 = .ok (.iinc 3 1, 3) := dk_132 3 1 (dk_at dksX6_byLaw_3 16 rfl rfl)
theorem dX6_byLaw_86 : decode cX6_byLaw 86 = .ok (.goto (-84), 3) := dk_167 255 172 (dk_at dksX6_byLaw_3 19 rfl rfl)
theorem dX6_byLaw_89 : decode cX6_byLaw 89 = .ok (.iconst 0, 1) := dk_3 (dk_at dksX6_byLaw_3 22 rfl rfl)
theorem dX6_byLaw_90 : decode cX6_byLaw 90 = .ok (.ireturn, 1) := dk_172 (dk_at dksX6_byLaw_3 23 rfl rfl)
abbrev cX6_learns : ByteArray := prog_20_method_59_code
def yX6_learns : MethodName := ⟨RX6, "learns", "(II)V"⟩
def dkwX6_learns_3 : List UInt8 := [96, 181, 1, 35, 177, 132, 3, 1, 167, 255, 179, 177]
abbrev dktX6_learns_3 : List UInt8 := dkwX6_learns_3 ++ []
def dkwX6_learns_2 : List UInt8 := [16, 16, 27, 96, 42, 180, 0, 7, 16, 16, 27, 96, 46, 4, 29, 120, 128, 79, 42, 42, 180, 1, 35, 4]
abbrev dktX6_learns_2 : List UInt8 := dkwX6_learns_2 ++ dktX6_learns_3
def dkwX6_learns_1 : List UInt8 := [42, 180, 0, 7, 16, 16, 27, 96, 46, 29, 184, 1, 32, 153, 0, 6, 167, 0, 36, 42, 180, 0, 7]
abbrev dktX6_learns_1 : List UInt8 := dkwX6_learns_1 ++ dktX6_learns_2
def dkwX6_learns_0 : List UInt8 := [3, 62, 29, 16, 16, 162, 0, 77, 42, 180, 0, 7, 16, 16, 28, 96, 46, 29, 184, 1, 32, 153, 0, 55]
abbrev dktX6_learns_0 : List UInt8 := dkwX6_learns_0 ++ dktX6_learns_1
theorem dksX6_learns_0 : cX6_learns.data.toList.drop 0 = dktX6_learns_0 := by decide +kernel
theorem dksX6_learns_1 : cX6_learns.data.toList.drop 24 = dktX6_learns_1 := dk_seg dksX6_learns_0 24 rfl rfl
theorem dksX6_learns_2 : cX6_learns.data.toList.drop 47 = dktX6_learns_2 := dk_seg dksX6_learns_1 23 rfl rfl
theorem dksX6_learns_3 : cX6_learns.data.toList.drop 71 = dktX6_learns_3 := dk_seg dksX6_learns_2 24 rfl rfl
theorem dX6_learns_0 : decode cX6_learns 0 = .ok (.iconst 0, 1) := dk_3 (dk_at dksX6_learns_0 0 rfl rfl)
theorem dX6_learns_1 : decode cX6_learns 1 = .ok (.istore_n 3, 1) := dk_62 (dk_at dksX6_learns_0 1 rfl rfl)
theorem dX6_learns_2 : decode cX6_learns 2 = .ok (.iload_n 3, 1) := dk_29 (dk_at dksX6_learns_0 2 rfl rfl)
theorem dX6_learns_3 : decode cX6_learns 3 = .ok (.bipush 16, 2) := dk_16 16 (dk_at dksX6_learns_0 3 rfl rfl)
theorem dX6_learns_5 : decode cX6_learns 5 = .ok (.if_icmp .ge 77, 3) := dk_162 0 77 (dk_at dksX6_learns_0 5 rfl rfl)
theorem dX6_learns_8 : decode cX6_learns 8 = .ok (.aload_n 0, 1) := dk_42 (dk_at dksX6_learns_0 8 rfl rfl)
theorem dX6_learns_9 : decode cX6_learns 9 = .ok (.getfield 7, 3) := dk_180 0 7 (dk_at dksX6_learns_0 9 rfl rfl)
theorem dX6_learns_12 : decode cX6_learns 12 = .ok (.bipush 16, 2) := dk_16 16 (dk_at dksX6_learns_0 12 rfl rfl)
theorem dX6_learns_14 : decode cX6_learns 14 = .ok (.iload_n 2, 1) := dk_28 (dk_at dksX6_learns_0 14 rfl rfl)
theorem dX6_learns_15 : decode cX6_learns 15 = .ok (.iadd, 1) := dk_96 (dk_at dksX6_learns_0 15 rfl rfl)
theorem dX6_learns_16 : decode cX6_learns 16 = .ok (.iaload, 1) := dk_46 (dk_at dksX6_learns_0 16 rfl rfl)
theorem dX6_learns_17 : decode cX6_learns 17 = .ok (.iload_n 3, 1) := dk_29 (dk_at dksX6_learns_0 17 rfl rfl)
theorem dX6_learns_18 : decode cX6_learns 18 = .ok (.invokestatic 288, 3) := dk_184 1 32 (dk_at dksX6_learns_0 18 rfl rfl)
theorem dX6_learns_21 : decode cX6_learns 21 = .ok (.ifCond .eq 55, 3) := dk_153 0 55 (dk_at dksX6_learns_0 21 rfl rfl)
theorem dX6_learns_24 : decode cX6_learns 24 = .ok (.aload_n 0, 1) := dk_42 (dk_at dksX6_learns_1 0 rfl rfl)
theorem dX6_learns_25 : decode cX6_learns 25 = .ok (.getfield 7, 3) := dk_180 0 7 (dk_at dksX6_learns_1 1 rfl rfl)
theorem dX6_learns_28 : decode cX6_learns 28 = .ok (.bipush 16, 2) := dk_16 16 (dk_at dksX6_learns_1 4 rfl rfl)
theorem dX6_learns_30 : decode cX6_learns 30 = .ok (.iload_n 1, 1) := dk_27 (dk_at dksX6_learns_1 6 rfl rfl)
theorem dX6_learns_31 : decode cX6_learns 31 = .ok (.iadd, 1) := dk_96 (dk_at dksX6_learns_1 7 rfl rfl)
theorem dX6_learns_32 : decode cX6_learns 32 = .ok (.iaload, 1) := dk_46 (dk_at dksX6_learns_1 8 rfl rfl)
theorem dX6_learns_33 : decode cX6_learns 33 = .ok (.iload_n 3, 1) := dk_29 (dk_at dksX6_learns_1 9 rfl rfl)
theorem dX6_learns_34 : decode cX6_learns 34 = .ok (.invokestatic 288, 3) := dk_184 1 32 (dk_at dksX6_learns_1 10 rfl rfl)
theorem dX6_learns_37 : decode cX6_learns 37 = .ok (.ifCond .eq 6, 3) := dk_153 0 6 (dk_at dksX6_learns_1 13 rfl rfl)
theorem dX6_learns_40 : decode cX6_learns 40 = .ok (.goto 36, 3) := dk_167 0 36 (dk_at dksX6_learns_1 16 rfl rfl)
theorem dX6_learns_43 : decode cX6_learns 43 = .ok (.aload_n 0, 1) := dk_42 (dk_at dksX6_learns_1 19 rfl rfl)
theorem dX6_learns_44 : decode cX6_learns 44 = .ok (.getfield 7, 3) := dk_180 0 7 (dk_at dksX6_learns_1 20 rfl rfl)
theorem dX6_learns_47 : decode cX6_learns 47 = .ok (.bipush 16, 2) := dk_16 16 (dk_at dksX6_learns_2 0 rfl rfl)
theorem dX6_learns_49 : decode cX6_learns 49 = .ok (.iload_n 1, 1) := dk_27 (dk_at dksX6_learns_2 2 rfl rfl)
theorem dX6_learns_50 : decode cX6_learns 50 = .ok (.iadd, 1) := dk_96 (dk_at dksX6_learns_2 3 rfl rfl)
theorem dX6_learns_51 : decode cX6_learns 51 = .ok (.aload_n 0, 1) := dk_42 (dk_at dksX6_learns_2 4 rfl rfl)
theorem dX6_learns_52 : decode cX6_learns 52 = .ok (.getfield 7, 3) := dk_180 0 7 (dk_at dksX6_learns_2 5 rfl rfl)
theorem dX6_learns_55 : decode cX6_learns 55 = .ok (.bipush 16, 2) := dk_16 16 (dk_at dksX6_learns_2 8 rfl rfl)
theorem dX6_learns_57 : decode cX6_learns 57 = .ok (.iload_n 1, 1) := dk_27 (dk_at dksX6_learns_2 10 rfl rfl)
theorem dX6_learns_58 : decode cX6_learns 58 = .ok (.iadd, 1) := dk_96 (dk_at dksX6_learns_2 11 rfl rfl)
theorem dX6_learns_59 : decode cX6_learns 59 = .ok (.iaload, 1) := dk_46 (dk_at dksX6_learns_2 12 rfl rfl)
theorem dX6_learns_60 : decode cX6_learns 60 = .ok (.iconst 1, 1) := dk_4 (dk_at dksX6_learns_2 13 rfl rfl)
theorem dX6_learns_61 : decode cX6_learns 61 = .ok (.iload_n 3, 1) := dk_29 (dk_at dksX6_learns_2 14 rfl rfl)
theorem dX6_learns_62 : decode cX6_learns 62 = .ok (.ishl, 1) := dk_120 (dk_at dksX6_learns_2 15 rfl rfl)
theorem dX6_learns_63 : decode cX6_learns 63 = .ok (.ior, 1) := dk_128 (dk_at dksX6_learns_2 16 rfl rfl)
theorem dX6_learns_64 : decode cX6_learns 64 = .ok (.iastore, 1) := dk_79 (dk_at dksX6_learns_2 17 rfl rfl)
theorem dX6_learns_65 : decode cX6_learns 65 = .ok (.aload_n 0, 1) := dk_42 (dk_at dksX6_learns_2 18 rfl rfl)
theorem dX6_learns_66 : decode cX6_learns 66 = .ok (.aload_n 0, 1) := dk_42 (dk_at dksX6_learns_2 19 rfl rfl)
theorem dX6_learns_67 : decode cX6_learns 67 = .ok (.getfield 291, 3) := dk_180 1 35 (dk_at dksX6_learns_2 20 rfl rfl)
theorem dX6_learns_70 : decode cX6_learns 70 = .ok (.iconst 1, 1) := dk_4 (dk_at dksX6_learns_2 23 rfl rfl)
theorem dX6_learns_71 : decode cX6_learns 71 = .ok (.iadd, 1) := dk_96 (dk_at dksX6_learns_3 0 rfl rfl)
theorem dX6_learns_72 : decode cX6_learns 72 = .ok (.putfield 291, 3) := dk_181 1 35 (dk_at dksX6_learns_3 1 rfl rfl)
theorem dX6_learns_75 : decode cX6_learns 75 = .ok (.return_, 1) := dk_177 (dk_at dksX6_learns_3 4 rfl rfl)
theorem dX6_learns_76 : decode cX6_learns 76 = .ok (.iinc 3 1, 3) := dk_132 3 1 (dk_at dksX6_learns_3 5 rfl rfl)
theorem dX6_learns_79 : decode cX6_learns 79 = .ok (.goto (-77), 3) := dk_167 255 179 (dk_at dksX6_learns_3 8 rfl rfl)
theorem dX6_learns_82 : decode cX6_learns 82 = .ok (.return_, 1) := dk_177 (dk_at dksX6_learns_3 11 rfl rfl)
abbrev cX6_has : ByteArray := prog_20_method_6_code
def yX6_has : MethodName := ⟨RX6, "has", "(II)Z"⟩
def dkwX6_has_0 : List UInt8 := [26, 27, 122, 4, 126, 4, 160, 0, 7, 4, 167, 0, 4, 3, 172]
abbrev dktX6_has_0 : List UInt8 := dkwX6_has_0 ++ []
theorem dksX6_has_0 : cX6_has.data.toList.drop 0 = dktX6_has_0 := by decide +kernel
theorem dX6_has_0 : decode cX6_has 0 = .ok (.iload_n 0, 1) := dk_26 (dk_at dksX6_has_0 0 rfl rfl)
theorem dX6_has_1 : decode cX6_has 1 = .ok (.iload_n 1, 1) := dk_27 (dk_at dksX6_has_0 1 rfl rfl)
theorem dX6_has_2 : decode cX6_has 2 = .ok (.ishr, 1) := dk_122 (dk_at dksX6_has_0 2 rfl rfl)
theorem dX6_has_3 : decode cX6_has 3 = .ok (.iconst 1, 1) := dk_4 (dk_at dksX6_has_0 3 rfl rfl)
theorem dX6_has_4 : decode cX6_has 4 = .ok (.iand, 1) := dk_126 (dk_at dksX6_has_0 4 rfl rfl)
theorem dX6_has_5 : decode cX6_has 5 = .ok (.iconst 1, 1) := dk_4 (dk_at dksX6_has_0 5 rfl rfl)
theorem dX6_has_6 : decode cX6_has 6 = .ok (.if_icmp .ne 7, 3) := dk_160 0 7 (dk_at dksX6_has_0 6 rfl rfl)
theorem dX6_has_9 : decode cX6_has 9 = .ok (.iconst 1, 1) := dk_4 (dk_at dksX6_has_0 9 rfl rfl)
theorem dX6_has_10 : decode cX6_has 10 = .ok (.goto 4, 3) := dk_167 0 4 (dk_at dksX6_has_0 10 rfl rfl)
theorem dX6_has_13 : decode cX6_has 13 = .ok (.iconst 0, 1) := dk_3 (dk_at dksX6_has_0 13 rfl rfl)
theorem dX6_has_14 : decode cX6_has 14 = .ok (.ireturn, 1) := dk_172 (dk_at dksX6_has_0 14 rfl rfl)
abbrev cX6_min : ByteArray := prog_20_method_3_code
def yX6_min : MethodName := ⟨RX6, "min", "(II)I"⟩
def dkwX6_min_0 : List UInt8 := [26, 27, 162, 0, 7, 26, 167, 0, 4, 27, 172]
abbrev dktX6_min_0 : List UInt8 := dkwX6_min_0 ++ []
theorem dksX6_min_0 : cX6_min.data.toList.drop 0 = dktX6_min_0 := by decide +kernel
theorem dX6_min_0 : decode cX6_min 0 = .ok (.iload_n 0, 1) := dk_26 (dk_at dksX6_min_0 0 rfl rfl)
theorem dX6_min_1 : decode cX6_min 1 = .ok (.iload_n 1, 1) := dk_27 (dk_at dksX6_min_0 1 rfl rfl)
theorem dX6_min_2 : decode cX6_min 2 = .ok (.if_icmp .ge 7, 3) := dk_162 0 7 (dk_at dksX6_min_0 2 rfl rfl)
theorem dX6_min_5 : decode cX6_min 5 = .ok (.iload_n 0, 1) := dk_26 (dk_at dksX6_min_0 5 rfl rfl)
theorem dX6_min_6 : decode cX6_min 6 = .ok (.goto 4, 3) := dk_167 0 4 (dk_at dksX6_min_0 6 rfl rfl)
theorem dX6_min_9 : decode cX6_min 9 = .ok (.iload_n 1, 1) := dk_27 (dk_at dksX6_min_0 9 rfl rfl)
theorem dX6_min_10 : decode cX6_min 10 = .ok (.ireturn, 1) := dk_172 (dk_at dksX6_min_0 10 rfl rfl)
abbrev cX6_max : ByteArray := prog_20_method_4_code
def yX6_max : MethodName := ⟨RX6, "max", "(II)I"⟩
def dkwX6_max_0 : List UInt8 := [26, 27, 164, 0, 7, 26, 167, 0, 4, 27, 172]
abbrev dktX6_max_0 : List UInt8 := dkwX6_max_0 ++ []
theorem dksX6_max_0 : cX6_max.data.toList.drop 0 = dktX6_max_0 := by decide +kernel
theorem dX6_max_0 : decode cX6_max 0 = .ok (.iload_n 0, 1) := dk_26 (dk_at dksX6_max_0 0 rfl rfl)
theorem dX6_max_1 : decode cX6_max 1 = .ok (.iload_n 1, 1) := dk_27 (dk_at dksX6_max_0 1 rfl rfl)
theorem dX6_max_2 : decode cX6_max 2 = .ok (.if_icmp .le 7, 3) := dk_164 0 7 (dk_at dksX6_max_0 2 rfl rfl)
theorem dX6_max_5 : decode cX6_max 5 = .ok (.iload_n 0, 1) := dk_26 (dk_at dksX6_max_0 5 rfl rfl)
theorem dX6_max_6 : decode cX6_max 6 = .ok (.goto 4, 3) := dk_167 0 4 (dk_at dksX6_max_0 6 rfl rfl)
theorem dX6_max_9 : decode cX6_max 9 = .ok (.iload_n 1, 1) := dk_27 (dk_at dksX6_max_0 9 rfl rfl)
theorem dX6_max_10 : decode cX6_max 10 = .ok (.ireturn, 1) := dk_172 (dk_at dksX6_max_0 10 rfl rfl)
abbrev cX6_tried : ByteArray := prog_20_method_64_code
def yX6_tried : MethodName := ⟨RX6, "tried", "(II)I"⟩
def dkwX6_tried_7 : List UInt8 := [184, 1, 10, 29, 172]
abbrev dktX6_tried_7 : List UInt8 := dkwX6_tried_7 ++ []
def dkwX6_tried_6 : List UInt8 := [180, 0, 7, 16, 16, 28, 96, 16, 30, 100, 46, 184, 0, 126, 62, 42, 180, 0, 13, 42, 180, 0, 7]
abbrev dktX6_tried_6 : List UInt8 := dkwX6_tried_6 ++ dktX6_tried_7
def dkwX6_tried_5 : List UInt8 := [28, 16, 30, 162, 0, 18, 42, 180, 0, 7, 16, 32, 28, 96, 16, 10, 100, 46, 167, 0, 18, 42]
abbrev dktX6_tried_5 : List UInt8 := dkwX6_tried_5 ++ dktX6_tried_6
def dkwX6_tried_4 : List UInt8 := [42, 180, 1, 44, 62, 167, 0, 56, 42, 180, 1, 35, 62, 167, 0, 48, 42, 182, 1, 63, 62, 167, 0, 40]
abbrev dktX6_tried_4 : List UInt8 := dkwX6_tried_4 ++ dktX6_tried_5
def dkwX6_tried_3 : List UInt8 := [170, 0, 0, 0, 0, 0, 51, 0, 0, 0, 0, 0, 0, 0, 2, 0, 0, 0, 27, 0, 0, 0, 35, 0, 0, 0, 43]
abbrev dktX6_tried_3 : List UInt8 := dkwX6_tried_3 ++ dktX6_tried_4
def dkwX6_tried_2 : List UInt8 := [42, 180, 0, 13, 184, 1, 10, 42, 27, 182, 1, 60, 28]
abbrev dktX6_tried_2 : List UInt8 := dkwX6_tried_2 ++ dktX6_tried_3
def dkwX6_tried_1 : List UInt8 := [100, 182, 0, 108, 154, 0, 16, 42, 28, 16, 30, 100, 182, 0, 108, 154, 0, 5, 2, 172, 42, 180, 0, 7]
abbrev dktX6_tried_1 : List UInt8 := dkwX6_tried_1 ++ dktX6_tried_2
def dkwX6_tried_0 : List UInt8 := [27, 4, 17, 0, 240, 184, 0, 104, 153, 0, 34, 28, 3, 5, 184, 0, 104, 154, 0, 27, 42, 28, 16, 10]
abbrev dktX6_tried_0 : List UInt8 := dkwX6_tried_0 ++ dktX6_tried_1
theorem dksX6_tried_0 : cX6_tried.data.toList.drop 0 = dktX6_tried_0 := by decide +kernel
theorem dksX6_tried_1 : cX6_tried.data.toList.drop 24 = dktX6_tried_1 := dk_seg dksX6_tried_0 24 rfl rfl
theorem dksX6_tried_2 : cX6_tried.data.toList.drop 48 = dktX6_tried_2 := dk_seg dksX6_tried_1 24 rfl rfl
theorem dksX6_tried_3 : cX6_tried.data.toList.drop 61 = dktX6_tried_3 := dk_seg dksX6_tried_2 13 rfl rfl
theorem dksX6_tried_4 : cX6_tried.data.toList.drop 88 = dktX6_tried_4 := dk_seg dksX6_tried_3 27 rfl rfl
theorem dksX6_tried_5 : cX6_tried.data.toList.drop 112 = dktX6_tried_5 := dk_seg dksX6_tried_4 24 rfl rfl
theorem dksX6_tried_6 : cX6_tried.data.toList.drop 134 = dktX6_tried_6 := dk_seg dksX6_tried_5 22 rfl rfl
theorem dksX6_tried_7 : cX6_tried.data.toList.drop 157 = dktX6_tried_7 := dk_seg dksX6_tried_6 23 rfl rfl
theorem dX6_tried_0 : decode cX6_tried 0 = .ok (.iload_n 1, 1) := dk_27 (dk_at dksX6_tried_0 0 rfl rfl)
theorem dX6_tried_1 : decode cX6_tried 1 = .ok (.iconst 1, 1) := dk_4 (dk_at dksX6_tried_0 1 rfl rfl)
theorem dX6_tried_2 : decode cX6_tried 2 = .ok (.sipush 240, 3) := dk_17 0 240 (dk_at dksX6_tried_0 2 rfl rfl)
theorem dX6_tried_5 : decode cX6_tried 5 = .ok (.invokestatic 104, 3) := dk_184 0 104 (dk_at dksX6_tried_0 5 rfl rfl)
theorem dX6_tried_8 : decode cX6_tried 8 = .ok (.ifCond .eq 34, 3) := dk_153 0 34 (dk_at dksX6_tried_0 8 rfl rfl)
theorem dX6_tried_11 : decode cX6_tried 11 = .ok (.iload_n 2, 1) := dk_28 (dk_at dksX6_tried_0 11 rfl rfl)
theorem dX6_tried_12 : decode cX6_tried 12 = .ok (.iconst 0, 1) := dk_3 (dk_at dksX6_tried_0 12 rfl rfl)
theorem dX6_tried_13 : decode cX6_tried 13 = .ok (.iconst 2, 1) := dk_5 (dk_at dksX6_tried_0 13 rfl rfl)
theorem dX6_tried_14 : decode cX6_tried 14 = .ok (.invokestatic 104, 3) := dk_184 0 104 (dk_at dksX6_tried_0 14 rfl rfl)
theorem dX6_tried_17 : decode cX6_tried 17 = .ok (.ifCond .ne 27, 3) := dk_154 0 27 (dk_at dksX6_tried_0 17 rfl rfl)
theorem dX6_tried_20 : decode cX6_tried 20 = .ok (.aload_n 0, 1) := dk_42 (dk_at dksX6_tried_0 20 rfl rfl)
theorem dX6_tried_21 : decode cX6_tried 21 = .ok (.iload_n 2, 1) := dk_28 (dk_at dksX6_tried_0 21 rfl rfl)
theorem dX6_tried_22 : decode cX6_tried 22 = .ok (.bipush 10, 2) := dk_16 10 (dk_at dksX6_tried_0 22 rfl rfl)
theorem dX6_tried_24 : decode cX6_tried 24 = .ok (.isub, 1) := dk_100 (dk_at dksX6_tried_1 0 rfl rfl)
theorem dX6_tried_25 : decode cX6_tried 25 = .ok (.invokevirtual 108, 3) := dk_182 0 108 (dk_at dksX6_tried_1 1 rfl rfl)
theorem dX6_tried_28 : decode cX6_tried 28 = .ok (.ifCond .ne 16, 3) := dk_154 0 16 (dk_at dksX6_tried_1 4 rfl rfl)
theorem dX6_tried_31 : decode cX6_tried 31 = .ok (.aload_n 0, 1) := dk_42 (dk_at dksX6_tried_1 7 rfl rfl)
theorem dX6_tried_32 : decode cX6_tried 32 = .ok (.iload_n 2, 1) := dk_28 (dk_at dksX6_tried_1 8 rfl rfl)
theorem dX6_tried_33 : decode cX6_tried 33 = .ok (.bipush 30, 2) := dk_16 30 (dk_at dksX6_tried_1 9 rfl rfl)
theorem dX6_tried_35 : decode cX6_tried 35 = .ok (.isub, 1) := dk_100 (dk_at dksX6_tried_1 11 rfl rfl)
theorem dX6_tried_36 : decode cX6_tried 36 = .ok (.invokevirtual 108, 3) := dk_182 0 108 (dk_at dksX6_tried_1 12 rfl rfl)
theorem dX6_tried_39 : decode cX6_tried 39 = .ok (.ifCond .ne 5, 3) := dk_154 0 5 (dk_at dksX6_tried_1 15 rfl rfl)
theorem dX6_tried_42 : decode cX6_tried 42 = .ok (.iconst (-1), 1) := dk_2 (dk_at dksX6_tried_1 18 rfl rfl)
theorem dX6_tried_43 : decode cX6_tried 43 = .ok (.ireturn, 1) := dk_172 (dk_at dksX6_tried_1 19 rfl rfl)
theorem dX6_tried_44 : decode cX6_tried 44 = .ok (.aload_n 0, 1) := dk_42 (dk_at dksX6_tried_1 20 rfl rfl)
theorem dX6_tried_45 : decode cX6_tried 45 = .ok (.getfield 7, 3) := dk_180 0 7 (dk_at dksX6_tried_1 21 rfl rfl)
theorem dX6_tried_48 : decode cX6_tried 48 = .ok (.aload_n 0, 1) := dk_42 (dk_at dksX6_tried_2 0 rfl rfl)
theorem dX6_tried_49 : decode cX6_tried 49 = .ok (.getfield 13, 3) := dk_180 0 13 (dk_at dksX6_tried_2 1 rfl rfl)
theorem dX6_tried_52 : decode cX6_tried 52 = .ok (.invokestatic 266, 3) := dk_184 1 10 (dk_at dksX6_tried_2 4 rfl rfl)
theorem dX6_tried_55 : decode cX6_tried 55 = .ok (.aload_n 0, 1) := dk_42 (dk_at dksX6_tried_2 7 rfl rfl)
theorem dX6_tried_56 : decode cX6_tried 56 = .ok (.iload_n 1, 1) := dk_27 (dk_at dksX6_tried_2 8 rfl rfl)
theorem dX6_tried_57 : decode cX6_tried 57 = .ok (.invokevirtual 316, 3) := dk_182 1 60 (dk_at dksX6_tried_2 9 rfl rfl)
theorem dX6_tried_60 : decode cX6_tried 60 = .ok (.iload_n 2, 1) := dk_28 (dk_at dksX6_tried_2 12 rfl rfl)
theorem dX6_tried_61 : decode cX6_tried 61 = .ok (.tableswitch 51 0 2 #[27, 35, 43], 27) := by decide +kernel
theorem dX6_tried_88 : decode cX6_tried 88 = .ok (.aload_n 0, 1) := dk_42 (dk_at dksX6_tried_4 0 rfl rfl)
theorem dX6_tried_89 : decode cX6_tried 89 = .ok (.getfield 300, 3) := dk_180 1 44 (dk_at dksX6_tried_4 1 rfl rfl)
theorem dX6_tried_92 : decode cX6_tried 92 = .ok (.istore_n 3, 1) := dk_62 (dk_at dksX6_tried_4 4 rfl rfl)
theorem dX6_tried_93 : decode cX6_tried 93 = .ok (.goto 56, 3) := dk_167 0 56 (dk_at dksX6_tried_4 5 rfl rfl)
theorem dX6_tried_96 : decode cX6_tried 96 = .ok (.aload_n 0, 1) := dk_42 (dk_at dksX6_tried_4 8 rfl rfl)
theorem dX6_tried_97 : decode cX6_tried 97 = .ok (.getfield 291, 3) := dk_180 1 35 (dk_at dksX6_tried_4 9 rfl rfl)
theorem dX6_tried_100 : decode cX6_tried 100 = .ok (.istore_n 3, 1) := dk_62 (dk_at dksX6_tried_4 12 rfl rfl)
theorem dX6_tried_101 : decode cX6_tried 101 = .ok (.goto 48, 3) := dk_167 0 48 (dk_at dksX6_tried_4 13 rfl rfl)
theorem dX6_tried_104 : decode cX6_tried 104 = .ok (.aload_n 0, 1) := dk_42 (dk_at dksX6_tried_4 16 rfl rfl)
theorem dX6_tried_105 : decode cX6_tried 105 = .ok (.invokevirtual 319, 3) := dk_182 1 63 (dk_at dksX6_tried_4 17 rfl rfl)
theorem dX6_tried_108 : decode cX6_tried 108 = .ok (.istore_n 3, 1) := dk_62 (dk_at dksX6_tried_4 20 rfl rfl)
theorem dX6_tried_109 : decode cX6_tried 109 = .ok (.goto 40, 3) := dk_167 0 40 (dk_at dksX6_tried_4 21 rfl rfl)
theorem dX6_tried_112 : decode cX6_tried 112 = .ok (.iload_n 2, 1) := dk_28 (dk_at dksX6_tried_5 0 rfl rfl)
theorem dX6_tried_113 : decode cX6_tried 113 = .ok (.bipush 30, 2) := dk_16 30 (dk_at dksX6_tried_5 1 rfl rfl)
theorem dX6_tried_115 : decode cX6_tried 115 = .ok (.if_icmp .ge 18, 3) := dk_162 0 18 (dk_at dksX6_tried_5 3 rfl rfl)
theorem dX6_tried_118 : decode cX6_tried 118 = .ok (.aload_n 0, 1) := dk_42 (dk_at dksX6_tried_5 6 rfl rfl)
theorem dX6_tried_119 : decode cX6_tried 119 = .ok (.getfield 7, 3) := dk_180 0 7 (dk_at dksX6_tried_5 7 rfl rfl)
theorem dX6_tried_122 : decode cX6_tried 122 = .ok (.bipush 32, 2) := dk_16 32 (dk_at dksX6_tried_5 10 rfl rfl)
theorem dX6_tried_124 : decode cX6_tried 124 = .ok (.iload_n 2, 1) := dk_28 (dk_at dksX6_tried_5 12 rfl rfl)
theorem dX6_tried_125 : decode cX6_tried 125 = .ok (.iadd, 1) := dk_96 (dk_at dksX6_tried_5 13 rfl rfl)
theorem dX6_tried_126 : decode cX6_tried 126 = .ok (.bipush 10, 2) := dk_16 10 (dk_at dksX6_tried_5 14 rfl rfl)
theorem dX6_tried_128 : decode cX6_tried 128 = .ok (.isub, 1) := dk_100 (dk_at dksX6_tried_5 16 rfl rfl)
theorem dX6_tried_129 : decode cX6_tried 129 = .ok (.iaload, 1) := dk_46 (dk_at dksX6_tried_5 17 rfl rfl)
theorem dX6_tried_130 : decode cX6_tried 130 = .ok (.goto 18, 3) := dk_167 0 18 (dk_at dksX6_tried_5 18 rfl rfl)
theorem dX6_tried_133 : decode cX6_tried 133 = .ok (.aload_n 0, 1) := dk_42 (dk_at dksX6_tried_5 21 rfl rfl)
theorem dX6_tried_134 : decode cX6_tried 134 = .ok (.getfield 7, 3) := dk_180 0 7 (dk_at dksX6_tried_6 0 rfl rfl)
theorem dX6_tried_137 : decode cX6_tried 137 = .ok (.bipush 16, 2) := dk_16 16 (dk_at dksX6_tried_6 3 rfl rfl)
theorem dX6_tried_139 : decode cX6_tried 139 = .ok (.iload_n 2, 1) := dk_28 (dk_at dksX6_tried_6 5 rfl rfl)
theorem dX6_tried_140 : decode cX6_tried 140 = .ok (.iadd, 1) := dk_96 (dk_at dksX6_tried_6 6 rfl rfl)
theorem dX6_tried_141 : decode cX6_tried 141 = .ok (.bipush 30, 2) := dk_16 30 (dk_at dksX6_tried_6 7 rfl rfl)
theorem dX6_tried_143 : decode cX6_tried 143 = .ok (.isub, 1) := dk_100 (dk_at dksX6_tried_6 9 rfl rfl)
theorem dX6_tried_144 : decode cX6_tried 144 = .ok (.iaload, 1) := dk_46 (dk_at dksX6_tried_6 10 rfl rfl)
theorem dX6_tried_145 : decode cX6_tried 145 = .ok (.invokestatic 126, 3) := dk_184 0 126 (dk_at dksX6_tried_6 11 rfl rfl)
theorem dX6_tried_148 : decode cX6_tried 148 = .ok (.istore_n 3, 1) := dk_62 (dk_at dksX6_tried_6 14 rfl rfl)
theorem dX6_tried_149 : decode cX6_tried 149 = .ok (.aload_n 0, 1) := dk_42 (dk_at dksX6_tried_6 15 rfl rfl)
theorem dX6_tried_150 : decode cX6_tried 150 = .ok (.getfield 13, 3) := dk_180 0 13 (dk_at dksX6_tried_6 16 rfl rfl)
theorem dX6_tried_153 : decode cX6_tried 153 = .ok (.aload_n 0, 1) := dk_42 (dk_at dksX6_tried_6 19 rfl rfl)
theorem dX6_tried_154 : decode cX6_tried 154 = .ok (.getfield 7, 3) := dk_180 0 7 (dk_at dksX6_tried_6 20 rfl rfl)
theorem dX6_tried_157 : decode cX6_tried 157 = .ok (.invokestatic 266, 3) := dk_184 1 10 (dk_at dksX6_tried_7 0 rfl rfl)
theorem dX6_tried_160 : decode cX6_tried 160 = .ok (.iload_n 3, 1) := dk_29 (dk_at dksX6_tried_7 3 rfl rfl)
theorem dX6_tried_161 : decode cX6_tried 161 = .ok (.ireturn, 1) := dk_172 (dk_at dksX6_tried_7 4 rfl rfl)
abbrev cX6_moodless : ByteArray := prog_20_method_63_code
def yX6_moodless : MethodName := ⟨RX6, "moodless", "()I"⟩
def dkwX6_moodless_1 : List UInt8 := [28, 96, 46, 154, 0, 7, 27, 4, 96, 60, 132, 2, 1, 167, 255, 223, 27, 172]
abbrev dktX6_moodless_1 : List UInt8 := dkwX6_moodless_1 ++ []
def dkwX6_moodless_0 : List UInt8 := [3, 60, 3, 61, 28, 16, 16, 162, 0, 33, 42, 28, 182, 0, 112, 153, 0, 19, 42, 180, 0, 7, 16, 32]
abbrev dktX6_moodless_0 : List UInt8 := dkwX6_moodless_0 ++ dktX6_moodless_1
theorem dksX6_moodless_0 : cX6_moodless.data.toList.drop 0 = dktX6_moodless_0 := by decide +kernel
theorem dksX6_moodless_1 : cX6_moodless.data.toList.drop 24 = dktX6_moodless_1 := dk_seg dksX6_moodless_0 24 rfl rfl
theorem dX6_moodless_0 : decode cX6_moodless 0 = .ok (.iconst 0, 1) := dk_3 (dk_at dksX6_moodless_0 0 rfl rfl)
theorem dX6_moodless_1 : decode cX6_moodless 1 = .ok (.istore_n 1, 1) := dk_60 (dk_at dksX6_moodless_0 1 rfl rfl)
theorem dX6_moodless_2 : decode cX6_moodless 2 = .ok (.iconst 0, 1) := dk_3 (dk_at dksX6_moodless_0 2 rfl rfl)
theorem dX6_moodless_3 : decode cX6_moodless 3 = .ok (.istore_n 2, 1) := dk_61 (dk_at dksX6_moodless_0 3 rfl rfl)
theorem dX6_moodless_4 : decode cX6_moodless 4 = .ok (.iload_n 2, 1) := dk_28 (dk_at dksX6_moodless_0 4 rfl rfl)
theorem dX6_moodless_5 : decode cX6_moodless 5 = .ok (.bipush 16, 2) := dk_16 16 (dk_at dksX6_moodless_0 5 rfl rfl)
theorem dX6_moodless_7 : decode cX6_moodless 7 = .ok (.if_icmp .ge 33, 3) := dk_162 0 33 (dk_at dksX6_moodless_0 7 rfl rfl)
theorem dX6_moodless_10 : decode cX6_moodless 10 = .ok (.aload_n 0, 1) := dk_42 (dk_at dksX6_moodless_0 10 rfl rfl)
theorem dX6_moodless_11 : decode cX6_moodless 11 = .ok (.iload_n 2, 1) := dk_28 (dk_at dksX6_moodless_0 11 rfl rfl)
theorem dX6_moodless_12 : decode cX6_moodless 12 = .ok (.invokevirtual 112, 3) := dk_182 0 112 (dk_at dksX6_moodless_0 12 rfl rfl)
theorem dX6_moodless_15 : decode cX6_moodless 15 = .ok (.ifCond .eq 19, 3) := dk_153 0 19 (dk_at dksX6_moodless_0 15 rfl rfl)
theorem dX6_moodless_18 : decode cX6_moodless 18 = .ok (.aload_n 0, 1) := dk_42 (dk_at dksX6_moodless_0 18 rfl rfl)
theorem dX6_moodless_19 : decode cX6_moodless 19 = .ok (.getfield 7, 3) := dk_180 0 7 (dk_at dksX6_moodless_0 19 rfl rfl)
theorem dX6_moodless_22 : decode cX6_moodless 22 = .ok (.bipush 32, 2) := dk_16 32 (dk_at dksX6_moodless_0 22 rfl rfl)
theorem dX6_moodless_24 : decode cX6_moodless 24 = .ok (.iload_n 2, 1) := dk_28 (dk_at dksX6_moodless_1 0 rfl rfl)
theorem dX6_moodless_25 : decode cX6_moodless 25 = .ok (.iadd, 1) := dk_96 (dk_at dksX6_moodless_1 1 rfl rfl)
theorem dX6_moodless_26 : decode cX6_moodless 26 = .ok (.iaload, 1) := dk_46 (dk_at dksX6_moodless_1 2 rfl rfl)
theorem dX6_moodless_27 : decode cX6_moodless 27 = .ok (.ifCond .ne 7, 3) := dk_154 0 7 (dk_at dksX6_moodless_1 3 rfl rfl)
theorem dX6_moodless_30 : decode cX6_moodless 30 = .ok (.iload_n 1, 1) := dk_27 (dk_at dksX6_moodless_1 6 rfl rfl)
theorem dX6_moodless_31 : decode cX6_moodless 31 = .ok (.iconst 1, 1) := dk_4 (dk_at dksX6_moodless_1 7 rfl rfl)
theorem dX6_moodless_32 : decode cX6_moodless 32 = .ok (.iadd, 1) := dk_96 (dk_at dksX6_moodless_1 8 rfl rfl)
theorem dX6_moodless_33 : decode cX6_moodless 33 = .ok (.istore_n 1, 1) := dk_60 (dk_at dksX6_moodless_1 9 rfl rfl)
theorem dX6_moodless_34 : decode cX6_moodless 34 = .ok (.iinc 2 1, 3) := dk_132 2 1 (dk_at dksX6_moodless_1 10 rfl rfl)
theorem dX6_moodless_37 : decode cX6_moodless 37 = .ok (.goto (-33), 3) := dk_167 255 223 (dk_at dksX6_moodless_1 13 rfl rfl)
theorem dX6_moodless_40 : decode cX6_moodless 40 = .ok (.iload_n 1, 1) := dk_27 (dk_at dksX6_moodless_1 16 rfl rfl)
theorem dX6_moodless_41 : decode cX6_moodless 41 = .ok (.ireturn, 1) := dk_172 (dk_at dksX6_moodless_1 17 rfl rfl)
abbrev cX6_personIs : ByteArray := prog_20_method_66_code
def yX6_personIs : MethodName := ⟨RX6, "personIs", "(II)I"⟩
def dkwX6_personIs_3 : List UInt8 := [16, 48, 27, 96, 46, 172, 42, 27, 182, 0, 244, 172, 42, 27, 182, 1, 66, 172, 2, 172]
abbrev dktX6_personIs_3 : List UInt8 := dkwX6_personIs_3 ++ []
def dkwX6_personIs_2 : List UInt8 := [42, 180, 0, 7, 16, 16, 27, 96, 46, 172, 42, 180, 0, 7, 16, 32, 27, 96, 46, 172, 42, 180, 0, 7]
abbrev dktX6_personIs_2 : List UInt8 := dkwX6_personIs_2 ++ dktX6_personIs_3
def dkwX6_personIs_1 : List UInt8 := [170, 0, 0, 0, 75, 0, 0, 0, 0, 0, 0, 0, 4, 0, 0, 0, 33, 0, 0, 0, 43, 0, 0, 0, 53, 0, 0, 0, 63, 0, 0, 0, 69]
abbrev dktX6_personIs_1 : List UInt8 := dkwX6_personIs_1 ++ dktX6_personIs_2
def dkwX6_personIs_0 : List UInt8 := [42, 27, 182, 0, 108, 154, 0, 5, 2, 172, 28]
abbrev dktX6_personIs_0 : List UInt8 := dkwX6_personIs_0 ++ dktX6_personIs_1
theorem dksX6_personIs_0 : cX6_personIs.data.toList.drop 0 = dktX6_personIs_0 := by decide +kernel
theorem dksX6_personIs_1 : cX6_personIs.data.toList.drop 11 = dktX6_personIs_1 := dk_seg dksX6_personIs_0 11 rfl rfl
theorem dksX6_personIs_2 : cX6_personIs.data.toList.drop 44 = dktX6_personIs_2 := dk_seg dksX6_personIs_1 33 rfl rfl
theorem dksX6_personIs_3 : cX6_personIs.data.toList.drop 68 = dktX6_personIs_3 := dk_seg dksX6_personIs_2 24 rfl rfl
theorem dX6_personIs_0 : decode cX6_personIs 0 = .ok (.aload_n 0, 1) := dk_42 (dk_at dksX6_personIs_0 0 rfl rfl)
theorem dX6_personIs_1 : decode cX6_personIs 1 = .ok (.iload_n 1, 1) := dk_27 (dk_at dksX6_personIs_0 1 rfl rfl)
theorem dX6_personIs_2 : decode cX6_personIs 2 = .ok (.invokevirtual 108, 3) := dk_182 0 108 (dk_at dksX6_personIs_0 2 rfl rfl)
theorem dX6_personIs_5 : decode cX6_personIs 5 = .ok (.ifCond .ne 5, 3) := dk_154 0 5 (dk_at dksX6_personIs_0 5 rfl rfl)
theorem dX6_personIs_8 : decode cX6_personIs 8 = .ok (.iconst (-1), 1) := dk_2 (dk_at dksX6_personIs_0 8 rfl rfl)
theorem dX6_personIs_9 : decode cX6_personIs 9 = .ok (.ireturn, 1) := dk_172 (dk_at dksX6_personIs_0 9 rfl rfl)
theorem dX6_personIs_10 : decode cX6_personIs 10 = .ok (.iload_n 2, 1) := dk_28 (dk_at dksX6_personIs_0 10 rfl rfl)
theorem dX6_personIs_11 : decode cX6_personIs 11 = .ok (.tableswitch 75 0 4 #[33, 43, 53, 63, 69], 33) := by decide +kernel
theorem dX6_personIs_44 : decode cX6_personIs 44 = .ok (.aload_n 0, 1) := dk_42 (dk_at dksX6_personIs_2 0 rfl rfl)
theorem dX6_personIs_45 : decode cX6_personIs 45 = .ok (.getfield 7, 3) := dk_180 0 7 (dk_at dksX6_personIs_2 1 rfl rfl)
theorem dX6_personIs_48 : decode cX6_personIs 48 = .ok (.bipush 16, 2) := dk_16 16 (dk_at dksX6_personIs_2 4 rfl rfl)
theorem dX6_personIs_50 : decode cX6_personIs 50 = .ok (.iload_n 1, 1) := dk_27 (dk_at dksX6_personIs_2 6 rfl rfl)
theorem dX6_personIs_51 : decode cX6_personIs 51 = .ok (.iadd, 1) := dk_96 (dk_at dksX6_personIs_2 7 rfl rfl)
theorem dX6_personIs_52 : decode cX6_personIs 52 = .ok (.iaload, 1) := dk_46 (dk_at dksX6_personIs_2 8 rfl rfl)
theorem dX6_personIs_53 : decode cX6_personIs 53 = .ok (.ireturn, 1) := dk_172 (dk_at dksX6_personIs_2 9 rfl rfl)
theorem dX6_personIs_54 : decode cX6_personIs 54 = .ok (.aload_n 0, 1) := dk_42 (dk_at dksX6_personIs_2 10 rfl rfl)
theorem dX6_personIs_55 : decode cX6_personIs 55 = .ok (.getfield 7, 3) := dk_180 0 7 (dk_at dksX6_personIs_2 11 rfl rfl)
theorem dX6_personIs_58 : decode cX6_personIs 58 = .ok (.bipush 32, 2) := dk_16 32 (dk_at dksX6_personIs_2 14 rfl rfl)
theorem dX6_personIs_60 : decode cX6_personIs 60 = .ok (.iload_n 1, 1) := dk_27 (dk_at dksX6_personIs_2 16 rfl rfl)
theorem dX6_personIs_61 : decode cX6_personIs 61 = .ok (.iadd, 1) := dk_96 (dk_at dksX6_personIs_2 17 rfl rfl)
theorem dX6_personIs_62 : decode cX6_personIs 62 = .ok (.iaload, 1) := dk_46 (dk_at dksX6_personIs_2 18 rfl rfl)
theorem dX6_personIs_63 : decode cX6_personIs 63 = .ok (.ireturn, 1) := dk_172 (dk_at dksX6_personIs_2 19 rfl rfl)
theorem dX6_personIs_64 : decode cX6_personIs 64 = .ok (.aload_n 0, 1) := dk_42 (dk_at dksX6_personIs_2 20 rfl rfl)
theorem dX6_personIs_65 : decode cX6_personIs 65 = .ok (.getfield 7, 3) := dk_180 0 7 (dk_at dksX6_personIs_2 21 rfl rfl)
theorem dX6_personIs_68 : decode cX6_personIs 68 = .ok (.bipush 48, 2) := dk_16 48 (dk_at dksX6_personIs_3 0 rfl rfl)
theorem dX6_personIs_70 : decode cX6_personIs 70 = .ok (.iload_n 1, 1) := dk_27 (dk_at dksX6_personIs_3 2 rfl rfl)
theorem dX6_personIs_71 : decode cX6_personIs 71 = .ok (.iadd, 1) := dk_96 (dk_at dksX6_personIs_3 3 rfl rfl)
theorem dX6_personIs_72 : decode cX6_personIs 72 = .ok (.iaload, 1) := dk_46 (dk_at dksX6_personIs_3 4 rfl rfl)
theorem dX6_personIs_73 : decode cX6_personIs 73 = .ok (.ireturn, 1) := dk_172 (dk_at dksX6_personIs_3 5 rfl rfl)
theorem dX6_personIs_74 : decode cX6_personIs 74 = .ok (.aload_n 0, 1) := dk_42 (dk_at dksX6_personIs_3 6 rfl rfl)
theorem dX6_personIs_75 : decode cX6_personIs 75 = .ok (.iload_n 1, 1) := dk_27 (dk_at dksX6_personIs_3 7 rfl rfl)
theorem dX6_personIs_76 : decode cX6_personIs 76 = .ok (.invokevirtual 244, 3) := dk_182 0 244 (dk_at dksX6_personIs_3 8 rfl rfl)
theorem dX6_personIs_79 : decode cX6_personIs 79 = .ok (.ireturn, 1) := dk_172 (dk_at dksX6_personIs_3 11 rfl rfl)
theorem dX6_personIs_80 : decode cX6_personIs 80 = .ok (.aload_n 0, 1) := dk_42 (dk_at dksX6_personIs_3 12 rfl rfl)
theorem dX6_personIs_81 : decode cX6_personIs 81 = .ok (.iload_n 1, 1) := dk_27 (dk_at dksX6_personIs_3 13 rfl rfl)
theorem dX6_personIs_82 : decode cX6_personIs 82 = .ok (.invokevirtual 322, 3) := dk_182 1 66 (dk_at dksX6_personIs_3 14 rfl rfl)
theorem dX6_personIs_85 : decode cX6_personIs 85 = .ok (.ireturn, 1) := dk_172 (dk_at dksX6_personIs_3 17 rfl rfl)
theorem dX6_personIs_86 : decode cX6_personIs 86 = .ok (.iconst (-1), 1) := dk_2 (dk_at dksX6_personIs_3 18 rfl rfl)
theorem dX6_personIs_87 : decode cX6_personIs 87 = .ok (.ireturn, 1) := dk_172 (dk_at dksX6_personIs_3 19 rfl rfl)
abbrev cX6_rankOf : ByteArray := prog_20_method_65_code
def yX6_rankOf : MethodName := ⟨RX6, "rankOf", "(I)I"⟩
def dkwX6_rankOf_3 : List UInt8 := [167, 255, 188, 28, 172]
abbrev dktX6_rankOf_3 : List UInt8 := dkwX6_rankOf_3 ++ []
def dkwX6_rankOf_2 : List UInt8 := [42, 180, 0, 7, 16, 32, 27, 96, 46, 160, 0, 12, 29, 27, 162, 0, 7, 28, 4, 96, 61, 132, 3, 1]
abbrev dktX6_rankOf_2 : List UInt8 := dkwX6_rankOf_2 ++ dktX6_rankOf_3
def dkwX6_rankOf_1 : List UInt8 := [29, 96, 46, 42, 180, 0, 7, 16, 32, 27, 96, 46, 163, 0, 29, 42, 180, 0, 7, 16, 32, 29, 96, 46]
abbrev dktX6_rankOf_1 : List UInt8 := dkwX6_rankOf_1 ++ dktX6_rankOf_2
def dkwX6_rankOf_0 : List UInt8 := [3, 61, 3, 62, 29, 16, 16, 162, 0, 68, 42, 29, 182, 0, 108, 153, 0, 54, 42, 180, 0, 7, 16, 32]
abbrev dktX6_rankOf_0 : List UInt8 := dkwX6_rankOf_0 ++ dktX6_rankOf_1
theorem dksX6_rankOf_0 : cX6_rankOf.data.toList.drop 0 = dktX6_rankOf_0 := by decide +kernel
theorem dksX6_rankOf_1 : cX6_rankOf.data.toList.drop 24 = dktX6_rankOf_1 := dk_seg dksX6_rankOf_0 24 rfl rfl
theorem dksX6_rankOf_2 : cX6_rankOf.data.toList.drop 48 = dktX6_rankOf_2 := dk_seg dksX6_rankOf_1 24 rfl rfl
theorem dksX6_rankOf_3 : cX6_rankOf.data.toList.drop 72 = dktX6_rankOf_3 := dk_seg dksX6_rankOf_2 24 rfl rfl
theorem dX6_rankOf_0 : decode cX6_rankOf 0 = .ok (.iconst 0, 1) := dk_3 (dk_at dksX6_rankOf_0 0 rfl rfl)
theorem dX6_rankOf_1 : decode cX6_rankOf 1 = .ok (.istore_n 2, 1) := dk_61 (dk_at dksX6_rankOf_0 1 rfl rfl)
theorem dX6_rankOf_2 : decode cX6_rankOf 2 = .ok (.iconst 0, 1) := dk_3 (dk_at dksX6_rankOf_0 2 rfl rfl)
theorem dX6_rankOf_3 : decode cX6_rankOf 3 = .ok (.istore_n 3, 1) := dk_62 (dk_at dksX6_rankOf_0 3 rfl rfl)
theorem dX6_rankOf_4 : decode cX6_rankOf 4 = .ok (.iload_n 3, 1) := dk_29 (dk_at dksX6_rankOf_0 4 rfl rfl)
theorem dX6_rankOf_5 : decode cX6_rankOf 5 = .ok (.bipush 16, 2) := dk_16 16 (dk_at dksX6_rankOf_0 5 rfl rfl)
theorem dX6_rankOf_7 : decode cX6_rankOf 7 = .ok (.if_icmp .ge 68, 3) := dk_162 0 68 (dk_at dksX6_rankOf_0 7 rfl rfl)
theorem dX6_rankOf_10 : decode cX6_rankOf 10 = .ok (.aload_n 0, 1) := dk_42 (dk_at dksX6_rankOf_0 10 rfl rfl)
theorem dX6_rankOf_11 : decode cX6_rankOf 11 = .ok (.iload_n 3, 1) := dk_29 (dk_at dksX6_rankOf_0 11 rfl rfl)
theorem dX6_rankOf_12 : decode cX6_rankOf 12 = .ok (.invokevirtual 108, 3) := dk_182 0 108 (dk_at dksX6_rankOf_0 12 rfl rfl)
theorem dX6_rankOf_15 : decode cX6_rankOf 15 = .ok (.ifCond .eq 54, 3) := dk_153 0 54 (dk_at dksX6_rankOf_0 15 rfl rfl)
theorem dX6_rankOf_18 : decode cX6_rankOf 18 = .ok (.aload_n 0, 1) := dk_42 (dk_at dksX6_rankOf_0 18 rfl rfl)
theorem dX6_rankOf_19 : decode cX6_rankOf 19 = .ok (.getfield 7, 3) := dk_180 0 7 (dk_at dksX6_rankOf_0 19 rfl rfl)
theorem dX6_rankOf_22 : decode cX6_rankOf 22 = .ok (.bipush 32, 2) := dk_16 32 (dk_at dksX6_rankOf_0 22 rfl rfl)
theorem dX6_rankOf_24 : decode cX6_rankOf 24 = .ok (.iload_n 3, 1) := dk_29 (dk_at dksX6_rankOf_1 0 rfl rfl)
theorem dX6_rankOf_25 : decode cX6_rankOf 25 = .ok (.iadd, 1) := dk_96 (dk_at dksX6_rankOf_1 1 rfl rfl)
theorem dX6_rankOf_26 : decode cX6_rankOf 26 = .ok (.iaload, 1) := dk_46 (dk_at dksX6_rankOf_1 2 rfl rfl)
theorem dX6_rankOf_27 : decode cX6_rankOf 27 = .ok (.aload_n 0, 1) := dk_42 (dk_at dksX6_rankOf_1 3 rfl rfl)
theorem dX6_rankOf_28 : decode cX6_rankOf 28 = .ok (.getfield 7, 3) := dk_180 0 7 (dk_at dksX6_rankOf_1 4 rfl rfl)
theorem dX6_rankOf_31 : decode cX6_rankOf 31 = .ok (.bipush 32, 2) := dk_16 32 (dk_at dksX6_rankOf_1 7 rfl rfl)
theorem dX6_rankOf_33 : decode cX6_rankOf 33 = .ok (.iload_n 1, 1) := dk_27 (dk_at dksX6_rankOf_1 9 rfl rfl)
theorem dX6_rankOf_34 : decode cX6_rankOf 34 = .ok (.iadd, 1) := dk_96 (dk_at dksX6_rankOf_1 10 rfl rfl)
theorem dX6_rankOf_35 : decode cX6_rankOf 35 = .ok (.iaload, 1) := dk_46 (dk_at dksX6_rankOf_1 11 rfl rfl)
theorem dX6_rankOf_36 : decode cX6_rankOf 36 = .ok (.if_icmp .gt 29, 3) := dk_163 0 29 (dk_at dksX6_rankOf_1 12 rfl rfl)
theorem dX6_rankOf_39 : decode cX6_rankOf 39 = .ok (.aload_n 0, 1) := dk_42 (dk_at dksX6_rankOf_1 15 rfl rfl)
theorem dX6_rankOf_40 : decode cX6_rankOf 40 = .ok (.getfield 7, 3) := dk_180 0 7 (dk_at dksX6_rankOf_1 16 rfl rfl)
theorem dX6_rankOf_43 : decode cX6_rankOf 43 = .ok (.bipush 32, 2) := dk_16 32 (dk_at dksX6_rankOf_1 19 rfl rfl)
theorem dX6_rankOf_45 : decode cX6_rankOf 45 = .ok (.iload_n 3, 1) := dk_29 (dk_at dksX6_rankOf_1 21 rfl rfl)
theorem dX6_rankOf_46 : decode cX6_rankOf 46 = .ok (.iadd, 1) := dk_96 (dk_at dksX6_rankOf_1 22 rfl rfl)
theorem dX6_rankOf_47 : decode cX6_rankOf 47 = .ok (.iaload, 1) := dk_46 (dk_at dksX6_rankOf_1 23 rfl rfl)
theorem dX6_rankOf_48 : decode cX6_rankOf 48 = .ok (.aload_n 0, 1) := dk_42 (dk_at dksX6_rankOf_2 0 rfl rfl)
theorem dX6_rankOf_49 : decode cX6_rankOf 49 = .ok (.getfield 7, 3) := dk_180 0 7 (dk_at dksX6_rankOf_2 1 rfl rfl)
theorem dX6_rankOf_52 : decode cX6_rankOf 52 = .ok (.bipush 32, 2) := dk_16 32 (dk_at dksX6_rankOf_2 4 rfl rfl)
theorem dX6_rankOf_54 : decode cX6_rankOf 54 = .ok (.iload_n 1, 1) := dk_27 (dk_at dksX6_rankOf_2 6 rfl rfl)
theorem dX6_rankOf_55 : decode cX6_rankOf 55 = .ok (.iadd, 1) := dk_96 (dk_at dksX6_rankOf_2 7 rfl rfl)
theorem dX6_rankOf_56 : decode cX6_rankOf 56 = .ok (.iaload, 1) := dk_46 (dk_at dksX6_rankOf_2 8 rfl rfl)
theorem dX6_rankOf_57 : decode cX6_rankOf 57 = .ok (.if_icmp .ne 12, 3) := dk_160 0 12 (dk_at dksX6_rankOf_2 9 rfl rfl)
theorem dX6_rankOf_60 : decode cX6_rankOf 60 = .ok (.iload_n 3, 1) := dk_29 (dk_at dksX6_rankOf_2 12 rfl rfl)
theorem dX6_rankOf_61 : decode cX6_rankOf 61 = .ok (.iload_n 1, 1) := dk_27 (dk_at dksX6_rankOf_2 13 rfl rfl)
theorem dX6_rankOf_62 : decode cX6_rankOf 62 = .ok (.if_icmp .ge 7, 3) := dk_162 0 7 (dk_at dksX6_rankOf_2 14 rfl rfl)
theorem dX6_rankOf_65 : decode cX6_rankOf 65 = .ok (.iload_n 2, 1) := dk_28 (dk_at dksX6_rankOf_2 17 rfl rfl)
theorem dX6_rankOf_66 : decode cX6_rankOf 66 = .ok (.iconst 1, 1) := dk_4 (dk_at dksX6_rankOf_2 18 rfl rfl)
theorem dX6_rankOf_67 : decode cX6_rankOf 67 = .ok (.iadd, 1) := dk_96 (dk_at dksX6_rankOf_2 19 rfl rfl)
theorem dX6_rankOf_68 : decode cX6_rankOf 68 = .ok (.istore_n 2, 1) := dk_61 (dk_at dksX6_rankOf_2 20 rfl rfl)
theorem dX6_rankOf_69 : decode cX6_rankOf 69 = .ok (.iinc 3 1, 3) := dk_132 3 1 (dk_at dksX6_rankOf_2 21 rfl rfl)
theorem dX6_rankOf_72 : decode cX6_rankOf 72 = .ok (.goto (-68), 3) := dk_167 255 188 (dk_at dksX6_rankOf_3 0 rfl rfl)
theorem dX6_rankOf_75 : decode cX6_rankOf 75 = .ok (.iload_n 2, 1) := dk_28 (dk_at dksX6_rankOf_3 3 rfl rfl)
theorem dX6_rankOf_76 : decode cX6_rankOf 76 = .ok (.ireturn, 1) := dk_172 (dk_at dksX6_rankOf_3 4 rfl rfl)
abbrev cX6_talk : ByteArray := prog_20_method_67_code
def yX6_talk : MethodName := ⟨RX6, "talk", "(II)I"⟩
def dkwX6_talk_1 : List UInt8 := [182, 1, 69, 167, 0, 6, 17, 252, 24, 172]
abbrev dktX6_talk_1 : List UInt8 := dkwX6_talk_1 ++ []
def dkwX6_talk_0 : List UInt8 := [42, 27, 182, 0, 108, 153, 0, 25, 42, 28, 182, 0, 108, 153, 0, 17, 27, 28, 159, 0, 12, 42, 27, 28]
abbrev dktX6_talk_0 : List UInt8 := dkwX6_talk_0 ++ dktX6_talk_1
theorem dksX6_talk_0 : cX6_talk.data.toList.drop 0 = dktX6_talk_0 := by decide +kernel
theorem dksX6_talk_1 : cX6_talk.data.toList.drop 24 = dktX6_talk_1 := dk_seg dksX6_talk_0 24 rfl rfl
theorem dX6_talk_0 : decode cX6_talk 0 = .ok (.aload_n 0, 1) := dk_42 (dk_at dksX6_talk_0 0 rfl rfl)
theorem dX6_talk_1 : decode cX6_talk 1 = .ok (.iload_n 1, 1) := dk_27 (dk_at dksX6_talk_0 1 rfl rfl)
theorem dX6_talk_2 : decode cX6_talk 2 = .ok (.invokevirtual 108, 3) := dk_182 0 108 (dk_at dksX6_talk_0 2 rfl rfl)
theorem dX6_talk_5 : decode cX6_talk 5 = .ok (.ifCond .eq 25, 3) := dk_153 0 25 (dk_at dksX6_talk_0 5 rfl rfl)
theorem dX6_talk_8 : decode cX6_talk 8 = .ok (.aload_n 0, 1) := dk_42 (dk_at dksX6_talk_0 8 rfl rfl)
theorem dX6_talk_9 : decode cX6_talk 9 = .ok (.iload_n 2, 1) := dk_28 (dk_at dksX6_talk_0 9 rfl rfl)
theorem dX6_talk_10 : decode cX6_talk 10 = .ok (.invokevirtual 108, 3) := dk_182 0 108 (dk_at dksX6_talk_0 10 rfl rfl)
theorem dX6_talk_13 : decode cX6_talk 13 = .ok (.ifCond .eq 17, 3) := dk_153 0 17 (dk_at dksX6_talk_0 13 rfl rfl)
theorem dX6_talk_16 : decode cX6_talk 16 = .ok (.iload_n 1, 1) := dk_27 (dk_at dksX6_talk_0 16 rfl rfl)
theorem dX6_talk_17 : decode cX6_talk 17 = .ok (.iload_n 2, 1) := dk_28 (dk_at dksX6_talk_0 17 rfl rfl)
theorem dX6_talk_18 : decode cX6_talk 18 = .ok (.if_icmp .eq 12, 3) := dk_159 0 12 (dk_at dksX6_talk_0 18 rfl rfl)
theorem dX6_talk_21 : decode cX6_talk 21 = .ok (.aload_n 0, 1) := dk_42 (dk_at dksX6_talk_0 21 rfl rfl)
theorem dX6_talk_22 : decode cX6_talk 22 = .ok (.iload_n 1, 1) := dk_27 (dk_at dksX6_talk_0 22 rfl rfl)
theorem dX6_talk_23 : decode cX6_talk 23 = .ok (.iload_n 2, 1) := dk_28 (dk_at dksX6_talk_0 23 rfl rfl)
theorem dX6_talk_24 : decode cX6_talk 24 = .ok (.invokevirtual 325, 3) := dk_182 1 69 (dk_at dksX6_talk_1 0 rfl rfl)
theorem dX6_talk_27 : decode cX6_talk 27 = .ok (.goto 6, 3) := dk_167 0 6 (dk_at dksX6_talk_1 3 rfl rfl)
theorem dX6_talk_30 : decode cX6_talk 30 = .ok (.sipush (-1000), 3) := dk_17 252 24 (dk_at dksX6_talk_1 6 rfl rfl)
theorem dX6_talk_33 : decode cX6_talk 33 = .ok (.ireturn, 1) := dk_172 (dk_at dksX6_talk_1 9 rfl rfl)
abbrev cX6_talkOf : ByteArray := prog_20_method_18_code
def yX6_talkOf : MethodName := ⟨RX6, "talkOf", "(II)I"⟩
def dkwX6_talkOf_1 : List UInt8 := [96, 46, 130, 184, 0, 126, 100, 172]
abbrev dktX6_talkOf_1 : List UInt8 := dkwX6_talkOf_1 ++ []
def dkwX6_talkOf_0 : List UInt8 := [6, 42, 27, 28, 182, 0, 129, 104, 42, 180, 0, 7, 16, 16, 27, 96, 46, 42, 180, 0, 7, 16, 16, 28]
abbrev dktX6_talkOf_0 : List UInt8 := dkwX6_talkOf_0 ++ dktX6_talkOf_1
theorem dksX6_talkOf_0 : cX6_talkOf.data.toList.drop 0 = dktX6_talkOf_0 := by decide +kernel
theorem dksX6_talkOf_1 : cX6_talkOf.data.toList.drop 24 = dktX6_talkOf_1 := dk_seg dksX6_talkOf_0 24 rfl rfl
theorem dX6_talkOf_0 : decode cX6_talkOf 0 = .ok (.iconst 3, 1) := dk_6 (dk_at dksX6_talkOf_0 0 rfl rfl)
theorem dX6_talkOf_1 : decode cX6_talkOf 1 = .ok (.aload_n 0, 1) := dk_42 (dk_at dksX6_talkOf_0 1 rfl rfl)
theorem dX6_talkOf_2 : decode cX6_talkOf 2 = .ok (.iload_n 1, 1) := dk_27 (dk_at dksX6_talkOf_0 2 rfl rfl)
theorem dX6_talkOf_3 : decode cX6_talkOf 3 = .ok (.iload_n 2, 1) := dk_28 (dk_at dksX6_talkOf_0 3 rfl rfl)
theorem dX6_talkOf_4 : decode cX6_talkOf 4 = .ok (.invokevirtual 129, 3) := dk_182 0 129 (dk_at dksX6_talkOf_0 4 rfl rfl)
theorem dX6_talkOf_7 : decode cX6_talkOf 7 = .ok (.imul, 1) := dk_104 (dk_at dksX6_talkOf_0 7 rfl rfl)
theorem dX6_talkOf_8 : decode cX6_talkOf 8 = .ok (.aload_n 0, 1) := dk_42 (dk_at dksX6_talkOf_0 8 rfl rfl)
theorem dX6_talkOf_9 : decode cX6_talkOf 9 = .ok (.getfield 7, 3) := dk_180 0 7 (dk_at dksX6_talkOf_0 9 rfl rfl)
theorem dX6_talkOf_12 : decode cX6_talkOf 12 = .ok (.bipush 16, 2) := dk_16 16 (dk_at dksX6_talkOf_0 12 rfl rfl)
theorem dX6_talkOf_14 : decode cX6_talkOf 14 = .ok (.iload_n 1, 1) := dk_27 (dk_at dksX6_talkOf_0 14 rfl rfl)
theorem dX6_talkOf_15 : decode cX6_talkOf 15 = .ok (.iadd, 1) := dk_96 (dk_at dksX6_talkOf_0 15 rfl rfl)
theorem dX6_talkOf_16 : decode cX6_talkOf 16 = .ok (.iaload, 1) := dk_46 (dk_at dksX6_talkOf_0 16 rfl rfl)
theorem dX6_talkOf_17 : decode cX6_talkOf 17 = .ok (.aload_n 0, 1) := dk_42 (dk_at dksX6_talkOf_0 17 rfl rfl)
theorem dX6_talkOf_18 : decode cX6_talkOf 18 = .ok (.getfield 7, 3) := dk_180 0 7 (dk_at dksX6_talkOf_0 18 rfl rfl)
theorem dX6_talkOf_21 : decode cX6_talkOf 21 = .ok (.bipush 16, 2) := dk_16 16 (dk_at dksX6_talkOf_0 21 rfl rfl)
theorem dX6_talkOf_23 : decode cX6_talkOf 23 = .ok (.iload_n 2, 1) := dk_28 (dk_at dksX6_talkOf_0 23 rfl rfl)
theorem dX6_talkOf_24 : decode cX6_talkOf 24 = .ok (.iadd, 1) := dk_96 (dk_at dksX6_talkOf_1 0 rfl rfl)
theorem dX6_talkOf_25 : decode cX6_talkOf 25 = .ok (.iaload, 1) := dk_46 (dk_at dksX6_talkOf_1 1 rfl rfl)
theorem dX6_talkOf_26 : decode cX6_talkOf 26 = .ok (.ixor, 1) := dk_130 (dk_at dksX6_talkOf_1 2 rfl rfl)
theorem dX6_talkOf_27 : decode cX6_talkOf 27 = .ok (.invokestatic 126, 3) := dk_184 0 126 (dk_at dksX6_talkOf_1 3 rfl rfl)
theorem dX6_talkOf_30 : decode cX6_talkOf 30 = .ok (.isub, 1) := dk_100 (dk_at dksX6_talkOf_1 6 rfl rfl)
theorem dX6_talkOf_31 : decode cX6_talkOf 31 = .ok (.ireturn, 1) := dk_172 (dk_at dksX6_talkOf_1 7 rfl rfl)
abbrev cX6_yardTalk : ByteArray := prog_20_method_68_code
def yX6_yardTalk : MethodName := ⟨RX6, "yardTalk", "()I"⟩
def dkwX6_yardTalk_2 : List UInt8 := [27, 172]
abbrev dktX6_yardTalk_2 : List UInt8 := dkwX6_yardTalk_2 ++ []
def dkwX6_yardTalk_1 : List UInt8 := [153, 0, 12, 27, 42, 28, 29, 182, 1, 69, 96, 60, 132, 3, 1, 167, 255, 230, 132, 2, 1, 167, 255, 216]
abbrev dktX6_yardTalk_1 : List UInt8 := dkwX6_yardTalk_1 ++ dktX6_yardTalk_2
def dkwX6_yardTalk_0 : List UInt8 := [3, 60, 3, 61, 28, 16, 16, 162, 0, 40, 3, 62, 29, 28, 162, 0, 27, 42, 28, 29, 182, 0, 123]
abbrev dktX6_yardTalk_0 : List UInt8 := dkwX6_yardTalk_0 ++ dktX6_yardTalk_1
theorem dksX6_yardTalk_0 : cX6_yardTalk.data.toList.drop 0 = dktX6_yardTalk_0 := by decide +kernel
theorem dksX6_yardTalk_1 : cX6_yardTalk.data.toList.drop 23 = dktX6_yardTalk_1 := dk_seg dksX6_yardTalk_0 23 rfl rfl
theorem dksX6_yardTalk_2 : cX6_yardTalk.data.toList.drop 47 = dktX6_yardTalk_2 := dk_seg dksX6_yardTalk_1 24 rfl rfl
theorem dX6_yardTalk_0 : decode cX6_yardTalk 0 = .ok (.iconst 0, 1) := dk_3 (dk_at dksX6_yardTalk_0 0 rfl rfl)
theorem dX6_yardTalk_1 : decode cX6_yardTalk 1 = .ok (.istore_n 1, 1) := dk_60 (dk_at dksX6_yardTalk_0 1 rfl rfl)
theorem dX6_yardTalk_2 : decode cX6_yardTalk 2 = .ok (.iconst 0, 1) := dk_3 (dk_at dksX6_yardTalk_0 2 rfl rfl)
theorem dX6_yardTalk_3 : decode cX6_yardTalk 3 = .ok (.istore_n 2, 1) := dk_61 (dk_at dksX6_yardTalk_0 3 rfl rfl)
theorem dX6_yardTalk_4 : decode cX6_yardTalk 4 = .ok (.iload_n 2, 1) := dk_28 (dk_at dksX6_yardTalk_0 4 rfl rfl)
theorem dX6_yardTalk_5 : decode cX6_yardTalk 5 = .ok (.bipush 16, 2) := dk_16 16 (dk_at dksX6_yardTalk_0 5 rfl rfl)
theorem dX6_yardTalk_7 : decode cX6_yardTalk 7 = .ok (.if_icmp .ge 40, 3) := dk_162 0 40 (dk_at dksX6_yardTalk_0 7 rfl rfl)
theorem dX6_yardTalk_10 : decode cX6_yardTalk 10 = .ok (.iconst 0, 1) := dk_3 (dk_at dksX6_yardTalk_0 10 rfl rfl)
theorem dX6_yardTalk_11 : decode cX6_yardTalk 11 = .ok (.istore_n 3, 1) := dk_62 (dk_at dksX6_yardTalk_0 11 rfl rfl)
theorem dX6_yardTalk_12 : decode cX6_yardTalk 12 = .ok (.iload_n 3, 1) := dk_29 (dk_at dksX6_yardTalk_0 12 rfl rfl)
theorem dX6_yardTalk_13 : decode cX6_yardTalk 13 = .ok (.iload_n 2, 1) := dk_28 (dk_at dksX6_yardTalk_0 13 rfl rfl)
theorem dX6_yardTalk_14 : decode cX6_yardTalk 14 = .ok (.if_icmp .ge 27, 3) := dk_162 0 27 (dk_at dksX6_yardTalk_0 14 rfl rfl)
theorem dX6_yardTalk_17 : decode cX6_yardTalk 17 = .ok (.aload_n 0, 1) := dk_42 (dk_at dksX6_yardTalk_0 17 rfl rfl)
theorem dX6_yardTalk_18 : decode cX6_yardTalk 18 = .ok (.iload_n 2, 1) := dk_28 (dk_at dksX6_yardTalk_0 18 rfl rfl)
theorem dX6_yardTalk_19 : decode cX6_yardTalk 19 = .ok (.iload_n 3, 1) := dk_29 (dk_at dksX6_yardTalk_0 19 rfl rfl)
theorem dX6_yardTalk_20 : decode cX6_yardTalk 20 = .ok (.invokevirtual 123, 3) := dk_182 0 123 (dk_at dksX6_yardTalk_0 20 rfl rfl)
theorem dX6_yardTalk_23 : decode cX6_yardTalk 23 = .ok (.ifCond .eq 12, 3) := dk_153 0 12 (dk_at dksX6_yardTalk_1 0 rfl rfl)
theorem dX6_yardTalk_26 : decode cX6_yardTalk 26 = .ok (.iload_n 1, 1) := dk_27 (dk_at dksX6_yardTalk_1 3 rfl rfl)
theorem dX6_yardTalk_27 : decode cX6_yardTalk 27 = .ok (.aload_n 0, 1) := dk_42 (dk_at dksX6_yardTalk_1 4 rfl rfl)
theorem dX6_yardTalk_28 : decode cX6_yardTalk 28 = .ok (.iload_n 2, 1) := dk_28 (dk_at dksX6_yardTalk_1 5 rfl rfl)
theorem dX6_yardTalk_29 : decode cX6_yardTalk 29 = .ok (.iload_n 3, 1) := dk_29 (dk_at dksX6_yardTalk_1 6 rfl rfl)
theorem dX6_yardTalk_30 : decode cX6_yardTalk 30 = .ok (.invokevirtual 325, 3) := dk_182 1 69 (dk_at dksX6_yardTalk_1 7 rfl rfl)
theorem dX6_yardTalk_33 : decode cX6_yardTalk 33 = .ok (.iadd, 1) := dk_96 (dk_at dksX6_yardTalk_1 10 rfl rfl)
theorem dX6_yardTalk_34 : decode cX6_yardTalk 34 = .ok (.istore_n 1, 1) := dk_60 (dk_at dksX6_yardTalk_1 11 rfl rfl)
theorem dX6_yardTalk_35 : decode cX6_yardTalk 35 = .ok (.iinc 3 1, 3) := dk_132 3 1 (dk_at dksX6_yardTalk_1 12 rfl rfl)
theorem dX6_yardTalk_38 : decode cX6_yardTalk 38 = .ok (.goto (-26), 3) := dk_167 255 230 (dk_at dksX6_yardTalk_1 15 rfl rfl)
theorem dX6_yardTalk_41 : decode cX6_yardTalk 41 = .ok (.iinc 2 1, 3) := dk_132 2 1 (dk_at dksX6_yardTalk_1 18 rfl rfl)
theorem dX6_yardTalk_44 : decode cX6_yardTalk 44 = .ok (.goto (-40), 3) := dk_167 255 216 (dk_at dksX6_yardTalk_1 21 rfl rfl)
theorem dX6_yardTalk_47 : decode cX6_yardTalk 47 = .ok (.iload_n 1, 1) := dk_27 (dk_at dksX6_yardTalk_2 0 rfl rfl)
theorem dX6_yardTalk_48 : decode cX6_yardTalk 48 = .ok (.ireturn, 1) := dk_172 (dk_at dksX6_yardTalk_2 1 rfl rfl)
abbrev cX6_best : ByteArray := prog_20_method_70_code
def yX6_best : MethodName := ⟨RX6, "best", "(II)I"⟩
def dkwX6_best_4 : List UInt8 := [167, 255, 191, 28, 154, 0, 7, 29, 167, 0, 5, 21, 4, 172]
abbrev dktX6_best_4 : List UInt8 := dkwX6_best_4 ++ []
def dkwX6_best_3 : List UInt8 := [159, 0, 13, 21, 7, 21, 4, 163, 0, 6, 167, 0, 10, 21, 7, 54, 4, 21, 5, 62, 132, 5, 1]
abbrev dktX6_best_3 : List UInt8 := dkwX6_best_3 ++ dktX6_best_4
def dkwX6_best_2 : List UInt8 := [159, 0, 12, 21, 6, 27, 159, 0, 6, 167, 0, 34, 42, 27, 21, 5, 182, 1, 72, 54, 7, 29, 2]
abbrev dktX6_best_2 : List UInt8 := dkwX6_best_2 ++ dktX6_best_3
def dkwX6_best_1 : List UInt8 := [54, 4, 3, 54, 5, 21, 5, 16, 60, 162, 0, 64, 42, 21, 5, 182, 0, 247, 54, 6, 21, 6, 16, 254]
abbrev dktX6_best_1 : List UInt8 := dkwX6_best_1 ++ dktX6_best_2
def dkwX6_best_0 : List UInt8 := [42, 27, 182, 0, 108, 153, 0, 12, 28, 3, 4, 184, 0, 104, 154, 0, 7, 17, 252, 24, 172, 2, 62, 3]
abbrev dktX6_best_0 : List UInt8 := dkwX6_best_0 ++ dktX6_best_1
theorem dksX6_best_0 : cX6_best.data.toList.drop 0 = dktX6_best_0 := by decide +kernel
theorem dksX6_best_1 : cX6_best.data.toList.drop 24 = dktX6_best_1 := dk_seg dksX6_best_0 24 rfl rfl
theorem dksX6_best_2 : cX6_best.data.toList.drop 48 = dktX6_best_2 := dk_seg dksX6_best_1 24 rfl rfl
theorem dksX6_best_3 : cX6_best.data.toList.drop 71 = dktX6_best_3 := dk_seg dksX6_best_2 23 rfl rfl
theorem dksX6_best_4 : cX6_best.data.toList.drop 94 = dktX6_best_4 := dk_seg dksX6_best_3 23 rfl rfl
theorem dX6_best_0 : decode cX6_best 0 = .ok (.aload_n 0, 1) := dk_42 (dk_at dksX6_best_0 0 rfl rfl)
theorem dX6_best_1 : decode cX6_best 1 = .ok (.iload_n 1, 1) := dk_27 (dk_at dksX6_best_0 1 rfl rfl)
theorem dX6_best_2 : decode cX6_best 2 = .ok (.invokevirtual 108, 3) := dk_182 0 108 (dk_at dksX6_best_0 2 rfl rfl)
theorem dX6_best_5 : decode cX6_best 5 = .ok (.ifCond .eq 12, 3) := dk_153 0 12 (dk_at dksX6_best_0 5 rfl rfl)
theorem dX6_best_8 : decode cX6_best 8 = .ok (.iload_n 2, 1) := dk_28 (dk_at dksX6_best_0 8 rfl rfl)
theorem dX6_best_9 : decode cX6_best 9 = .ok (.iconst 0, 1) := dk_3 (dk_at dksX6_best_0 9 rfl rfl)
theorem dX6_best_10 : decode cX6_best 10 = .ok (.iconst 1, 1) := dk_4 (dk_at dksX6_best_0 10 rfl rfl)
theorem dX6_best_11 : decode cX6_best 11 = .ok (.invokestatic 104, 3) := dk_184 0 104 (dk_at dksX6_best_0 11 rfl rfl)
theorem dX6_best_14 : decode cX6_best 14 = .ok (.ifCond .ne 7, 3) := dk_154 0 7 (dk_at dksX6_best_0 14 rfl rfl)
theorem dX6_best_17 : decode cX6_best 17 = .ok (.sipush (-1000), 3) := dk_17 252 24 (dk_at dksX6_best_0 17 rfl rfl)
theorem dX6_best_20 : decode cX6_best 20 = .ok (.ireturn, 1) := dk_172 (dk_at dksX6_best_0 20 rfl rfl)
theorem dX6_best_21 : decode cX6_best 21 = .ok (.iconst (-1), 1) := dk_2 (dk_at dksX6_best_0 21 rfl rfl)
theorem dX6_best_22 : decode cX6_best 22 = .ok (.istore_n 3, 1) := dk_62 (dk_at dksX6_best_0 22 rfl rfl)
theorem dX6_best_23 : decode cX6_best 23 = .ok (.iconst 0, 1) := dk_3 (dk_at dksX6_best_0 23 rfl rfl)
theorem dX6_best_24 : decode cX6_best 24 = .ok (.istore 4, 2) := dk_54 4 (dk_at dksX6_best_1 0 rfl rfl)
theorem dX6_best_26 : decode cX6_best 26 = .ok (.iconst 0, 1) := dk_3 (dk_at dksX6_best_1 2 rfl rfl)
theorem dX6_best_27 : decode cX6_best 27 = .ok (.istore 5, 2) := dk_54 5 (dk_at dksX6_best_1 3 rfl rfl)
theorem dX6_best_29 : decode cX6_best 29 = .ok (.iload 5, 2) := dk_21 5 (dk_at dksX6_best_1 5 rfl rfl)
theorem dX6_best_31 : decode cX6_best 31 = .ok (.bipush 60, 2) := dk_16 60 (dk_at dksX6_best_1 7 rfl rfl)
theorem dX6_best_33 : decode cX6_best 33 = .ok (.if_icmp .ge 64, 3) := dk_162 0 64 (dk_at dksX6_best_1 9 rfl rfl)
theorem dX6_best_36 : decode cX6_best 36 = .ok (.aload_n 0, 1) := dk_42 (dk_at dksX6_best_1 12 rfl rfl)
theorem dX6_best_37 : decode cX6_best 37 = .ok (.iload 5, 2) := dk_21 5 (dk_at dksX6_best_1 13 rfl rfl)
theorem dX6_best_39 : decode cX6_best 39 = .ok (.invokevirtual 247, 3) := dk_182 0 247 (dk_at dksX6_best_1 15 rfl rfl)
theorem dX6_best_42 : decode cX6_best 42 = .ok (.istore 6, 2) := dk_54 6 (dk_at dksX6_best_1 18 rfl rfl)
theorem dX6_best_44 : decode cX6_best 44 = .ok (.iload 6, 2) := dk_21 6 (dk_at dksX6_best_1 20 rfl rfl)
theorem dX6_best_46 : decode cX6_best 46 = .ok (.bipush (-2), 2) := dk_16 254 (dk_at dksX6_best_1 22 rfl rfl)
theorem dX6_best_48 : decode cX6_best 48 = .ok (.if_icmp .eq 12, 3) := dk_159 0 12 (dk_at dksX6_best_2 0 rfl rfl)
theorem dX6_best_51 : decode cX6_best 51 = .ok (.iload 6, 2) := dk_21 6 (dk_at dksX6_best_2 3 rfl rfl)
theorem dX6_best_53 : decode cX6_best 53 = .ok (.iload_n 1, 1) := dk_27 (dk_at dksX6_best_2 5 rfl rfl)
theorem dX6_best_54 : decode cX6_best 54 = .ok (.if_icmp .eq 6, 3) := dk_159 0 6 (dk_at dksX6_best_2 6 rfl rfl)
theorem dX6_best_57 : decode cX6_best 57 = .ok (.goto 34, 3) := dk_167 0 34 (dk_at dksX6_best_2 9 rfl rfl)
theorem dX6_best_60 : decode cX6_best 60 = .ok (.aload_n 0, 1) := dk_42 (dk_at dksX6_best_2 12 rfl rfl)
theorem dX6_best_61 : decode cX6_best 61 = .ok (.iload_n 1, 1) := dk_27 (dk_at dksX6_best_2 13 rfl rfl)
theorem dX6_best_62 : decode cX6_best 62 = .ok (.iload 5, 2) := dk_21 5 (dk_at dksX6_best_2 14 rfl rfl)
theorem dX6_best_64 : decode cX6_best 64 = .ok (.invokevirtual 328, 3) := dk_182 1 72 (dk_at dksX6_best_2 16 rfl rfl)
theorem dX6_best_67 : decode cX6_best 67 = .ok (.istore 7, 2) := dk_54 7 (dk_at dksX6_best_2 19 rfl rfl)
theorem dX6_best_69 : decode cX6_best 69 = .ok (.iload_n 3, 1) := dk_29 (dk_at dksX6_best_2 21 rfl rfl)
theorem dX6_best_70 : decode cX6_best 70 = .ok (.iconst (-1), 1) := dk_2 (dk_at dksX6_best_2 22 rfl rfl)
theorem dX6_best_71 : decode cX6_best 71 = .ok (.if_icmp .eq 13, 3) := dk_159 0 13 (dk_at dksX6_best_3 0 rfl rfl)
theorem dX6_best_74 : decode cX6_best 74 = .ok (.iload 7, 2) := dk_21 7 (dk_at dksX6_best_3 3 rfl rfl)
theorem dX6_best_76 : decode cX6_best 76 = .ok (.iload 4, 2) := dk_21 4 (dk_at dksX6_best_3 5 rfl rfl)
theorem dX6_best_78 : decode cX6_best 78 = .ok (.if_icmp .gt 6, 3) := dk_163 0 6 (dk_at dksX6_best_3 7 rfl rfl)
theorem dX6_best_81 : decode cX6_best 81 = .ok (.goto 10, 3) := dk_167 0 10 (dk_at dksX6_best_3 10 rfl rfl)
theorem dX6_best_84 : decode cX6_best 84 = .ok (.iload 7, 2) := dk_21 7 (dk_at dksX6_best_3 13 rfl rfl)
theorem dX6_best_86 : decode cX6_best 86 = .ok (.istore 4, 2) := dk_54 4 (dk_at dksX6_best_3 15 rfl rfl)
theorem dX6_best_88 : decode cX6_best 88 = .ok (.iload 5, 2) := dk_21 5 (dk_at dksX6_best_3 17 rfl rfl)
theorem dX6_best_90 : decode cX6_best 90 = .ok (.istore_n 3, 1) := dk_62 (dk_at dksX6_best_3 19 rfl rfl)
theorem dX6_best_91 : decode cX6_best 91 = .ok (.iinc 5 1, 3) := dk_132 5 1 (dk_at dksX6_best_3 20 rfl rfl)
theorem dX6_best_94 : decode cX6_best 94 = .ok (.goto (-65), 3) := dk_167 255 191 (dk_at dksX6_best_4 0 rfl rfl)
theorem dX6_best_97 : decode cX6_best 97 = .ok (.iload_n 2, 1) := dk_28 (dk_at dksX6_best_4 3 rfl rfl)
theorem dX6_best_98 : decode cX6_best 98 = .ok (.ifCond .ne 7, 3) := dk_154 0 7 (dk_at dksX6_best_4 4 rfl rfl)
theorem dX6_best_101 : decode cX6_best 101 = .ok (.iload_n 3, 1) := dk_29 (dk_at dksX6_best_4 7 rfl rfl)
theorem dX6_best_102 : decode cX6_best 102 = .ok (.goto 5, 3) := dk_167 0 5 (dk_at dksX6_best_4 8 rfl rfl)
theorem dX6_best_105 : decode cX6_best 105 = .ok (.iload 4, 2) := dk_21 4 (dk_at dksX6_best_4 11 rfl rfl)
theorem dX6_best_107 : decode cX6_best 107 = .ok (.ireturn, 1) := dk_172 (dk_at dksX6_best_4 13 rfl rfl)
abbrev cX6_talkAt : ByteArray := prog_20_method_69_code
def yX6_talkAt : MethodName := ⟨RX6, "talkAt", "(II)I"⟩
def dkwX6_talkAt_2 : List UInt8 := [21, 4, 182, 1, 69, 96, 62, 132, 4, 1, 167, 255, 204, 29, 172]
abbrev dktX6_talkAt_2 : List UInt8 := dkwX6_talkAt_2 ++ []
def dkwX6_talkAt_1 : List UInt8 := [153, 0, 30, 28, 42, 180, 0, 7, 16, 48, 21, 4, 96, 46, 184, 0, 119, 153, 0, 13, 29, 42, 27]
abbrev dktX6_talkAt_1 : List UInt8 := dkwX6_talkAt_1 ++ dktX6_talkAt_2
def dkwX6_talkAt_0 : List UInt8 := [3, 62, 3, 54, 4, 21, 4, 16, 16, 162, 0, 51, 21, 4, 27, 159, 0, 39, 42, 21, 4, 182, 0, 112]
abbrev dktX6_talkAt_0 : List UInt8 := dkwX6_talkAt_0 ++ dktX6_talkAt_1
theorem dksX6_talkAt_0 : cX6_talkAt.data.toList.drop 0 = dktX6_talkAt_0 := by decide +kernel
theorem dksX6_talkAt_1 : cX6_talkAt.data.toList.drop 24 = dktX6_talkAt_1 := dk_seg dksX6_talkAt_0 24 rfl rfl
theorem dksX6_talkAt_2 : cX6_talkAt.data.toList.drop 47 = dktX6_talkAt_2 := dk_seg dksX6_talkAt_1 23 rfl rfl
theorem dX6_talkAt_0 : decode cX6_talkAt 0 = .ok (.iconst 0, 1) := dk_3 (dk_at dksX6_talkAt_0 0 rfl rfl)
theorem dX6_talkAt_1 : decode cX6_talkAt 1 = .ok (.istore_n 3, 1) := dk_62 (dk_at dksX6_talkAt_0 1 rfl rfl)
theorem dX6_talkAt_2 : decode cX6_talkAt 2 = .ok (.iconst 0, 1) := dk_3 (dk_at dksX6_talkAt_0 2 rfl rfl)
theorem dX6_talkAt_3 : decode cX6_talkAt 3 = .ok (.istore 4, 2) := dk_54 4 (dk_at dksX6_talkAt_0 3 rfl rfl)
theorem dX6_talkAt_5 : decode cX6_talkAt 5 = .ok (.iload 4, 2) := dk_21 4 (dk_at dksX6_talkAt_0 5 rfl rfl)
theorem dX6_talkAt_7 : decode cX6_talkAt 7 = .ok (.bipush 16, 2) := dk_16 16 (dk_at dksX6_talkAt_0 7 rfl rfl)
theorem dX6_talkAt_9 : decode cX6_talkAt 9 = .ok (.if_icmp .ge 51, 3) := dk_162 0 51 (dk_at dksX6_talkAt_0 9 rfl rfl)
theorem dX6_talkAt_12 : decode cX6_talkAt 12 = .ok (.iload 4, 2) := dk_21 4 (dk_at dksX6_talkAt_0 12 rfl rfl)
theorem dX6_talkAt_14 : decode cX6_talkAt 14 = .ok (.iload_n 1, 1) := dk_27 (dk_at dksX6_talkAt_0 14 rfl rfl)
theorem dX6_talkAt_15 : decode cX6_talkAt 15 = .ok (.if_icmp .eq 39, 3) := dk_159 0 39 (dk_at dksX6_talkAt_0 15 rfl rfl)
theorem dX6_talkAt_18 : decode cX6_talkAt 18 = .ok (.aload_n 0, 1) := dk_42 (dk_at dksX6_talkAt_0 18 rfl rfl)
theorem dX6_talkAt_19 : decode cX6_talkAt 19 = .ok (.iload 4, 2) := dk_21 4 (dk_at dksX6_talkAt_0 19 rfl rfl)
theorem dX6_talkAt_21 : decode cX6_talkAt 21 = .ok (.invokevirtual 112, 3) := dk_182 0 112 (dk_at dksX6_talkAt_0 21 rfl rfl)
theorem dX6_talkAt_24 : decode cX6_talkAt 24 = .ok (.ifCond .eq 30, 3) := dk_153 0 30 (dk_at dksX6_talkAt_1 0 rfl rfl)
theorem dX6_talkAt_27 : decode cX6_talkAt 27 = .ok (.iload_n 2, 1) := dk_28 (dk_at dksX6_talkAt_1 3 rfl rfl)
theorem dX6_talkAt_28 : decode cX6_talkAt 28 = .ok (.aload_n 0, 1) := dk_42 (dk_at dksX6_talkAt_1 4 rfl rfl)
theorem dX6_talkAt_29 : decode cX6_talkAt 29 = .ok (.getfield 7, 3) := dk_180 0 7 (dk_at dksX6_talkAt_1 5 rfl rfl)
theorem dX6_talkAt_32 : decode cX6_talkAt 32 = .ok (.bipush 48, 2) := dk_16 48 (dk_at dksX6_talkAt_1 8 rfl rfl)
theorem dX6_talkAt_34 : decode cX6_talkAt 34 = .ok (.iload 4, 2) := dk_21 4 (dk_at dksX6_talkAt_1 10 rfl rfl)
theorem dX6_talkAt_36 : decode cX6_talkAt 36 = .ok (.iadd, 1) := dk_96 (dk_at dksX6_talkAt_1 12 rfl rfl)
theorem dX6_talkAt_37 : decode cX6_talkAt 37 = .ok (.iaload, 1) := dk_46 (dk_at dksX6_talkAt_1 13 rfl rfl)
theorem dX6_talkAt_38 : decode cX6_talkAt 38 = .ok (.invokestatic 119, 3) := dk_184 0 119 (dk_at dksX6_talkAt_1 14 rfl rfl)
theorem dX6_talkAt_41 : decode cX6_talkAt 41 = .ok (.ifCond .eq 13, 3) := dk_153 0 13 (dk_at dksX6_talkAt_1 17 rfl rfl)
theorem dX6_talkAt_44 : decode cX6_talkAt 44 = .ok (.iload_n 3, 1) := dk_29 (dk_at dksX6_talkAt_1 20 rfl rfl)
theorem dX6_talkAt_45 : decode cX6_talkAt 45 = .ok (.aload_n 0, 1) := dk_42 (dk_at dksX6_talkAt_1 21 rfl rfl)
theorem dX6_talkAt_46 : decode cX6_talkAt 46 = .ok (.iload_n 1, 1) := dk_27 (dk_at dksX6_talkAt_1 22 rfl rfl)
theorem dX6_talkAt_47 : decode cX6_talkAt 47 = .ok (.iload 4, 2) := dk_21 4 (dk_at dksX6_talkAt_2 0 rfl rfl)
theorem dX6_talkAt_49 : decode cX6_talkAt 49 = .ok (.invokevirtual 325, 3) := dk_182 1 69 (dk_at dksX6_talkAt_2 2 rfl rfl)
theorem dX6_talkAt_52 : decode cX6_talkAt 52 = .ok (.iadd, 1) := dk_96 (dk_at dksX6_talkAt_2 5 rfl rfl)
theorem dX6_talkAt_53 : decode cX6_talkAt 53 = .ok (.istore_n 3, 1) := dk_62 (dk_at dksX6_talkAt_2 6 rfl rfl)
theorem dX6_talkAt_54 : decode cX6_talkAt 54 = .ok (.iinc 4 1, 3) := dk_132 4 1 (dk_at dksX6_talkAt_2 7 rfl rfl)
theorem dX6_talkAt_57 : decode cX6_talkAt 57 = .ok (.goto (-52), 3) := dk_167 255 204 (dk_at dksX6_talkAt_2 10 rfl rfl)
theorem dX6_talkAt_60 : decode cX6_talkAt 60 = .ok (.iload_n 3, 1) := dk_29 (dk_at dksX6_talkAt_2 13 rfl rfl)
theorem dX6_talkAt_61 : decode cX6_talkAt 61 = .ok (.ireturn, 1) := dk_172 (dk_at dksX6_talkAt_2 14 rfl rfl)
abbrev cX6_move : ByteArray := prog_20_method_71_code
def yX6_move : MethodName := ⟨RX6, "move", "(I)I"⟩
def dkwX6_move_6 : List UInt8 := [4, 160, 0, 7, 29, 167, 0, 5, 21, 4, 172]
abbrev dktX6_move_6 : List UInt8 := dkwX6_move_6 ++ []
def dkwX6_move_5 : List UInt8 := [132, 5, 1, 167, 255, 160, 28, 16, 254, 160, 0, 6, 16, 254, 172, 27, 154, 0, 7, 28, 167, 0, 14, 27]
abbrev dktX6_move_5 : List UInt8 := dkwX6_move_5 ++ dktX6_move_6
def dkwX6_move_4 : List UInt8 := [21, 4, 163, 0, 6, 167, 0, 13, 21, 7, 54, 4, 21, 5, 61, 21, 6, 62, 132, 6, 1, 167, 255, 176]
abbrev dktX6_move_4 : List UInt8 := dkwX6_move_4 ++ dktX6_move_5
def dkwX6_move_3 : List UInt8 := [182, 1, 72, 42, 21, 5, 42, 180, 0, 7, 16, 48, 21, 5, 96, 46, 182, 1, 72, 100, 54, 7, 21, 7]
abbrev dktX6_move_3 : List UInt8 := dkwX6_move_3 ++ dktX6_move_4
def dkwX6_move_2 : List UInt8 := [153, 0, 70, 42, 21, 6, 182, 0, 247, 16, 254, 159, 0, 6, 167, 0, 50, 42, 21, 5, 21, 6]
abbrev dktX6_move_2 : List UInt8 := dkwX6_move_2 ++ dktX6_move_3
def dkwX6_move_1 : List UInt8 := [21, 5, 16, 16, 162, 0, 95, 3, 54, 6, 21, 6, 16, 60, 162, 0, 79, 42, 21, 5, 182, 0, 112]
abbrev dktX6_move_1 : List UInt8 := dkwX6_move_1 ++ dktX6_move_2
def dkwX6_move_0 : List UInt8 := [27, 3, 5, 184, 0, 104, 154, 0, 5, 2, 172, 16, 254, 61, 16, 254, 62, 3, 54, 4, 3, 54, 5]
abbrev dktX6_move_0 : List UInt8 := dkwX6_move_0 ++ dktX6_move_1
theorem dksX6_move_0 : cX6_move.data.toList.drop 0 = dktX6_move_0 := by decide +kernel
theorem dksX6_move_1 : cX6_move.data.toList.drop 23 = dktX6_move_1 := dk_seg dksX6_move_0 23 rfl rfl
theorem dksX6_move_2 : cX6_move.data.toList.drop 46 = dktX6_move_2 := dk_seg dksX6_move_1 23 rfl rfl
theorem dksX6_move_3 : cX6_move.data.toList.drop 68 = dktX6_move_3 := dk_seg dksX6_move_2 22 rfl rfl
theorem dksX6_move_4 : cX6_move.data.toList.drop 92 = dktX6_move_4 := dk_seg dksX6_move_3 24 rfl rfl
theorem dksX6_move_5 : cX6_move.data.toList.drop 116 = dktX6_move_5 := dk_seg dksX6_move_4 24 rfl rfl
theorem dksX6_move_6 : cX6_move.data.toList.drop 140 = dktX6_move_6 := dk_seg dksX6_move_5 24 rfl rfl
theorem dX6_move_0 : decode cX6_move 0 = .ok (.iload_n 1, 1) := dk_27 (dk_at dksX6_move_0 0 rfl rfl)
theorem dX6_move_1 : decode cX6_move 1 = .ok (.iconst 0, 1) := dk_3 (dk_at dksX6_move_0 1 rfl rfl)
theorem dX6_move_2 : decode cX6_move 2 = .ok (.iconst 2, 1) := dk_5 (dk_at dksX6_move_0 2 rfl rfl)
theorem dX6_move_3 : decode cX6_move 3 = .ok (.invokestatic 104, 3) := dk_184 0 104 (dk_at dksX6_move_0 3 rfl rfl)
theorem dX6_move_6 : decode cX6_move 6 = .ok (.ifCond .ne 5, 3) := dk_154 0 5 (dk_at dksX6_move_0 6 rfl rfl)
theorem dX6_move_9 : decode cX6_move 9 = .ok (.iconst (-1), 1) := dk_2 (dk_at dksX6_move_0 9 rfl rfl)
theorem dX6_move_10 : decode cX6_move 10 = .ok (.ireturn, 1) := dk_172 (dk_at dksX6_move_0 10 rfl rfl)
theorem dX6_move_11 : decode cX6_move 11 = .ok (.bipush (-2), 2) := dk_16 254 (dk_at dksX6_move_0 11 rfl rfl)
theorem dX6_move_13 : decode cX6_move 13 = .ok (.istore_n 2, 1) := dk_61 (dk_at dksX6_move_0 13 rfl rfl)
theorem dX6_move_14 : decode cX6_move 14 = .ok (.bipush (-2), 2) := dk_16 254 (dk_at dksX6_move_0 14 rfl rfl)
theorem dX6_move_16 : decode cX6_move 16 = .ok (.istore_n 3, 1) := dk_62 (dk_at dksX6_move_0 16 rfl rfl)
theorem dX6_move_17 : decode cX6_move 17 = .ok (.iconst 0, 1) := dk_3 (dk_at dksX6_move_0 17 rfl rfl)
theorem dX6_move_18 : decode cX6_move 18 = .ok (.istore 4, 2) := dk_54 4 (dk_at dksX6_move_0 18 rfl rfl)
theorem dX6_move_20 : decode cX6_move 20 = .ok (.iconst 0, 1) := dk_3 (dk_at dksX6_move_0 20 rfl rfl)
theorem dX6_move_21 : decode cX6_move 21 = .ok (.istore 5, 2) := dk_54 5 (dk_at dksX6_move_0 21 rfl rfl)
theorem dX6_move_23 : decode cX6_move 23 = .ok (.iload 5, 2) := dk_21 5 (dk_at dksX6_move_1 0 rfl rfl)
theorem dX6_move_25 : decode cX6_move 25 = .ok (.bipush 16, 2) := dk_16 16 (dk_at dksX6_move_1 2 rfl rfl)
theorem dX6_move_27 : decode cX6_move 27 = .ok (.if_icmp .ge 95, 3) := dk_162 0 95 (dk_at dksX6_move_1 4 rfl rfl)
theorem dX6_move_30 : decode cX6_move 30 = .ok (.iconst 0, 1) := dk_3 (dk_at dksX6_move_1 7 rfl rfl)
theorem dX6_move_31 : decode cX6_move 31 = .ok (.istore 6, 2) := dk_54 6 (dk_at dksX6_move_1 8 rfl rfl)
theorem dX6_move_33 : decode cX6_move 33 = .ok (.iload 6, 2) := dk_21 6 (dk_at dksX6_move_1 10 rfl rfl)
theorem dX6_move_35 : decode cX6_move 35 = .ok (.bipush 60, 2) := dk_16 60 (dk_at dksX6_move_1 12 rfl rfl)
theorem dX6_move_37 : decode cX6_move 37 = .ok (.if_icmp .ge 79, 3) := dk_162 0 79 (dk_at dksX6_move_1 14 rfl rfl)
theorem dX6_move_40 : decode cX6_move 40 = .ok (.aload_n 0, 1) := dk_42 (dk_at dksX6_move_1 17 rfl rfl)
theorem dX6_move_41 : decode cX6_move 41 = .ok (.iload 5, 2) := dk_21 5 (dk_at dksX6_move_1 18 rfl rfl)
theorem dX6_move_43 : decode cX6_move 43 = .ok (.invokevirtual 112, 3) := dk_182 0 112 (dk_at dksX6_move_1 20 rfl rfl)
theorem dX6_move_46 : decode cX6_move 46 = .ok (.ifCond .eq 70, 3) := dk_153 0 70 (dk_at dksX6_move_2 0 rfl rfl)
theorem dX6_move_49 : decode cX6_move 49 = .ok (.aload_n 0, 1) := dk_42 (dk_at dksX6_move_2 3 rfl rfl)
theorem dX6_move_50 : decode cX6_move 50 = .ok (.iload 6, 2) := dk_21 6 (dk_at dksX6_move_2 4 rfl rfl)
theorem dX6_move_52 : decode cX6_move 52 = .ok (.invokevirtual 247, 3) := dk_182 0 247 (dk_at dksX6_move_2 6 rfl rfl)
theorem dX6_move_55 : decode cX6_move 55 = .ok (.bipush (-2), 2) := dk_16 254 (dk_at dksX6_move_2 9 rfl rfl)
theorem dX6_move_57 : decode cX6_move 57 = .ok (.if_icmp .eq 6, 3) := dk_159 0 6 (dk_at dksX6_move_2 11 rfl rfl)
theorem dX6_move_60 : decode cX6_move 60 = .ok (.goto 50, 3) := dk_167 0 50 (dk_at dksX6_move_2 14 rfl rfl)
theorem dX6_move_63 : decode cX6_move 63 = .ok (.aload_n 0, 1) := dk_42 (dk_at dksX6_move_2 17 rfl rfl)
theorem dX6_move_64 : decode cX6_move 64 = .ok (.iload 5, 2) := dk_21 5 (dk_at dksX6_move_2 18 rfl rfl)
theorem dX6_move_66 : decode cX6_move 66 = .ok (.iload 6, 2) := dk_21 6 (dk_at dksX6_move_2 20 rfl rfl)
theorem dX6_move_68 : decode cX6_move 68 = .ok (.invokevirtual 328, 3) := dk_182 1 72 (dk_at dksX6_move_3 0 rfl rfl)
theorem dX6_move_71 : decode cX6_move 71 = .ok (.aload_n 0, 1) := dk_42 (dk_at dksX6_move_3 3 rfl rfl)
theorem dX6_move_72 : decode cX6_move 72 = .ok (.iload 5, 2) := dk_21 5 (dk_at dksX6_move_3 4 rfl rfl)
theorem dX6_move_74 : decode cX6_move 74 = .ok (.aload_n 0, 1) := dk_42 (dk_at dksX6_move_3 6 rfl rfl)
theorem dX6_move_75 : decode cX6_move 75 = .ok (.getfield 7, 3) := dk_180 0 7 (dk_at dksX6_move_3 7 rfl rfl)
theorem dX6_move_78 : decode cX6_move 78 = .ok (.bipush 48, 2) := dk_16 48 (dk_at dksX6_move_3 10 rfl rfl)
theorem dX6_move_80 : decode cX6_move 80 = .ok (.iload 5, 2) := dk_21 5 (dk_at dksX6_move_3 12 rfl rfl)
theorem dX6_move_82 : decode cX6_move 82 = .ok (.iadd, 1) := dk_96 (dk_at dksX6_move_3 14 rfl rfl)
theorem dX6_move_83 : decode cX6_move 83 = .ok (.iaload, 1) := dk_46 (dk_at dksX6_move_3 15 rfl rfl)
theorem dX6_move_84 : decode cX6_move 84 = .ok (.invokevirtual 328, 3) := dk_182 1 72 (dk_at dksX6_move_3 16 rfl rfl)
theorem dX6_move_87 : decode cX6_move 87 = .ok (.isub, 1) := dk_100 (dk_at dksX6_move_3 19 rfl rfl)
theorem dX6_move_88 : decode cX6_move 88 = .ok (.istore 7, 2) := dk_54 7 (dk_at dksX6_move_3 20 rfl rfl)
theorem dX6_move_90 : decode cX6_move 90 = .ok (.iload 7, 2) := dk_21 7 (dk_at dksX6_move_3 22 rfl rfl)
theorem dX6_move_92 : decode cX6_move 92 = .ok (.iload 4, 2) := dk_21 4 (dk_at dksX6_move_4 0 rfl rfl)
theorem dX6_move_94 : decode cX6_move 94 = .ok (.if_icmp .gt 6, 3) := dk_163 0 6 (dk_at dksX6_move_4 2 rfl rfl)
theorem dX6_move_97 : decode cX6_move 97 = .ok (.goto 13, 3) := dk_167 0 13 (dk_at dksX6_move_4 5 rfl rfl)
theorem dX6_move_100 : decode cX6_move 100 = .ok (.iload 7, 2) := dk_21 7 (dk_at dksX6_move_4 8 rfl rfl)
theorem dX6_move_102 : decode cX6_move 102 = .ok (.istore 4, 2) := dk_54 4 (dk_at dksX6_move_4 10 rfl rfl)
theorem dX6_move_104 : decode cX6_move 104 = .ok (.iload 5, 2) := dk_21 5 (dk_at dksX6_move_4 12 rfl rfl)
theorem dX6_move_106 : decode cX6_move 106 = .ok (.istore_n 2, 1) := dk_61 (dk_at dksX6_move_4 14 rfl rfl)
theorem dX6_move_107 : decode cX6_move 107 = .ok (.iload 6, 2) := dk_21 6 (dk_at dksX6_move_4 15 rfl rfl)
theorem dX6_move_109 : decode cX6_move 109 = .ok (.istore_n 3, 1) := dk_62 (dk_at dksX6_move_4 17 rfl rfl)
theorem dX6_move_110 : decode cX6_move 110 = .ok (.iinc 6 1, 3) := dk_132 6 1 (dk_at dksX6_move_4 18 rfl rfl)
theorem dX6_move_113 : decode cX6_move 113 = .ok (.goto (-80), 3) := dk_167 255 176 (dk_at dksX6_move_4 21 rfl rfl)
theorem dX6_move_116 : decode cX6_move 116 = .ok (.iinc 5 1, 3) := dk_132 5 1 (dk_at dksX6_move_5 0 rfl rfl)
theorem dX6_move_119 : decode cX6_move 119 = .ok (.goto (-96), 3) := dk_167 255 160 (dk_at dksX6_move_5 3 rfl rfl)
theorem dX6_move_122 : decode cX6_move 122 = .ok (.iload_n 2, 1) := dk_28 (dk_at dksX6_move_5 6 rfl rfl)
theorem dX6_move_123 : decode cX6_move 123 = .ok (.bipush (-2), 2) := dk_16 254 (dk_at dksX6_move_5 7 rfl rfl)
theorem dX6_move_125 : decode cX6_move 125 = .ok (.if_icmp .ne 6, 3) := dk_160 0 6 (dk_at dksX6_move_5 9 rfl rfl)
theorem dX6_move_128 : decode cX6_move 128 = .ok (.bipush (-2), 2) := dk_16 254 (dk_at dksX6_move_5 12 rfl rfl)
theorem dX6_move_130 : decode cX6_move 130 = .ok (.ireturn, 1) := dk_172 (dk_at dksX6_move_5 14 rfl rfl)
theorem dX6_move_131 : decode cX6_move 131 = .ok (.iload_n 1, 1) := dk_27 (dk_at dksX6_move_5 15 rfl rfl)
theorem dX6_move_132 : decode cX6_move 132 = .ok (.ifCond .ne 7, 3) := dk_154 0 7 (dk_at dksX6_move_5 16 rfl rfl)
theorem dX6_move_135 : decode cX6_move 135 = .ok (.iload_n 2, 1) := dk_28 (dk_at dksX6_move_5 19 rfl rfl)
theorem dX6_move_136 : decode cX6_move 136 = .ok (.goto 14, 3) := dk_167 0 14 (dk_at dksX6_move_5 20 rfl rfl)
theorem dX6_move_139 : decode cX6_move 139 = .ok (.iload_n 1, 1) := dk_27 (dk_at dksX6_move_5 23 rfl rfl)
theorem dX6_move_140 : decode cX6_move 140 = .ok (.iconst 1, 1) := dk_4 (dk_at dksX6_move_6 0 rfl rfl)
theorem dX6_move_141 : decode cX6_move 141 = .ok (.if_icmp .ne 7, 3) := dk_160 0 7 (dk_at dksX6_move_6 1 rfl rfl)
theorem dX6_move_144 : decode cX6_move 144 = .ok (.iload_n 3, 1) := dk_29 (dk_at dksX6_move_6 4 rfl rfl)
theorem dX6_move_145 : decode cX6_move 145 = .ok (.goto 5, 3) := dk_167 0 5 (dk_at dksX6_move_6 5 rfl rfl)
theorem dX6_move_148 : decode cX6_move 148 = .ok (.iload 4, 2) := dk_21 4 (dk_at dksX6_move_6 8 rfl rfl)
theorem dX6_move_150 : decode cX6_move 150 = .ok (.ireturn, 1) := dk_172 (dk_at dksX6_move_6 10 rfl rfl)
abbrev cX6_change : ByteArray := prog_20_method_73_code
def yX6_change : MethodName := ⟨RX6, "change", "(I)I"⟩
def dkwX6_change_6 : List UInt8 := [154, 0, 7, 28, 167, 0, 14, 27, 4, 160, 0, 7, 29, 167, 0, 5, 21, 5, 172]
abbrev dktX6_change_6 : List UInt8 := dkwX6_change_6 ++ []
def dkwX6_change_5 : List UInt8 := [132, 7, 1, 167, 255, 180, 132, 6, 1, 167, 255, 161, 28, 16, 254, 160, 0, 6, 16, 254, 172, 27]
abbrev dktX6_change_5 : List UInt8 := dkwX6_change_5 ++ dktX6_change_6
def dkwX6_change_4 : List UInt8 := [182, 1, 78, 21, 8, 21, 5, 163, 0, 6, 167, 0, 13, 21, 8, 54, 5, 21, 6, 61, 21, 7, 62]
abbrev dktX6_change_4 : List UInt8 := dkwX6_change_4 ++ dktX6_change_5
def dkwX6_change_3 : List UInt8 := [42, 21, 6, 21, 7, 182, 1, 78, 42, 182, 1, 75, 21, 4, 100, 54, 8, 42, 21, 6, 21, 7]
abbrev dktX6_change_3 : List UInt8 := dkwX6_change_3 ++ dktX6_change_4
def dkwX6_change_2 : List UInt8 := [162, 0, 75, 42, 21, 6, 182, 0, 112, 153, 0, 60, 42, 21, 7, 182, 0, 112, 154, 0, 6, 167, 0, 48]
abbrev dktX6_change_2 : List UInt8 := dkwX6_change_2 ++ dktX6_change_3
def dkwX6_change_1 : List UInt8 := [54, 5, 3, 54, 6, 21, 6, 16, 16, 162, 0, 94, 21, 6, 4, 96, 54, 7, 21, 7, 16, 16]
abbrev dktX6_change_1 : List UInt8 := dkwX6_change_1 ++ dktX6_change_2
def dkwX6_change_0 : List UInt8 := [27, 3, 5, 184, 0, 104, 154, 0, 5, 2, 172, 16, 254, 61, 16, 254, 62, 42, 182, 1, 75, 54, 4, 3]
abbrev dktX6_change_0 : List UInt8 := dkwX6_change_0 ++ dktX6_change_1
theorem dksX6_change_0 : cX6_change.data.toList.drop 0 = dktX6_change_0 := by decide +kernel
theorem dksX6_change_1 : cX6_change.data.toList.drop 24 = dktX6_change_1 := dk_seg dksX6_change_0 24 rfl rfl
theorem dksX6_change_2 : cX6_change.data.toList.drop 46 = dktX6_change_2 := dk_seg dksX6_change_1 22 rfl rfl
theorem dksX6_change_3 : cX6_change.data.toList.drop 70 = dktX6_change_3 := dk_seg dksX6_change_2 24 rfl rfl
theorem dksX6_change_4 : cX6_change.data.toList.drop 92 = dktX6_change_4 := dk_seg dksX6_change_3 22 rfl rfl
theorem dksX6_change_5 : cX6_change.data.toList.drop 115 = dktX6_change_5 := dk_seg dksX6_change_4 23 rfl rfl
theorem dksX6_change_6 : cX6_change.data.toList.drop 137 = dktX6_change_6 := dk_seg dksX6_change_5 22 rfl rfl
theorem dX6_change_0 : decode cX6_change 0 = .ok (.iload_n 1, 1) := dk_27 (dk_at dksX6_change_0 0 rfl rfl)
theorem dX6_change_1 : decode cX6_change 1 = .ok (.iconst 0, 1) := dk_3 (dk_at dksX6_change_0 1 rfl rfl)
theorem dX6_change_2 : decode cX6_change 2 = .ok (.iconst 2, 1) := dk_5 (dk_at dksX6_change_0 2 rfl rfl)
theorem dX6_change_3 : decode cX6_change 3 = .ok (.invokestatic 104, 3) := dk_184 0 104 (dk_at dksX6_change_0 3 rfl rfl)
theorem dX6_change_6 : decode cX6_change 6 = .ok (.ifCond .ne 5, 3) := dk_154 0 5 (dk_at dksX6_change_0 6 rfl rfl)
theorem dX6_change_9 : decode cX6_change 9 = .ok (.iconst (-1), 1) := dk_2 (dk_at dksX6_change_0 9 rfl rfl)
theorem dX6_change_10 : decode cX6_change 10 = .ok (.ireturn, 1) := dk_172 (dk_at dksX6_change_0 10 rfl rfl)
theorem dX6_change_11 : decode cX6_change 11 = .ok (.bipush (-2), 2) := dk_16 254 (dk_at dksX6_change_0 11 rfl rfl)
theorem dX6_change_13 : decode cX6_change 13 = .ok (.istore_n 2, 1) := dk_61 (dk_at dksX6_change_0 13 rfl rfl)
theorem dX6_change_14 : decode cX6_change 14 = .ok (.bipush (-2), 2) := dk_16 254 (dk_at dksX6_change_0 14 rfl rfl)
theorem dX6_change_16 : decode cX6_change 16 = .ok (.istore_n 3, 1) := dk_62 (dk_at dksX6_change_0 16 rfl rfl)
theorem dX6_change_17 : decode cX6_change 17 = .ok (.aload_n 0, 1) := dk_42 (dk_at dksX6_change_0 17 rfl rfl)
theorem dX6_change_18 : decode cX6_change 18 = .ok (.invokevirtual 331, 3) := dk_182 1 75 (dk_at dksX6_change_0 18 rfl rfl)
theorem dX6_change_21 : decode cX6_change 21 = .ok (.istore 4, 2) := dk_54 4 (dk_at dksX6_change_0 21 rfl rfl)
theorem dX6_change_23 : decode cX6_change 23 = .ok (.iconst 0, 1) := dk_3 (dk_at dksX6_change_0 23 rfl rfl)
theorem dX6_change_24 : decode cX6_change 24 = .ok (.istore 5, 2) := dk_54 5 (dk_at dksX6_change_1 0 rfl rfl)
theorem dX6_change_26 : decode cX6_change 26 = .ok (.iconst 0, 1) := dk_3 (dk_at dksX6_change_1 2 rfl rfl)
theorem dX6_change_27 : decode cX6_change 27 = .ok (.istore 6, 2) := dk_54 6 (dk_at dksX6_change_1 3 rfl rfl)
theorem dX6_change_29 : decode cX6_change 29 = .ok (.iload 6, 2) := dk_21 6 (dk_at dksX6_change_1 5 rfl rfl)
theorem dX6_change_31 : decode cX6_change 31 = .ok (.bipush 16, 2) := dk_16 16 (dk_at dksX6_change_1 7 rfl rfl)
theorem dX6_change_33 : decode cX6_change 33 = .ok (.if_icmp .ge 94, 3) := dk_162 0 94 (dk_at dksX6_change_1 9 rfl rfl)
theorem dX6_change_36 : decode cX6_change 36 = .ok (.iload 6, 2) := dk_21 6 (dk_at dksX6_change_1 12 rfl rfl)
theorem dX6_change_38 : decode cX6_change 38 = .ok (.iconst 1, 1) := dk_4 (dk_at dksX6_change_1 14 rfl rfl)
theorem dX6_change_39 : decode cX6_change 39 = .ok (.iadd, 1) := dk_96 (dk_at dksX6_change_1 15 rfl rfl)
theorem dX6_change_40 : decode cX6_change 40 = .ok (.istore 7, 2) := dk_54 7 (dk_at dksX6_change_1 16 rfl rfl)
theorem dX6_change_42 : decode cX6_change 42 = .ok (.iload 7, 2) := dk_21 7 (dk_at dksX6_change_1 18 rfl rfl)
theorem dX6_change_44 : decode cX6_change 44 = .ok (.bipush 16, 2) := dk_16 16 (dk_at dksX6_change_1 20 rfl rfl)
theorem dX6_change_46 : decode cX6_change 46 = .ok (.if_icmp .ge 75, 3) := dk_162 0 75 (dk_at dksX6_change_2 0 rfl rfl)
theorem dX6_change_49 : decode cX6_change 49 = .ok (.aload_n 0, 1) := dk_42 (dk_at dksX6_change_2 3 rfl rfl)
theorem dX6_change_50 : decode cX6_change 50 = .ok (.iload 6, 2) := dk_21 6 (dk_at dksX6_change_2 4 rfl rfl)
theorem dX6_change_52 : decode cX6_change 52 = .ok (.invokevirtual 112, 3) := dk_182 0 112 (dk_at dksX6_change_2 6 rfl rfl)
theorem dX6_change_55 : decode cX6_change 55 = .ok (.ifCond .eq 60, 3) := dk_153 0 60 (dk_at dksX6_change_2 9 rfl rfl)
theorem dX6_change_58 : decode cX6_change 58 = .ok (.aload_n 0, 1) := dk_42 (dk_at dksX6_change_2 12 rfl rfl)
theorem dX6_change_59 : decode cX6_change 59 = .ok (.iload 7, 2) := dk_21 7 (dk_at dksX6_change_2 13 rfl rfl)
theorem dX6_change_61 : decode cX6_change 61 = .ok (.invokevirtual 112, 3) := dk_182 0 112 (dk_at dksX6_change_2 15 rfl rfl)
theorem dX6_change_64 : decode cX6_change 64 = .ok (.ifCond .ne 6, 3) := dk_154 0 6 (dk_at dksX6_change_2 18 rfl rfl)
theorem dX6_change_67 : decode cX6_change 67 = .ok (.goto 48, 3) := dk_167 0 48 (dk_at dksX6_change_2 21 rfl rfl)
theorem dX6_change_70 : decode cX6_change 70 = .ok (.aload_n 0, 1) := dk_42 (dk_at dksX6_change_3 0 rfl rfl)
theorem dX6_change_71 : decode cX6_change 71 = .ok (.iload 6, 2) := dk_21 6 (dk_at dksX6_change_3 1 rfl rfl)
theorem dX6_change_73 : decode cX6_change 73 = .ok (.iload 7, 2) := dk_21 7 (dk_at dksX6_change_3 3 rfl rfl)
theorem dX6_change_75 : decode cX6_change 75 = .ok (.invokevirtual 334, 3) := dk_182 1 78 (dk_at dksX6_change_3 5 rfl rfl)
theorem dX6_change_78 : decode cX6_change 78 = .ok (.aload_n 0, 1) := dk_42 (dk_at dksX6_change_3 8 rfl rfl)
theorem dX6_change_79 : decode cX6_change 79 = .ok (.invokevirtual 331, 3) := dk_182 1 75 (dk_at dksX6_change_3 9 rfl rfl)
theorem dX6_change_82 : decode cX6_change 82 = .ok (.iload 4, 2) := dk_21 4 (dk_at dksX6_change_3 12 rfl rfl)
theorem dX6_change_84 : decode cX6_change 84 = .ok (.isub, 1) := dk_100 (dk_at dksX6_change_3 14 rfl rfl)
theorem dX6_change_85 : decode cX6_change 85 = .ok (.istore 8, 2) := dk_54 8 (dk_at dksX6_change_3 15 rfl rfl)
theorem dX6_change_87 : decode cX6_change 87 = .ok (.aload_n 0, 1) := dk_42 (dk_at dksX6_change_3 17 rfl rfl)
theorem dX6_change_88 : decode cX6_change 88 = .ok (.iload 6, 2) := dk_21 6 (dk_at dksX6_change_3 18 rfl rfl)
theorem dX6_change_90 : decode cX6_change 90 = .ok (.iload 7, 2) := dk_21 7 (dk_at dksX6_change_3 20 rfl rfl)
theorem dX6_change_92 : decode cX6_change 92 = .ok (.invokevirtual 334, 3) := dk_182 1 78 (dk_at dksX6_change_4 0 rfl rfl)
theorem dX6_change_95 : decode cX6_change 95 = .ok (.iload 8, 2) := dk_21 8 (dk_at dksX6_change_4 3 rfl rfl)
theorem dX6_change_97 : decode cX6_change 97 = .ok (.iload 5, 2) := dk_21 5 (dk_at dksX6_change_4 5 rfl rfl)
theorem dX6_change_99 : decode cX6_change 99 = .ok (.if_icmp .gt 6, 3) := dk_163 0 6 (dk_at dksX6_change_4 7 rfl rfl)
theorem dX6_change_102 : decode cX6_change 102 = .ok (.goto 13, 3) := dk_167 0 13 (dk_at dksX6_change_4 10 rfl rfl)
theorem dX6_change_105 : decode cX6_change 105 = .ok (.iload 8, 2) := dk_21 8 (dk_at dksX6_change_4 13 rfl rfl)
theorem dX6_change_107 : decode cX6_change 107 = .ok (.istore 5, 2) := dk_54 5 (dk_at dksX6_change_4 15 rfl rfl)
theorem dX6_change_109 : decode cX6_change 109 = .ok (.iload 6, 2) := dk_21 6 (dk_at dksX6_change_4 17 rfl rfl)
theorem dX6_change_111 : decode cX6_change 111 = .ok (.istore_n 2, 1) := dk_61 (dk_at dksX6_change_4 19 rfl rfl)
theorem dX6_change_112 : decode cX6_change 112 = .ok (.iload 7, 2) := dk_21 7 (dk_at dksX6_change_4 20 rfl rfl)
theorem dX6_change_114 : decode cX6_change 114 = .ok (.istore_n 3, 1) := dk_62 (dk_at dksX6_change_4 22 rfl rfl)
theorem dX6_change_115 : decode cX6_change 115 = .ok (.iinc 7 1, 3) := dk_132 7 1 (dk_at dksX6_change_5 0 rfl rfl)
theorem dX6_change_118 : decode cX6_change 118 = .ok (.goto (-76), 3) := dk_167 255 180 (dk_at dksX6_change_5 3 rfl rfl)
theorem dX6_change_121 : decode cX6_change 121 = .ok (.iinc 6 1, 3) := dk_132 6 1 (dk_at dksX6_change_5 6 rfl rfl)
theorem dX6_change_124 : decode cX6_change 124 = .ok (.goto (-95), 3) := dk_167 255 161 (dk_at dksX6_change_5 9 rfl rfl)
theorem dX6_change_127 : decode cX6_change 127 = .ok (.iload_n 2, 1) := dk_28 (dk_at dksX6_change_5 12 rfl rfl)
theorem dX6_change_128 : decode cX6_change 128 = .ok (.bipush (-2), 2) := dk_16 254 (dk_at dksX6_change_5 13 rfl rfl)
theorem dX6_change_130 : decode cX6_change 130 = .ok (.if_icmp .ne 6, 3) := dk_160 0 6 (dk_at dksX6_change_5 15 rfl rfl)
theorem dX6_change_133 : decode cX6_change 133 = .ok (.bipush (-2), 2) := dk_16 254 (dk_at dksX6_change_5 18 rfl rfl)
theorem dX6_change_135 : decode cX6_change 135 = .ok (.ireturn, 1) := dk_172 (dk_at dksX6_change_5 20 rfl rfl)
theorem dX6_change_136 : decode cX6_change 136 = .ok (.iload_n 1, 1) := dk_27 (dk_at dksX6_change_5 21 rfl rfl)
theorem dX6_change_137 : decode cX6_change 137 = .ok (.ifCond .ne 7, 3) := dk_154 0 7 (dk_at dksX6_change_6 0 rfl rfl)
theorem dX6_change_140 : decode cX6_change 140 = .ok (.iload_n 2, 1) := dk_28 (dk_at dksX6_change_6 3 rfl rfl)
theorem dX6_change_141 : decode cX6_change 141 = .ok (.goto 14, 3) := dk_167 0 14 (dk_at dksX6_change_6 4 rfl rfl)
theorem dX6_change_144 : decode cX6_change 144 = .ok (.iload_n 1, 1) := dk_27 (dk_at dksX6_change_6 7 rfl rfl)
theorem dX6_change_145 : decode cX6_change 145 = .ok (.iconst 1, 1) := dk_4 (dk_at dksX6_change_6 8 rfl rfl)
theorem dX6_change_146 : decode cX6_change 146 = .ok (.if_icmp .ne 7, 3) := dk_160 0 7 (dk_at dksX6_change_6 9 rfl rfl)
theorem dX6_change_149 : decode cX6_change 149 = .ok (.iload_n 3, 1) := dk_29 (dk_at dksX6_change_6 12 rfl rfl)
theorem dX6_change_150 : decode cX6_change 150 = .ok (.goto 5, 3) := dk_167 0 5 (dk_at dksX6_change_6 13 rfl rfl)
theorem dX6_change_153 : decode cX6_change 153 = .ok (.iload 5, 2) := dk_21 5 (dk_at dksX6_change_6 16 rfl rfl)
theorem dX6_change_155 : decode cX6_change 155 = .ok (.ireturn, 1) := dk_172 (dk_at dksX6_change_6 18 rfl rfl)
abbrev cX6_changesPlots : ByteArray := prog_20_method_72_code
def yX6_changesPlots : MethodName := ⟨RX6, "changesPlots", "(II)V"⟩
def dkwX6_changesPlots_1 : List UInt8 := [28, 96, 46, 79, 42, 180, 0, 7, 16, 48, 28, 96, 29, 79, 177]
abbrev dktX6_changesPlots_1 : List UInt8 := dkwX6_changesPlots_1 ++ []
def dkwX6_changesPlots_0 : List UInt8 := [42, 180, 0, 7, 16, 48, 27, 96, 46, 62, 42, 180, 0, 7, 16, 48, 27, 96, 42, 180, 0, 7, 16, 48]
abbrev dktX6_changesPlots_0 : List UInt8 := dkwX6_changesPlots_0 ++ dktX6_changesPlots_1
theorem dksX6_changesPlots_0 : cX6_changesPlots.data.toList.drop 0 = dktX6_changesPlots_0 := by decide +kernel
theorem dksX6_changesPlots_1 : cX6_changesPlots.data.toList.drop 24 = dktX6_changesPlots_1 := dk_seg dksX6_changesPlots_0 24 rfl rfl
theorem dX6_changesPlots_0 : decode cX6_changesPlots 0 = .ok (.aload_n 0, 1) := dk_42 (dk_at dksX6_changesPlots_0 0 rfl rfl)
theorem dX6_changesPlots_1 : decode cX6_changesPlots 1 = .ok (.getfield 7, 3) := dk_180 0 7 (dk_at dksX6_changesPlots_0 1 rfl rfl)
theorem dX6_changesPlots_4 : decode cX6_changesPlots 4 = .ok (.bipush 48, 2) := dk_16 48 (dk_at dksX6_changesPlots_0 4 rfl rfl)
theorem dX6_changesPlots_6 : decode cX6_changesPlots 6 = .ok (.iload_n 1, 1) := dk_27 (dk_at dksX6_changesPlots_0 6 rfl rfl)
theorem dX6_changesPlots_7 : decode cX6_changesPlots 7 = .ok (.iadd, 1) := dk_96 (dk_at dksX6_changesPlots_0 7 rfl rfl)
theorem dX6_changesPlots_8 : decode cX6_changesPlots 8 = .ok (.iaload, 1) := dk_46 (dk_at dksX6_changesPlots_0 8 rfl rfl)
theorem dX6_changesPlots_9 : decode cX6_changesPlots 9 = .ok (.istore_n 3, 1) := dk_62 (dk_at dksX6_changesPlots_0 9 rfl rfl)
theorem dX6_changesPlots_10 : decode cX6_changesPlots 10 = .ok (.aload_n 0, 1) := dk_42 (dk_at dksX6_changesPlots_0 10 rfl rfl)
theorem dX6_changesPlots_11 : decode cX6_changesPlots 11 = .ok (.getfield 7, 3) := dk_180 0 7 (dk_at dksX6_changesPlots_0 11 rfl rfl)
theorem dX6_changesPlots_14 : decode cX6_changesPlots 14 = .ok (.bipush 48, 2) := dk_16 48 (dk_at dksX6_changesPlots_0 14 rfl rfl)
theorem dX6_changesPlots_16 : decode cX6_changesPlots 16 = .ok (.iload_n 1, 1) := dk_27 (dk_at dksX6_changesPlots_0 16 rfl rfl)
theorem dX6_changesPlots_17 : decode cX6_changesPlots 17 = .ok (.iadd, 1) := dk_96 (dk_at dksX6_changesPlots_0 17 rfl rfl)
theorem dX6_changesPlots_18 : decode cX6_changesPlots 18 = .ok (.aload_n 0, 1) := dk_42 (dk_at dksX6_changesPlots_0 18 rfl rfl)
theorem dX6_changesPlots_19 : decode cX6_changesPlots 19 = .ok (.getfield 7, 3) := dk_180 0 7 (dk_at dksX6_changesPlots_0 19 rfl rfl)
theorem dX6_changesPlots_22 : decode cX6_changesPlots 22 = .ok (.bipush 48, 2) := dk_16 48 (dk_at dksX6_changesPlots_0 22 rfl rfl)
theorem dX6_changesPlots_24 : decode cX6_changesPlots 24 = .ok (.iload_n 2, 1) := dk_28 (dk_at dksX6_changesPlots_1 0 rfl rfl)
theorem dX6_changesPlots_25 : decode cX6_changesPlots 25 = .ok (.iadd, 1) := dk_96 (dk_at dksX6_changesPlots_1 1 rfl rfl)
theorem dX6_changesPlots_26 : decode cX6_changesPlots 26 = .ok (.iaload, 1) := dk_46 (dk_at dksX6_changesPlots_1 2 rfl rfl)
theorem dX6_changesPlots_27 : decode cX6_changesPlots 27 = .ok (.iastore, 1) := dk_79 (dk_at dksX6_changesPlots_1 3 rfl rfl)
theorem dX6_changesPlots_28 : decode cX6_changesPlots 28 = .ok (.aload_n 0, 1) := dk_42 (dk_at dksX6_changesPlots_1 4 rfl rfl)
theorem dX6_changesPlots_29 : decode cX6_changesPlots 29 = .ok (.getfield 7, 3) := dk_180 0 7 (dk_at dksX6_changesPlots_1 5 rfl rfl)
theorem dX6_changesPlots_32 : decode cX6_changesPlots 32 = .ok (.bipush 48, 2) := dk_16 48 (dk_at dksX6_changesPlots_1 8 rfl rfl)
theorem dX6_changesPlots_34 : decode cX6_changesPlots 34 = .ok (.iload_n 2, 1) := dk_28 (dk_at dksX6_changesPlots_1 10 rfl rfl)
theorem dX6_changesPlots_35 : decode cX6_changesPlots 35 = .ok (.iadd, 1) := dk_96 (dk_at dksX6_changesPlots_1 11 rfl rfl)
theorem dX6_changesPlots_36 : decode cX6_changesPlots 36 = .ok (.iload_n 3, 1) := dk_29 (dk_at dksX6_changesPlots_1 12 rfl rfl)
theorem dX6_changesPlots_37 : decode cX6_changesPlots 37 = .ok (.iastore, 1) := dk_79 (dk_at dksX6_changesPlots_1 13 rfl rfl)
theorem dX6_changesPlots_38 : decode cX6_changesPlots 38 = .ok (.return_, 1) := dk_177 (dk_at dksX6_changesPlots_1 14 rfl rfl)
abbrev cX6_hold : ByteArray := prog_20_method_76_code
def yX6_hold : MethodName := ⟨RX6, "hold", "(I)I"⟩
def dkwX6_hold_2 : List UInt8 := [132, 4, 255, 167, 255, 229, 27, 154, 0, 7, 28, 167, 0, 4, 29, 172]
abbrev dktX6_hold_2 : List UInt8 := dkwX6_hold_2 ++ []
def dkwX6_hold_1 : List UInt8 := [21, 4, 155, 0, 28, 42, 21, 4, 182, 1, 84, 153, 0, 10, 28, 4, 96, 61, 167, 0, 6, 21, 4, 62]
abbrev dktX6_hold_1 : List UInt8 := dkwX6_hold_1 ++ dktX6_hold_2
def dkwX6_hold_0 : List UInt8 := [27, 3, 4, 184, 0, 104, 154, 0, 5, 2, 172, 3, 61, 16, 254, 62, 42, 180, 1, 23, 4, 100, 54, 4]
abbrev dktX6_hold_0 : List UInt8 := dkwX6_hold_0 ++ dktX6_hold_1
theorem dksX6_hold_0 : cX6_hold.data.toList.drop 0 = dktX6_hold_0 := by decide +kernel
theorem dksX6_hold_1 : cX6_hold.data.toList.drop 24 = dktX6_hold_1 := dk_seg dksX6_hold_0 24 rfl rfl
theorem dksX6_hold_2 : cX6_hold.data.toList.drop 48 = dktX6_hold_2 := dk_seg dksX6_hold_1 24 rfl rfl
theorem dX6_hold_0 : decode cX6_hold 0 = .ok (.iload_n 1, 1) := dk_27 (dk_at dksX6_hold_0 0 rfl rfl)
theorem dX6_hold_1 : decode cX6_hold 1 = .ok (.iconst 0, 1) := dk_3 (dk_at dksX6_hold_0 1 rfl rfl)
theorem dX6_hold_2 : decode cX6_hold 2 = .ok (.iconst 1, 1) := dk_4 (dk_at dksX6_hold_0 2 rfl rfl)
theorem dX6_hold_3 : decode cX6_hold 3 = .ok (.invokestatic 104, 3) := dk_184 0 104 (dk_at dksX6_hold_0 3 rfl rfl)
theorem dX6_hold_6 : decode cX6_hold 6 = .ok (.ifCond .ne 5, 3) := dk_154 0 5 (dk_at dksX6_hold_0 6 rfl rfl)
theorem dX6_hold_9 : decode cX6_hold 9 = .ok (.iconst (-1), 1) := dk_2 (dk_at dksX6_hold_0 9 rfl rfl)
theorem dX6_hold_10 : decode cX6_hold 10 = .ok (.ireturn, 1) := dk_172 (dk_at dksX6_hold_0 10 rfl rfl)
theorem dX6_hold_11 : decode cX6_hold 11 = .ok (.iconst 0, 1) := dk_3 (dk_at dksX6_hold_0 11 rfl rfl)
theorem dX6_hold_12 : decode cX6_hold 12 = .ok (.istore_n 2, 1) := dk_61 (dk_at dksX6_hold_0 12 rfl rfl)
theorem dX6_hold_13 : decode cX6_hold 13 = .ok (.bipush (-2), 2) := dk_16 254 (dk_at dksX6_hold_0 13 rfl rfl)
theorem dX6_hold_15 : decode cX6_hold 15 = .ok (.istore_n 3, 1) := dk_62 (dk_at dksX6_hold_0 15 rfl rfl)
theorem dX6_hold_16 : decode cX6_hold 16 = .ok (.aload_n 0, 1) := dk_42 (dk_at dksX6_hold_0 16 rfl rfl)
theorem dX6_hold_17 : decode cX6_hold 17 = .ok (.getfield 279, 3) := dk_180 1 23 (dk_at dksX6_hold_0 17 rfl rfl)
theorem dX6_hold_20 : decode cX6_hold 20 = .ok (.iconst 1, 1) := dk_4 (dk_at dksX6_hold_0 20 rfl rfl)
theorem dX6_hold_21 : decode cX6_hold 21 = .ok (.isub, 1) := dk_100 (dk_at dksX6_hold_0 21 rfl rfl)
theorem dX6_hold_22 : decode cX6_hold 22 = .ok (.istore 4, 2) := dk_54 4 (dk_at dksX6_hold_0 22 rfl rfl)
theorem dX6_hold_24 : decode cX6_hold 24 = .ok (.iload 4, 2) := dk_21 4 (dk_at dksX6_hold_1 0 rfl rfl)
theorem dX6_hold_26 : decode cX6_hold 26 = .ok (.ifCond .lt 28, 3) := dk_155 0 28 (dk_at dksX6_hold_1 2 rfl rfl)
theorem dX6_hold_29 : decode cX6_hold 29 = .ok (.aload_n 0, 1) := dk_42 (dk_at dksX6_hold_1 5 rfl rfl)
theorem dX6_hold_30 : decode cX6_hold 30 = .ok (.iload 4, 2) := dk_21 4 (dk_at dksX6_hold_1 6 rfl rfl)
theorem dX6_hold_32 : decode cX6_hold 32 = .ok (.invokevirtual 340, 3) := dk_182 1 84 (dk_at dksX6_hold_1 8 rfl rfl)
theorem dX6_hold_35 : decode cX6_hold 35 = .ok (.ifCond .eq 10, 3) := dk_153 0 10 (dk_at dksX6_hold_1 11 rfl rfl)
theorem dX6_hold_38 : decode cX6_hold 38 = .ok (.iload_n 2, 1) := dk_28 (dk_at dksX6_hold_1 14 rfl rfl)
theorem dX6_hold_39 : decode cX6_hold 39 = .ok (.iconst 1, 1) := dk_4 (dk_at dksX6_hold_1 15 rfl rfl)
theorem dX6_hold_40 : decode cX6_hold 40 = .ok (.iadd, 1) := dk_96 (dk_at dksX6_hold_1 16 rfl rfl)
theorem dX6_hold_41 : decode cX6_hold 41 = .ok (.istore_n 2, 1) := dk_61 (dk_at dksX6_hold_1 17 rfl rfl)
theorem dX6_hold_42 : decode cX6_hold 42 = .ok (.goto 6, 3) := dk_167 0 6 (dk_at dksX6_hold_1 18 rfl rfl)
theorem dX6_hold_45 : decode cX6_hold 45 = .ok (.iload 4, 2) := dk_21 4 (dk_at dksX6_hold_1 21 rfl rfl)
theorem dX6_hold_47 : decode cX6_hold 47 = .ok (.istore_n 3, 1) := dk_62 (dk_at dksX6_hold_1 23 rfl rfl)
theorem dX6_hold_48 : decode cX6_hold 48 = .ok (.iinc 4 (-1), 3) := dk_132 4 255 (dk_at dksX6_hold_2 0 rfl rfl)
theorem dX6_hold_51 : decode cX6_hold 51 = .ok (.goto (-27), 3) := dk_167 255 229 (dk_at dksX6_hold_2 3 rfl rfl)
theorem dX6_hold_54 : decode cX6_hold 54 = .ok (.iload_n 1, 1) := dk_27 (dk_at dksX6_hold_2 6 rfl rfl)
theorem dX6_hold_55 : decode cX6_hold 55 = .ok (.ifCond .ne 7, 3) := dk_154 0 7 (dk_at dksX6_hold_2 7 rfl rfl)
theorem dX6_hold_58 : decode cX6_hold 58 = .ok (.iload_n 2, 1) := dk_28 (dk_at dksX6_hold_2 10 rfl rfl)
theorem dX6_hold_59 : decode cX6_hold 59 = .ok (.goto 4, 3) := dk_167 0 4 (dk_at dksX6_hold_2 11 rfl rfl)
theorem dX6_hold_62 : decode cX6_hold 62 = .ok (.iload_n 3, 1) := dk_29 (dk_at dksX6_hold_2 14 rfl rfl)
theorem dX6_hold_63 : decode cX6_hold 63 = .ok (.ireturn, 1) := dk_172 (dk_at dksX6_hold_2 15 rfl rfl)
abbrev cX6_holdsWish : ByteArray := prog_20_method_75_code
def yX6_holdsWish : MethodName := ⟨RX6, "holdsWish", "(I)Z"⟩
def dkwX6_holdsWish_5 : List UInt8 := [167, 0, 4, 3, 172]
abbrev dktX6_holdsWish_5 : List UInt8 := dkwX6_holdsWish_5 ++ []
def dkwX6_holdsWish_4 : List UInt8 := [167, 0, 4, 3, 172, 42, 28, 182, 0, 112, 153, 0, 15, 42, 28, 182, 0, 244, 154, 0, 7, 4]
abbrev dktX6_holdsWish_4 : List UInt8 := dkwX6_holdsWish_4 ++ dktX6_holdsWish_5
def dkwX6_holdsWish_3 : List UInt8 := [182, 0, 112, 153, 0, 22, 42, 180, 0, 7, 16, 48, 28, 96, 46, 184, 1, 81, 153, 0, 7, 4]
abbrev dktX6_holdsWish_3 : List UInt8 := dkwX6_holdsWish_3 ++ dktX6_holdsWish_4
def dkwX6_holdsWish_2 : List UInt8 := [42, 28, 29, 182, 0, 123, 172, 42, 28, 29, 182, 0, 123, 154, 0, 7, 4, 167, 0, 4, 3, 172, 42, 28]
abbrev dktX6_holdsWish_2 : List UInt8 := dkwX6_holdsWish_2 ++ dktX6_holdsWish_3
def dkwX6_holdsWish_1 : List UInt8 := [171, 0, 0, 0, 0, 0, 0, 87, 0, 0, 0, 3, 0, 0, 0, 35, 0, 0, 0, 58, 0, 0, 0, 43, 0, 0, 0, 36, 0, 0, 0, 45, 0, 0, 0, 43]
abbrev dktX6_holdsWish_1 : List UInt8 := dkwX6_holdsWish_1 ++ dktX6_holdsWish_2
def dkwX6_holdsWish_0 : List UInt8 := [42, 180, 0, 62, 27, 46, 61, 42, 180, 0, 68, 27, 46, 62, 42, 180, 0, 65, 27, 46]
abbrev dktX6_holdsWish_0 : List UInt8 := dkwX6_holdsWish_0 ++ dktX6_holdsWish_1
theorem dksX6_holdsWish_0 : cX6_holdsWish.data.toList.drop 0 = dktX6_holdsWish_0 := by decide +kernel
theorem dksX6_holdsWish_1 : cX6_holdsWish.data.toList.drop 20 = dktX6_holdsWish_1 := dk_seg dksX6_holdsWish_0 20 rfl rfl
theorem dksX6_holdsWish_2 : cX6_holdsWish.data.toList.drop 56 = dktX6_holdsWish_2 := dk_seg dksX6_holdsWish_1 36 rfl rfl
theorem dksX6_holdsWish_3 : cX6_holdsWish.data.toList.drop 80 = dktX6_holdsWish_3 := dk_seg dksX6_holdsWish_2 24 rfl rfl
theorem dksX6_holdsWish_4 : cX6_holdsWish.data.toList.drop 102 = dktX6_holdsWish_4 := dk_seg dksX6_holdsWish_3 22 rfl rfl
theorem dksX6_holdsWish_5 : cX6_holdsWish.data.toList.drop 124 = dktX6_holdsWish_5 := dk_seg dksX6_holdsWish_4 22 rfl rfl
theorem dX6_holdsWish_0 : decode cX6_holdsWish 0 = .ok (.aload_n 0, 1) := dk_42 (dk_at dksX6_holdsWish_0 0 rfl rfl)
theorem dX6_holdsWish_1 : decode cX6_holdsWish 1 = .ok (.getfield 62, 3) := dk_180 0 62 (dk_at dksX6_holdsWish_0 1 rfl rfl)
theorem dX6_holdsWish_4 : decode cX6_holdsWish 4 = .ok (.iload_n 1, 1) := dk_27 (dk_at dksX6_holdsWish_0 4 rfl rfl)
theorem dX6_holdsWish_5 : decode cX6_holdsWish 5 = .ok (.iaload, 1) := dk_46 (dk_at dksX6_holdsWish_0 5 rfl rfl)
theorem dX6_holdsWish_6 : decode cX6_holdsWish 6 = .ok (.istore_n 2, 1) := dk_61 (dk_at dksX6_holdsWish_0 6 rfl rfl)
theorem dX6_holdsWish_7 : decode cX6_holdsWish 7 = .ok (.aload_n 0, 1) := dk_42 (dk_at dksX6_holdsWish_0 7 rfl rfl)
theorem dX6_holdsWish_8 : decode cX6_holdsWish 8 = .ok (.getfield 68, 3) := dk_180 0 68 (dk_at dksX6_holdsWish_0 8 rfl rfl)
theorem dX6_holdsWish_11 : decode cX6_holdsWish 11 = .ok (.iload_n 1, 1) := dk_27 (dk_at dksX6_holdsWish_0 11 rfl rfl)
theorem dX6_holdsWish_12 : decode cX6_holdsWish 12 = .ok (.iaload, 1) := dk_46 (dk_at dksX6_holdsWish_0 12 rfl rfl)
theorem dX6_holdsWish_13 : decode cX6_holdsWish 13 = .ok (.istore_n 3, 1) := dk_62 (dk_at dksX6_holdsWish_0 13 rfl rfl)
theorem dX6_holdsWish_14 : decode cX6_holdsWish 14 = .ok (.aload_n 0, 1) := dk_42 (dk_at dksX6_holdsWish_0 14 rfl rfl)
theorem dX6_holdsWish_15 : decode cX6_holdsWish 15 = .ok (.getfield 65, 3) := dk_180 0 65 (dk_at dksX6_holdsWish_0 15 rfl rfl)
theorem dX6_holdsWish_18 : decode cX6_holdsWish 18 = .ok (.iload_n 1, 1) := dk_27 (dk_at dksX6_holdsWish_0 18 rfl rfl)
theorem dX6_holdsWish_19 : decode cX6_holdsWish 19 = .ok (.iaload, 1) := dk_46 (dk_at dksX6_holdsWish_0 19 rfl rfl)
theorem dX6_holdsWish_20 : decode cX6_holdsWish 20 = .ok (.lookupswitch 87 #[(35, 58), (43, 36), (45, 43)], 36) := by decide +kernel
theorem dX6_holdsWish_56 : decode cX6_holdsWish 56 = .ok (.aload_n 0, 1) := dk_42 (dk_at dksX6_holdsWish_2 0 rfl rfl)
theorem dX6_holdsWish_57 : decode cX6_holdsWish 57 = .ok (.iload_n 2, 1) := dk_28 (dk_at dksX6_holdsWish_2 1 rfl rfl)
theorem dX6_holdsWish_58 : decode cX6_holdsWish 58 = .ok (.iload_n 3, 1) := dk_29 (dk_at dksX6_holdsWish_2 2 rfl rfl)
theorem dX6_holdsWish_59 : decode cX6_holdsWish 59 = .ok (.invokevirtual 123, 3) := dk_182 0 123 (dk_at dksX6_holdsWish_2 3 rfl rfl)
theorem dX6_holdsWish_62 : decode cX6_holdsWish 62 = .ok (.ireturn, 1) := dk_172 (dk_at dksX6_holdsWish_2 6 rfl rfl)
theorem dX6_holdsWish_63 : decode cX6_holdsWish 63 = .ok (.aload_n 0, 1) := dk_42 (dk_at dksX6_holdsWish_2 7 rfl rfl)
theorem dX6_holdsWish_64 : decode cX6_holdsWish 64 = .ok (.iload_n 2, 1) := dk_28 (dk_at dksX6_holdsWish_2 8 rfl rfl)
theorem dX6_holdsWish_65 : decode cX6_holdsWish 65 = .ok (.iload_n 3, 1) := dk_29 (dk_at dksX6_holdsWish_2 9 rfl rfl)
theorem dX6_holdsWish_66 : decode cX6_holdsWish 66 = .ok (.invokevirtual 123, 3) := dk_182 0 123 (dk_at dksX6_holdsWish_2 10 rfl rfl)
theorem dX6_holdsWish_69 : decode cX6_holdsWish 69 = .ok (.ifCond .ne 7, 3) := dk_154 0 7 (dk_at dksX6_holdsWish_2 13 rfl rfl)
theorem dX6_holdsWish_72 : decode cX6_holdsWish 72 = .ok (.iconst 1, 1) := dk_4 (dk_at dksX6_holdsWish_2 16 rfl rfl)
theorem dX6_holdsWish_73 : decode cX6_holdsWish 73 = .ok (.goto 4, 3) := dk_167 0 4 (dk_at dksX6_holdsWish_2 17 rfl rfl)
theorem dX6_holdsWish_76 : decode cX6_holdsWish 76 = .ok (.iconst 0, 1) := dk_3 (dk_at dksX6_holdsWish_2 20 rfl rfl)
theorem dX6_holdsWish_77 : decode cX6_holdsWish 77 = .ok (.ireturn, 1) := dk_172 (dk_at dksX6_holdsWish_2 21 rfl rfl)
theorem dX6_holdsWish_78 : decode cX6_holdsWish 78 = .ok (.aload_n 0, 1) := dk_42 (dk_at dksX6_holdsWish_2 22 rfl rfl)
theorem dX6_holdsWish_79 : decode cX6_holdsWish 79 = .ok (.iload_n 2, 1) := dk_28 (dk_at dksX6_holdsWish_2 23 rfl rfl)
theorem dX6_holdsWish_80 : decode cX6_holdsWish 80 = .ok (.invokevirtual 112, 3) := dk_182 0 112 (dk_at dksX6_holdsWish_3 0 rfl rfl)
theorem dX6_holdsWish_83 : decode cX6_holdsWish 83 = .ok (.ifCond .eq 22, 3) := dk_153 0 22 (dk_at dksX6_holdsWish_3 3 rfl rfl)
theorem dX6_holdsWish_86 : decode cX6_holdsWish 86 = .ok (.aload_n 0, 1) := dk_42 (dk_at dksX6_holdsWish_3 6 rfl rfl)
theorem dX6_holdsWish_87 : decode cX6_holdsWish 87 = .ok (.getfield 7, 3) := dk_180 0 7 (dk_at dksX6_holdsWish_3 7 rfl rfl)
theorem dX6_holdsWish_90 : decode cX6_holdsWish 90 = .ok (.bipush 48, 2) := dk_16 48 (dk_at dksX6_holdsWish_3 10 rfl rfl)
theorem dX6_holdsWish_92 : decode cX6_holdsWish 92 = .ok (.iload_n 2, 1) := dk_28 (dk_at dksX6_holdsWish_3 12 rfl rfl)
theorem dX6_holdsWish_93 : decode cX6_holdsWish 93 = .ok (.iadd, 1) := dk_96 (dk_at dksX6_holdsWish_3 13 rfl rfl)
theorem dX6_holdsWish_94 : decode cX6_holdsWish 94 = .ok (.iaload, 1) := dk_46 (dk_at dksX6_holdsWish_3 14 rfl rfl)
theorem dX6_holdsWish_95 : decode cX6_holdsWish 95 = .ok (.invokestatic 337, 3) := dk_184 1 81 (dk_at dksX6_holdsWish_3 15 rfl rfl)
theorem dX6_holdsWish_98 : decode cX6_holdsWish 98 = .ok (.ifCond .eq 7, 3) := dk_153 0 7 (dk_at dksX6_holdsWish_3 18 rfl rfl)
theorem dX6_holdsWish_101 : decode cX6_holdsWish 101 = .ok (.iconst 1, 1) := dk_4 (dk_at dksX6_holdsWish_3 21 rfl rfl)
theorem dX6_holdsWish_102 : decode cX6_holdsWish 102 = .ok (.goto 4, 3) := dk_167 0 4 (dk_at dksX6_holdsWish_4 0 rfl rfl)
theorem dX6_holdsWish_105 : decode cX6_holdsWish 105 = .ok (.iconst 0, 1) := dk_3 (dk_at dksX6_holdsWish_4 3 rfl rfl)
theorem dX6_holdsWish_106 : decode cX6_holdsWish 106 = .ok (.ireturn, 1) := dk_172 (dk_at dksX6_holdsWish_4 4 rfl rfl)
theorem dX6_holdsWish_107 : decode cX6_holdsWish 107 = .ok (.aload_n 0, 1) := dk_42 (dk_at dksX6_holdsWish_4 5 rfl rfl)
theorem dX6_holdsWish_108 : decode cX6_holdsWish 108 = .ok (.iload_n 2, 1) := dk_28 (dk_at dksX6_holdsWish_4 6 rfl rfl)
theorem dX6_holdsWish_109 : decode cX6_holdsWish 109 = .ok (.invokevirtual 112, 3) := dk_182 0 112 (dk_at dksX6_holdsWish_4 7 rfl rfl)
theorem dX6_holdsWish_112 : decode cX6_holdsWish 112 = .ok (.ifCond .eq 15, 3) := dk_153 0 15 (dk_at dksX6_holdsWish_4 10 rfl rfl)
theorem dX6_holdsWish_115 : decode cX6_holdsWish 115 = .ok (.aload_n 0, 1) := dk_42 (dk_at dksX6_holdsWish_4 13 rfl rfl)
theorem dX6_holdsWish_116 : decode cX6_holdsWish 116 = .ok (.iload_n 2, 1) := dk_28 (dk_at dksX6_holdsWish_4 14 rfl rfl)
theorem dX6_holdsWish_117 : decode cX6_holdsWish 117 = .ok (.invokevirtual 244, 3) := dk_182 0 244 (dk_at dksX6_holdsWish_4 15 rfl rfl)
theorem dX6_holdsWish_120 : decode cX6_holdsWish 120 = .ok (.ifCond .ne 7, 3) := dk_154 0 7 (dk_at dksX6_holdsWish_4 18 rfl rfl)
theorem dX6_holdsWish_123 : decode cX6_holdsWish 123 = .ok (.iconst 1, 1) := dk_4 (dk_at dksX6_holdsWish_4 21 rfl rfl)
theorem dX6_holdsWish_124 : decode cX6_holdsWish 124 = .ok (.goto 4, 3) := dk_167 0 4 (dk_at dksX6_holdsWish_5 0 rfl rfl)
theorem dX6_holdsWish_127 : decode cX6_holdsWish 127 = .ok (.iconst 0, 1) := dk_3 (dk_at dksX6_holdsWish_5 3 rfl rfl)
theorem dX6_holdsWish_128 : decode cX6_holdsWish 128 = .ok (.ireturn, 1) := dk_172 (dk_at dksX6_holdsWish_5 4 rfl rfl)
abbrev cX6_isByWall : ByteArray := prog_20_method_74_code
def yX6_isByWall : MethodName := ⟨RX6, "isByWall", "(I)Z"⟩
def dkwX6_isByWall_1 : List UInt8 := [16, 10, 108, 8, 160, 0, 7, 4, 167, 0, 4, 3, 172]
abbrev dktX6_isByWall_1 : List UInt8 := dkwX6_isByWall_1 ++ []
def dkwX6_isByWall_0 : List UInt8 := [26, 16, 10, 112, 153, 0, 27, 26, 16, 10, 112, 16, 9, 159, 0, 18, 26, 16, 10, 108, 153, 0, 11, 26]
abbrev dktX6_isByWall_0 : List UInt8 := dkwX6_isByWall_0 ++ dktX6_isByWall_1
theorem dksX6_isByWall_0 : cX6_isByWall.data.toList.drop 0 = dktX6_isByWall_0 := by decide +kernel
theorem dksX6_isByWall_1 : cX6_isByWall.data.toList.drop 24 = dktX6_isByWall_1 := dk_seg dksX6_isByWall_0 24 rfl rfl
theorem dX6_isByWall_0 : decode cX6_isByWall 0 = .ok (.iload_n 0, 1) := dk_26 (dk_at dksX6_isByWall_0 0 rfl rfl)
theorem dX6_isByWall_1 : decode cX6_isByWall 1 = .ok (.bipush 10, 2) := dk_16 10 (dk_at dksX6_isByWall_0 1 rfl rfl)
theorem dX6_isByWall_3 : decode cX6_isByWall 3 = .ok (.irem, 1) := dk_112 (dk_at dksX6_isByWall_0 3 rfl rfl)
theorem dX6_isByWall_4 : decode cX6_isByWall 4 = .ok (.ifCond .eq 27, 3) := dk_153 0 27 (dk_at dksX6_isByWall_0 4 rfl rfl)
theorem dX6_isByWall_7 : decode cX6_isByWall 7 = .ok (.iload_n 0, 1) := dk_26 (dk_at dksX6_isByWall_0 7 rfl rfl)
theorem dX6_isByWall_8 : decode cX6_isByWall 8 = .ok (.bipush 10, 2) := dk_16 10 (dk_at dksX6_isByWall_0 8 rfl rfl)
theorem dX6_isByWall_10 : decode cX6_isByWall 10 = .ok (.irem, 1) := dk_112 (dk_at dksX6_isByWall_0 10 rfl rfl)
theorem dX6_isByWall_11 : decode cX6_isByWall 11 = .ok (.bipush 9, 2) := dk_16 9 (dk_at dksX6_isByWall_0 11 rfl rfl)
theorem dX6_isByWall_13 : decode cX6_isByWall 13 = .ok (.if_icmp .eq 18, 3) := dk_159 0 18 (dk_at dksX6_isByWall_0 13 rfl rfl)
theorem dX6_isByWall_16 : decode cX6_isByWall 16 = .ok (.iload_n 0, 1) := dk_26 (dk_at dksX6_isByWall_0 16 rfl rfl)
theorem dX6_isByWall_17 : decode cX6_isByWall 17 = .ok (.bipush 10, 2) := dk_16 10 (dk_at dksX6_isByWall_0 17 rfl rfl)
theorem dX6_isByWall_19 : decode cX6_isByWall 19 = .ok (.idiv, 1) := dk_108 (dk_at dksX6_isByWall_0 19 rfl rfl)
theorem dX6_isByWall_20 : decode cX6_isByWall 20 = .ok (.ifCond .eq 11, 3) := dk_153 0 11 (dk_at dksX6_isByWall_0 20 rfl rfl)
theorem dX6_isByWall_23 : decode cX6_isByWall 23 = .ok (.iload_n 0, 1) := dk_26 (dk_at dksX6_isByWall_0 23 rfl rfl)
theorem dX6_isByWall_24 : decode cX6_isByWall 24 = .ok (.bipush 10, 2) := dk_16 10 (dk_at dksX6_isByWall_1 0 rfl rfl)
theorem dX6_isByWall_26 : decode cX6_isByWall 26 = .ok (.idiv, 1) := dk_108 (dk_at dksX6_isByWall_1 2 rfl rfl)
theorem dX6_isByWall_27 : decode cX6_isByWall 27 = .ok (.iconst 5, 1) := dk_8 (dk_at dksX6_isByWall_1 3 rfl rfl)
theorem dX6_isByWall_28 : decode cX6_isByWall 28 = .ok (.if_icmp .ne 7, 3) := dk_160 0 7 (dk_at dksX6_isByWall_1 4 rfl rfl)
theorem dX6_isByWall_31 : decode cX6_isByWall 31 = .ok (.iconst 1, 1) := dk_4 (dk_at dksX6_isByWall_1 7 rfl rfl)
theorem dX6_isByWall_32 : decode cX6_isByWall 32 = .ok (.goto 4, 3) := dk_167 0 4 (dk_at dksX6_isByWall_1 8 rfl rfl)
theorem dX6_isByWall_35 : decode cX6_isByWall 35 = .ok (.iconst 0, 1) := dk_3 (dk_at dksX6_isByWall_1 11 rfl rfl)
theorem dX6_isByWall_36 : decode cX6_isByWall 36 = .ok (.ireturn, 1) := dk_172 (dk_at dksX6_isByWall_1 12 rfl rfl)
abbrev cX6_row : ByteArray := prog_20_method_81_code
def yX6_row : MethodName := ⟨RX6, "row", "(II)I"⟩
def dkwX6_row_7 : List UInt8 := [42, 180, 1, 93, 172, 28, 29, 162, 0, 12, 42, 180, 0, 83, 28, 46, 167, 0, 5, 16, 252, 172]
abbrev dktX6_row_7 : List UInt8 := dkwX6_row_7 ++ []
def dkwX6_row_6 : List UInt8 := [54, 4, 167, 255, 239, 28, 16, 100, 161, 0, 21, 28, 16, 100, 160, 0, 10, 42, 180, 1, 96, 167, 0, 7]
abbrev dktX6_row_6 : List UInt8 := dkwX6_row_6 ++ dktX6_row_7
def dkwX6_row_5 : List UInt8 := [19, 1, 102, 181, 1, 96, 4, 54, 4, 21, 4, 153, 0, 18, 42, 29, 182, 1, 103, 42, 29, 182, 1, 106]
abbrev dktX6_row_5 : List UInt8 := dkwX6_row_5 ++ dktX6_row_6
def dkwX6_row_4 : List UInt8 := [180, 0, 80, 29, 21, 4, 79, 29, 4, 96, 62, 132, 4, 1, 167, 255, 214, 42, 3, 181, 1, 93, 42]
abbrev dktX6_row_4 : List UInt8 := dkwX6_row_4 ++ dktX6_row_5
def dkwX6_row_3 : List UInt8 := [162, 0, 41, 42, 180, 0, 86, 21, 4, 2, 79, 27, 21, 4, 184, 1, 32, 154, 0, 6, 167, 0, 15, 42]
abbrev dktX6_row_3 : List UInt8 := dkwX6_row_3 ++ dktX6_row_4
def dkwX6_row_2 : List UInt8 := [27, 42, 182, 1, 99, 2, 130, 126, 153, 0, 6, 16, 254, 172, 3, 62, 3, 54, 4, 21, 4, 16, 16]
abbrev dktX6_row_2 : List UInt8 := dkwX6_row_2 ++ dktX6_row_3
def dkwX6_row_1 : List UInt8 := [3, 16, 6, 184, 0, 104, 154, 0, 18, 28, 16, 100, 16, 101, 184, 0, 104, 154, 0, 7, 17, 252, 24, 172]
abbrev dktX6_row_1 : List UInt8 := dkwX6_row_1 ++ dktX6_row_2
def dkwX6_row_0 : List UInt8 := [27, 3, 18, 133, 184, 0, 104, 153, 0, 37, 27, 184, 0, 126, 5, 16, 7, 184, 0, 104, 153, 0, 24, 28]
abbrev dktX6_row_0 : List UInt8 := dkwX6_row_0 ++ dktX6_row_1
theorem dksX6_row_0 : cX6_row.data.toList.drop 0 = dktX6_row_0 := by decide +kernel
theorem dksX6_row_1 : cX6_row.data.toList.drop 24 = dktX6_row_1 := dk_seg dksX6_row_0 24 rfl rfl
theorem dksX6_row_2 : cX6_row.data.toList.drop 48 = dktX6_row_2 := dk_seg dksX6_row_1 24 rfl rfl
theorem dksX6_row_3 : cX6_row.data.toList.drop 71 = dktX6_row_3 := dk_seg dksX6_row_2 23 rfl rfl
theorem dksX6_row_4 : cX6_row.data.toList.drop 95 = dktX6_row_4 := dk_seg dksX6_row_3 24 rfl rfl
theorem dksX6_row_5 : cX6_row.data.toList.drop 118 = dktX6_row_5 := dk_seg dksX6_row_4 23 rfl rfl
theorem dksX6_row_6 : cX6_row.data.toList.drop 142 = dktX6_row_6 := dk_seg dksX6_row_5 24 rfl rfl
theorem dksX6_row_7 : cX6_row.data.toList.drop 166 = dktX6_row_7 := dk_seg dksX6_row_6 24 rfl rfl
theorem dX6_row_0 : decode cX6_row 0 = .ok (.iload_n 1, 1) := dk_27 (dk_at dksX6_row_0 0 rfl rfl)
theorem dX6_row_1 : decode cX6_row 1 = .ok (.iconst 0, 1) := dk_3 (dk_at dksX6_row_0 1 rfl rfl)
theorem dX6_row_2 : decode cX6_row 2 = .ok (.ldc 133, 2) := dk_18 133 (dk_at dksX6_row_0 2 rfl rfl)
theorem dX6_row_4 : decode cX6_row 4 = .ok (.invokestatic 104, 3) := dk_184 0 104 (dk_at dksX6_row_0 4 rfl rfl)
theorem dX6_row_7 : decode cX6_row 7 = .ok (.ifCond .eq 37, 3) := dk_153 0 37 (dk_at dksX6_row_0 7 rfl rfl)
theorem dX6_row_10 : decode cX6_row 10 = .ok (.iload_n 1, 1) := dk_27 (dk_at dksX6_row_0 10 rfl rfl)
theorem dX6_row_11 : decode cX6_row 11 = .ok (.invokestatic 126, 3) := dk_184 0 126 (dk_at dksX6_row_0 11 rfl rfl)
theorem dX6_row_14 : decode cX6_row 14 = .ok (.iconst 2, 1) := dk_5 (dk_at dksX6_row_0 14 rfl rfl)
theorem dX6_row_15 : decode cX6_row 15 = .ok (.bipush 7, 2) := dk_16 7 (dk_at dksX6_row_0 15 rfl rfl)
theorem dX6_row_17 : decode cX6_row 17 = .ok (.invokestatic 104, 3) := dk_184 0 104 (dk_at dksX6_row_0 17 rfl rfl)
theorem dX6_row_20 : decode cX6_row 20 = .ok (.ifCond .eq 24, 3) := dk_153 0 24 (dk_at dksX6_row_0 20 rfl rfl)
theorem dX6_row_23 : decode cX6_row 23 = .ok (.iload_n 2, 1) := dk_28 (dk_at dksX6_row_0 23 rfl rfl)
theorem dX6_row_24 : decode cX6_row 24 = .ok (.iconst 0, 1) := dk_3 (dk_at dksX6_row_1 0 rfl rfl)
theorem dX6_row_25 : decode cX6_row 25 = .ok (.bipush 6, 2) := dk_16 6 (dk_at dksX6_row_1 1 rfl rfl)
theorem dX6_row_27 : decode cX6_row 27 = .ok (.invokestatic 104, 3) := dk_184 0 104 (dk_at dksX6_row_1 3 rfl rfl)
theorem dX6_row_30 : decode cX6_row 30 = .ok (.ifCond .ne 18, 3) := dk_154 0 18 (dk_at dksX6_row_1 6 rfl rfl)
theorem dX6_row_33 : decode cX6_row 33 = .ok (.iload_n 2, 1) := dk_28 (dk_at dksX6_row_1 9 rfl rfl)
theorem dX6_row_34 : decode cX6_row 34 = .ok (.bipush 100, 2) := dk_16 100 (dk_at dksX6_row_1 10 rfl rfl)
theorem dX6_row_36 : decode cX6_row 36 = .ok (.bipush 101, 2) := dk_16 101 (dk_at dksX6_row_1 12 rfl rfl)
theorem dX6_row_38 : decode cX6_row 38 = .ok (.invokestatic 104, 3) := dk_184 0 104 (dk_at dksX6_row_1 14 rfl rfl)
theorem dX6_row_41 : decode cX6_row 41 = .ok (.ifCond .ne 7, 3) := dk_154 0 7 (dk_at dksX6_row_1 17 rfl rfl)
theorem dX6_row_44 : decode cX6_row 44 = .ok (.sipush (-1000), 3) := dk_17 252 24 (dk_at dksX6_row_1 20 rfl rfl)
theorem dX6_row_47 : decode cX6_row 47 = .ok (.ireturn, 1) := dk_172 (dk_at dksX6_row_1 23 rfl rfl)
theorem dX6_row_48 : decode cX6_row 48 = .ok (.iload_n 1, 1) := dk_27 (dk_at dksX6_row_2 0 rfl rfl)
theorem dX6_row_49 : decode cX6_row 49 = .ok (.aload_n 0, 1) := dk_42 (dk_at dksX6_row_2 1 rfl rfl)
theorem dX6_row_50 : decode cX6_row 50 = .ok (.invokevirtual 355, 3) := dk_182 1 99 (dk_at dksX6_row_2 2 rfl rfl)
theorem dX6_row_53 : decode cX6_row 53 = .ok (.iconst (-1), 1) := dk_2 (dk_at dksX6_row_2 5 rfl rfl)
theorem dX6_row_54 : decode cX6_row 54 = .ok (.ixor, 1) := dk_130 (dk_at dksX6_row_2 6 rfl rfl)
theorem dX6_row_55 : decode cX6_row 55 = .ok (.iand, 1) := dk_126 (dk_at dksX6_row_2 7 rfl rfl)
theorem dX6_row_56 : decode cX6_row 56 = .ok (.ifCond .eq 6, 3) := dk_153 0 6 (dk_at dksX6_row_2 8 rfl rfl)
theorem dX6_row_59 : decode cX6_row 59 = .ok (.bipush (-2), 2) := dk_16 254 (dk_at dksX6_row_2 11 rfl rfl)
theorem dX6_row_61 : decode cX6_row 61 = .ok (.ireturn, 1) := dk_172 (dk_at dksX6_row_2 13 rfl rfl)
theorem dX6_row_62 : decode cX6_row 62 = .ok (.iconst 0, 1) := dk_3 (dk_at dksX6_row_2 14 rfl rfl)
theorem dX6_row_63 : decode cX6_row 63 = .ok (.istore_n 3, 1) := dk_62 (dk_at dksX6_row_2 15 rfl rfl)
theorem dX6_row_64 : decode cX6_row 64 = .ok (.iconst 0, 1) := dk_3 (dk_at dksX6_row_2 16 rfl rfl)
theorem dX6_row_65 : decode cX6_row 65 = .ok (.istore 4, 2) := dk_54 4 (dk_at dksX6_row_2 17 rfl rfl)
theorem dX6_row_67 : decode cX6_row 67 = .ok (.iload 4, 2) := dk_21 4 (dk_at dksX6_row_2 19 rfl rfl)
theorem dX6_row_69 : decode cX6_row 69 = .ok (.bipush 16, 2) := dk_16 16 (dk_at dksX6_row_2 21 rfl rfl)
theorem dX6_row_71 : decode cX6_row 71 = .ok (.if_icmp .ge 41, 3) := dk_162 0 41 (dk_at dksX6_row_3 0 rfl rfl)
theorem dX6_row_74 : decode cX6_row 74 = .ok (.aload_n 0, 1) := dk_42 (dk_at dksX6_row_3 3 rfl rfl)
theorem dX6_row_75 : decode cX6_row 75 = .ok (.getfield 86, 3) := dk_180 0 86 (dk_at dksX6_row_3 4 rfl rfl)
theorem dX6_row_78 : decode cX6_row 78 = .ok (.iload 4, 2) := dk_21 4 (dk_at dksX6_row_3 7 rfl rfl)
theorem dX6_row_80 : decode cX6_row 80 = .ok (.iconst (-1), 1) := dk_2 (dk_at dksX6_row_3 9 rfl rfl)
theorem dX6_row_81 : decode cX6_row 81 = .ok (.iastore, 1) := dk_79 (dk_at dksX6_row_3 10 rfl rfl)
theorem dX6_row_82 : decode cX6_row 82 = .ok (.iload_n 1, 1) := dk_27 (dk_at dksX6_row_3 11 rfl rfl)
theorem dX6_row_83 : decode cX6_row 83 = .ok (.iload 4, 2) := dk_21 4 (dk_at dksX6_row_3 12 rfl rfl)
theorem dX6_row_85 : decode cX6_row 85 = .ok (.invokestatic 288, 3) := dk_184 1 32 (dk_at dksX6_row_3 14 rfl rfl)
theorem dX6_row_88 : decode cX6_row 88 = .ok (.ifCond .ne 6, 3) := dk_154 0 6 (dk_at dksX6_row_3 17 rfl rfl)
theorem dX6_row_91 : decode cX6_row 91 = .ok (.goto 15, 3) := dk_167 0 15 (dk_at dksX6_row_3 20 rfl rfl)
theorem dX6_row_94 : decode cX6_row 94 = .ok (.aload_n 0, 1) := dk_42 (dk_at dksX6_row_3 23 rfl rfl)
theorem dX6_row_95 : decode cX6_row 95 = .ok (.getfield 80, 3) := dk_180 0 80 (dk_at dksX6_row_4 0 rfl rfl)
theorem dX6_row_98 : decode cX6_row 98 = .ok (.iload_n 3, 1) := dk_29 (dk_at dksX6_row_4 3 rfl rfl)
theorem dX6_row_99 : decode cX6_row 99 = .ok (.iload 4, 2) := dk_21 4 (dk_at dksX6_row_4 4 rfl rfl)
theorem dX6_row_101 : decode cX6_row 101 = .ok (.iastore, 1) := dk_79 (dk_at dksX6_row_4 6 rfl rfl)
theorem dX6_row_102 : decode cX6_row 102 = .ok (.iload_n 3, 1) := dk_29 (dk_at dksX6_row_4 7 rfl rfl)
theorem dX6_row_103 : decode cX6_row 103 = .ok (.iconst 1, 1) := dk_4 (dk_at dksX6_row_4 8 rfl rfl)
theorem dX6_row_104 : decode cX6_row 104 = .ok (.iadd, 1) := dk_96 (dk_at dksX6_row_4 9 rfl rfl)
theorem dX6_row_105 : decode cX6_row 105 = .ok (.istore_n 3, 1) := dk_62 (dk_at dksX6_row_4 10 rfl rfl)
theorem dX6_row_106 : decode cX6_row 106 = .ok (.iinc 4 1, 3) := dk_132 4 1 (dk_at dksX6_row_4 11 rfl rfl)
theorem dX6_row_109 : decode cX6_row 109 = .ok (.goto (-42), 3) := dk_167 255 214 (dk_at dksX6_row_4 14 rfl rfl)
theorem dX6_row_112 : decode cX6_row 112 = .ok (.aload_n 0, 1) := dk_42 (dk_at dksX6_row_4 17 rfl rfl)
theorem dX6_row_113 : decode cX6_row 113 = .ok (.iconst 0, 1) := dk_3 (dk_at dksX6_row_4 18 rfl rfl)
theorem dX6_row_114 : decode cX6_row 114 = .ok (.putfield 349, 3) := dk_181 1 93 (dk_at dksX6_row_4 19 rfl rfl)
theorem dX6_row_117 : decode cX6_row 117 = .ok (.aload_n 0, 1) := dk_42 (dk_at dksX6_row_4 22 rfl rfl)
theorem dX6_row_118 : decode cX6_row 118 = .ok (.ldc_w 358, 3) := dk_19 1 102 (dk_at dksX6_row_5 0 rfl rfl)
theorem dX6_row_121 : decode cX6_row 121 = .ok (.putfield 352, 3) := dk_181 1 96 (dk_at dksX6_row_5 3 rfl rfl)
theorem dX6_row_124 : decode cX6_row 124 = .ok (.iconst 1, 1) := dk_4 (dk_at dksX6_row_5 6 rfl rfl)
theorem dX6_row_125 : decode cX6_row 125 = .ok (.istore 4, 2) := dk_54 4 (dk_at dksX6_row_5 7 rfl rfl)
theorem dX6_row_127 : decode cX6_row 127 = .ok (.iload 4, 2) := dk_21 4 (dk_at dksX6_row_5 9 rfl rfl)
theorem dX6_row_129 : decode cX6_row 129 = .ok (.ifCond .eq 18, 3) := dk_153 0 18 (dk_at dksX6_row_5 11 rfl rfl)
theorem dX6_row_132 : decode cX6_row 132 = .ok (.aload_n 0, 1) := dk_42 (dk_at dksX6_row_5 14 rfl rfl)
theorem dX6_row_133 : decode cX6_row 133 = .ok (.iload_n 3, 1) := dk_29 (dk_at dksX6_row_5 15 rfl rfl)
theorem dX6_row_134 : decode cX6_row 134 = .ok (.invokevirtual 359, 3) := dk_182 1 103 (dk_at dksX6_row_5 16 rfl rfl)
theorem dX6_row_137 : decode cX6_row 137 = .ok (.aload_n 0, 1) := dk_42 (dk_at dksX6_row_5 19 rfl rfl)
theorem dX6_row_138 : decode cX6_row 138 = .ok (.iload_n 3, 1) := dk_29 (dk_at dksX6_row_5 20 rfl rfl)
theorem dX6_row_139 : decode cX6_row 139 = .ok (.invokevirtual 362, 3) := dk_182 1 106 (dk_at dksX6_row_5 21 rfl rfl)
theorem dX6_row_142 : decode cX6_row 142 = .ok (.istore 4, 2) := dk_54 4 (dk_at dksX6_row_6 0 rfl rfl)
theorem dX6_row_144 : decode cX6_row 144 = .ok (.goto (-17), 3) := dk_167 255 239 (dk_at dksX6_row_6 2 rfl rfl)
theorem dX6_row_147 : decode cX6_row 147 = .ok (.iload_n 2, 1) := dk_28 (dk_at dksX6_row_6 5 rfl rfl)
theorem dX6_row_148 : decode cX6_row 148 = .ok (.bipush 100, 2) := dk_16 100 (dk_at dksX6_row_6 6 rfl rfl)
theorem dX6_row_150 : decode cX6_row 150 = .ok (.if_icmp .lt 21, 3) := dk_161 0 21 (dk_at dksX6_row_6 8 rfl rfl)
theorem dX6_row_153 : decode cX6_row 153 = .ok (.iload_n 2, 1) := dk_28 (dk_at dksX6_row_6 11 rfl rfl)
theorem dX6_row_154 : decode cX6_row 154 = .ok (.bipush 100, 2) := dk_16 100 (dk_at dksX6_row_6 12 rfl rfl)
theorem dX6_row_156 : decode cX6_row 156 = .ok (.if_icmp .ne 10, 3) := dk_160 0 10 (dk_at dksX6_row_6 14 rfl rfl)
theorem dX6_row_159 : decode cX6_row 159 = .ok (.aload_n 0, 1) := dk_42 (dk_at dksX6_row_6 17 rfl rfl)
theorem dX6_row_160 : decode cX6_row 160 = .ok (.getfield 352, 3) := dk_180 1 96 (dk_at dksX6_row_6 18 rfl rfl)
theorem dX6_row_163 : decode cX6_row 163 = .ok (.goto 7, 3) := dk_167 0 7 (dk_at dksX6_row_6 21 rfl rfl)
theorem dX6_row_166 : decode cX6_row 166 = .ok (.aload_n 0, 1) := dk_42 (dk_at dksX6_row_7 0 rfl rfl)
theorem dX6_row_167 : decode cX6_row 167 = .ok (.getfield 349, 3) := dk_180 1 93 (dk_at dksX6_row_7 1 rfl rfl)
theorem dX6_row_170 : decode cX6_row 170 = .ok (.ireturn, 1) := dk_172 (dk_at dksX6_row_7 4 rfl rfl)
theorem dX6_row_171 : decode cX6_row 171 = .ok (.iload_n 2, 1) := dk_28 (dk_at dksX6_row_7 5 rfl rfl)
theorem dX6_row_172 : decode cX6_row 172 = .ok (.iload_n 3, 1) := dk_29 (dk_at dksX6_row_7 6 rfl rfl)
theorem dX6_row_173 : decode cX6_row 173 = .ok (.if_icmp .ge 12, 3) := dk_162 0 12 (dk_at dksX6_row_7 7 rfl rfl)
theorem dX6_row_176 : decode cX6_row 176 = .ok (.aload_n 0, 1) := dk_42 (dk_at dksX6_row_7 10 rfl rfl)
theorem dX6_row_177 : decode cX6_row 177 = .ok (.getfield 83, 3) := dk_180 0 83 (dk_at dksX6_row_7 11 rfl rfl)
theorem dX6_row_180 : decode cX6_row 180 = .ok (.iload_n 2, 1) := dk_28 (dk_at dksX6_row_7 14 rfl rfl)
theorem dX6_row_181 : decode cX6_row 181 = .ok (.iaload, 1) := dk_46 (dk_at dksX6_row_7 15 rfl rfl)
theorem dX6_row_182 : decode cX6_row 182 = .ok (.goto 5, 3) := dk_167 0 5 (dk_at dksX6_row_7 16 rfl rfl)
theorem dX6_row_185 : decode cX6_row 185 = .ok (.bipush (-4), 2) := dk_16 252 (dk_at dksX6_row_7 19 rfl rfl)
theorem dX6_row_187 : decode cX6_row 187 = .ok (.ireturn, 1) := dk_172 (dk_at dksX6_row_7 21 rfl rfl)
abbrev cX6_toldSet : ByteArray := prog_20_method_11_code
def yX6_toldSet : MethodName := ⟨RX6, "toldSet", "()I"⟩
def dkwX6_toldSet_1 : List UInt8 := [132, 2, 1, 167, 255, 233, 27, 172]
abbrev dktX6_toldSet_1 : List UInt8 := dkwX6_toldSet_1 ++ []
def dkwX6_toldSet_0 : List UInt8 := [3, 60, 3, 61, 28, 16, 16, 162, 0, 23, 42, 28, 182, 0, 108, 153, 0, 9, 27, 4, 28, 120, 128, 60]
abbrev dktX6_toldSet_0 : List UInt8 := dkwX6_toldSet_0 ++ dktX6_toldSet_1
theorem dksX6_toldSet_0 : cX6_toldSet.data.toList.drop 0 = dktX6_toldSet_0 := by decide +kernel
theorem dksX6_toldSet_1 : cX6_toldSet.data.toList.drop 24 = dktX6_toldSet_1 := dk_seg dksX6_toldSet_0 24 rfl rfl
theorem dX6_toldSet_0 : decode cX6_toldSet 0 = .ok (.iconst 0, 1) := dk_3 (dk_at dksX6_toldSet_0 0 rfl rfl)
theorem dX6_toldSet_1 : decode cX6_toldSet 1 = .ok (.istore_n 1, 1) := dk_60 (dk_at dksX6_toldSet_0 1 rfl rfl)
theorem dX6_toldSet_2 : decode cX6_toldSet 2 = .ok (.iconst 0, 1) := dk_3 (dk_at dksX6_toldSet_0 2 rfl rfl)
theorem dX6_toldSet_3 : decode cX6_toldSet 3 = .ok (.istore_n 2, 1) := dk_61 (dk_at dksX6_toldSet_0 3 rfl rfl)
theorem dX6_toldSet_4 : decode cX6_toldSet 4 = .ok (.iload_n 2, 1) := dk_28 (dk_at dksX6_toldSet_0 4 rfl rfl)
theorem dX6_toldSet_5 : decode cX6_toldSet 5 = .ok (.bipush 16, 2) := dk_16 16 (dk_at dksX6_toldSet_0 5 rfl rfl)
theorem dX6_toldSet_7 : decode cX6_toldSet 7 = .ok (.if_icmp .ge 23, 3) := dk_162 0 23 (dk_at dksX6_toldSet_0 7 rfl rfl)
theorem dX6_toldSet_10 : decode cX6_toldSet 10 = .ok (.aload_n 0, 1) := dk_42 (dk_at dksX6_toldSet_0 10 rfl rfl)
theorem dX6_toldSet_11 : decode cX6_toldSet 11 = .ok (.iload_n 2, 1) := dk_28 (dk_at dksX6_toldSet_0 11 rfl rfl)
theorem dX6_toldSet_12 : decode cX6_toldSet 12 = .ok (.invokevirtual 108, 3) := dk_182 0 108 (dk_at dksX6_toldSet_0 12 rfl rfl)
theorem dX6_toldSet_15 : decode cX6_toldSet 15 = .ok (.ifCond .eq 9, 3) := dk_153 0 9 (dk_at dksX6_toldSet_0 15 rfl rfl)
theorem dX6_toldSet_18 : decode cX6_toldSet 18 = .ok (.iload_n 1, 1) := dk_27 (dk_at dksX6_toldSet_0 18 rfl rfl)
theorem dX6_toldSet_19 : decode cX6_toldSet 19 = .ok (.iconst 1, 1) := dk_4 (dk_at dksX6_toldSet_0 19 rfl rfl)
theorem dX6_toldSet_20 : decode cX6_toldSet 20 = .ok (.iload_n 2, 1) := dk_28 (dk_at dksX6_toldSet_0 20 rfl rfl)
theorem dX6_toldSet_21 : decode cX6_toldSet 21 = .ok (.ishl, 1) := dk_120 (dk_at dksX6_toldSet_0 21 rfl rfl)
theorem dX6_toldSet_22 : decode cX6_toldSet 22 = .ok (.ior, 1) := dk_128 (dk_at dksX6_toldSet_0 22 rfl rfl)
theorem dX6_toldSet_23 : decode cX6_toldSet 23 = .ok (.istore_n 1, 1) := dk_60 (dk_at dksX6_toldSet_0 23 rfl rfl)
theorem dX6_toldSet_24 : decode cX6_toldSet 24 = .ok (.iinc 2 1, 3) := dk_132 2 1 (dk_at dksX6_toldSet_1 0 rfl rfl)
theorem dX6_toldSet_27 : decode cX6_toldSet 27 = .ok (.goto (-23), 3) := dk_167 255 233 (dk_at dksX6_toldSet_1 3 rfl rfl)
theorem dX6_toldSet_30 : decode cX6_toldSet 30 = .ok (.iload_n 1, 1) := dk_27 (dk_at dksX6_toldSet_1 6 rfl rfl)
theorem dX6_toldSet_31 : decode cX6_toldSet 31 = .ok (.ireturn, 1) := dk_172 (dk_at dksX6_toldSet_1 7 rfl rfl)
abbrev cX6_mayBeOrder : ByteArray := prog_20_method_80_code
def yX6_mayBeOrder : MethodName := ⟨RX6, "mayBeOrder", "(I)V"⟩
def dkwX6_mayBeOrder_5 : List UInt8 := [162, 0, 23, 42, 180, 0, 83, 21, 4, 42, 180, 0, 80, 21, 4, 46, 79, 132, 4, 1, 167, 255, 233, 177]
abbrev dktX6_mayBeOrder_5 : List UInt8 := dkwX6_mayBeOrder_5 ++ []
def dkwX6_mayBeOrder_4 : List UInt8 := [96, 181, 1, 93, 28, 42, 180, 1, 96, 163, 0, 4, 177, 42, 28, 181, 1, 96, 3, 54, 4, 21, 4, 27]
abbrev dktX6_mayBeOrder_4 : List UInt8 := dkwX6_mayBeOrder_4 ++ dktX6_mayBeOrder_5
def dkwX6_mayBeOrder_3 : List UInt8 := [182, 1, 90, 154, 0, 5, 3, 62, 132, 4, 1, 167, 255, 232, 29, 153, 0, 13, 42, 42, 180, 1, 93, 4]
abbrev dktX6_mayBeOrder_3 : List UInt8 := dkwX6_mayBeOrder_3 ++ dktX6_mayBeOrder_4
def dkwX6_mayBeOrder_2 : List UInt8 := [132, 3, 1, 167, 255, 211, 4, 62, 3, 54, 4, 21, 4, 42, 180, 1, 23, 162, 0, 21, 42, 21, 4, 27]
abbrev dktX6_mayBeOrder_2 : List UInt8 := dkwX6_mayBeOrder_2 ++ dktX6_mayBeOrder_3
def dkwX6_mayBeOrder_1 : List UInt8 := [158, 0, 24, 28, 42, 42, 180, 0, 80, 29, 4, 100, 46, 42, 180, 0, 80, 29, 46, 182, 1, 69, 96, 61]
abbrev dktX6_mayBeOrder_1 : List UInt8 := dkwX6_mayBeOrder_1 ++ dktX6_mayBeOrder_2
def dkwX6_mayBeOrder_0 : List UInt8 := [3, 61, 3, 62, 29, 27, 162, 0, 46, 42, 180, 0, 86, 42, 180, 0, 80, 29, 46, 29, 79, 29]
abbrev dktX6_mayBeOrder_0 : List UInt8 := dkwX6_mayBeOrder_0 ++ dktX6_mayBeOrder_1
theorem dksX6_mayBeOrder_0 : cX6_mayBeOrder.data.toList.drop 0 = dktX6_mayBeOrder_0 := by decide +kernel
theorem dksX6_mayBeOrder_1 : cX6_mayBeOrder.data.toList.drop 22 = dktX6_mayBeOrder_1 := dk_seg dksX6_mayBeOrder_0 22 rfl rfl
theorem dksX6_mayBeOrder_2 : cX6_mayBeOrder.data.toList.drop 46 = dktX6_mayBeOrder_2 := dk_seg dksX6_mayBeOrder_1 24 rfl rfl
theorem dksX6_mayBeOrder_3 : cX6_mayBeOrder.data.toList.drop 70 = dktX6_mayBeOrder_3 := dk_seg dksX6_mayBeOrder_2 24 rfl rfl
theorem dksX6_mayBeOrder_4 : cX6_mayBeOrder.data.toList.drop 94 = dktX6_mayBeOrder_4 := dk_seg dksX6_mayBeOrder_3 24 rfl rfl
theorem dksX6_mayBeOrder_5 : cX6_mayBeOrder.data.toList.drop 118 = dktX6_mayBeOrder_5 := dk_seg dksX6_mayBeOrder_4 24 rfl rfl
theorem dX6_mayBeOrder_0 : decode cX6_mayBeOrder 0 = .ok (.iconst 0, 1) := dk_3 (dk_at dksX6_mayBeOrder_0 0 rfl rfl)
theorem dX6_mayBeOrder_1 : decode cX6_mayBeOrder 1 = .ok (.istore_n 2, 1) := dk_61 (dk_at dksX6_mayBeOrder_0 1 rfl rfl)
theorem dX6_mayBeOrder_2 : decode cX6_mayBeOrder 2 = .ok (.iconst 0, 1) := dk_3 (dk_at dksX6_mayBeOrder_0 2 rfl rfl)
theorem dX6_mayBeOrder_3 : decode cX6_mayBeOrder 3 = .ok (.istore_n 3, 1) := dk_62 (dk_at dksX6_mayBeOrder_0 3 rfl rfl)
theorem dX6_mayBeOrder_4 : decode cX6_mayBeOrder 4 = .ok (.iload_n 3, 1) := dk_29 (dk_at dksX6_mayBeOrder_0 4 rfl rfl)
theorem dX6_mayBeOrder_5 : decode cX6_mayBeOrder 5 = .ok (.iload_n 1, 1) := dk_27 (dk_at dksX6_mayBeOrder_0 5 rfl rfl)
theorem dX6_mayBeOrder_6 : decode cX6_mayBeOrder 6 = .ok (.if_icmp .ge 46, 3) := dk_162 0 46 (dk_at dksX6_mayBeOrder_0 6 rfl rfl)
theorem dX6_mayBeOrder_9 : decode cX6_mayBeOrder 9 = .ok (.aload_n 0, 1) := dk_42 (dk_at dksX6_mayBeOrder_0 9 rfl rfl)
theorem dX6_mayBeOrder_10 : decode cX6_mayBeOrder 10 = .ok (.getfield 86, 3) := dk_180 0 86 (dk_at dksX6_mayBeOrder_0 10 rfl rfl)
theorem dX6_mayBeOrder_13 : decode cX6_mayBeOrder 13 = .ok (.aload_n 0, 1) := dk_42 (dk_at dksX6_mayBeOrder_0 13 rfl rfl)
theorem dX6_mayBeOrder_14 : decode cX6_mayBeOrder 14 = .ok (.getfield 80, 3) := dk_180 0 80 (dk_at dksX6_mayBeOrder_0 14 rfl rfl)
theorem dX6_mayBeOrder_17 : decode cX6_mayBeOrder 17 = .ok (.iload_n 3, 1) := dk_29 (dk_at dksX6_mayBeOrder_0 17 rfl rfl)
theorem dX6_mayBeOrder_18 : decode cX6_mayBeOrder 18 = .ok (.iaload, 1) := dk_46 (dk_at dksX6_mayBeOrder_0 18 rfl rfl)
theorem dX6_mayBeOrder_19 : decode cX6_mayBeOrder 19 = .ok (.iload_n 3, 1) := dk_29 (dk_at dksX6_mayBeOrder_0 19 rfl rfl)
theorem dX6_mayBeOrder_20 : decode cX6_mayBeOrder 20 = .ok (.iastore, 1) := dk_79 (dk_at dksX6_mayBeOrder_0 20 rfl rfl)
theorem dX6_mayBeOrder_21 : decode cX6_mayBeOrder 21 = .ok (.iload_n 3, 1) := dk_29 (dk_at dksX6_mayBeOrder_0 21 rfl rfl)
theorem dX6_mayBeOrder_22 : decode cX6_mayBeOrder 22 = .ok (.ifCond .le 24, 3) := dk_158 0 24 (dk_at dksX6_mayBeOrder_1 0 rfl rfl)
theorem dX6_mayBeOrder_25 : decode cX6_mayBeOrder 25 = .ok (.iload_n 2, 1) := dk_28 (dk_at dksX6_mayBeOrder_1 3 rfl rfl)
theorem dX6_mayBeOrder_26 : decode cX6_mayBeOrder 26 = .ok (.aload_n 0, 1) := dk_42 (dk_at dksX6_mayBeOrder_1 4 rfl rfl)
theorem dX6_mayBeOrder_27 : decode cX6_mayBeOrder 27 = .ok (.aload_n 0, 1) := dk_42 (dk_at dksX6_mayBeOrder_1 5 rfl rfl)
theorem dX6_mayBeOrder_28 : decode cX6_mayBeOrder 28 = .ok (.getfield 80, 3) := dk_180 0 80 (dk_at dksX6_mayBeOrder_1 6 rfl rfl)
theorem dX6_mayBeOrder_31 : decode cX6_mayBeOrder 31 = .ok (.iload_n 3, 1) := dk_29 (dk_at dksX6_mayBeOrder_1 9 rfl rfl)
theorem dX6_mayBeOrder_32 : decode cX6_mayBeOrder 32 = .ok (.iconst 1, 1) := dk_4 (dk_at dksX6_mayBeOrder_1 10 rfl rfl)
theorem dX6_mayBeOrder_33 : decode cX6_mayBeOrder 33 = .ok (.isub, 1) := dk_100 (dk_at dksX6_mayBeOrder_1 11 rfl rfl)
theorem dX6_mayBeOrder_34 : decode cX6_mayBeOrder 34 = .ok (.iaload, 1) := dk_46 (dk_at dksX6_mayBeOrder_1 12 rfl rfl)
theorem dX6_mayBeOrder_35 : decode cX6_mayBeOrder 35 = .ok (.aload_n 0, 1) := dk_42 (dk_at dksX6_mayBeOrder_1 13 rfl rfl)
theorem dX6_mayBeOrder_36 : decode cX6_mayBeOrder 36 = .ok (.getfield 80, 3) := dk_180 0 80 (dk_at dksX6_mayBeOrder_1 14 rfl rfl)
theorem dX6_mayBeOrder_39 : decode cX6_mayBeOrder 39 = .ok (.iload_n 3, 1) := dk_29 (dk_at dksX6_mayBeOrder_1 17 rfl rfl)
theorem dX6_mayBeOrder_40 : decode cX6_mayBeOrder 40 = .ok (.iaload, 1) := dk_46 (dk_at dksX6_mayBeOrder_1 18 rfl rfl)
theorem dX6_mayBeOrder_41 : decode cX6_mayBeOrder 41 = .ok (.invokevirtual 325, 3) := dk_182 1 69 (dk_at dksX6_mayBeOrder_1 19 rfl rfl)
theorem dX6_mayBeOrder_44 : decode cX6_mayBeOrder 44 = .ok (.iadd, 1) := dk_96 (dk_at dksX6_mayBeOrder_1 22 rfl rfl)
theorem dX6_mayBeOrder_45 : decode cX6_mayBeOrder 45 = .ok (.istore_n 2, 1) := dk_61 (dk_at dksX6_mayBeOrder_1 23 rfl rfl)
theorem dX6_mayBeOrder_46 : decode cX6_mayBeOrder 46 = .ok (.iinc 3 1, 3) := dk_132 3 1 (dk_at dksX6_mayBeOrder_2 0 rfl rfl)
theorem dX6_mayBeOrder_49 : decode cX6_mayBeOrder 49 = .ok (.goto (-45), 3) := dk_167 255 211 (dk_at dksX6_mayBeOrder_2 3 rfl rfl)
theorem dX6_mayBeOrder_52 : decode cX6_mayBeOrder 52 = .ok (.iconst 1, 1) := dk_4 (dk_at dksX6_mayBeOrder_2 6 rfl rfl)
theorem dX6_mayBeOrder_53 : decode cX6_mayBeOrder 53 = .ok (.istore_n 3, 1) := dk_62 (dk_at dksX6_mayBeOrder_2 7 rfl rfl)
theorem dX6_mayBeOrder_54 : decode cX6_mayBeOrder 54 = .ok (.iconst 0, 1) := dk_3 (dk_at dksX6_mayBeOrder_2 8 rfl rfl)
theorem dX6_mayBeOrder_55 : decode cX6_mayBeOrder 55 = .ok (.istore 4, 2) := dk_54 4 (dk_at dksX6_mayBeOrder_2 9 rfl rfl)
theorem dX6_mayBeOrder_57 : decode cX6_mayBeOrder 57 = .ok (.iload 4, 2) := dk_21 4 (dk_at dksX6_mayBeOrder_2 11 rfl rfl)
theorem dX6_mayBeOrder_59 : decode cX6_mayBeOrder 59 = .ok (.aload_n 0, 1) := dk_42 (dk_at dksX6_mayBeOrder_2 13 rfl rfl)
theorem dX6_mayBeOrder_60 : decode cX6_mayBeOrder 60 = .ok (.getfield 279, 3) := dk_180 1 23 (dk_at dksX6_mayBeOrder_2 14 rfl rfl)
theorem dX6_mayBeOrder_63 : decode cX6_mayBeOrder 63 = .ok (.if_icmp .ge 21, 3) := dk_162 0 21 (dk_at dksX6_mayBeOrder_2 17 rfl rfl)
theorem dX6_mayBeOrder_66 : decode cX6_mayBeOrder 66 = .ok (.aload_n 0, 1) := dk_42 (dk_at dksX6_mayBeOrder_2 20 rfl rfl)
theorem dX6_mayBeOrder_67 : decode cX6_mayBeOrder 67 = .ok (.iload 4, 2) := dk_21 4 (dk_at dksX6_mayBeOrder_2 21 rfl rfl)
theorem dX6_mayBeOrder_69 : decode cX6_mayBeOrder 69 = .ok (.iload_n 1, 1) := dk_27 (dk_at dksX6_mayBeOrder_2 23 rfl rfl)
theorem dX6_mayBeOrder_70 : decode cX6_mayBeOrder 70 = .ok (.invokevirtual 346, 3) := dk_182 1 90 (dk_at dksX6_mayBeOrder_3 0 rfl rfl)
theorem dX6_mayBeOrder_73 : decode cX6_mayBeOrder 73 = .ok (.ifCond .ne 5, 3) := dk_154 0 5 (dk_at dksX6_mayBeOrder_3 3 rfl rfl)
theorem dX6_mayBeOrder_76 : decode cX6_mayBeOrder 76 = .ok (.iconst 0, 1) := dk_3 (dk_at dksX6_mayBeOrder_3 6 rfl rfl)
theorem dX6_mayBeOrder_77 : decode cX6_mayBeOrder 77 = .ok (.istore_n 3, 1) := dk_62 (dk_at dksX6_mayBeOrder_3 7 rfl rfl)
theorem dX6_mayBeOrder_78 : decode cX6_mayBeOrder 78 = .ok (.iinc 4 1, 3) := dk_132 4 1 (dk_at dksX6_mayBeOrder_3 8 rfl rfl)
theorem dX6_mayBeOrder_81 : decode cX6_mayBeOrder 81 = .ok (.goto (-24), 3) := dk_167 255 232 (dk_at dksX6_mayBeOrder_3 11 rfl rfl)
theorem dX6_mayBeOrder_84 : decode cX6_mayBeOrder 84 = .ok (.iload_n 3, 1) := dk_29 (dk_at dksX6_mayBeOrder_3 14 rfl rfl)
theorem dX6_mayBeOrder_85 : decode cX6_mayBeOrder 85 = .ok (.ifCond .eq 13, 3) := dk_153 0 13 (dk_at dksX6_mayBeOrder_3 15 rfl rfl)
theorem dX6_mayBeOrder_88 : decode cX6_mayBeOrder 88 = .ok (.aload_n 0, 1) := dk_42 (dk_at dksX6_mayBeOrder_3 18 rfl rfl)
theorem dX6_mayBeOrder_89 : decode cX6_mayBeOrder 89 = .ok (.aload_n 0, 1) := dk_42 (dk_at dksX6_mayBeOrder_3 19 rfl rfl)
theorem dX6_mayBeOrder_90 : decode cX6_mayBeOrder 90 = .ok (.getfield 349, 3) := dk_180 1 93 (dk_at dksX6_mayBeOrder_3 20 rfl rfl)
theorem dX6_mayBeOrder_93 : decode cX6_mayBeOrder 93 = .ok (.iconst 1, 1) := dk_4 (dk_at dksX6_mayBeOrder_3 23 rfl rfl)
theorem dX6_mayBeOrder_94 : decode cX6_mayBeOrder 94 = .ok (.iadd, 1) := dk_96 (dk_at dksX6_mayBeOrder_4 0 rfl rfl)
theorem dX6_mayBeOrder_95 : decode cX6_mayBeOrder 95 = .ok (.putfield 349, 3) := dk_181 1 93 (dk_at dksX6_mayBeOrder_4 1 rfl rfl)
theorem dX6_mayBeOrder_98 : decode cX6_mayBeOrder 98 = .ok (.iload_n 2, 1) := dk_28 (dk_at dksX6_mayBeOrder_4 4 rfl rfl)
theorem dX6_mayBeOrder_99 : decode cX6_mayBeOrder 99 = .ok (.aload_n 0, 1) := dk_42 (dk_at dksX6_mayBeOrder_4 5 rfl rfl)
theorem dX6_mayBeOrder_100 : decode cX6_mayBeOrder 100 = .ok (.getfield 352, 3) := dk_180 1 96 (dk_at dksX6_mayBeOrder_4 6 rfl rfl)
theorem dX6_mayBeOrder_103 : decode cX6_mayBeOrder 103 = .ok (.if_icmp .gt 4, 3) := dk_163 0 4 (dk_at dksX6_mayBeOrder_4 9 rfl rfl)
theorem dX6_mayBeOrder_106 : decode cX6_mayBeOrder 106 = .ok (.return_, 1) := dk_177 (dk_at dksX6_mayBeOrder_4 12 rfl rfl)
theorem dX6_mayBeOrder_107 : decode cX6_mayBeOrder 107 = .ok (.aload_n 0, 1) := dk_42 (dk_at dksX6_mayBeOrder_4 13 rfl rfl)
theorem dX6_mayBeOrder_108 : decode cX6_mayBeOrder 108 = .ok (.iload_n 2, 1) := dk_28 (dk_at dksX6_mayBeOrder_4 14 rfl rfl)
theorem dX6_mayBeOrder_109 : decode cX6_mayBeOrder 109 = .ok (.putfield 352, 3) := dk_181 1 96 (dk_at dksX6_mayBeOrder_4 15 rfl rfl)
theorem dX6_mayBeOrder_112 : decode cX6_mayBeOrder 112 = .ok (.iconst 0, 1) := dk_3 (dk_at dksX6_mayBeOrder_4 18 rfl rfl)
theorem dX6_mayBeOrder_113 : decode cX6_mayBeOrder 113 = .ok (.istore 4, 2) := dk_54 4 (dk_at dksX6_mayBeOrder_4 19 rfl rfl)
theorem dX6_mayBeOrder_115 : decode cX6_mayBeOrder 115 = .ok (.iload 4, 2) := dk_21 4 (dk_at dksX6_mayBeOrder_4 21 rfl rfl)
theorem dX6_mayBeOrder_117 : decode cX6_mayBeOrder 117 = .ok (.iload_n 1, 1) := dk_27 (dk_at dksX6_mayBeOrder_4 23 rfl rfl)
theorem dX6_mayBeOrder_118 : decode cX6_mayBeOrder 118 = .ok (.if_icmp .ge 23, 3) := dk_162 0 23 (dk_at dksX6_mayBeOrder_5 0 rfl rfl)
theorem dX6_mayBeOrder_121 : decode cX6_mayBeOrder 121 = .ok (.aload_n 0, 1) := dk_42 (dk_at dksX6_mayBeOrder_5 3 rfl rfl)
theorem dX6_mayBeOrder_122 : decode cX6_mayBeOrder 122 = .ok (.getfield 83, 3) := dk_180 0 83 (dk_at dksX6_mayBeOrder_5 4 rfl rfl)
theorem dX6_mayBeOrder_125 : decode cX6_mayBeOrder 125 = .ok (.iload 4, 2) := dk_21 4 (dk_at dksX6_mayBeOrder_5 7 rfl rfl)
theorem dX6_mayBeOrder_127 : decode cX6_mayBeOrder 127 = .ok (.aload_n 0, 1) := dk_42 (dk_at dksX6_mayBeOrder_5 9 rfl rfl)
theorem dX6_mayBeOrder_128 : decode cX6_mayBeOrder 128 = .ok (.getfield 80, 3) := dk_180 0 80 (dk_at dksX6_mayBeOrder_5 10 rfl rfl)
theorem dX6_mayBeOrder_131 : decode cX6_mayBeOrder 131 = .ok (.iload 4, 2) := dk_21 4 (dk_at dksX6_mayBeOrder_5 13 rfl rfl)
theorem dX6_mayBeOrder_133 : decode cX6_mayBeOrder 133 = .ok (.iaload, 1) := dk_46 (dk_at dksX6_mayBeOrder_5 15 rfl rfl)
theorem dX6_mayBeOrder_134 : decode cX6_mayBeOrder 134 = .ok (.iastore, 1) := dk_79 (dk_at dksX6_mayBeOrder_5 16 rfl rfl)
theorem dX6_mayBeOrder_135 : decode cX6_mayBeOrder 135 = .ok (.iinc 4 1, 3) := dk_132 4 1 (dk_at dksX6_mayBeOrder_5 17 rfl rfl)
theorem dX6_mayBeOrder_138 : decode cX6_mayBeOrder 138 = .ok (.goto (-23), 3) := dk_167 255 233 (dk_at dksX6_mayBeOrder_5 20 rfl rfl)
theorem dX6_mayBeOrder_141 : decode cX6_mayBeOrder 141 = .ok (.return_, 1) := dk_177 (dk_at dksX6_mayBeOrder_5 23 rfl rfl)
abbrev cX6_holdsInRow : ByteArray := prog_20_method_79_code
def yX6_holdsInRow : MethodName := ⟨RX6, "holdsInRow", "(II)Z"⟩
def dkwX6_holdsInRow_6 : List UInt8 := [167, 0, 4, 3, 172, 3, 172]
abbrev dktX6_holdsInRow_6 : List UInt8 := dkwX6_holdsInRow_6 ++ []
def dkwX6_holdsInRow_5 : List UInt8 := [4, 159, 0, 7, 4, 167, 0, 4, 3, 172, 29, 153, 0, 10, 29, 28, 4, 100, 160, 0, 7, 4]
abbrev dktX6_holdsInRow_5 : List UInt8 := dkwX6_holdsInRow_5 ++ dktX6_holdsInRow_6
def dkwX6_holdsInRow_4 : List UInt8 := [29, 21, 4, 100, 184, 0, 115, 4, 160, 0, 7, 4, 167, 0, 4, 3, 172, 29, 21, 4, 100, 184, 0, 115]
abbrev dktX6_holdsInRow_4 : List UInt8 := dkwX6_holdsInRow_4 ++ dktX6_holdsInRow_5
def dkwX6_holdsInRow_3 : List UInt8 := [171, 0, 0, 0, 0, 85, 0, 0, 0, 3, 0, 0, 0, 35, 0, 0, 0, 68, 0, 0, 0, 43, 0, 0, 0, 34, 0, 0, 0, 45, 0, 0, 0, 51]
abbrev dktX6_holdsInRow_3 : List UInt8 := dkwX6_holdsInRow_3 ++ dktX6_holdsInRow_4
def dkwX6_holdsInRow_2 : List UInt8 := [160, 0, 5, 4, 172, 42, 180, 0, 65, 27, 46]
abbrev dktX6_holdsInRow_2 : List UInt8 := dkwX6_holdsInRow_2 ++ dktX6_holdsInRow_3
def dkwX6_holdsInRow_1 : List UInt8 := [167, 0, 14, 42, 180, 0, 86, 42, 180, 0, 68, 27, 46, 46, 54, 4, 29, 2, 159, 0, 9, 21, 4, 2]
abbrev dktX6_holdsInRow_1 : List UInt8 := dkwX6_holdsInRow_1 ++ dktX6_holdsInRow_2
def dkwX6_holdsInRow_0 : List UInt8 := [42, 180, 0, 86, 42, 180, 0, 62, 27, 46, 46, 62, 42, 180, 0, 68, 27, 46, 2, 160, 0, 7, 3]
abbrev dktX6_holdsInRow_0 : List UInt8 := dkwX6_holdsInRow_0 ++ dktX6_holdsInRow_1
theorem dksX6_holdsInRow_0 : cX6_holdsInRow.data.toList.drop 0 = dktX6_holdsInRow_0 := by decide +kernel
theorem dksX6_holdsInRow_1 : cX6_holdsInRow.data.toList.drop 23 = dktX6_holdsInRow_1 := dk_seg dksX6_holdsInRow_0 23 rfl rfl
theorem dksX6_holdsInRow_2 : cX6_holdsInRow.data.toList.drop 47 = dktX6_holdsInRow_2 := dk_seg dksX6_holdsInRow_1 24 rfl rfl
theorem dksX6_holdsInRow_3 : cX6_holdsInRow.data.toList.drop 58 = dktX6_holdsInRow_3 := dk_seg dksX6_holdsInRow_2 11 rfl rfl
theorem dksX6_holdsInRow_4 : cX6_holdsInRow.data.toList.drop 92 = dktX6_holdsInRow_4 := dk_seg dksX6_holdsInRow_3 34 rfl rfl
theorem dksX6_holdsInRow_5 : cX6_holdsInRow.data.toList.drop 116 = dktX6_holdsInRow_5 := dk_seg dksX6_holdsInRow_4 24 rfl rfl
theorem dksX6_holdsInRow_6 : cX6_holdsInRow.data.toList.drop 138 = dktX6_holdsInRow_6 := dk_seg dksX6_holdsInRow_5 22 rfl rfl
theorem dX6_holdsInRow_0 : decode cX6_holdsInRow 0 = .ok (.aload_n 0, 1) := dk_42 (dk_at dksX6_holdsInRow_0 0 rfl rfl)
theorem dX6_holdsInRow_1 : decode cX6_holdsInRow 1 = .ok (.getfield 86, 3) := dk_180 0 86 (dk_at dksX6_holdsInRow_0 1 rfl rfl)
theorem dX6_holdsInRow_4 : decode cX6_holdsInRow 4 = .ok (.aload_n 0, 1) := dk_42 (dk_at dksX6_holdsInRow_0 4 rfl rfl)
theorem dX6_holdsInRow_5 : decode cX6_holdsInRow 5 = .ok (.getfield 62, 3) := dk_180 0 62 (dk_at dksX6_holdsInRow_0 5 rfl rfl)
theorem dX6_holdsInRow_8 : decode cX6_holdsInRow 8 = .ok (.iload_n 1, 1) := dk_27 (dk_at dksX6_holdsInRow_0 8 rfl rfl)
theorem dX6_holdsInRow_9 : decode cX6_holdsInRow 9 = .ok (.iaload, 1) := dk_46 (dk_at dksX6_holdsInRow_0 9 rfl rfl)
theorem dX6_holdsInRow_10 : decode cX6_holdsInRow 10 = .ok (.iaload, 1) := dk_46 (dk_at dksX6_holdsInRow_0 10 rfl rfl)
theorem dX6_holdsInRow_11 : decode cX6_holdsInRow 11 = .ok (.istore_n 3, 1) := dk_62 (dk_at dksX6_holdsInRow_0 11 rfl rfl)
theorem dX6_holdsInRow_12 : decode cX6_holdsInRow 12 = .ok (.aload_n 0, 1) := dk_42 (dk_at dksX6_holdsInRow_0 12 rfl rfl)
theorem dX6_holdsInRow_13 : decode cX6_holdsInRow 13 = .ok (.getfield 68, 3) := dk_180 0 68 (dk_at dksX6_holdsInRow_0 13 rfl rfl)
theorem dX6_holdsInRow_16 : decode cX6_holdsInRow 16 = .ok (.iload_n 1, 1) := dk_27 (dk_at dksX6_holdsInRow_0 16 rfl rfl)
theorem dX6_holdsInRow_17 : decode cX6_holdsInRow 17 = .ok (.iaload, 1) := dk_46 (dk_at dksX6_holdsInRow_0 17 rfl rfl)
theorem dX6_holdsInRow_18 : decode cX6_holdsInRow 18 = .ok (.iconst (-1), 1) := dk_2 (dk_at dksX6_holdsInRow_0 18 rfl rfl)
theorem dX6_holdsInRow_19 : decode cX6_holdsInRow 19 = .ok (.if_icmp .ne 7, 3) := dk_160 0 7 (dk_at dksX6_holdsInRow_0 19 rfl rfl)
theorem dX6_holdsInRow_22 : decode cX6_holdsInRow 22 = .ok (.iconst 0, 1) := dk_3 (dk_at dksX6_holdsInRow_0 22 rfl rfl)
theorem dX6_holdsInRow_23 : decode cX6_holdsInRow 23 = .ok (.goto 14, 3) := dk_167 0 14 (dk_at dksX6_holdsInRow_1 0 rfl rfl)
theorem dX6_holdsInRow_26 : decode cX6_holdsInRow 26 = .ok (.aload_n 0, 1) := dk_42 (dk_at dksX6_holdsInRow_1 3 rfl rfl)
theorem dX6_holdsInRow_27 : decode cX6_holdsInRow 27 = .ok (.getfield 86, 3) := dk_180 0 86 (dk_at dksX6_holdsInRow_1 4 rfl rfl)
theorem dX6_holdsInRow_30 : decode cX6_holdsInRow 30 = .ok (.aload_n 0, 1) := dk_42 (dk_at dksX6_holdsInRow_1 7 rfl rfl)
theorem dX6_holdsInRow_31 : decode cX6_holdsInRow 31 = .ok (.getfield 68, 3) := dk_180 0 68 (dk_at dksX6_holdsInRow_1 8 rfl rfl)
theorem dX6_holdsInRow_34 : decode cX6_holdsInRow 34 = .ok (.iload_n 1, 1) := dk_27 (dk_at dksX6_holdsInRow_1 11 rfl rfl)
theorem dX6_holdsInRow_35 : decode cX6_holdsInRow 35 = .ok (.iaload, 1) := dk_46 (dk_at dksX6_holdsInRow_1 12 rfl rfl)
theorem dX6_holdsInRow_36 : decode cX6_holdsInRow 36 = .ok (.iaload, 1) := dk_46 (dk_at dksX6_holdsInRow_1 13 rfl rfl)
theorem dX6_holdsInRow_37 : decode cX6_holdsInRow 37 = .ok (.istore 4, 2) := dk_54 4 (dk_at dksX6_holdsInRow_1 14 rfl rfl)
theorem dX6_holdsInRow_39 : decode cX6_holdsInRow 39 = .ok (.iload_n 3, 1) := dk_29 (dk_at dksX6_holdsInRow_1 16 rfl rfl)
theorem dX6_holdsInRow_40 : decode cX6_holdsInRow 40 = .ok (.iconst (-1), 1) := dk_2 (dk_at dksX6_holdsInRow_1 17 rfl rfl)
theorem dX6_holdsInRow_41 : decode cX6_holdsInRow 41 = .ok (.if_icmp .eq 9, 3) := dk_159 0 9 (dk_at dksX6_holdsInRow_1 18 rfl rfl)
theorem dX6_holdsInRow_44 : decode cX6_holdsInRow 44 = .ok (.iload 4, 2) := dk_21 4 (dk_at dksX6_holdsInRow_1 21 rfl rfl)
theorem dX6_holdsInRow_46 : decode cX6_holdsInRow 46 = .ok (.iconst (-1), 1) := dk_2 (dk_at dksX6_holdsInRow_1 23 rfl rfl)
theorem dX6_holdsInRow_47 : decode cX6_holdsInRow 47 = .ok (.if_icmp .ne 5, 3) := dk_160 0 5 (dk_at dksX6_holdsInRow_2 0 rfl rfl)
theorem dX6_holdsInRow_50 : decode cX6_holdsInRow 50 = .ok (.iconst 1, 1) := dk_4 (dk_at dksX6_holdsInRow_2 3 rfl rfl)
theorem dX6_holdsInRow_51 : decode cX6_holdsInRow 51 = .ok (.ireturn, 1) := dk_172 (dk_at dksX6_holdsInRow_2 4 rfl rfl)
theorem dX6_holdsInRow_52 : decode cX6_holdsInRow 52 = .ok (.aload_n 0, 1) := dk_42 (dk_at dksX6_holdsInRow_2 5 rfl rfl)
theorem dX6_holdsInRow_53 : decode cX6_holdsInRow 53 = .ok (.getfield 65, 3) := dk_180 0 65 (dk_at dksX6_holdsInRow_2 6 rfl rfl)
theorem dX6_holdsInRow_56 : decode cX6_holdsInRow 56 = .ok (.iload_n 1, 1) := dk_27 (dk_at dksX6_holdsInRow_2 9 rfl rfl)
theorem dX6_holdsInRow_57 : decode cX6_holdsInRow 57 = .ok (.iaload, 1) := dk_46 (dk_at dksX6_holdsInRow_2 10 rfl rfl)
theorem dX6_holdsInRow_58 : decode cX6_holdsInRow 58 = .ok (.lookupswitch 85 #[(35, 68), (43, 34), (45, 51)], 34) := by decide +kernel
theorem dX6_holdsInRow_92 : decode cX6_holdsInRow 92 = .ok (.iload_n 3, 1) := dk_29 (dk_at dksX6_holdsInRow_4 0 rfl rfl)
theorem dX6_holdsInRow_93 : decode cX6_holdsInRow 93 = .ok (.iload 4, 2) := dk_21 4 (dk_at dksX6_holdsInRow_4 1 rfl rfl)
theorem dX6_holdsInRow_95 : decode cX6_holdsInRow 95 = .ok (.isub, 1) := dk_100 (dk_at dksX6_holdsInRow_4 3 rfl rfl)
theorem dX6_holdsInRow_96 : decode cX6_holdsInRow 96 = .ok (.invokestatic 115, 3) := dk_184 0 115 (dk_at dksX6_holdsInRow_4 4 rfl rfl)
theorem dX6_holdsInRow_99 : decode cX6_holdsInRow 99 = .ok (.iconst 1, 1) := dk_4 (dk_at dksX6_holdsInRow_4 7 rfl rfl)
theorem dX6_holdsInRow_100 : decode cX6_holdsInRow 100 = .ok (.if_icmp .ne 7, 3) := dk_160 0 7 (dk_at dksX6_holdsInRow_4 8 rfl rfl)
theorem dX6_holdsInRow_103 : decode cX6_holdsInRow 103 = .ok (.iconst 1, 1) := dk_4 (dk_at dksX6_holdsInRow_4 11 rfl rfl)
theorem dX6_holdsInRow_104 : decode cX6_holdsInRow 104 = .ok (.goto 4, 3) := dk_167 0 4 (dk_at dksX6_holdsInRow_4 12 rfl rfl)
theorem dX6_holdsInRow_107 : decode cX6_holdsInRow 107 = .ok (.iconst 0, 1) := dk_3 (dk_at dksX6_holdsInRow_4 15 rfl rfl)
theorem dX6_holdsInRow_108 : decode cX6_holdsInRow 108 = .ok (.ireturn, 1) := dk_172 (dk_at dksX6_holdsInRow_4 16 rfl rfl)
theorem dX6_holdsInRow_109 : decode cX6_holdsInRow 109 = .ok (.iload_n 3, 1) := dk_29 (dk_at dksX6_holdsInRow_4 17 rfl rfl)
theorem dX6_holdsInRow_110 : decode cX6_holdsInRow 110 = .ok (.iload 4, 2) := dk_21 4 (dk_at dksX6_holdsInRow_4 18 rfl rfl)
theorem dX6_holdsInRow_112 : decode cX6_holdsInRow 112 = .ok (.isub, 1) := dk_100 (dk_at dksX6_holdsInRow_4 20 rfl rfl)
theorem dX6_holdsInRow_113 : decode cX6_holdsInRow 113 = .ok (.invokestatic 115, 3) := dk_184 0 115 (dk_at dksX6_holdsInRow_4 21 rfl rfl)
theorem dX6_holdsInRow_116 : decode cX6_holdsInRow 116 = .ok (.iconst 1, 1) := dk_4 (dk_at dksX6_holdsInRow_5 0 rfl rfl)
theorem dX6_holdsInRow_117 : decode cX6_holdsInRow 117 = .ok (.if_icmp .eq 7, 3) := dk_159 0 7 (dk_at dksX6_holdsInRow_5 1 rfl rfl)
theorem dX6_holdsInRow_120 : decode cX6_holdsInRow 120 = .ok (.iconst 1, 1) := dk_4 (dk_at dksX6_holdsInRow_5 4 rfl rfl)
theorem dX6_holdsInRow_121 : decode cX6_holdsInRow 121 = .ok (.goto 4, 3) := dk_167 0 4 (dk_at dksX6_holdsInRow_5 5 rfl rfl)
theorem dX6_holdsInRow_124 : decode cX6_holdsInRow 124 = .ok (.iconst 0, 1) := dk_3 (dk_at dksX6_holdsInRow_5 8 rfl rfl)
theorem dX6_holdsInRow_125 : decode cX6_holdsInRow 125 = .ok (.ireturn, 1) := dk_172 (dk_at dksX6_holdsInRow_5 9 rfl rfl)
theorem dX6_holdsInRow_126 : decode cX6_holdsInRow 126 = .ok (.iload_n 3, 1) := dk_29 (dk_at dksX6_holdsInRow_5 10 rfl rfl)
theorem dX6_holdsInRow_127 : decode cX6_holdsInRow 127 = .ok (.ifCond .eq 10, 3) := dk_153 0 10 (dk_at dksX6_holdsInRow_5 11 rfl rfl)
theorem dX6_holdsInRow_130 : decode cX6_holdsInRow 130 = .ok (.iload_n 3, 1) := dk_29 (dk_at dksX6_holdsInRow_5 14 rfl rfl)
theorem dX6_holdsInRow_131 : decode cX6_holdsInRow 131 = .ok (.iload_n 2, 1) := dk_28 (dk_at dksX6_holdsInRow_5 15 rfl rfl)
theorem dX6_holdsInRow_132 : decode cX6_holdsInRow 132 = .ok (.iconst 1, 1) := dk_4 (dk_at dksX6_holdsInRow_5 16 rfl rfl)
theorem dX6_holdsInRow_133 : decode cX6_holdsInRow 133 = .ok (.isub, 1) := dk_100 (dk_at dksX6_holdsInRow_5 17 rfl rfl)
theorem dX6_holdsInRow_134 : decode cX6_holdsInRow 134 = .ok (.if_icmp .ne 7, 3) := dk_160 0 7 (dk_at dksX6_holdsInRow_5 18 rfl rfl)
theorem dX6_holdsInRow_137 : decode cX6_holdsInRow 137 = .ok (.iconst 1, 1) := dk_4 (dk_at dksX6_holdsInRow_5 21 rfl rfl)
theorem dX6_holdsInRow_138 : decode cX6_holdsInRow 138 = .ok (.goto 4, 3) := dk_167 0 4 (dk_at dksX6_holdsInRow_6 0 rfl rfl)
theorem dX6_holdsInRow_141 : decode cX6_holdsInRow 141 = .ok (.iconst 0, 1) := dk_3 (dk_at dksX6_holdsInRow_6 3 rfl rfl)
theorem dX6_holdsInRow_142 : decode cX6_holdsInRow 142 = .ok (.ireturn, 1) := dk_172 (dk_at dksX6_holdsInRow_6 4 rfl rfl)
theorem dX6_holdsInRow_143 : decode cX6_holdsInRow 143 = .ok (.iconst 0, 1) := dk_3 (dk_at dksX6_holdsInRow_6 5 rfl rfl)
theorem dX6_holdsInRow_144 : decode cX6_holdsInRow 144 = .ok (.ireturn, 1) := dk_172 (dk_at dksX6_holdsInRow_6 6 rfl rfl)
abbrev cX6_nextOrder : ByteArray := prog_20_method_78_code
def yX6_nextOrder : MethodName := ⟨RX6, "nextOrder", "(I)Z"⟩
def dkwX6_nextOrder_4 : List UInt8 := [182, 1, 87, 132, 4, 1, 132, 5, 255, 167, 255, 235, 4, 172]
abbrev dktX6_nextOrder_4 : List UInt8 := dkwX6_nextOrder_4 ++ []
def dkwX6_nextOrder_3 : List UInt8 := [28, 4, 96, 54, 4, 27, 4, 100, 54, 5, 21, 4, 21, 5, 162, 0, 20, 42, 21, 4, 21, 5]
abbrev dktX6_nextOrder_3 : List UInt8 := dkwX6_nextOrder_3 ++ dktX6_nextOrder_4
def dkwX6_nextOrder_2 : List UInt8 := [29, 46, 42, 180, 0, 80, 28, 46, 162, 0, 10, 29, 4, 100, 62, 167, 255, 237, 42, 28, 29, 182, 1, 87]
abbrev dktX6_nextOrder_2 : List UInt8 := dkwX6_nextOrder_2 ++ dktX6_nextOrder_3
def dkwX6_nextOrder_1 : List UInt8 := [164, 0, 10, 28, 4, 100, 61, 167, 255, 231, 28, 156, 0, 5, 3, 172, 27, 4, 100, 62, 42, 180, 0, 80]
abbrev dktX6_nextOrder_1 : List UInt8 := dkwX6_nextOrder_1 ++ dktX6_nextOrder_2
def dkwX6_nextOrder_0 : List UInt8 := [27, 5, 100, 61, 28, 155, 0, 27, 42, 180, 0, 80, 28, 46, 42, 180, 0, 80, 28, 4, 96, 46]
abbrev dktX6_nextOrder_0 : List UInt8 := dkwX6_nextOrder_0 ++ dktX6_nextOrder_1
theorem dksX6_nextOrder_0 : cX6_nextOrder.data.toList.drop 0 = dktX6_nextOrder_0 := by decide +kernel
theorem dksX6_nextOrder_1 : cX6_nextOrder.data.toList.drop 22 = dktX6_nextOrder_1 := dk_seg dksX6_nextOrder_0 22 rfl rfl
theorem dksX6_nextOrder_2 : cX6_nextOrder.data.toList.drop 46 = dktX6_nextOrder_2 := dk_seg dksX6_nextOrder_1 24 rfl rfl
theorem dksX6_nextOrder_3 : cX6_nextOrder.data.toList.drop 70 = dktX6_nextOrder_3 := dk_seg dksX6_nextOrder_2 24 rfl rfl
theorem dksX6_nextOrder_4 : cX6_nextOrder.data.toList.drop 92 = dktX6_nextOrder_4 := dk_seg dksX6_nextOrder_3 22 rfl rfl
theorem dX6_nextOrder_0 : decode cX6_nextOrder 0 = .ok (.iload_n 1, 1) := dk_27 (dk_at dksX6_nextOrder_0 0 rfl rfl)
theorem dX6_nextOrder_1 : decode cX6_nextOrder 1 = .ok (.iconst 2, 1) := dk_5 (dk_at dksX6_nextOrder_0 1 rfl rfl)
theorem dX6_nextOrder_2 : decode cX6_nextOrder 2 = .ok (.isub, 1) := dk_100 (dk_at dksX6_nextOrder_0 2 rfl rfl)
theorem dX6_nextOrder_3 : decode cX6_nextOrder 3 = .ok (.istore_n 2, 1) := dk_61 (dk_at dksX6_nextOrder_0 3 rfl rfl)
theorem dX6_nextOrder_4 : decode cX6_nextOrder 4 = .ok (.iload_n 2, 1) := dk_28 (dk_at dksX6_nextOrder_0 4 rfl rfl)
theorem dX6_nextOrder_5 : decode cX6_nextOrder 5 = .ok (.ifCond .lt 27, 3) := dk_155 0 27 (dk_at dksX6_nextOrder_0 5 rfl rfl)
theorem dX6_nextOrder_8 : decode cX6_nextOrder 8 = .ok (.aload_n 0, 1) := dk_42 (dk_at dksX6_nextOrder_0 8 rfl rfl)
theorem dX6_nextOrder_9 : decode cX6_nextOrder 9 = .ok (.getfield 80, 3) := dk_180 0 80 (dk_at dksX6_nextOrder_0 9 rfl rfl)
theorem dX6_nextOrder_12 : decode cX6_nextOrder 12 = .ok (.iload_n 2, 1) := dk_28 (dk_at dksX6_nextOrder_0 12 rfl rfl)
theorem dX6_nextOrder_13 : decode cX6_nextOrder 13 = .ok (.iaload, 1) := dk_46 (dk_at dksX6_nextOrder_0 13 rfl rfl)
theorem dX6_nextOrder_14 : decode cX6_nextOrder 14 = .ok (.aload_n 0, 1) := dk_42 (dk_at dksX6_nextOrder_0 14 rfl rfl)
theorem dX6_nextOrder_15 : decode cX6_nextOrder 15 = .ok (.getfield 80, 3) := dk_180 0 80 (dk_at dksX6_nextOrder_0 15 rfl rfl)
theorem dX6_nextOrder_18 : decode cX6_nextOrder 18 = .ok (.iload_n 2, 1) := dk_28 (dk_at dksX6_nextOrder_0 18 rfl rfl)
theorem dX6_nextOrder_19 : decode cX6_nextOrder 19 = .ok (.iconst 1, 1) := dk_4 (dk_at dksX6_nextOrder_0 19 rfl rfl)
theorem dX6_nextOrder_20 : decode cX6_nextOrder 20 = .ok (.iadd, 1) := dk_96 (dk_at dksX6_nextOrder_0 20 rfl rfl)
theorem dX6_nextOrder_21 : decode cX6_nextOrder 21 = .ok (.iaload, 1) := dk_46 (dk_at dksX6_nextOrder_0 21 rfl rfl)
theorem dX6_nextOrder_22 : decode cX6_nextOrder 22 = .ok (.if_icmp .le 10, 3) := dk_164 0 10 (dk_at dksX6_nextOrder_1 0 rfl rfl)
theorem dX6_nextOrder_25 : decode cX6_nextOrder 25 = .ok (.iload_n 2, 1) := dk_28 (dk_at dksX6_nextOrder_1 3 rfl rfl)
theorem dX6_nextOrder_26 : decode cX6_nextOrder 26 = .ok (.iconst 1, 1) := dk_4 (dk_at dksX6_nextOrder_1 4 rfl rfl)
theorem dX6_nextOrder_27 : decode cX6_nextOrder 27 = .ok (.isub, 1) := dk_100 (dk_at dksX6_nextOrder_1 5 rfl rfl)
theorem dX6_nextOrder_28 : decode cX6_nextOrder 28 = .ok (.istore_n 2, 1) := dk_61 (dk_at dksX6_nextOrder_1 6 rfl rfl)
theorem dX6_nextOrder_29 : decode cX6_nextOrder 29 = .ok (.goto (-25), 3) := dk_167 255 231 (dk_at dksX6_nextOrder_1 7 rfl rfl)
theorem dX6_nextOrder_32 : decode cX6_nextOrder 32 = .ok (.iload_n 2, 1) := dk_28 (dk_at dksX6_nextOrder_1 10 rfl rfl)
theorem dX6_nextOrder_33 : decode cX6_nextOrder 33 = .ok (.ifCond .ge 5, 3) := dk_156 0 5 (dk_at dksX6_nextOrder_1 11 rfl rfl)
theorem dX6_nextOrder_36 : decode cX6_nextOrder 36 = .ok (.iconst 0, 1) := dk_3 (dk_at dksX6_nextOrder_1 14 rfl rfl)
theorem dX6_nextOrder_37 : decode cX6_nextOrder 37 = .ok (.ireturn, 1) := dk_172 (dk_at dksX6_nextOrder_1 15 rfl rfl)
theorem dX6_nextOrder_38 : decode cX6_nextOrder 38 = .ok (.iload_n 1, 1) := dk_27 (dk_at dksX6_nextOrder_1 16 rfl rfl)
theorem dX6_nextOrder_39 : decode cX6_nextOrder 39 = .ok (.iconst 1, 1) := dk_4 (dk_at dksX6_nextOrder_1 17 rfl rfl)
theorem dX6_nextOrder_40 : decode cX6_nextOrder 40 = .ok (.isub, 1) := dk_100 (dk_at dksX6_nextOrder_1 18 rfl rfl)
theorem dX6_nextOrder_41 : decode cX6_nextOrder 41 = .ok (.istore_n 3, 1) := dk_62 (dk_at dksX6_nextOrder_1 19 rfl rfl)
theorem dX6_nextOrder_42 : decode cX6_nextOrder 42 = .ok (.aload_n 0, 1) := dk_42 (dk_at dksX6_nextOrder_1 20 rfl rfl)
theorem dX6_nextOrder_43 : decode cX6_nextOrder 43 = .ok (.getfield 80, 3) := dk_180 0 80 (dk_at dksX6_nextOrder_1 21 rfl rfl)
theorem dX6_nextOrder_46 : decode cX6_nextOrder 46 = .ok (.iload_n 3, 1) := dk_29 (dk_at dksX6_nextOrder_2 0 rfl rfl)
theorem dX6_nextOrder_47 : decode cX6_nextOrder 47 = .ok (.iaload, 1) := dk_46 (dk_at dksX6_nextOrder_2 1 rfl rfl)
theorem dX6_nextOrder_48 : decode cX6_nextOrder 48 = .ok (.aload_n 0, 1) := dk_42 (dk_at dksX6_nextOrder_2 2 rfl rfl)
theorem dX6_nextOrder_49 : decode cX6_nextOrder 49 = .ok (.getfield 80, 3) := dk_180 0 80 (dk_at dksX6_nextOrder_2 3 rfl rfl)
theorem dX6_nextOrder_52 : decode cX6_nextOrder 52 = .ok (.iload_n 2, 1) := dk_28 (dk_at dksX6_nextOrder_2 6 rfl rfl)
theorem dX6_nextOrder_53 : decode cX6_nextOrder 53 = .ok (.iaload, 1) := dk_46 (dk_at dksX6_nextOrder_2 7 rfl rfl)
theorem dX6_nextOrder_54 : decode cX6_nextOrder 54 = .ok (.if_icmp .ge 10, 3) := dk_162 0 10 (dk_at dksX6_nextOrder_2 8 rfl rfl)
theorem dX6_nextOrder_57 : decode cX6_nextOrder 57 = .ok (.iload_n 3, 1) := dk_29 (dk_at dksX6_nextOrder_2 11 rfl rfl)
theorem dX6_nextOrder_58 : decode cX6_nextOrder 58 = .ok (.iconst 1, 1) := dk_4 (dk_at dksX6_nextOrder_2 12 rfl rfl)
theorem dX6_nextOrder_59 : decode cX6_nextOrder 59 = .ok (.isub, 1) := dk_100 (dk_at dksX6_nextOrder_2 13 rfl rfl)
theorem dX6_nextOrder_60 : decode cX6_nextOrder 60 = .ok (.istore_n 3, 1) := dk_62 (dk_at dksX6_nextOrder_2 14 rfl rfl)
theorem dX6_nextOrder_61 : decode cX6_nextOrder 61 = .ok (.goto (-19), 3) := dk_167 255 237 (dk_at dksX6_nextOrder_2 15 rfl rfl)
theorem dX6_nextOrder_64 : decode cX6_nextOrder 64 = .ok (.aload_n 0, 1) := dk_42 (dk_at dksX6_nextOrder_2 18 rfl rfl)
theorem dX6_nextOrder_65 : decode cX6_nextOrder 65 = .ok (.iload_n 2, 1) := dk_28 (dk_at dksX6_nextOrder_2 19 rfl rfl)
theorem dX6_nextOrder_66 : decode cX6_nextOrder 66 = .ok (.iload_n 3, 1) := dk_29 (dk_at dksX6_nextOrder_2 20 rfl rfl)
theorem dX6_nextOrder_67 : decode cX6_nextOrder 67 = .ok (.invokevirtual 343, 3) := dk_182 1 87 (dk_at dksX6_nextOrder_2 21 rfl rfl)
theorem dX6_nextOrder_70 : decode cX6_nextOrder 70 = .ok (.iload_n 2, 1) := dk_28 (dk_at dksX6_nextOrder_3 0 rfl rfl)
theorem dX6_nextOrder_71 : decode cX6_nextOrder 71 = .ok (.iconst 1, 1) := dk_4 (dk_at dksX6_nextOrder_3 1 rfl rfl)
theorem dX6_nextOrder_72 : decode cX6_nextOrder 72 = .ok (.iadd, 1) := dk_96 (dk_at dksX6_nextOrder_3 2 rfl rfl)
theorem dX6_nextOrder_73 : decode cX6_nextOrder 73 = .ok (.istore 4, 2) := dk_54 4 (dk_at dksX6_nextOrder_3 3 rfl rfl)
theorem dX6_nextOrder_75 : decode cX6_nextOrder 75 = .ok (.iload_n 1, 1) := dk_27 (dk_at dksX6_nextOrder_3 5 rfl rfl)
theorem dX6_nextOrder_76 : decode cX6_nextOrder 76 = .ok (.iconst 1, 1) := dk_4 (dk_at dksX6_nextOrder_3 6 rfl rfl)
theorem dX6_nextOrder_77 : decode cX6_nextOrder 77 = .ok (.isub, 1) := dk_100 (dk_at dksX6_nextOrder_3 7 rfl rfl)
theorem dX6_nextOrder_78 : decode cX6_nextOrder 78 = .ok (.istore 5, 2) := dk_54 5 (dk_at dksX6_nextOrder_3 8 rfl rfl)
theorem dX6_nextOrder_80 : decode cX6_nextOrder 80 = .ok (.iload 4, 2) := dk_21 4 (dk_at dksX6_nextOrder_3 10 rfl rfl)
theorem dX6_nextOrder_82 : decode cX6_nextOrder 82 = .ok (.iload 5, 2) := dk_21 5 (dk_at dksX6_nextOrder_3 12 rfl rfl)
theorem dX6_nextOrder_84 : decode cX6_nextOrder 84 = .ok (.if_icmp .ge 20, 3) := dk_162 0 20 (dk_at dksX6_nextOrder_3 14 rfl rfl)
theorem dX6_nextOrder_87 : decode cX6_nextOrder 87 = .ok (.aload_n 0, 1) := dk_42 (dk_at dksX6_nextOrder_3 17 rfl rfl)
theorem dX6_nextOrder_88 : decode cX6_nextOrder 88 = .ok (.iload 4, 2) := dk_21 4 (dk_at dksX6_nextOrder_3 18 rfl rfl)
theorem dX6_nextOrder_90 : decode cX6_nextOrder 90 = .ok (.iload 5, 2) := dk_21 5 (dk_at dksX6_nextOrder_3 20 rfl rfl)
theorem dX6_nextOrder_92 : decode cX6_nextOrder 92 = .ok (.invokevirtual 343, 3) := dk_182 1 87 (dk_at dksX6_nextOrder_4 0 rfl rfl)
theorem dX6_nextOrder_95 : decode cX6_nextOrder 95 = .ok (.iinc 4 1, 3) := dk_132 4 1 (dk_at dksX6_nextOrder_4 3 rfl rfl)
theorem dX6_nextOrder_98 : decode cX6_nextOrder 98 = .ok (.iinc 5 (-1), 3) := dk_132 5 255 (dk_at dksX6_nextOrder_4 6 rfl rfl)
theorem dX6_nextOrder_101 : decode cX6_nextOrder 101 = .ok (.goto (-21), 3) := dk_167 255 235 (dk_at dksX6_nextOrder_4 9 rfl rfl)
theorem dX6_nextOrder_104 : decode cX6_nextOrder 104 = .ok (.iconst 1, 1) := dk_4 (dk_at dksX6_nextOrder_4 12 rfl rfl)
theorem dX6_nextOrder_105 : decode cX6_nextOrder 105 = .ok (.ireturn, 1) := dk_172 (dk_at dksX6_nextOrder_4 13 rfl rfl)
abbrev cX6_changesOrder : ByteArray := prog_20_method_77_code
def yX6_changesOrder : MethodName := ⟨RX6, "changesOrder", "(II)V"⟩
def dkwX6_changesOrder_1 : List UInt8 := [29, 79, 177]
abbrev dktX6_changesOrder_1 : List UInt8 := dkwX6_changesOrder_1 ++ []
def dkwX6_changesOrder_0 : List UInt8 := [42, 180, 0, 80, 27, 46, 62, 42, 180, 0, 80, 27, 42, 180, 0, 80, 28, 46, 79, 42, 180, 0, 80, 28]
abbrev dktX6_changesOrder_0 : List UInt8 := dkwX6_changesOrder_0 ++ dktX6_changesOrder_1
theorem dksX6_changesOrder_0 : cX6_changesOrder.data.toList.drop 0 = dktX6_changesOrder_0 := by decide +kernel
theorem dksX6_changesOrder_1 : cX6_changesOrder.data.toList.drop 24 = dktX6_changesOrder_1 := dk_seg dksX6_changesOrder_0 24 rfl rfl
theorem dX6_changesOrder_0 : decode cX6_changesOrder 0 = .ok (.aload_n 0, 1) := dk_42 (dk_at dksX6_changesOrder_0 0 rfl rfl)
theorem dX6_changesOrder_1 : decode cX6_changesOrder 1 = .ok (.getfield 80, 3) := dk_180 0 80 (dk_at dksX6_changesOrder_0 1 rfl rfl)
theorem dX6_changesOrder_4 : decode cX6_changesOrder 4 = .ok (.iload_n 1, 1) := dk_27 (dk_at dksX6_changesOrder_0 4 rfl rfl)
theorem dX6_changesOrder_5 : decode cX6_changesOrder 5 = .ok (.iaload, 1) := dk_46 (dk_at dksX6_changesOrder_0 5 rfl rfl)
theorem dX6_changesOrder_6 : decode cX6_changesOrder 6 = .ok (.istore_n 3, 1) := dk_62 (dk_at dksX6_changesOrder_0 6 rfl rfl)
theorem dX6_changesOrder_7 : decode cX6_changesOrder 7 = .ok (.aload_n 0, 1) := dk_42 (dk_at dksX6_changesOrder_0 7 rfl rfl)
theorem dX6_changesOrder_8 : decode cX6_changesOrder 8 = .ok (.getfield 80, 3) := dk_180 0 80 (dk_at dksX6_changesOrder_0 8 rfl rfl)
theorem dX6_changesOrder_11 : decode cX6_changesOrder 11 = .ok (.iload_n 1, 1) := dk_27 (dk_at dksX6_changesOrder_0 11 rfl rfl)
theorem dX6_changesOrder_12 : decode cX6_changesOrder 12 = .ok (.aload_n 0, 1) := dk_42 (dk_at dksX6_changesOrder_0 12 rfl rfl)
theorem dX6_changesOrder_13 : decode cX6_changesOrder 13 = .ok (.getfield 80, 3) := dk_180 0 80 (dk_at dksX6_changesOrder_0 13 rfl rfl)
theorem dX6_changesOrder_16 : decode cX6_changesOrder 16 = .ok (.iload_n 2, 1) := dk_28 (dk_at dksX6_changesOrder_0 16 rfl rfl)
theorem dX6_changesOrder_17 : decode cX6_changesOrder 17 = .ok (.iaload, 1) := dk_46 (dk_at dksX6_changesOrder_0 17 rfl rfl)
theorem dX6_changesOrder_18 : decode cX6_changesOrder 18 = .ok (.iastore, 1) := dk_79 (dk_at dksX6_changesOrder_0 18 rfl rfl)
theorem dX6_changesOrder_19 : decode cX6_changesOrder 19 = .ok (.aload_n 0, 1) := dk_42 (dk_at dksX6_changesOrder_0 19 rfl rfl)
theorem dX6_changesOrder_20 : decode cX6_changesOrder 20 = .ok (.getfield 80, 3) := dk_180 0 80 (dk_at dksX6_changesOrder_0 20 rfl rfl)
theorem dX6_changesOrder_23 : decode cX6_changesOrder 23 = .ok (.iload_n 2, 1) := dk_28 (dk_at dksX6_changesOrder_0 23 rfl rfl)
theorem dX6_changesOrder_24 : decode cX6_changesOrder 24 = .ok (.iload_n 3, 1) := dk_29 (dk_at dksX6_changesOrder_1 0 rfl rfl)
theorem dX6_changesOrder_25 : decode cX6_changesOrder 25 = .ok (.iastore, 1) := dk_79 (dk_at dksX6_changesOrder_1 1 rfl rfl)
theorem dX6_changesOrder_26 : decode cX6_changesOrder 26 = .ok (.return_, 1) := dk_177 (dk_at dksX6_changesOrder_1 2 rfl rfl)
abbrev cX6_couples : ByteArray := prog_20_method_84_code
def yX6_couples : MethodName := ⟨RX6, "couples", "(II)I"⟩
def dkwX6_couples_6 : List UInt8 := [100, 46, 167, 0, 8, 42, 28, 182, 1, 115, 172]
abbrev dktX6_couples_6 : List UInt8 := dkwX6_couples_6 ++ []
def dkwX6_couples_5 : List UInt8 := [167, 255, 216, 42, 182, 1, 112, 28, 16, 100, 160, 0, 19, 42, 180, 0, 92, 4, 42, 180, 1, 109, 120, 4]
abbrev dktX6_couples_5 : List UInt8 := dkwX6_couples_5 ++ dktX6_couples_6
def dkwX6_couples_4 : List UInt8 := [180, 0, 89, 42, 180, 1, 109, 29, 79, 42, 42, 180, 1, 109, 4, 96, 181, 1, 109, 132, 3, 1]
abbrev dktX6_couples_4 : List UInt8 := dkwX6_couples_4 ++ dktX6_couples_5
def dkwX6_couples_3 : List UInt8 := [3, 181, 1, 109, 3, 62, 29, 16, 16, 162, 0, 40, 27, 29, 184, 1, 32, 154, 0, 6, 167, 0, 23, 42]
abbrev dktX6_couples_3 : List UInt8 := dkwX6_couples_3 ++ dktX6_couples_4
def dkwX6_couples_2 : List UInt8 := [2, 130, 126, 154, 0, 17, 28, 16, 100, 159, 0, 14, 27, 28, 184, 1, 32, 154, 0, 6, 16, 253, 172, 42]
abbrev dktX6_couples_2 : List UInt8 := dkwX6_couples_2 ++ dktX6_couples_3
def dkwX6_couples_1 : List UInt8 := [3, 16, 15, 184, 0, 104, 154, 0, 13, 28, 16, 100, 159, 0, 7, 17, 252, 24, 172, 27, 42, 182, 1, 99]
abbrev dktX6_couples_1 : List UInt8 := dkwX6_couples_1 ++ dktX6_couples_2
def dkwX6_couples_0 : List UInt8 := [27, 3, 18, 133, 184, 0, 104, 153, 0, 32, 27, 184, 0, 126, 5, 16, 10, 184, 0, 104, 153, 0, 19, 28]
abbrev dktX6_couples_0 : List UInt8 := dkwX6_couples_0 ++ dktX6_couples_1
theorem dksX6_couples_0 : cX6_couples.data.toList.drop 0 = dktX6_couples_0 := by decide +kernel
theorem dksX6_couples_1 : cX6_couples.data.toList.drop 24 = dktX6_couples_1 := dk_seg dksX6_couples_0 24 rfl rfl
theorem dksX6_couples_2 : cX6_couples.data.toList.drop 48 = dktX6_couples_2 := dk_seg dksX6_couples_1 24 rfl rfl
theorem dksX6_couples_3 : cX6_couples.data.toList.drop 72 = dktX6_couples_3 := dk_seg dksX6_couples_2 24 rfl rfl
theorem dksX6_couples_4 : cX6_couples.data.toList.drop 96 = dktX6_couples_4 := dk_seg dksX6_couples_3 24 rfl rfl
theorem dksX6_couples_5 : cX6_couples.data.toList.drop 118 = dktX6_couples_5 := dk_seg dksX6_couples_4 22 rfl rfl
theorem dksX6_couples_6 : cX6_couples.data.toList.drop 142 = dktX6_couples_6 := dk_seg dksX6_couples_5 24 rfl rfl
theorem dX6_couples_0 : decode cX6_couples 0 = .ok (.iload_n 1, 1) := dk_27 (dk_at dksX6_couples_0 0 rfl rfl)
theorem dX6_couples_1 : decode cX6_couples 1 = .ok (.iconst 0, 1) := dk_3 (dk_at dksX6_couples_0 1 rfl rfl)
theorem dX6_couples_2 : decode cX6_couples 2 = .ok (.ldc 133, 2) := dk_18 133 (dk_at dksX6_couples_0 2 rfl rfl)
theorem dX6_couples_4 : decode cX6_couples 4 = .ok (.invokestatic 104, 3) := dk_184 0 104 (dk_at dksX6_couples_0 4 rfl rfl)
theorem dX6_couples_7 : decode cX6_couples 7 = .ok (.ifCond .eq 32, 3) := dk_153 0 32 (dk_at dksX6_couples_0 7 rfl rfl)
theorem dX6_couples_10 : decode cX6_couples 10 = .ok (.iload_n 1, 1) := dk_27 (dk_at dksX6_couples_0 10 rfl rfl)
theorem dX6_couples_11 : decode cX6_couples 11 = .ok (.invokestatic 126, 3) := dk_184 0 126 (dk_at dksX6_couples_0 11 rfl rfl)
theorem dX6_couples_14 : decode cX6_couples 14 = .ok (.iconst 2, 1) := dk_5 (dk_at dksX6_couples_0 14 rfl rfl)
theorem dX6_couples_15 : decode cX6_couples 15 = .ok (.bipush 10, 2) := dk_16 10 (dk_at dksX6_couples_0 15 rfl rfl)
theorem dX6_couples_17 : decode cX6_couples 17 = .ok (.invokestatic 104, 3) := dk_184 0 104 (dk_at dksX6_couples_0 17 rfl rfl)
theorem dX6_couples_20 : decode cX6_couples 20 = .ok (.ifCond .eq 19, 3) := dk_153 0 19 (dk_at dksX6_couples_0 20 rfl rfl)
theorem dX6_couples_23 : decode cX6_couples 23 = .ok (.iload_n 2, 1) := dk_28 (dk_at dksX6_couples_0 23 rfl rfl)
theorem dX6_couples_24 : decode cX6_couples 24 = .ok (.iconst 0, 1) := dk_3 (dk_at dksX6_couples_1 0 rfl rfl)
theorem dX6_couples_25 : decode cX6_couples 25 = .ok (.bipush 15, 2) := dk_16 15 (dk_at dksX6_couples_1 1 rfl rfl)
theorem dX6_couples_27 : decode cX6_couples 27 = .ok (.invokestatic 104, 3) := dk_184 0 104 (dk_at dksX6_couples_1 3 rfl rfl)
theorem dX6_couples_30 : decode cX6_couples 30 = .ok (.ifCond .ne 13, 3) := dk_154 0 13 (dk_at dksX6_couples_1 6 rfl rfl)
theorem dX6_couples_33 : decode cX6_couples 33 = .ok (.iload_n 2, 1) := dk_28 (dk_at dksX6_couples_1 9 rfl rfl)
theorem dX6_couples_34 : decode cX6_couples 34 = .ok (.bipush 100, 2) := dk_16 100 (dk_at dksX6_couples_1 10 rfl rfl)
theorem dX6_couples_36 : decode cX6_couples 36 = .ok (.if_icmp .eq 7, 3) := dk_159 0 7 (dk_at dksX6_couples_1 12 rfl rfl)
theorem dX6_couples_39 : decode cX6_couples 39 = .ok (.sipush (-1000), 3) := dk_17 252 24 (dk_at dksX6_couples_1 15 rfl rfl)
theorem dX6_couples_42 : decode cX6_couples 42 = .ok (.ireturn, 1) := dk_172 (dk_at dksX6_couples_1 18 rfl rfl)
theorem dX6_couples_43 : decode cX6_couples 43 = .ok (.iload_n 1, 1) := dk_27 (dk_at dksX6_couples_1 19 rfl rfl)
theorem dX6_couples_44 : decode cX6_couples 44 = .ok (.aload_n 0, 1) := dk_42 (dk_at dksX6_couples_1 20 rfl rfl)
theorem dX6_couples_45 : decode cX6_couples 45 = .ok (.invokevirtual 355, 3) := dk_182 1 99 (dk_at dksX6_couples_1 21 rfl rfl)
theorem dX6_couples_48 : decode cX6_couples 48 = .ok (.iconst (-1), 1) := dk_2 (dk_at dksX6_couples_2 0 rfl rfl)
theorem dX6_couples_49 : decode cX6_couples 49 = .ok (.ixor, 1) := dk_130 (dk_at dksX6_couples_2 1 rfl rfl)
theorem dX6_couples_50 : decode cX6_couples 50 = .ok (.iand, 1) := dk_126 (dk_at dksX6_couples_2 2 rfl rfl)
theorem dX6_couples_51 : decode cX6_couples 51 = .ok (.ifCond .ne 17, 3) := dk_154 0 17 (dk_at dksX6_couples_2 3 rfl rfl)
theorem dX6_couples_54 : decode cX6_couples 54 = .ok (.iload_n 2, 1) := dk_28 (dk_at dksX6_couples_2 6 rfl rfl)
theorem dX6_couples_55 : decode cX6_couples 55 = .ok (.bipush 100, 2) := dk_16 100 (dk_at dksX6_couples_2 7 rfl rfl)
theorem dX6_couples_57 : decode cX6_couples 57 = .ok (.if_icmp .eq 14, 3) := dk_159 0 14 (dk_at dksX6_couples_2 9 rfl rfl)
theorem dX6_couples_60 : decode cX6_couples 60 = .ok (.iload_n 1, 1) := dk_27 (dk_at dksX6_couples_2 12 rfl rfl)
theorem dX6_couples_61 : decode cX6_couples 61 = .ok (.iload_n 2, 1) := dk_28 (dk_at dksX6_couples_2 13 rfl rfl)
theorem dX6_couples_62 : decode cX6_couples 62 = .ok (.invokestatic 288, 3) := dk_184 1 32 (dk_at dksX6_couples_2 14 rfl rfl)
theorem dX6_couples_65 : decode cX6_couples 65 = .ok (.ifCond .ne 6, 3) := dk_154 0 6 (dk_at dksX6_couples_2 17 rfl rfl)
theorem dX6_couples_68 : decode cX6_couples 68 = .ok (.bipush (-3), 2) := dk_16 253 (dk_at dksX6_couples_2 20 rfl rfl)
theorem dX6_couples_70 : decode cX6_couples 70 = .ok (.ireturn, 1) := dk_172 (dk_at dksX6_couples_2 22 rfl rfl)
theorem dX6_couples_71 : decode cX6_couples 71 = .ok (.aload_n 0, 1) := dk_42 (dk_at dksX6_couples_2 23 rfl rfl)
theorem dX6_couples_72 : decode cX6_couples 72 = .ok (.iconst 0, 1) := dk_3 (dk_at dksX6_couples_3 0 rfl rfl)
theorem dX6_couples_73 : decode cX6_couples 73 = .ok (.putfield 365, 3) := dk_181 1 109 (dk_at dksX6_couples_3 1 rfl rfl)
theorem dX6_couples_76 : decode cX6_couples 76 = .ok (.iconst 0, 1) := dk_3 (dk_at dksX6_couples_3 4 rfl rfl)
theorem dX6_couples_77 : decode cX6_couples 77 = .ok (.istore_n 3, 1) := dk_62 (dk_at dksX6_couples_3 5 rfl rfl)
theorem dX6_couples_78 : decode cX6_couples 78 = .ok (.iload_n 3, 1) := dk_29 (dk_at dksX6_couples_3 6 rfl rfl)
theorem dX6_couples_79 : decode cX6_couples 79 = .ok (.bipush 16, 2) := dk_16 16 (dk_at dksX6_couples_3 7 rfl rfl)
theorem dX6_couples_81 : decode cX6_couples 81 = .ok (.if_icmp .ge 40, 3) := dk_162 0 40 (dk_at dksX6_couples_3 9 rfl rfl)
theorem dX6_couples_84 : decode cX6_couples 84 = .ok (.iload_n 1, 1) := dk_27 (dk_at dksX6_couples_3 12 rfl rfl)
theorem dX6_couples_85 : decode cX6_couples 85 = .ok (.iload_n 3, 1) := dk_29 (dk_at dksX6_couples_3 13 rfl rfl)
theorem dX6_couples_86 : decode cX6_couples 86 = .ok (.invokestatic 288, 3) := dk_184 1 32 (dk_at dksX6_couples_3 14 rfl rfl)
theorem dX6_couples_89 : decode cX6_couples 89 = .ok (.ifCond .ne 6, 3) := dk_154 0 6 (dk_at dksX6_couples_3 17 rfl rfl)
theorem dX6_couples_92 : decode cX6_couples 92 = .ok (.goto 23, 3) := dk_167 0 23 (dk_at dksX6_couples_3 20 rfl rfl)
theorem dX6_couples_95 : decode cX6_couples 95 = .ok (.aload_n 0, 1) := dk_42 (dk_at dksX6_couples_3 23 rfl rfl)
theorem dX6_couples_96 : decode cX6_couples 96 = .ok (.getfield 89, 3) := dk_180 0 89 (dk_at dksX6_couples_4 0 rfl rfl)
theorem dX6_couples_99 : decode cX6_couples 99 = .ok (.aload_n 0, 1) := dk_42 (dk_at dksX6_couples_4 3 rfl rfl)
theorem dX6_couples_100 : decode cX6_couples 100 = .ok (.getfield 365, 3) := dk_180 1 109 (dk_at dksX6_couples_4 4 rfl rfl)
theorem dX6_couples_103 : decode cX6_couples 103 = .ok (.iload_n 3, 1) := dk_29 (dk_at dksX6_couples_4 7 rfl rfl)
theorem dX6_couples_104 : decode cX6_couples 104 = .ok (.iastore, 1) := dk_79 (dk_at dksX6_couples_4 8 rfl rfl)
theorem dX6_couples_105 : decode cX6_couples 105 = .ok (.aload_n 0, 1) := dk_42 (dk_at dksX6_couples_4 9 rfl rfl)
theorem dX6_couples_106 : decode cX6_couples 106 = .ok (.aload_n 0, 1) := dk_42 (dk_at dksX6_couples_4 10 rfl rfl)
theorem dX6_couples_107 : decode cX6_couples 107 = .ok (.getfield 365, 3) := dk_180 1 109 (dk_at dksX6_couples_4 11 rfl rfl)
theorem dX6_couples_110 : decode cX6_couples 110 = .ok (.iconst 1, 1) := dk_4 (dk_at dksX6_couples_4 14 rfl rfl)
theorem dX6_couples_111 : decode cX6_couples 111 = .ok (.iadd, 1) := dk_96 (dk_at dksX6_couples_4 15 rfl rfl)
theorem dX6_couples_112 : decode cX6_couples 112 = .ok (.putfield 365, 3) := dk_181 1 109 (dk_at dksX6_couples_4 16 rfl rfl)
theorem dX6_couples_115 : decode cX6_couples 115 = .ok (.iinc 3 1, 3) := dk_132 3 1 (dk_at dksX6_couples_4 19 rfl rfl)
theorem dX6_couples_118 : decode cX6_couples 118 = .ok (.goto (-40), 3) := dk_167 255 216 (dk_at dksX6_couples_5 0 rfl rfl)
theorem dX6_couples_121 : decode cX6_couples 121 = .ok (.aload_n 0, 1) := dk_42 (dk_at dksX6_couples_5 3 rfl rfl)
theorem dX6_couples_122 : decode cX6_couples 122 = .ok (.invokevirtual 368, 3) := dk_182 1 112 (dk_at dksX6_couples_5 4 rfl rfl)
theorem dX6_couples_125 : decode cX6_couples 125 = .ok (.iload_n 2, 1) := dk_28 (dk_at dksX6_couples_5 7 rfl rfl)
theorem dX6_couples_126 : decode cX6_couples 126 = .ok (.bipush 100, 2) := dk_16 100 (dk_at dksX6_couples_5 8 rfl rfl)
theorem dX6_couples_128 : decode cX6_couples 128 = .ok (.if_icmp .ne 19, 3) := dk_160 0 19 (dk_at dksX6_couples_5 10 rfl rfl)
theorem dX6_couples_131 : decode cX6_couples 131 = .ok (.aload_n 0, 1) := dk_42 (dk_at dksX6_couples_5 13 rfl rfl)
theorem dX6_couples_132 : decode cX6_couples 132 = .ok (.getfield 92, 3) := dk_180 0 92 (dk_at dksX6_couples_5 14 rfl rfl)
theorem dX6_couples_135 : decode cX6_couples 135 = .ok (.iconst 1, 1) := dk_4 (dk_at dksX6_couples_5 17 rfl rfl)
theorem dX6_couples_136 : decode cX6_couples 136 = .ok (.aload_n 0, 1) := dk_42 (dk_at dksX6_couples_5 18 rfl rfl)
theorem dX6_couples_137 : decode cX6_couples 137 = .ok (.getfield 365, 3) := dk_180 1 109 (dk_at dksX6_couples_5 19 rfl rfl)
theorem dX6_couples_140 : decode cX6_couples 140 = .ok (.ishl, 1) := dk_120 (dk_at dksX6_couples_5 22 rfl rfl)
theorem dX6_couples_141 : decode cX6_couples 141 = .ok (.iconst 1, 1) := dk_4 (dk_at dksX6_couples_5 23 rfl rfl)
theorem dX6_couples_142 : decode cX6_couples 142 = .ok (.isub, 1) := dk_100 (dk_at dksX6_couples_6 0 rfl rfl)
theorem dX6_couples_143 : decode cX6_couples 143 = .ok (.iaload, 1) := dk_46 (dk_at dksX6_couples_6 1 rfl rfl)
theorem dX6_couples_144 : decode cX6_couples 144 = .ok (.goto 8, 3) := dk_167 0 8 (dk_at dksX6_couples_6 2 rfl rfl)
theorem dX6_couples_147 : decode cX6_couples 147 = .ok (.aload_n 0, 1) := dk_42 (dk_at dksX6_couples_6 5 rfl rfl)
theorem dX6_couples_148 : decode cX6_couples 148 = .ok (.iload_n 2, 1) := dk_28 (dk_at dksX6_couples_6 6 rfl rfl)
theorem dX6_couples_149 : decode cX6_couples 149 = .ok (.invokevirtual 371, 3) := dk_182 1 115 (dk_at dksX6_couples_6 7 rfl rfl)
theorem dX6_couples_152 : decode cX6_couples 152 = .ok (.ireturn, 1) := dk_172 (dk_at dksX6_couples_6 10 rfl rfl)
abbrev cX6_laysCouples : ByteArray := prog_20_method_82_code
def yX6_laysCouples : MethodName := ⟨RX6, "laysCouples", "()V"⟩
def dkwX6_laysCouples_6 : List UInt8 := [167, 255, 119, 177]
abbrev dktX6_laysCouples_6 : List UInt8 := dkwX6_laysCouples_6 ++ []
def dkwX6_laysCouples_5 : List UInt8 := [130, 126, 46, 96, 184, 1, 54, 79, 132, 3, 1, 167, 255, 160, 132, 2, 1, 167, 255, 144, 132, 1, 1]
abbrev dktX6_laysCouples_5 : List UInt8 := dkwX6_laysCouples_5 ++ dktX6_laysCouples_6
def dkwX6_laysCouples_4 : List UInt8 := [42, 180, 0, 89, 29, 46, 182, 1, 69, 42, 180, 0, 92, 27, 4, 28, 120, 2, 130, 126, 4, 29, 120, 2]
abbrev dktX6_laysCouples_4 : List UInt8 := dkwX6_laysCouples_4 ++ dktX6_laysCouples_5
def dkwX6_laysCouples_3 : List UInt8 := [157, 0, 6, 167, 0, 53, 42, 180, 0, 92, 27, 42, 180, 0, 92, 27, 46, 42, 42, 180, 0, 89, 28, 46]
abbrev dktX6_laysCouples_3 : List UInt8 := dkwX6_laysCouples_3 ++ dktX6_laysCouples_4
def dkwX6_laysCouples_2 : List UInt8 := [184, 1, 32, 153, 0, 75, 42, 42, 180, 0, 89, 28, 46, 42, 180, 0, 89, 29, 46, 182, 1, 69]
abbrev dktX6_laysCouples_2 : List UInt8 := dkwX6_laysCouples_2 ++ dktX6_laysCouples_3
def dkwX6_laysCouples_1 : List UInt8 := [180, 1, 109, 162, 0, 110, 3, 62, 29, 28, 162, 0, 97, 27, 28, 184, 1, 32, 153, 0, 83, 27, 29]
abbrev dktX6_laysCouples_1 : List UInt8 := dkwX6_laysCouples_1 ++ dktX6_laysCouples_2
def dkwX6_laysCouples_0 : List UInt8 := [3, 60, 27, 4, 42, 180, 1, 109, 120, 162, 0, 133, 42, 180, 0, 92, 27, 3, 79, 3, 61, 28, 42]
abbrev dktX6_laysCouples_0 : List UInt8 := dkwX6_laysCouples_0 ++ dktX6_laysCouples_1
theorem dksX6_laysCouples_0 : cX6_laysCouples.data.toList.drop 0 = dktX6_laysCouples_0 := by decide +kernel
theorem dksX6_laysCouples_1 : cX6_laysCouples.data.toList.drop 23 = dktX6_laysCouples_1 := dk_seg dksX6_laysCouples_0 23 rfl rfl
theorem dksX6_laysCouples_2 : cX6_laysCouples.data.toList.drop 46 = dktX6_laysCouples_2 := dk_seg dksX6_laysCouples_1 23 rfl rfl
theorem dksX6_laysCouples_3 : cX6_laysCouples.data.toList.drop 68 = dktX6_laysCouples_3 := dk_seg dksX6_laysCouples_2 22 rfl rfl
theorem dksX6_laysCouples_4 : cX6_laysCouples.data.toList.drop 92 = dktX6_laysCouples_4 := dk_seg dksX6_laysCouples_3 24 rfl rfl
theorem dksX6_laysCouples_5 : cX6_laysCouples.data.toList.drop 116 = dktX6_laysCouples_5 := dk_seg dksX6_laysCouples_4 24 rfl rfl
theorem dksX6_laysCouples_6 : cX6_laysCouples.data.toList.drop 139 = dktX6_laysCouples_6 := dk_seg dksX6_laysCouples_5 23 rfl rfl
theorem dX6_laysCouples_0 : decode cX6_laysCouples 0 = .ok (.iconst 0, 1) := dk_3 (dk_at dksX6_laysCouples_0 0 rfl rfl)
theorem dX6_laysCouples_1 : decode cX6_laysCouples 1 = .ok (.istore_n 1, 1) := dk_60 (dk_at dksX6_laysCouples_0 1 rfl rfl)
theorem dX6_laysCouples_2 : decode cX6_laysCouples 2 = .ok (.iload_n 1, 1) := dk_27 (dk_at dksX6_laysCouples_0 2 rfl rfl)
theorem dX6_laysCouples_3 : decode cX6_laysCouples 3 = .ok (.iconst 1, 1) := dk_4 (dk_at dksX6_laysCouples_0 3 rfl rfl)
theorem dX6_laysCouples_4 : decode cX6_laysCouples 4 = .ok (.aload_n 0, 1) := dk_42 (dk_at dksX6_laysCouples_0 4 rfl rfl)
theorem dX6_laysCouples_5 : decode cX6_laysCouples 5 = .ok (.getfield 365, 3) := dk_180 1 109 (dk_at dksX6_laysCouples_0 5 rfl rfl)
theorem dX6_laysCouples_8 : decode cX6_laysCouples 8 = .ok (.ishl, 1) := dk_120 (dk_at dksX6_laysCouples_0 8 rfl rfl)
theorem dX6_laysCouples_9 : decode cX6_laysCouples 9 = .ok (.if_icmp .ge 133, 3) := dk_162 0 133 (dk_at dksX6_laysCouples_0 9 rfl rfl)
theorem dX6_laysCouples_12 : decode cX6_laysCouples 12 = .ok (.aload_n 0, 1) := dk_42 (dk_at dksX6_laysCouples_0 12 rfl rfl)
theorem dX6_laysCouples_13 : decode cX6_laysCouples 13 = .ok (.getfield 92, 3) := dk_180 0 92 (dk_at dksX6_laysCouples_0 13 rfl rfl)
theorem dX6_laysCouples_16 : decode cX6_laysCouples 16 = .ok (.iload_n 1, 1) := dk_27 (dk_at dksX6_laysCouples_0 16 rfl rfl)
theorem dX6_laysCouples_17 : decode cX6_laysCouples 17 = .ok (.iconst 0, 1) := dk_3 (dk_at dksX6_laysCouples_0 17 rfl rfl)
theorem dX6_laysCouples_18 : decode cX6_laysCouples 18 = .ok (.iastore, 1) := dk_79 (dk_at dksX6_laysCouples_0 18 rfl rfl)
theorem dX6_laysCouples_19 : decode cX6_laysCouples 19 = .ok (.iconst 0, 1) := dk_3 (dk_at dksX6_laysCouples_0 19 rfl rfl)
theorem dX6_laysCouples_20 : decode cX6_laysCouples 20 = .ok (.istore_n 2, 1) := dk_61 (dk_at dksX6_laysCouples_0 20 rfl rfl)
theorem dX6_laysCouples_21 : decode cX6_laysCouples 21 = .ok (.iload_n 2, 1) := dk_28 (dk_at dksX6_laysCouples_0 21 rfl rfl)
theorem dX6_laysCouples_22 : decode cX6_laysCouples 22 = .ok (.aload_n 0, 1) := dk_42 (dk_at dksX6_laysCouples_0 22 rfl rfl)
theorem dX6_laysCouples_23 : decode cX6_laysCouples 23 = .ok (.getfield 365, 3) := dk_180 1 109 (dk_at dksX6_laysCouples_1 0 rfl rfl)
theorem dX6_laysCouples_26 : decode cX6_laysCouples 26 = .ok (.if_icmp .ge 110, 3) := dk_162 0 110 (dk_at dksX6_laysCouples_1 3 rfl rfl)
theorem dX6_laysCouples_29 : decode cX6_laysCouples 29 = .ok (.iconst 0, 1) := dk_3 (dk_at dksX6_laysCouples_1 6 rfl rfl)
theorem dX6_laysCouples_30 : decode cX6_laysCouples 30 = .ok (.istore_n 3, 1) := dk_62 (dk_at dksX6_laysCouples_1 7 rfl rfl)
theorem dX6_laysCouples_31 : decode cX6_laysCouples 31 = .ok (.iload_n 3, 1) := dk_29 (dk_at dksX6_laysCouples_1 8 rfl rfl)
theorem dX6_laysCouples_32 : decode cX6_laysCouples 32 = .ok (.iload_n 2, 1) := dk_28 (dk_at dksX6_laysCouples_1 9 rfl rfl)
theorem dX6_laysCouples_33 : decode cX6_laysCouples 33 = .ok (.if_icmp .ge 97, 3) := dk_162 0 97 (dk_at dksX6_laysCouples_1 10 rfl rfl)
theorem dX6_laysCouples_36 : decode cX6_laysCouples 36 = .ok (.iload_n 1, 1) := dk_27 (dk_at dksX6_laysCouples_1 13 rfl rfl)
theorem dX6_laysCouples_37 : decode cX6_laysCouples 37 = .ok (.iload_n 2, 1) := dk_28 (dk_at dksX6_laysCouples_1 14 rfl rfl)
theorem dX6_laysCouples_38 : decode cX6_laysCouples 38 = .ok (.invokestatic 288, 3) := dk_184 1 32 (dk_at dksX6_laysCouples_1 15 rfl rfl)
theorem dX6_laysCouples_41 : decode cX6_laysCouples 41 = .ok (.ifCond .eq 83, 3) := dk_153 0 83 (dk_at dksX6_laysCouples_1 18 rfl rfl)
theorem dX6_laysCouples_44 : decode cX6_laysCouples 44 = .ok (.iload_n 1, 1) := dk_27 (dk_at dksX6_laysCouples_1 21 rfl rfl)
theorem dX6_laysCouples_45 : decode cX6_laysCouples 45 = .ok (.iload_n 3, 1) := dk_29 (dk_at dksX6_laysCouples_1 22 rfl rfl)
theorem dX6_laysCouples_46 : decode cX6_laysCouples 46 = .ok (.invokestatic 288, 3) := dk_184 1 32 (dk_at dksX6_laysCouples_2 0 rfl rfl)
theorem dX6_laysCouples_49 : decode cX6_laysCouples 49 = .ok (.ifCond .eq 75, 3) := dk_153 0 75 (dk_at dksX6_laysCouples_2 3 rfl rfl)
theorem dX6_laysCouples_52 : decode cX6_laysCouples 52 = .ok (.aload_n 0, 1) := dk_42 (dk_at dksX6_laysCouples_2 6 rfl rfl)
theorem dX6_laysCouples_53 : decode cX6_laysCouples 53 = .ok (.aload_n 0, 1) := dk_42 (dk_at dksX6_laysCouples_2 7 rfl rfl)
theorem dX6_laysCouples_54 : decode cX6_laysCouples 54 = .ok (.getfield 89, 3) := dk_180 0 89 (dk_at dksX6_laysCouples_2 8 rfl rfl)
theorem dX6_laysCouples_57 : decode cX6_laysCouples 57 = .ok (.iload_n 2, 1) := dk_28 (dk_at dksX6_laysCouples_2 11 rfl rfl)
theorem dX6_laysCouples_58 : decode cX6_laysCouples 58 = .ok (.iaload, 1) := dk_46 (dk_at dksX6_laysCouples_2 12 rfl rfl)
theorem dX6_laysCouples_59 : decode cX6_laysCouples 59 = .ok (.aload_n 0, 1) := dk_42 (dk_at dksX6_laysCouples_2 13 rfl rfl)
theorem dX6_laysCouples_60 : decode cX6_laysCouples 60 = .ok (.getfield 89, 3) := dk_180 0 89 (dk_at dksX6_laysCouples_2 14 rfl rfl)
theorem dX6_laysCouples_63 : decode cX6_laysCouples 63 = .ok (.iload_n 3, 1) := dk_29 (dk_at dksX6_laysCouples_2 17 rfl rfl)
theorem dX6_laysCouples_64 : decode cX6_laysCouples 64 = .ok (.iaload, 1) := dk_46 (dk_at dksX6_laysCouples_2 18 rfl rfl)
theorem dX6_laysCouples_65 : decode cX6_laysCouples 65 = .ok (.invokevirtual 325, 3) := dk_182 1 69 (dk_at dksX6_laysCouples_2 19 rfl rfl)
theorem dX6_laysCouples_68 : decode cX6_laysCouples 68 = .ok (.ifCond .gt 6, 3) := dk_157 0 6 (dk_at dksX6_laysCouples_3 0 rfl rfl)
theorem dX6_laysCouples_71 : decode cX6_laysCouples 71 = .ok (.goto 53, 3) := dk_167 0 53 (dk_at dksX6_laysCouples_3 3 rfl rfl)
theorem dX6_laysCouples_74 : decode cX6_laysCouples 74 = .ok (.aload_n 0, 1) := dk_42 (dk_at dksX6_laysCouples_3 6 rfl rfl)
theorem dX6_laysCouples_75 : decode cX6_laysCouples 75 = .ok (.getfield 92, 3) := dk_180 0 92 (dk_at dksX6_laysCouples_3 7 rfl rfl)
theorem dX6_laysCouples_78 : decode cX6_laysCouples 78 = .ok (.iload_n 1, 1) := dk_27 (dk_at dksX6_laysCouples_3 10 rfl rfl)
theorem dX6_laysCouples_79 : decode cX6_laysCouples 79 = .ok (.aload_n 0, 1) := dk_42 (dk_at dksX6_laysCouples_3 11 rfl rfl)
theorem dX6_laysCouples_80 : decode cX6_laysCouples 80 = .ok (.getfield 92, 3) := dk_180 0 92 (dk_at dksX6_laysCouples_3 12 rfl rfl)
theorem dX6_laysCouples_83 : decode cX6_laysCouples 83 = .ok (.iload_n 1, 1) := dk_27 (dk_at dksX6_laysCouples_3 15 rfl rfl)
theorem dX6_laysCouples_84 : decode cX6_laysCouples 84 = .ok (.iaload, 1) := dk_46 (dk_at dksX6_laysCouples_3 16 rfl rfl)
theorem dX6_laysCouples_85 : decode cX6_laysCouples 85 = .ok (.aload_n 0, 1) := dk_42 (dk_at dksX6_laysCouples_3 17 rfl rfl)
theorem dX6_laysCouples_86 : decode cX6_laysCouples 86 = .ok (.aload_n 0, 1) := dk_42 (dk_at dksX6_laysCouples_3 18 rfl rfl)
theorem dX6_laysCouples_87 : decode cX6_laysCouples 87 = .ok (.getfield 89, 3) := dk_180 0 89 (dk_at dksX6_laysCouples_3 19 rfl rfl)
theorem dX6_laysCouples_90 : decode cX6_laysCouples 90 = .ok (.iload_n 2, 1) := dk_28 (dk_at dksX6_laysCouples_3 22 rfl rfl)
theorem dX6_laysCouples_91 : decode cX6_laysCouples 91 = .ok (.iaload, 1) := dk_46 (dk_at dksX6_laysCouples_3 23 rfl rfl)
theorem dX6_laysCouples_92 : decode cX6_laysCouples 92 = .ok (.aload_n 0, 1) := dk_42 (dk_at dksX6_laysCouples_4 0 rfl rfl)
theorem dX6_laysCouples_93 : decode cX6_laysCouples 93 = .ok (.getfield 89, 3) := dk_180 0 89 (dk_at dksX6_laysCouples_4 1 rfl rfl)
theorem dX6_laysCouples_96 : decode cX6_laysCouples 96 = .ok (.iload_n 3, 1) := dk_29 (dk_at dksX6_laysCouples_4 4 rfl rfl)
theorem dX6_laysCouples_97 : decode cX6_laysCouples 97 = .ok (.iaload, 1) := dk_46 (dk_at dksX6_laysCouples_4 5 rfl rfl)
theorem dX6_laysCouples_98 : decode cX6_laysCouples 98 = .ok (.invokevirtual 325, 3) := dk_182 1 69 (dk_at dksX6_laysCouples_4 6 rfl rfl)
theorem dX6_laysCouples_101 : decode cX6_laysCouples 101 = .ok (.aload_n 0, 1) := dk_42 (dk_at dksX6_laysCouples_4 9 rfl rfl)
theorem dX6_laysCouples_102 : decode cX6_laysCouples 102 = .ok (.getfield 92, 3) := dk_180 0 92 (dk_at dksX6_laysCouples_4 10 rfl rfl)
theorem dX6_laysCouples_105 : decode cX6_laysCouples 105 = .ok (.iload_n 1, 1) := dk_27 (dk_at dksX6_laysCouples_4 13 rfl rfl)
theorem dX6_laysCouples_106 : decode cX6_laysCouples 106 = .ok (.iconst 1, 1) := dk_4 (dk_at dksX6_laysCouples_4 14 rfl rfl)
theorem dX6_laysCouples_107 : decode cX6_laysCouples 107 = .ok (.iload_n 2, 1) := dk_28 (dk_at dksX6_laysCouples_4 15 rfl rfl)
theorem dX6_laysCouples_108 : decode cX6_laysCouples 108 = .ok (.ishl, 1) := dk_120 (dk_at dksX6_laysCouples_4 16 rfl rfl)
theorem dX6_laysCouples_109 : decode cX6_laysCouples 109 = .ok (.iconst (-1), 1) := dk_2 (dk_at dksX6_laysCouples_4 17 rfl rfl)
theorem dX6_laysCouples_110 : decode cX6_laysCouples 110 = .ok (.ixor, 1) := dk_130 (dk_at dksX6_laysCouples_4 18 rfl rfl)
theorem dX6_laysCouples_111 : decode cX6_laysCouples 111 = .ok (.iand, 1) := dk_126 (dk_at dksX6_laysCouples_4 19 rfl rfl)
theorem dX6_laysCouples_112 : decode cX6_laysCouples 112 = .ok (.iconst 1, 1) := dk_4 (dk_at dksX6_laysCouples_4 20 rfl rfl)
theorem dX6_laysCouples_113 : decode cX6_laysCouples 113 = .ok (.iload_n 3, 1) := dk_29 (dk_at dksX6_laysCouples_4 21 rfl rfl)
theorem dX6_laysCouples_114 : decode cX6_laysCouples 114 = .ok (.ishl, 1) := dk_120 (dk_at dksX6_laysCouples_4 22 rfl rfl)
theorem dX6_laysCouples_115 : decode cX6_laysCouples 115 = .ok (.iconst (-1), 1) := dk_2 (dk_at dksX6_laysCouples_4 23 rfl rfl)
theorem dX6_laysCouples_116 : decode cX6_laysCouples 116 = .ok (.ixor, 1) := dk_130 (dk_at dksX6_laysCouples_5 0 rfl rfl)
theorem dX6_laysCouples_117 : decode cX6_laysCouples 117 = .ok (.iand, 1) := dk_126 (dk_at dksX6_laysCouples_5 1 rfl rfl)
theorem dX6_laysCouples_118 : decode cX6_laysCouples 118 = .ok (.iaload, 1) := dk_46 (dk_at dksX6_laysCouples_5 2 rfl rfl)
theorem dX6_laysCouples_119 : decode cX6_laysCouples 119 = .ok (.iadd, 1) := dk_96 (dk_at dksX6_laysCouples_5 3 rfl rfl)
theorem dX6_laysCouples_120 : decode cX6_laysCouples 120 = .ok (.invokestatic 310, 3) := dk_184 1 54 (dk_at dksX6_laysCouples_5 4 rfl rfl)
theorem dX6_laysCouples_123 : decode cX6_laysCouples 123 = .ok (.iastore, 1) := dk_79 (dk_at dksX6_laysCouples_5 7 rfl rfl)
theorem dX6_laysCouples_124 : decode cX6_laysCouples 124 = .ok (.iinc 3 1, 3) := dk_132 3 1 (dk_at dksX6_laysCouples_5 8 rfl rfl)
theorem dX6_laysCouples_127 : decode cX6_laysCouples 127 = .ok (.goto (-96), 3) := dk_167 255 160 (dk_at dksX6_laysCouples_5 11 rfl rfl)
theorem dX6_laysCouples_130 : decode cX6_laysCouples 130 = .ok (.iinc 2 1, 3) := dk_132 2 1 (dk_at dksX6_laysCouples_5 14 rfl rfl)
theorem dX6_laysCouples_133 : decode cX6_laysCouples 133 = .ok (.goto (-112), 3) := dk_167 255 144 (dk_at dksX6_laysCouples_5 17 rfl rfl)
theorem dX6_laysCouples_136 : decode cX6_laysCouples 136 = .ok (.iinc 1 1, 3) := dk_132 1 1 (dk_at dksX6_laysCouples_5 20 rfl rfl)
theorem dX6_laysCouples_139 : decode cX6_laysCouples 139 = .ok (.goto (-137), 3) := dk_167 255 119 (dk_at dksX6_laysCouples_6 0 rfl rfl)
theorem dX6_laysCouples_142 : decode cX6_laysCouples 142 = .ok (.return_, 1) := dk_177 (dk_at dksX6_laysCouples_6 3 rfl rfl)
abbrev cX6_isWith : ByteArray := prog_20_method_83_code
def yX6_isWith : MethodName := ⟨RX6, "isWith", "(I)I"⟩
def dkwX6_isWith_9 : List UInt8 := [167, 255, 55, 16, 254, 172]
abbrev dktX6_isWith_9 : List UInt8 := dkwX6_isWith_9 ++ []
def dkwX6_isWith_8 : List UInt8 := [159, 0, 21, 42, 180, 0, 89, 21, 4, 46, 27, 160, 0, 10, 42, 180, 0, 89, 29, 46, 172, 132, 3, 1]
abbrev dktX6_isWith_8 : List UInt8 := dkwX6_isWith_8 ++ dktX6_isWith_9
def dkwX6_isWith_7 : List UInt8 := [21, 4, 2, 160, 0, 8, 16, 254, 167, 0, 10, 42, 180, 0, 89, 21, 4, 46, 172, 21, 4, 2]
abbrev dktX6_isWith_7 : List UInt8 := dkwX6_isWith_7 ++ dktX6_isWith_8
def dkwX6_isWith_6 : List UInt8 := [2, 159, 0, 12, 28, 4, 21, 4, 120, 2, 130, 126, 61, 42, 180, 0, 89, 29, 46, 27, 160, 0, 22]
abbrev dktX6_isWith_6 : List UInt8 := dkwX6_isWith_6 ++ dktX6_isWith_7
def dkwX6_isWith_5 : List UInt8 := [180, 0, 92, 28, 4, 29, 120, 128, 46, 160, 0, 7, 21, 5, 54, 4, 132, 5, 255, 167, 255, 167, 21, 4]
abbrev dktX6_isWith_5 : List UInt8 := dkwX6_isWith_5 ++ dktX6_isWith_6
def dkwX6_isWith_4 : List UInt8 := [180, 0, 89, 21, 5, 46, 182, 1, 69, 42, 180, 0, 92, 28, 4, 21, 5, 120, 2, 130, 126, 46, 96, 42]
abbrev dktX6_isWith_4 : List UInt8 := dkwX6_isWith_4 ++ dktX6_isWith_5
def dkwX6_isWith_3 : List UInt8 := [42, 180, 0, 89, 21, 5, 46, 182, 1, 69, 157, 0, 6, 167, 0, 51, 42, 42, 180, 0, 89, 29, 46, 42]
abbrev dktX6_isWith_3 : List UInt8 := dkwX6_isWith_3 ++ dktX6_isWith_4
def dkwX6_isWith_2 : List UInt8 := [54, 5, 21, 5, 29, 164, 0, 89, 28, 21, 5, 184, 1, 32, 153, 0, 74, 42, 42, 180, 0, 89, 29, 46]
abbrev dktX6_isWith_2 : List UInt8 := dkwX6_isWith_2 ++ dktX6_isWith_3
def dkwX6_isWith_1 : List UInt8 := [154, 0, 6, 167, 0, 182, 28, 4, 29, 120, 2, 130, 126, 61, 2, 54, 4, 42, 180, 1, 109, 4, 100]
abbrev dktX6_isWith_1 : List UInt8 := dkwX6_isWith_1 ++ dktX6_isWith_2
def dkwX6_isWith_0 : List UInt8 := [4, 42, 180, 1, 109, 120, 4, 100, 61, 3, 62, 29, 42, 180, 1, 109, 162, 0, 199, 28, 29, 184, 1, 32]
abbrev dktX6_isWith_0 : List UInt8 := dkwX6_isWith_0 ++ dktX6_isWith_1
theorem dksX6_isWith_0 : cX6_isWith.data.toList.drop 0 = dktX6_isWith_0 := by decide +kernel
theorem dksX6_isWith_1 : cX6_isWith.data.toList.drop 24 = dktX6_isWith_1 := dk_seg dksX6_isWith_0 24 rfl rfl
theorem dksX6_isWith_2 : cX6_isWith.data.toList.drop 47 = dktX6_isWith_2 := dk_seg dksX6_isWith_1 23 rfl rfl
theorem dksX6_isWith_3 : cX6_isWith.data.toList.drop 71 = dktX6_isWith_3 := dk_seg dksX6_isWith_2 24 rfl rfl
theorem dksX6_isWith_4 : cX6_isWith.data.toList.drop 95 = dktX6_isWith_4 := dk_seg dksX6_isWith_3 24 rfl rfl
theorem dksX6_isWith_5 : cX6_isWith.data.toList.drop 119 = dktX6_isWith_5 := dk_seg dksX6_isWith_4 24 rfl rfl
theorem dksX6_isWith_6 : cX6_isWith.data.toList.drop 143 = dktX6_isWith_6 := dk_seg dksX6_isWith_5 24 rfl rfl
theorem dksX6_isWith_7 : cX6_isWith.data.toList.drop 166 = dktX6_isWith_7 := dk_seg dksX6_isWith_6 23 rfl rfl
theorem dksX6_isWith_8 : cX6_isWith.data.toList.drop 188 = dktX6_isWith_8 := dk_seg dksX6_isWith_7 22 rfl rfl
theorem dksX6_isWith_9 : cX6_isWith.data.toList.drop 212 = dktX6_isWith_9 := dk_seg dksX6_isWith_8 24 rfl rfl
theorem dX6_isWith_0 : decode cX6_isWith 0 = .ok (.iconst 1, 1) := dk_4 (dk_at dksX6_isWith_0 0 rfl rfl)
theorem dX6_isWith_1 : decode cX6_isWith 1 = .ok (.aload_n 0, 1) := dk_42 (dk_at dksX6_isWith_0 1 rfl rfl)
theorem dX6_isWith_2 : decode cX6_isWith 2 = .ok (.getfield 365, 3) := dk_180 1 109 (dk_at dksX6_isWith_0 2 rfl rfl)
theorem dX6_isWith_5 : decode cX6_isWith 5 = .ok (.ishl, 1) := dk_120 (dk_at dksX6_isWith_0 5 rfl rfl)
theorem dX6_isWith_6 : decode cX6_isWith 6 = .ok (.iconst 1, 1) := dk_4 (dk_at dksX6_isWith_0 6 rfl rfl)
theorem dX6_isWith_7 : decode cX6_isWith 7 = .ok (.isub, 1) := dk_100 (dk_at dksX6_isWith_0 7 rfl rfl)
theorem dX6_isWith_8 : decode cX6_isWith 8 = .ok (.istore_n 2, 1) := dk_61 (dk_at dksX6_isWith_0 8 rfl rfl)
theorem dX6_isWith_9 : decode cX6_isWith 9 = .ok (.iconst 0, 1) := dk_3 (dk_at dksX6_isWith_0 9 rfl rfl)
theorem dX6_isWith_10 : decode cX6_isWith 10 = .ok (.istore_n 3, 1) := dk_62 (dk_at dksX6_isWith_0 10 rfl rfl)
theorem dX6_isWith_11 : decode cX6_isWith 11 = .ok (.iload_n 3, 1) := dk_29 (dk_at dksX6_isWith_0 11 rfl rfl)
theorem dX6_isWith_12 : decode cX6_isWith 12 = .ok (.aload_n 0, 1) := dk_42 (dk_at dksX6_isWith_0 12 rfl rfl)
theorem dX6_isWith_13 : decode cX6_isWith 13 = .ok (.getfield 365, 3) := dk_180 1 109 (dk_at dksX6_isWith_0 13 rfl rfl)
theorem dX6_isWith_16 : decode cX6_isWith 16 = .ok (.if_icmp .ge 199, 3) := dk_162 0 199 (dk_at dksX6_isWith_0 16 rfl rfl)
theorem dX6_isWith_19 : decode cX6_isWith 19 = .ok (.iload_n 2, 1) := dk_28 (dk_at dksX6_isWith_0 19 rfl rfl)
theorem dX6_isWith_20 : decode cX6_isWith 20 = .ok (.iload_n 3, 1) := dk_29 (dk_at dksX6_isWith_0 20 rfl rfl)
theorem dX6_isWith_21 : decode cX6_isWith 21 = .ok (.invokestatic 288, 3) := dk_184 1 32 (dk_at dksX6_isWith_0 21 rfl rfl)
theorem dX6_isWith_24 : decode cX6_isWith 24 = .ok (.ifCond .ne 6, 3) := dk_154 0 6 (dk_at dksX6_isWith_1 0 rfl rfl)
theorem dX6_isWith_27 : decode cX6_isWith 27 = .ok (.goto 182, 3) := dk_167 0 182 (dk_at dksX6_isWith_1 3 rfl rfl)
theorem dX6_isWith_30 : decode cX6_isWith 30 = .ok (.iload_n 2, 1) := dk_28 (dk_at dksX6_isWith_1 6 rfl rfl)
theorem dX6_isWith_31 : decode cX6_isWith 31 = .ok (.iconst 1, 1) := dk_4 (dk_at dksX6_isWith_1 7 rfl rfl)
theorem dX6_isWith_32 : decode cX6_isWith 32 = .ok (.iload_n 3, 1) := dk_29 (dk_at dksX6_isWith_1 8 rfl rfl)
theorem dX6_isWith_33 : decode cX6_isWith 33 = .ok (.ishl, 1) := dk_120 (dk_at dksX6_isWith_1 9 rfl rfl)
theorem dX6_isWith_34 : decode cX6_isWith 34 = .ok (.iconst (-1), 1) := dk_2 (dk_at dksX6_isWith_1 10 rfl rfl)
theorem dX6_isWith_35 : decode cX6_isWith 35 = .ok (.ixor, 1) := dk_130 (dk_at dksX6_isWith_1 11 rfl rfl)
theorem dX6_isWith_36 : decode cX6_isWith 36 = .ok (.iand, 1) := dk_126 (dk_at dksX6_isWith_1 12 rfl rfl)
theorem dX6_isWith_37 : decode cX6_isWith 37 = .ok (.istore_n 2, 1) := dk_61 (dk_at dksX6_isWith_1 13 rfl rfl)
theorem dX6_isWith_38 : decode cX6_isWith 38 = .ok (.iconst (-1), 1) := dk_2 (dk_at dksX6_isWith_1 14 rfl rfl)
theorem dX6_isWith_39 : decode cX6_isWith 39 = .ok (.istore 4, 2) := dk_54 4 (dk_at dksX6_isWith_1 15 rfl rfl)
theorem dX6_isWith_41 : decode cX6_isWith 41 = .ok (.aload_n 0, 1) := dk_42 (dk_at dksX6_isWith_1 17 rfl rfl)
theorem dX6_isWith_42 : decode cX6_isWith 42 = .ok (.getfield 365, 3) := dk_180 1 109 (dk_at dksX6_isWith_1 18 rfl rfl)
theorem dX6_isWith_45 : decode cX6_isWith 45 = .ok (.iconst 1, 1) := dk_4 (dk_at dksX6_isWith_1 21 rfl rfl)
theorem dX6_isWith_46 : decode cX6_isWith 46 = .ok (.isub, 1) := dk_100 (dk_at dksX6_isWith_1 22 rfl rfl)
theorem dX6_isWith_47 : decode cX6_isWith 47 = .ok (.istore 5, 2) := dk_54 5 (dk_at dksX6_isWith_2 0 rfl rfl)
theorem dX6_isWith_49 : decode cX6_isWith 49 = .ok (.iload 5, 2) := dk_21 5 (dk_at dksX6_isWith_2 2 rfl rfl)
theorem dX6_isWith_51 : decode cX6_isWith 51 = .ok (.iload_n 3, 1) := dk_29 (dk_at dksX6_isWith_2 4 rfl rfl)
theorem dX6_isWith_52 : decode cX6_isWith 52 = .ok (.if_icmp .le 89, 3) := dk_164 0 89 (dk_at dksX6_isWith_2 5 rfl rfl)
theorem dX6_isWith_55 : decode cX6_isWith 55 = .ok (.iload_n 2, 1) := dk_28 (dk_at dksX6_isWith_2 8 rfl rfl)
theorem dX6_isWith_56 : decode cX6_isWith 56 = .ok (.iload 5, 2) := dk_21 5 (dk_at dksX6_isWith_2 9 rfl rfl)
theorem dX6_isWith_58 : decode cX6_isWith 58 = .ok (.invokestatic 288, 3) := dk_184 1 32 (dk_at dksX6_isWith_2 11 rfl rfl)
theorem dX6_isWith_61 : decode cX6_isWith 61 = .ok (.ifCond .eq 74, 3) := dk_153 0 74 (dk_at dksX6_isWith_2 14 rfl rfl)
theorem dX6_isWith_64 : decode cX6_isWith 64 = .ok (.aload_n 0, 1) := dk_42 (dk_at dksX6_isWith_2 17 rfl rfl)
theorem dX6_isWith_65 : decode cX6_isWith 65 = .ok (.aload_n 0, 1) := dk_42 (dk_at dksX6_isWith_2 18 rfl rfl)
theorem dX6_isWith_66 : decode cX6_isWith 66 = .ok (.getfield 89, 3) := dk_180 0 89 (dk_at dksX6_isWith_2 19 rfl rfl)
theorem dX6_isWith_69 : decode cX6_isWith 69 = .ok (.iload_n 3, 1) := dk_29 (dk_at dksX6_isWith_2 22 rfl rfl)
theorem dX6_isWith_70 : decode cX6_isWith 70 = .ok (.iaload, 1) := dk_46 (dk_at dksX6_isWith_2 23 rfl rfl)
theorem dX6_isWith_71 : decode cX6_isWith 71 = .ok (.aload_n 0, 1) := dk_42 (dk_at dksX6_isWith_3 0 rfl rfl)
theorem dX6_isWith_72 : decode cX6_isWith 72 = .ok (.getfield 89, 3) := dk_180 0 89 (dk_at dksX6_isWith_3 1 rfl rfl)
theorem dX6_isWith_75 : decode cX6_isWith 75 = .ok (.iload 5, 2) := dk_21 5 (dk_at dksX6_isWith_3 4 rfl rfl)
theorem dX6_isWith_77 : decode cX6_isWith 77 = .ok (.iaload, 1) := dk_46 (dk_at dksX6_isWith_3 6 rfl rfl)
theorem dX6_isWith_78 : decode cX6_isWith 78 = .ok (.invokevirtual 325, 3) := dk_182 1 69 (dk_at dksX6_isWith_3 7 rfl rfl)
theorem dX6_isWith_81 : decode cX6_isWith 81 = .ok (.ifCond .gt 6, 3) := dk_157 0 6 (dk_at dksX6_isWith_3 10 rfl rfl)
theorem dX6_isWith_84 : decode cX6_isWith 84 = .ok (.goto 51, 3) := dk_167 0 51 (dk_at dksX6_isWith_3 13 rfl rfl)
theorem dX6_isWith_87 : decode cX6_isWith 87 = .ok (.aload_n 0, 1) := dk_42 (dk_at dksX6_isWith_3 16 rfl rfl)
theorem dX6_isWith_88 : decode cX6_isWith 88 = .ok (.aload_n 0, 1) := dk_42 (dk_at dksX6_isWith_3 17 rfl rfl)
theorem dX6_isWith_89 : decode cX6_isWith 89 = .ok (.getfield 89, 3) := dk_180 0 89 (dk_at dksX6_isWith_3 18 rfl rfl)
theorem dX6_isWith_92 : decode cX6_isWith 92 = .ok (.iload_n 3, 1) := dk_29 (dk_at dksX6_isWith_3 21 rfl rfl)
theorem dX6_isWith_93 : decode cX6_isWith 93 = .ok (.iaload, 1) := dk_46 (dk_at dksX6_isWith_3 22 rfl rfl)
theorem dX6_isWith_94 : decode cX6_isWith 94 = .ok (.aload_n 0, 1) := dk_42 (dk_at dksX6_isWith_3 23 rfl rfl)
theorem dX6_isWith_95 : decode cX6_isWith 95 = .ok (.getfield 89, 3) := dk_180 0 89 (dk_at dksX6_isWith_4 0 rfl rfl)
theorem dX6_isWith_98 : decode cX6_isWith 98 = .ok (.iload 5, 2) := dk_21 5 (dk_at dksX6_isWith_4 3 rfl rfl)
theorem dX6_isWith_100 : decode cX6_isWith 100 = .ok (.iaload, 1) := dk_46 (dk_at dksX6_isWith_4 5 rfl rfl)
theorem dX6_isWith_101 : decode cX6_isWith 101 = .ok (.invokevirtual 325, 3) := dk_182 1 69 (dk_at dksX6_isWith_4 6 rfl rfl)
theorem dX6_isWith_104 : decode cX6_isWith 104 = .ok (.aload_n 0, 1) := dk_42 (dk_at dksX6_isWith_4 9 rfl rfl)
theorem dX6_isWith_105 : decode cX6_isWith 105 = .ok (.getfield 92, 3) := dk_180 0 92 (dk_at dksX6_isWith_4 10 rfl rfl)
theorem dX6_isWith_108 : decode cX6_isWith 108 = .ok (.iload_n 2, 1) := dk_28 (dk_at dksX6_isWith_4 13 rfl rfl)
theorem dX6_isWith_109 : decode cX6_isWith 109 = .ok (.iconst 1, 1) := dk_4 (dk_at dksX6_isWith_4 14 rfl rfl)
theorem dX6_isWith_110 : decode cX6_isWith 110 = .ok (.iload 5, 2) := dk_21 5 (dk_at dksX6_isWith_4 15 rfl rfl)
theorem dX6_isWith_112 : decode cX6_isWith 112 = .ok (.ishl, 1) := dk_120 (dk_at dksX6_isWith_4 17 rfl rfl)
theorem dX6_isWith_113 : decode cX6_isWith 113 = .ok (.iconst (-1), 1) := dk_2 (dk_at dksX6_isWith_4 18 rfl rfl)
theorem dX6_isWith_114 : decode cX6_isWith 114 = .ok (.ixor, 1) := dk_130 (dk_at dksX6_isWith_4 19 rfl rfl)
theorem dX6_isWith_115 : decode cX6_isWith 115 = .ok (.iand, 1) := dk_126 (dk_at dksX6_isWith_4 20 rfl rfl)
theorem dX6_isWith_116 : decode cX6_isWith 116 = .ok (.iaload, 1) := dk_46 (dk_at dksX6_isWith_4 21 rfl rfl)
theorem dX6_isWith_117 : decode cX6_isWith 117 = .ok (.iadd, 1) := dk_96 (dk_at dksX6_isWith_4 22 rfl rfl)
theorem dX6_isWith_118 : decode cX6_isWith 118 = .ok (.aload_n 0, 1) := dk_42 (dk_at dksX6_isWith_4 23 rfl rfl)
theorem dX6_isWith_119 : decode cX6_isWith 119 = .ok (.getfield 92, 3) := dk_180 0 92 (dk_at dksX6_isWith_5 0 rfl rfl)
theorem dX6_isWith_122 : decode cX6_isWith 122 = .ok (.iload_n 2, 1) := dk_28 (dk_at dksX6_isWith_5 3 rfl rfl)
theorem dX6_isWith_123 : decode cX6_isWith 123 = .ok (.iconst 1, 1) := dk_4 (dk_at dksX6_isWith_5 4 rfl rfl)
theorem dX6_isWith_124 : decode cX6_isWith 124 = .ok (.iload_n 3, 1) := dk_29 (dk_at dksX6_isWith_5 5 rfl rfl)
theorem dX6_isWith_125 : decode cX6_isWith 125 = .ok (.ishl, 1) := dk_120 (dk_at dksX6_isWith_5 6 rfl rfl)
theorem dX6_isWith_126 : decode cX6_isWith 126 = .ok (.ior, 1) := dk_128 (dk_at dksX6_isWith_5 7 rfl rfl)
theorem dX6_isWith_127 : decode cX6_isWith 127 = .ok (.iaload, 1) := dk_46 (dk_at dksX6_isWith_5 8 rfl rfl)
theorem dX6_isWith_128 : decode cX6_isWith 128 = .ok (.if_icmp .ne 7, 3) := dk_160 0 7 (dk_at dksX6_isWith_5 9 rfl rfl)
theorem dX6_isWith_131 : decode cX6_isWith 131 = .ok (.iload 5, 2) := dk_21 5 (dk_at dksX6_isWith_5 12 rfl rfl)
theorem dX6_isWith_133 : decode cX6_isWith 133 = .ok (.istore 4, 2) := dk_54 4 (dk_at dksX6_isWith_5 14 rfl rfl)
theorem dX6_isWith_135 : decode cX6_isWith 135 = .ok (.iinc 5 (-1), 3) := dk_132 5 255 (dk_at dksX6_isWith_5 16 rfl rfl)
theorem dX6_isWith_138 : decode cX6_isWith 138 = .ok (.goto (-89), 3) := dk_167 255 167 (dk_at dksX6_isWith_5 19 rfl rfl)
theorem dX6_isWith_141 : decode cX6_isWith 141 = .ok (.iload 4, 2) := dk_21 4 (dk_at dksX6_isWith_5 22 rfl rfl)
theorem dX6_isWith_143 : decode cX6_isWith 143 = .ok (.iconst (-1), 1) := dk_2 (dk_at dksX6_isWith_6 0 rfl rfl)
theorem dX6_isWith_144 : decode cX6_isWith 144 = .ok (.if_icmp .eq 12, 3) := dk_159 0 12 (dk_at dksX6_isWith_6 1 rfl rfl)
theorem dX6_isWith_147 : decode cX6_isWith 147 = .ok (.iload_n 2, 1) := dk_28 (dk_at dksX6_isWith_6 4 rfl rfl)
theorem dX6_isWith_148 : decode cX6_isWith 148 = .ok (.iconst 1, 1) := dk_4 (dk_at dksX6_isWith_6 5 rfl rfl)
theorem dX6_isWith_149 : decode cX6_isWith 149 = .ok (.iload 4, 2) := dk_21 4 (dk_at dksX6_isWith_6 6 rfl rfl)
theorem dX6_isWith_151 : decode cX6_isWith 151 = .ok (.ishl, 1) := dk_120 (dk_at dksX6_isWith_6 8 rfl rfl)
theorem dX6_isWith_152 : decode cX6_isWith 152 = .ok (.iconst (-1), 1) := dk_2 (dk_at dksX6_isWith_6 9 rfl rfl)
theorem dX6_isWith_153 : decode cX6_isWith 153 = .ok (.ixor, 1) := dk_130 (dk_at dksX6_isWith_6 10 rfl rfl)
theorem dX6_isWith_154 : decode cX6_isWith 154 = .ok (.iand, 1) := dk_126 (dk_at dksX6_isWith_6 11 rfl rfl)
theorem dX6_isWith_155 : decode cX6_isWith 155 = .ok (.istore_n 2, 1) := dk_61 (dk_at dksX6_isWith_6 12 rfl rfl)
theorem dX6_isWith_156 : decode cX6_isWith 156 = .ok (.aload_n 0, 1) := dk_42 (dk_at dksX6_isWith_6 13 rfl rfl)
theorem dX6_isWith_157 : decode cX6_isWith 157 = .ok (.getfield 89, 3) := dk_180 0 89 (dk_at dksX6_isWith_6 14 rfl rfl)
theorem dX6_isWith_160 : decode cX6_isWith 160 = .ok (.iload_n 3, 1) := dk_29 (dk_at dksX6_isWith_6 17 rfl rfl)
theorem dX6_isWith_161 : decode cX6_isWith 161 = .ok (.iaload, 1) := dk_46 (dk_at dksX6_isWith_6 18 rfl rfl)
theorem dX6_isWith_162 : decode cX6_isWith 162 = .ok (.iload_n 1, 1) := dk_27 (dk_at dksX6_isWith_6 19 rfl rfl)
theorem dX6_isWith_163 : decode cX6_isWith 163 = .ok (.if_icmp .ne 22, 3) := dk_160 0 22 (dk_at dksX6_isWith_6 20 rfl rfl)
theorem dX6_isWith_166 : decode cX6_isWith 166 = .ok (.iload 4, 2) := dk_21 4 (dk_at dksX6_isWith_7 0 rfl rfl)
theorem dX6_isWith_168 : decode cX6_isWith 168 = .ok (.iconst (-1), 1) := dk_2 (dk_at dksX6_isWith_7 2 rfl rfl)
theorem dX6_isWith_169 : decode cX6_isWith 169 = .ok (.if_icmp .ne 8, 3) := dk_160 0 8 (dk_at dksX6_isWith_7 3 rfl rfl)
theorem dX6_isWith_172 : decode cX6_isWith 172 = .ok (.bipush (-2), 2) := dk_16 254 (dk_at dksX6_isWith_7 6 rfl rfl)
theorem dX6_isWith_174 : decode cX6_isWith 174 = .ok (.goto 10, 3) := dk_167 0 10 (dk_at dksX6_isWith_7 8 rfl rfl)
theorem dX6_isWith_177 : decode cX6_isWith 177 = .ok (.aload_n 0, 1) := dk_42 (dk_at dksX6_isWith_7 11 rfl rfl)
theorem dX6_isWith_178 : decode cX6_isWith 178 = .ok (.getfield 89, 3) := dk_180 0 89 (dk_at dksX6_isWith_7 12 rfl rfl)
theorem dX6_isWith_181 : decode cX6_isWith 181 = .ok (.iload 4, 2) := dk_21 4 (dk_at dksX6_isWith_7 15 rfl rfl)
theorem dX6_isWith_183 : decode cX6_isWith 183 = .ok (.iaload, 1) := dk_46 (dk_at dksX6_isWith_7 17 rfl rfl)
theorem dX6_isWith_184 : decode cX6_isWith 184 = .ok (.ireturn, 1) := dk_172 (dk_at dksX6_isWith_7 18 rfl rfl)
theorem dX6_isWith_185 : decode cX6_isWith 185 = .ok (.iload 4, 2) := dk_21 4 (dk_at dksX6_isWith_7 19 rfl rfl)
theorem dX6_isWith_187 : decode cX6_isWith 187 = .ok (.iconst (-1), 1) := dk_2 (dk_at dksX6_isWith_7 21 rfl rfl)
theorem dX6_isWith_188 : decode cX6_isWith 188 = .ok (.if_icmp .eq 21, 3) := dk_159 0 21 (dk_at dksX6_isWith_8 0 rfl rfl)
theorem dX6_isWith_191 : decode cX6_isWith 191 = .ok (.aload_n 0, 1) := dk_42 (dk_at dksX6_isWith_8 3 rfl rfl)
theorem dX6_isWith_192 : decode cX6_isWith 192 = .ok (.getfield 89, 3) := dk_180 0 89 (dk_at dksX6_isWith_8 4 rfl rfl)
theorem dX6_isWith_195 : decode cX6_isWith 195 = .ok (.iload 4, 2) := dk_21 4 (dk_at dksX6_isWith_8 7 rfl rfl)
theorem dX6_isWith_197 : decode cX6_isWith 197 = .ok (.iaload, 1) := dk_46 (dk_at dksX6_isWith_8 9 rfl rfl)
theorem dX6_isWith_198 : decode cX6_isWith 198 = .ok (.iload_n 1, 1) := dk_27 (dk_at dksX6_isWith_8 10 rfl rfl)
theorem dX6_isWith_199 : decode cX6_isWith 199 = .ok (.if_icmp .ne 10, 3) := dk_160 0 10 (dk_at dksX6_isWith_8 11 rfl rfl)
theorem dX6_isWith_202 : decode cX6_isWith 202 = .ok (.aload_n 0, 1) := dk_42 (dk_at dksX6_isWith_8 14 rfl rfl)
theorem dX6_isWith_203 : decode cX6_isWith 203 = .ok (.getfield 89, 3) := dk_180 0 89 (dk_at dksX6_isWith_8 15 rfl rfl)
theorem dX6_isWith_206 : decode cX6_isWith 206 = .ok (.iload_n 3, 1) := dk_29 (dk_at dksX6_isWith_8 18 rfl rfl)
theorem dX6_isWith_207 : decode cX6_isWith 207 = .ok (.iaload, 1) := dk_46 (dk_at dksX6_isWith_8 19 rfl rfl)
theorem dX6_isWith_208 : decode cX6_isWith 208 = .ok (.ireturn, 1) := dk_172 (dk_at dksX6_isWith_8 20 rfl rfl)
theorem dX6_isWith_209 : decode cX6_isWith 209 = .ok (.iinc 3 1, 3) := dk_132 3 1 (dk_at dksX6_isWith_8 21 rfl rfl)
theorem dX6_isWith_212 : decode cX6_isWith 212 = .ok (.goto (-201), 3) := dk_167 255 55 (dk_at dksX6_isWith_9 0 rfl rfl)
theorem dX6_isWith_215 : decode cX6_isWith 215 = .ok (.bipush (-2), 2) := dk_16 254 (dk_at dksX6_isWith_9 3 rfl rfl)
theorem dX6_isWith_217 : decode cX6_isWith 217 = .ok (.ireturn, 1) := dk_172 (dk_at dksX6_isWith_9 5 rfl rfl)
abbrev cX6_heard : ByteArray := prog_20_method_86_code
def yX6_heard : MethodName := ⟨RX6, "heard", "(II)I"⟩
def dkwX6_heard_4 : List UInt8 := [167, 255, 235, 28, 154, 0, 8, 21, 4, 167, 0, 4, 29, 172]
abbrev dktX6_heard_4 : List UInt8 := dkwX6_heard_4 ++ []
def dkwX6_heard_3 : List UInt8 := [3, 54, 4, 42, 29, 182, 1, 118, 29, 159, 0, 18, 42, 29, 182, 1, 118, 62, 21, 4, 4, 96, 54, 4]
abbrev dktX6_heard_3 : List UInt8 := dkwX6_heard_3 ++ dktX6_heard_4
def dkwX6_heard_2 : List UInt8 := [21, 4, 96, 46, 27, 184, 1, 32, 153, 0, 10, 29, 4, 21, 4, 120, 128, 62, 132, 4, 1, 167, 255, 213]
abbrev dktX6_heard_2 : List UInt8 := dkwX6_heard_2 ++ dktX6_heard_3
def dkwX6_heard_1 : List UInt8 := [54, 4, 21, 4, 16, 16, 162, 0, 42, 42, 21, 4, 182, 0, 108, 153, 0, 27, 42, 180, 0, 7, 16, 16]
abbrev dktX6_heard_1 : List UInt8 := dkwX6_heard_1 ++ dktX6_heard_2
def dkwX6_heard_0 : List UInt8 := [27, 3, 16, 15, 184, 0, 104, 153, 0, 12, 28, 3, 4, 184, 0, 104, 154, 0, 5, 2, 172, 3, 62, 3]
abbrev dktX6_heard_0 : List UInt8 := dkwX6_heard_0 ++ dktX6_heard_1
theorem dksX6_heard_0 : cX6_heard.data.toList.drop 0 = dktX6_heard_0 := by decide +kernel
theorem dksX6_heard_1 : cX6_heard.data.toList.drop 24 = dktX6_heard_1 := dk_seg dksX6_heard_0 24 rfl rfl
theorem dksX6_heard_2 : cX6_heard.data.toList.drop 48 = dktX6_heard_2 := dk_seg dksX6_heard_1 24 rfl rfl
theorem dksX6_heard_3 : cX6_heard.data.toList.drop 72 = dktX6_heard_3 := dk_seg dksX6_heard_2 24 rfl rfl
theorem dksX6_heard_4 : cX6_heard.data.toList.drop 96 = dktX6_heard_4 := dk_seg dksX6_heard_3 24 rfl rfl
theorem dX6_heard_0 : decode cX6_heard 0 = .ok (.iload_n 1, 1) := dk_27 (dk_at dksX6_heard_0 0 rfl rfl)
theorem dX6_heard_1 : decode cX6_heard 1 = .ok (.iconst 0, 1) := dk_3 (dk_at dksX6_heard_0 1 rfl rfl)
theorem dX6_heard_2 : decode cX6_heard 2 = .ok (.bipush 15, 2) := dk_16 15 (dk_at dksX6_heard_0 2 rfl rfl)
theorem dX6_heard_4 : decode cX6_heard 4 = .ok (.invokestatic 104, 3) := dk_184 0 104 (dk_at dksX6_heard_0 4 rfl rfl)
theorem dX6_heard_7 : decode cX6_heard 7 = .ok (.ifCond .eq 12, 3) := dk_153 0 12 (dk_at dksX6_heard_0 7 rfl rfl)
theorem dX6_heard_10 : decode cX6_heard 10 = .ok (.iload_n 2, 1) := dk_28 (dk_at dksX6_heard_0 10 rfl rfl)
theorem dX6_heard_11 : decode cX6_heard 11 = .ok (.iconst 0, 1) := dk_3 (dk_at dksX6_heard_0 11 rfl rfl)
theorem dX6_heard_12 : decode cX6_heard 12 = .ok (.iconst 1, 1) := dk_4 (dk_at dksX6_heard_0 12 rfl rfl)
theorem dX6_heard_13 : decode cX6_heard 13 = .ok (.invokestatic 104, 3) := dk_184 0 104 (dk_at dksX6_heard_0 13 rfl rfl)
theorem dX6_heard_16 : decode cX6_heard 16 = .ok (.ifCond .ne 5, 3) := dk_154 0 5 (dk_at dksX6_heard_0 16 rfl rfl)
theorem dX6_heard_19 : decode cX6_heard 19 = .ok (.iconst (-1), 1) := dk_2 (dk_at dksX6_heard_0 19 rfl rfl)
theorem dX6_heard_20 : decode cX6_heard 20 = .ok (.ireturn, 1) := dk_172 (dk_at dksX6_heard_0 20 rfl rfl)
theorem dX6_heard_21 : decode cX6_heard 21 = .ok (.iconst 0, 1) := dk_3 (dk_at dksX6_heard_0 21 rfl rfl)
theorem dX6_heard_22 : decode cX6_heard 22 = .ok (.istore_n 3, 1) := dk_62 (dk_at dksX6_heard_0 22 rfl rfl)
theorem dX6_heard_23 : decode cX6_heard 23 = .ok (.iconst 0, 1) := dk_3 (dk_at dksX6_heard_0 23 rfl rfl)
theorem dX6_heard_24 : decode cX6_heard 24 = .ok (.istore 4, 2) := dk_54 4 (dk_at dksX6_heard_1 0 rfl rfl)
theorem dX6_heard_26 : decode cX6_heard 26 = .ok (.iload 4, 2) := dk_21 4 (dk_at dksX6_heard_1 2 rfl rfl)
theorem dX6_heard_28 : decode cX6_heard 28 = .ok (.bipush 16, 2) := dk_16 16 (dk_at dksX6_heard_1 4 rfl rfl)
theorem dX6_heard_30 : decode cX6_heard 30 = .ok (.if_icmp .ge 42, 3) := dk_162 0 42 (dk_at dksX6_heard_1 6 rfl rfl)
theorem dX6_heard_33 : decode cX6_heard 33 = .ok (.aload_n 0, 1) := dk_42 (dk_at dksX6_heard_1 9 rfl rfl)
theorem dX6_heard_34 : decode cX6_heard 34 = .ok (.iload 4, 2) := dk_21 4 (dk_at dksX6_heard_1 10 rfl rfl)
theorem dX6_heard_36 : decode cX6_heard 36 = .ok (.invokevirtual 108, 3) := dk_182 0 108 (dk_at dksX6_heard_1 12 rfl rfl)
theorem dX6_heard_39 : decode cX6_heard 39 = .ok (.ifCond .eq 27, 3) := dk_153 0 27 (dk_at dksX6_heard_1 15 rfl rfl)
theorem dX6_heard_42 : decode cX6_heard 42 = .ok (.aload_n 0, 1) := dk_42 (dk_at dksX6_heard_1 18 rfl rfl)
theorem dX6_heard_43 : decode cX6_heard 43 = .ok (.getfield 7, 3) := dk_180 0 7 (dk_at dksX6_heard_1 19 rfl rfl)
theorem dX6_heard_46 : decode cX6_heard 46 = .ok (.bipush 16, 2) := dk_16 16 (dk_at dksX6_heard_1 22 rfl rfl)
theorem dX6_heard_48 : decode cX6_heard 48 = .ok (.iload 4, 2) := dk_21 4 (dk_at dksX6_heard_2 0 rfl rfl)
theorem dX6_heard_50 : decode cX6_heard 50 = .ok (.iadd, 1) := dk_96 (dk_at dksX6_heard_2 2 rfl rfl)
theorem dX6_heard_51 : decode cX6_heard 51 = .ok (.iaload, 1) := dk_46 (dk_at dksX6_heard_2 3 rfl rfl)
theorem dX6_heard_52 : decode cX6_heard 52 = .ok (.iload_n 1, 1) := dk_27 (dk_at dksX6_heard_2 4 rfl rfl)
theorem dX6_heard_53 : decode cX6_heard 53 = .ok (.invokestatic 288, 3) := dk_184 1 32 (dk_at dksX6_heard_2 5 rfl rfl)
theorem dX6_heard_56 : decode cX6_heard 56 = .ok (.ifCond .eq 10, 3) := dk_153 0 10 (dk_at dksX6_heard_2 8 rfl rfl)
theorem dX6_heard_59 : decode cX6_heard 59 = .ok (.iload_n 3, 1) := dk_29 (dk_at dksX6_heard_2 11 rfl rfl)
theorem dX6_heard_60 : decode cX6_heard 60 = .ok (.iconst 1, 1) := dk_4 (dk_at dksX6_heard_2 12 rfl rfl)
theorem dX6_heard_61 : decode cX6_heard 61 = .ok (.iload 4, 2) := dk_21 4 (dk_at dksX6_heard_2 13 rfl rfl)
theorem dX6_heard_63 : decode cX6_heard 63 = .ok (.ishl, 1) := dk_120 (dk_at dksX6_heard_2 15 rfl rfl)
theorem dX6_heard_64 : decode cX6_heard 64 = .ok (.ior, 1) := dk_128 (dk_at dksX6_heard_2 16 rfl rfl)
theorem dX6_heard_65 : decode cX6_heard 65 = .ok (.istore_n 3, 1) := dk_62 (dk_at dksX6_heard_2 17 rfl rfl)
theorem dX6_heard_66 : decode cX6_heard 66 = .ok (.iinc 4 1, 3) := dk_132 4 1 (dk_at dksX6_heard_2 18 rfl rfl)
theorem dX6_heard_69 : decode cX6_heard 69 = .ok (.goto (-43), 3) := dk_167 255 213 (dk_at dksX6_heard_2 21 rfl rfl)
theorem dX6_heard_72 : decode cX6_heard 72 = .ok (.iconst 0, 1) := dk_3 (dk_at dksX6_heard_3 0 rfl rfl)
theorem dX6_heard_73 : decode cX6_heard 73 = .ok (.istore 4, 2) := dk_54 4 (dk_at dksX6_heard_3 1 rfl rfl)
theorem dX6_heard_75 : decode cX6_heard 75 = .ok (.aload_n 0, 1) := dk_42 (dk_at dksX6_heard_3 3 rfl rfl)
theorem dX6_heard_76 : decode cX6_heard 76 = .ok (.iload_n 3, 1) := dk_29 (dk_at dksX6_heard_3 4 rfl rfl)
theorem dX6_heard_77 : decode cX6_heard 77 = .ok (.invokevirtual 374, 3) := dk_182 1 118 (dk_at dksX6_heard_3 5 rfl rfl)
theorem dX6_heard_80 : decode cX6_heard 80 = .ok (.iload_n 3, 1) := dk_29 (dk_at dksX6_heard_3 8 rfl rfl)
theorem dX6_heard_81 : decode cX6_heard 81 = .ok (.if_icmp .eq 18, 3) := dk_159 0 18 (dk_at dksX6_heard_3 9 rfl rfl)
theorem dX6_heard_84 : decode cX6_heard 84 = .ok (.aload_n 0, 1) := dk_42 (dk_at dksX6_heard_3 12 rfl rfl)
theorem dX6_heard_85 : decode cX6_heard 85 = .ok (.iload_n 3, 1) := dk_29 (dk_at dksX6_heard_3 13 rfl rfl)
theorem dX6_heard_86 : decode cX6_heard 86 = .ok (.invokevirtual 374, 3) := dk_182 1 118 (dk_at dksX6_heard_3 14 rfl rfl)
theorem dX6_heard_89 : decode cX6_heard 89 = .ok (.istore_n 3, 1) := dk_62 (dk_at dksX6_heard_3 17 rfl rfl)
theorem dX6_heard_90 : decode cX6_heard 90 = .ok (.iload 4, 2) := dk_21 4 (dk_at dksX6_heard_3 18 rfl rfl)
theorem dX6_heard_92 : decode cX6_heard 92 = .ok (.iconst 1, 1) := dk_4 (dk_at dksX6_heard_3 20 rfl rfl)
theorem dX6_heard_93 : decode cX6_heard 93 = .ok (.iadd, 1) := dk_96 (dk_at dksX6_heard_3 21 rfl rfl)
theorem dX6_heard_94 : decode cX6_heard 94 = .ok (.istore 4, 2) := dk_54 4 (dk_at dksX6_heard_3 22 rfl rfl)
theorem dX6_heard_96 : decode cX6_heard 96 = .ok (.goto (-21), 3) := dk_167 255 235 (dk_at dksX6_heard_4 0 rfl rfl)
theorem dX6_heard_99 : decode cX6_heard 99 = .ok (.iload_n 2, 1) := dk_28 (dk_at dksX6_heard_4 3 rfl rfl)
theorem dX6_heard_100 : decode cX6_heard 100 = .ok (.ifCond .ne 8, 3) := dk_154 0 8 (dk_at dksX6_heard_4 4 rfl rfl)
theorem dX6_heard_103 : decode cX6_heard 103 = .ok (.iload 4, 2) := dk_21 4 (dk_at dksX6_heard_4 7 rfl rfl)
theorem dX6_heard_105 : decode cX6_heard 105 = .ok (.goto 4, 3) := dk_167 0 4 (dk_at dksX6_heard_4 9 rfl rfl)
theorem dX6_heard_108 : decode cX6_heard 108 = .ok (.iload_n 3, 1) := dk_29 (dk_at dksX6_heard_4 12 rfl rfl)
theorem dX6_heard_109 : decode cX6_heard 109 = .ok (.ireturn, 1) := dk_172 (dk_at dksX6_heard_4 13 rfl rfl)
abbrev cX6_andBeside : ByteArray := prog_20_method_85_code
def yX6_andBeside : MethodName := ⟨RX6, "andBeside", "(I)I"⟩
def dkwX6_andBeside_1 : List UInt8 := [128, 61, 132, 3, 1, 167, 255, 231, 28, 172]
abbrev dktX6_andBeside_1 : List UInt8 := dkwX6_andBeside_1 ++ []
def dkwX6_andBeside_0 : List UInt8 := [27, 61, 3, 62, 29, 16, 16, 162, 0, 25, 27, 29, 184, 1, 32, 153, 0, 11, 28, 42, 29, 182, 0, 244]
abbrev dktX6_andBeside_0 : List UInt8 := dkwX6_andBeside_0 ++ dktX6_andBeside_1
theorem dksX6_andBeside_0 : cX6_andBeside.data.toList.drop 0 = dktX6_andBeside_0 := by decide +kernel
theorem dksX6_andBeside_1 : cX6_andBeside.data.toList.drop 24 = dktX6_andBeside_1 := dk_seg dksX6_andBeside_0 24 rfl rfl
theorem dX6_andBeside_0 : decode cX6_andBeside 0 = .ok (.iload_n 1, 1) := dk_27 (dk_at dksX6_andBeside_0 0 rfl rfl)
theorem dX6_andBeside_1 : decode cX6_andBeside 1 = .ok (.istore_n 2, 1) := dk_61 (dk_at dksX6_andBeside_0 1 rfl rfl)
theorem dX6_andBeside_2 : decode cX6_andBeside 2 = .ok (.iconst 0, 1) := dk_3 (dk_at dksX6_andBeside_0 2 rfl rfl)
theorem dX6_andBeside_3 : decode cX6_andBeside 3 = .ok (.istore_n 3, 1) := dk_62 (dk_at dksX6_andBeside_0 3 rfl rfl)
theorem dX6_andBeside_4 : decode cX6_andBeside 4 = .ok (.iload_n 3, 1) := dk_29 (dk_at dksX6_andBeside_0 4 rfl rfl)
theorem dX6_andBeside_5 : decode cX6_andBeside 5 = .ok (.bipush 16, 2) := dk_16 16 (dk_at dksX6_andBeside_0 5 rfl rfl)
theorem dX6_andBeside_7 : decode cX6_andBeside 7 = .ok (.if_icmp .ge 25, 3) := dk_162 0 25 (dk_at dksX6_andBeside_0 7 rfl rfl)
theorem dX6_andBeside_10 : decode cX6_andBeside 10 = .ok (.iload_n 1, 1) := dk_27 (dk_at dksX6_andBeside_0 10 rfl rfl)
theorem dX6_andBeside_11 : decode cX6_andBeside 11 = .ok (.iload_n 3, 1) := dk_29 (dk_at dksX6_andBeside_0 11 rfl rfl)
theorem dX6_andBeside_12 : decode cX6_andBeside 12 = .ok (.invokestatic 288, 3) := dk_184 1 32 (dk_at dksX6_andBeside_0 12 rfl rfl)
theorem dX6_andBeside_15 : decode cX6_andBeside 15 = .ok (.ifCond .eq 11, 3) := dk_153 0 11 (dk_at dksX6_andBeside_0 15 rfl rfl)
theorem dX6_andBeside_18 : decode cX6_andBeside 18 = .ok (.iload_n 2, 1) := dk_28 (dk_at dksX6_andBeside_0 18 rfl rfl)
theorem dX6_andBeside_19 : decode cX6_andBeside 19 = .ok (.aload_n 0, 1) := dk_42 (dk_at dksX6_andBeside_0 19 rfl rfl)
theorem dX6_andBeside_20 : decode cX6_andBeside 20 = .ok (.iload_n 3, 1) := dk_29 (dk_at dksX6_andBeside_0 20 rfl rfl)
theorem dX6_andBeside_21 : decode cX6_andBeside 21 = .ok (.invokevirtual 244, 3) := dk_182 0 244 (dk_at dksX6_andBeside_0 21 rfl rfl)
theorem dX6_andBeside_24 : decode cX6_andBeside 24 = .ok (.ior, 1) := dk_128 (dk_at dksX6_andBeside_1 0 rfl rfl)
theorem dX6_andBeside_25 : decode cX6_andBeside 25 = .ok (.istore_n 2, 1) := dk_61 (dk_at dksX6_andBeside_1 1 rfl rfl)
theorem dX6_andBeside_26 : decode cX6_andBeside 26 = .ok (.iinc 3 1, 3) := dk_132 3 1 (dk_at dksX6_andBeside_1 2 rfl rfl)
theorem dX6_andBeside_29 : decode cX6_andBeside 29 = .ok (.goto (-25), 3) := dk_167 255 231 (dk_at dksX6_andBeside_1 5 rfl rfl)
theorem dX6_andBeside_32 : decode cX6_andBeside 32 = .ok (.iload_n 2, 1) := dk_28 (dk_at dksX6_andBeside_1 8 rfl rfl)
theorem dX6_andBeside_33 : decode cX6_andBeside 33 = .ok (.ireturn, 1) := dk_172 (dk_at dksX6_andBeside_1 9 rfl rfl)
abbrev cX6_circles : ByteArray := prog_20_method_88_code
def yX6_circles : MethodName := ⟨RX6, "circles", "(I)I"⟩
def dkwX6_circles_3 : List UInt8 := [21, 4, 182, 1, 121, 2, 130, 126, 61, 29, 4, 96, 62, 132, 4, 1, 167, 255, 219, 29, 172]
abbrev dktX6_circles_3 : List UInt8 := dkwX6_circles_3 ++ []
def dkwX6_circles_2 : List UInt8 := [54, 4, 21, 4, 16, 16, 162, 0, 36, 28, 21, 4, 184, 1, 32, 154, 0, 6, 167, 0, 18, 28, 42]
abbrev dktX6_circles_2 : List UInt8 := dkwX6_circles_2 ++ dktX6_circles_3
def dkwX6_circles_1 : List UInt8 := [182, 0, 112, 153, 0, 11, 42, 27, 182, 1, 121, 167, 0, 4, 3, 172, 42, 182, 1, 124, 61, 3, 62, 3]
abbrev dktX6_circles_1 : List UInt8 := dkwX6_circles_1 ++ dktX6_circles_2
def dkwX6_circles_0 : List UInt8 := [27, 16, 100, 159, 0, 13, 42, 27, 182, 0, 108, 154, 0, 5, 2, 172, 27, 16, 100, 159, 0, 21, 42, 27]
abbrev dktX6_circles_0 : List UInt8 := dkwX6_circles_0 ++ dktX6_circles_1
theorem dksX6_circles_0 : cX6_circles.data.toList.drop 0 = dktX6_circles_0 := by decide +kernel
theorem dksX6_circles_1 : cX6_circles.data.toList.drop 24 = dktX6_circles_1 := dk_seg dksX6_circles_0 24 rfl rfl
theorem dksX6_circles_2 : cX6_circles.data.toList.drop 48 = dktX6_circles_2 := dk_seg dksX6_circles_1 24 rfl rfl
theorem dksX6_circles_3 : cX6_circles.data.toList.drop 71 = dktX6_circles_3 := dk_seg dksX6_circles_2 23 rfl rfl
theorem dX6_circles_0 : decode cX6_circles 0 = .ok (.iload_n 1, 1) := dk_27 (dk_at dksX6_circles_0 0 rfl rfl)
theorem dX6_circles_1 : decode cX6_circles 1 = .ok (.bipush 100, 2) := dk_16 100 (dk_at dksX6_circles_0 1 rfl rfl)
theorem dX6_circles_3 : decode cX6_circles 3 = .ok (.if_icmp .eq 13, 3) := dk_159 0 13 (dk_at dksX6_circles_0 3 rfl rfl)
theorem dX6_circles_6 : decode cX6_circles 6 = .ok (.aload_n 0, 1) := dk_42 (dk_at dksX6_circles_0 6 rfl rfl)
theorem dX6_circles_7 : decode cX6_circles 7 = .ok (.iload_n 1, 1) := dk_27 (dk_at dksX6_circles_0 7 rfl rfl)
theorem dX6_circles_8 : decode cX6_circles 8 = .ok (.invokevirtual 108, 3) := dk_182 0 108 (dk_at dksX6_circles_0 8 rfl rfl)
theorem dX6_circles_11 : decode cX6_circles 11 = .ok (.ifCond .ne 5, 3) := dk_154 0 5 (dk_at dksX6_circles_0 11 rfl rfl)
theorem dX6_circles_14 : decode cX6_circles 14 = .ok (.iconst (-1), 1) := dk_2 (dk_at dksX6_circles_0 14 rfl rfl)
theorem dX6_circles_15 : decode cX6_circles 15 = .ok (.ireturn, 1) := dk_172 (dk_at dksX6_circles_0 15 rfl rfl)
theorem dX6_circles_16 : decode cX6_circles 16 = .ok (.iload_n 1, 1) := dk_27 (dk_at dksX6_circles_0 16 rfl rfl)
theorem dX6_circles_17 : decode cX6_circles 17 = .ok (.bipush 100, 2) := dk_16 100 (dk_at dksX6_circles_0 17 rfl rfl)
theorem dX6_circles_19 : decode cX6_circles 19 = .ok (.if_icmp .eq 21, 3) := dk_159 0 21 (dk_at dksX6_circles_0 19 rfl rfl)
theorem dX6_circles_22 : decode cX6_circles 22 = .ok (.aload_n 0, 1) := dk_42 (dk_at dksX6_circles_0 22 rfl rfl)
theorem dX6_circles_23 : decode cX6_circles 23 = .ok (.iload_n 1, 1) := dk_27 (dk_at dksX6_circles_0 23 rfl rfl)
theorem dX6_circles_24 : decode cX6_circles 24 = .ok (.invokevirtual 112, 3) := dk_182 0 112 (dk_at dksX6_circles_1 0 rfl rfl)
theorem dX6_circles_27 : decode cX6_circles 27 = .ok (.ifCond .eq 11, 3) := dk_153 0 11 (dk_at dksX6_circles_1 3 rfl rfl)
theorem dX6_circles_30 : decode cX6_circles 30 = .ok (.aload_n 0, 1) := dk_42 (dk_at dksX6_circles_1 6 rfl rfl)
theorem dX6_circles_31 : decode cX6_circles 31 = .ok (.iload_n 1, 1) := dk_27 (dk_at dksX6_circles_1 7 rfl rfl)
theorem dX6_circles_32 : decode cX6_circles 32 = .ok (.invokevirtual 377, 3) := dk_182 1 121 (dk_at dksX6_circles_1 8 rfl rfl)
theorem dX6_circles_35 : decode cX6_circles 35 = .ok (.goto 4, 3) := dk_167 0 4 (dk_at dksX6_circles_1 11 rfl rfl)
theorem dX6_circles_38 : decode cX6_circles 38 = .ok (.iconst 0, 1) := dk_3 (dk_at dksX6_circles_1 14 rfl rfl)
theorem dX6_circles_39 : decode cX6_circles 39 = .ok (.ireturn, 1) := dk_172 (dk_at dksX6_circles_1 15 rfl rfl)
theorem dX6_circles_40 : decode cX6_circles 40 = .ok (.aload_n 0, 1) := dk_42 (dk_at dksX6_circles_1 16 rfl rfl)
theorem dX6_circles_41 : decode cX6_circles 41 = .ok (.invokevirtual 380, 3) := dk_182 1 124 (dk_at dksX6_circles_1 17 rfl rfl)
theorem dX6_circles_44 : decode cX6_circles 44 = .ok (.istore_n 2, 1) := dk_61 (dk_at dksX6_circles_1 20 rfl rfl)
theorem dX6_circles_45 : decode cX6_circles 45 = .ok (.iconst 0, 1) := dk_3 (dk_at dksX6_circles_1 21 rfl rfl)
theorem dX6_circles_46 : decode cX6_circles 46 = .ok (.istore_n 3, 1) := dk_62 (dk_at dksX6_circles_1 22 rfl rfl)
theorem dX6_circles_47 : decode cX6_circles 47 = .ok (.iconst 0, 1) := dk_3 (dk_at dksX6_circles_1 23 rfl rfl)
theorem dX6_circles_48 : decode cX6_circles 48 = .ok (.istore 4, 2) := dk_54 4 (dk_at dksX6_circles_2 0 rfl rfl)
theorem dX6_circles_50 : decode cX6_circles 50 = .ok (.iload 4, 2) := dk_21 4 (dk_at dksX6_circles_2 2 rfl rfl)
theorem dX6_circles_52 : decode cX6_circles 52 = .ok (.bipush 16, 2) := dk_16 16 (dk_at dksX6_circles_2 4 rfl rfl)
theorem dX6_circles_54 : decode cX6_circles 54 = .ok (.if_icmp .ge 36, 3) := dk_162 0 36 (dk_at dksX6_circles_2 6 rfl rfl)
theorem dX6_circles_57 : decode cX6_circles 57 = .ok (.iload_n 2, 1) := dk_28 (dk_at dksX6_circles_2 9 rfl rfl)
theorem dX6_circles_58 : decode cX6_circles 58 = .ok (.iload 4, 2) := dk_21 4 (dk_at dksX6_circles_2 10 rfl rfl)
theorem dX6_circles_60 : decode cX6_circles 60 = .ok (.invokestatic 288, 3) := dk_184 1 32 (dk_at dksX6_circles_2 12 rfl rfl)
theorem dX6_circles_63 : decode cX6_circles 63 = .ok (.ifCond .ne 6, 3) := dk_154 0 6 (dk_at dksX6_circles_2 15 rfl rfl)
theorem dX6_circles_66 : decode cX6_circles 66 = .ok (.goto 18, 3) := dk_167 0 18 (dk_at dksX6_circles_2 18 rfl rfl)
theorem dX6_circles_69 : decode cX6_circles 69 = .ok (.iload_n 2, 1) := dk_28 (dk_at dksX6_circles_2 21 rfl rfl)
theorem dX6_circles_70 : decode cX6_circles 70 = .ok (.aload_n 0, 1) := dk_42 (dk_at dksX6_circles_2 22 rfl rfl)
theorem dX6_circles_71 : decode cX6_circles 71 = .ok (.iload 4, 2) := dk_21 4 (dk_at dksX6_circles_3 0 rfl rfl)
theorem dX6_circles_73 : decode cX6_circles 73 = .ok (.invokevirtual 377, 3) := dk_182 1 121 (dk_at dksX6_circles_3 2 rfl rfl)
theorem dX6_circles_76 : decode cX6_circles 76 = .ok (.iconst (-1), 1) := dk_2 (dk_at dksX6_circles_3 5 rfl rfl)
theorem dX6_circles_77 : decode cX6_circles 77 = .ok (.ixor, 1) := dk_130 (dk_at dksX6_circles_3 6 rfl rfl)
theorem dX6_circles_78 : decode cX6_circles 78 = .ok (.iand, 1) := dk_126 (dk_at dksX6_circles_3 7 rfl rfl)
theorem dX6_circles_79 : decode cX6_circles 79 = .ok (.istore_n 2, 1) := dk_61 (dk_at dksX6_circles_3 8 rfl rfl)
theorem dX6_circles_80 : decode cX6_circles 80 = .ok (.iload_n 3, 1) := dk_29 (dk_at dksX6_circles_3 9 rfl rfl)
theorem dX6_circles_81 : decode cX6_circles 81 = .ok (.iconst 1, 1) := dk_4 (dk_at dksX6_circles_3 10 rfl rfl)
theorem dX6_circles_82 : decode cX6_circles 82 = .ok (.iadd, 1) := dk_96 (dk_at dksX6_circles_3 11 rfl rfl)
theorem dX6_circles_83 : decode cX6_circles 83 = .ok (.istore_n 3, 1) := dk_62 (dk_at dksX6_circles_3 12 rfl rfl)
theorem dX6_circles_84 : decode cX6_circles 84 = .ok (.iinc 4 1, 3) := dk_132 4 1 (dk_at dksX6_circles_3 13 rfl rfl)
theorem dX6_circles_87 : decode cX6_circles 87 = .ok (.goto (-37), 3) := dk_167 255 219 (dk_at dksX6_circles_3 16 rfl rfl)
theorem dX6_circles_90 : decode cX6_circles 90 = .ok (.iload_n 3, 1) := dk_29 (dk_at dksX6_circles_3 19 rfl rfl)
theorem dX6_circles_91 : decode cX6_circles 91 = .ok (.ireturn, 1) := dk_172 (dk_at dksX6_circles_3 20 rfl rfl)
abbrev cX6_circleOf : ByteArray := prog_20_method_87_code
def yX6_circleOf : MethodName := ⟨RX6, "circleOf", "(I)I"⟩
def dkwX6_circleOf_0 : List UInt8 := [4, 27, 120, 61, 42, 28, 182, 1, 118, 28, 159, 0, 12, 42, 28, 182, 1, 118, 61, 167, 255, 241, 28, 172]
abbrev dktX6_circleOf_0 : List UInt8 := dkwX6_circleOf_0 ++ []
theorem dksX6_circleOf_0 : cX6_circleOf.data.toList.drop 0 = dktX6_circleOf_0 := by decide +kernel
theorem dX6_circleOf_0 : decode cX6_circleOf 0 = .ok (.iconst 1, 1) := dk_4 (dk_at dksX6_circleOf_0 0 rfl rfl)
theorem dX6_circleOf_1 : decode cX6_circleOf 1 = .ok (.iload_n 1, 1) := dk_27 (dk_at dksX6_circleOf_0 1 rfl rfl)
theorem dX6_circleOf_2 : decode cX6_circleOf 2 = .ok (.ishl, 1) := dk_120 (dk_at dksX6_circleOf_0 2 rfl rfl)
theorem dX6_circleOf_3 : decode cX6_circleOf 3 = .ok (.istore_n 2, 1) := dk_61 (dk_at dksX6_circleOf_0 3 rfl rfl)
theorem dX6_circleOf_4 : decode cX6_circleOf 4 = .ok (.aload_n 0, 1) := dk_42 (dk_at dksX6_circleOf_0 4 rfl rfl)
theorem dX6_circleOf_5 : decode cX6_circleOf 5 = .ok (.iload_n 2, 1) := dk_28 (dk_at dksX6_circleOf_0 5 rfl rfl)
theorem dX6_circleOf_6 : decode cX6_circleOf 6 = .ok (.invokevirtual 374, 3) := dk_182 1 118 (dk_at dksX6_circleOf_0 6 rfl rfl)
theorem dX6_circleOf_9 : decode cX6_circleOf 9 = .ok (.iload_n 2, 1) := dk_28 (dk_at dksX6_circleOf_0 9 rfl rfl)
theorem dX6_circleOf_10 : decode cX6_circleOf 10 = .ok (.if_icmp .eq 12, 3) := dk_159 0 12 (dk_at dksX6_circleOf_0 10 rfl rfl)
theorem dX6_circleOf_13 : decode cX6_circleOf 13 = .ok (.aload_n 0, 1) := dk_42 (dk_at dksX6_circleOf_0 13 rfl rfl)
theorem dX6_circleOf_14 : decode cX6_circleOf 14 = .ok (.iload_n 2, 1) := dk_28 (dk_at dksX6_circleOf_0 14 rfl rfl)
theorem dX6_circleOf_15 : decode cX6_circleOf 15 = .ok (.invokevirtual 374, 3) := dk_182 1 118 (dk_at dksX6_circleOf_0 15 rfl rfl)
theorem dX6_circleOf_18 : decode cX6_circleOf 18 = .ok (.istore_n 2, 1) := dk_61 (dk_at dksX6_circleOf_0 18 rfl rfl)
theorem dX6_circleOf_19 : decode cX6_circleOf 19 = .ok (.goto (-15), 3) := dk_167 255 241 (dk_at dksX6_circleOf_0 19 rfl rfl)
theorem dX6_circleOf_22 : decode cX6_circleOf 22 = .ok (.iload_n 2, 1) := dk_28 (dk_at dksX6_circleOf_0 22 rfl rfl)
theorem dX6_circleOf_23 : decode cX6_circleOf 23 = .ok (.ireturn, 1) := dk_172 (dk_at dksX6_circleOf_0 23 rfl rfl)
abbrev cX6_laidSet : ByteArray := prog_20_method_12_code
def yX6_laidSet : MethodName := ⟨RX6, "laidSet", "()I"⟩
def dkwX6_laidSet_1 : List UInt8 := [132, 2, 1, 167, 255, 233, 27, 172]
abbrev dktX6_laidSet_1 : List UInt8 := dkwX6_laidSet_1 ++ []
def dkwX6_laidSet_0 : List UInt8 := [3, 60, 3, 61, 28, 16, 16, 162, 0, 23, 42, 28, 182, 0, 112, 153, 0, 9, 27, 4, 28, 120, 128, 60]
abbrev dktX6_laidSet_0 : List UInt8 := dkwX6_laidSet_0 ++ dktX6_laidSet_1
theorem dksX6_laidSet_0 : cX6_laidSet.data.toList.drop 0 = dktX6_laidSet_0 := by decide +kernel
theorem dksX6_laidSet_1 : cX6_laidSet.data.toList.drop 24 = dktX6_laidSet_1 := dk_seg dksX6_laidSet_0 24 rfl rfl
theorem dX6_laidSet_0 : decode cX6_laidSet 0 = .ok (.iconst 0, 1) := dk_3 (dk_at dksX6_laidSet_0 0 rfl rfl)
theorem dX6_laidSet_1 : decode cX6_laidSet 1 = .ok (.istore_n 1, 1) := dk_60 (dk_at dksX6_laidSet_0 1 rfl rfl)
theorem dX6_laidSet_2 : decode cX6_laidSet 2 = .ok (.iconst 0, 1) := dk_3 (dk_at dksX6_laidSet_0 2 rfl rfl)
theorem dX6_laidSet_3 : decode cX6_laidSet 3 = .ok (.istore_n 2, 1) := dk_61 (dk_at dksX6_laidSet_0 3 rfl rfl)
theorem dX6_laidSet_4 : decode cX6_laidSet 4 = .ok (.iload_n 2, 1) := dk_28 (dk_at dksX6_laidSet_0 4 rfl rfl)
theorem dX6_laidSet_5 : decode cX6_laidSet 5 = .ok (.bipush 16, 2) := dk_16 16 (dk_at dksX6_laidSet_0 5 rfl rfl)
theorem dX6_laidSet_7 : decode cX6_laidSet 7 = .ok (.if_icmp .ge 23, 3) := dk_162 0 23 (dk_at dksX6_laidSet_0 7 rfl rfl)
theorem dX6_laidSet_10 : decode cX6_laidSet 10 = .ok (.aload_n 0, 1) := dk_42 (dk_at dksX6_laidSet_0 10 rfl rfl)
theorem dX6_laidSet_11 : decode cX6_laidSet 11 = .ok (.iload_n 2, 1) := dk_28 (dk_at dksX6_laidSet_0 11 rfl rfl)
theorem dX6_laidSet_12 : decode cX6_laidSet 12 = .ok (.invokevirtual 112, 3) := dk_182 0 112 (dk_at dksX6_laidSet_0 12 rfl rfl)
theorem dX6_laidSet_15 : decode cX6_laidSet 15 = .ok (.ifCond .eq 9, 3) := dk_153 0 9 (dk_at dksX6_laidSet_0 15 rfl rfl)
theorem dX6_laidSet_18 : decode cX6_laidSet 18 = .ok (.iload_n 1, 1) := dk_27 (dk_at dksX6_laidSet_0 18 rfl rfl)
theorem dX6_laidSet_19 : decode cX6_laidSet 19 = .ok (.iconst 1, 1) := dk_4 (dk_at dksX6_laidSet_0 19 rfl rfl)
theorem dX6_laidSet_20 : decode cX6_laidSet 20 = .ok (.iload_n 2, 1) := dk_28 (dk_at dksX6_laidSet_0 20 rfl rfl)
theorem dX6_laidSet_21 : decode cX6_laidSet 21 = .ok (.ishl, 1) := dk_120 (dk_at dksX6_laidSet_0 21 rfl rfl)
theorem dX6_laidSet_22 : decode cX6_laidSet 22 = .ok (.ior, 1) := dk_128 (dk_at dksX6_laidSet_0 22 rfl rfl)
theorem dX6_laidSet_23 : decode cX6_laidSet 23 = .ok (.istore_n 1, 1) := dk_60 (dk_at dksX6_laidSet_0 23 rfl rfl)
theorem dX6_laidSet_24 : decode cX6_laidSet 24 = .ok (.iinc 2 1, 3) := dk_132 2 1 (dk_at dksX6_laidSet_1 0 rfl rfl)
theorem dX6_laidSet_27 : decode cX6_laidSet 27 = .ok (.goto (-23), 3) := dk_167 255 233 (dk_at dksX6_laidSet_1 3 rfl rfl)
theorem dX6_laidSet_30 : decode cX6_laidSet 30 = .ok (.iload_n 1, 1) := dk_27 (dk_at dksX6_laidSet_1 6 rfl rfl)
theorem dX6_laidSet_31 : decode cX6_laidSet 31 = .ok (.ireturn, 1) := dk_172 (dk_at dksX6_laidSet_1 7 rfl rfl)
abbrev cX6_from : ByteArray := prog_20_method_89_code
def yX6_from : MethodName := ⟨RX6, "from", "(II)I"⟩
def dkwX6_from_3 : List UInt8 := [21, 4, 4, 96, 54, 4, 167, 255, 236, 21, 4, 172]
abbrev dktX6_from_3 : List UInt8 := dkwX6_from_3 ++ []
def dkwX6_from_2 : List UInt8 := [16, 254, 172, 4, 27, 120, 62, 3, 54, 4, 29, 28, 184, 1, 32, 154, 0, 18, 42, 29, 182, 1, 118, 62]
abbrev dktX6_from_2 : List UInt8 := dkwX6_from_2 ++ dktX6_from_3
def dkwX6_from_1 : List UInt8 := [153, 0, 23, 42, 28, 182, 0, 112, 153, 0, 15, 42, 27, 182, 1, 121, 28, 184, 1, 32, 154, 0, 6]
abbrev dktX6_from_1 : List UInt8 := dkwX6_from_1 ++ dktX6_from_2
def dkwX6_from_0 : List UInt8 := [42, 27, 182, 0, 108, 153, 0, 11, 42, 28, 182, 0, 108, 154, 0, 5, 2, 172, 42, 27, 182, 0, 112]
abbrev dktX6_from_0 : List UInt8 := dkwX6_from_0 ++ dktX6_from_1
theorem dksX6_from_0 : cX6_from.data.toList.drop 0 = dktX6_from_0 := by decide +kernel
theorem dksX6_from_1 : cX6_from.data.toList.drop 23 = dktX6_from_1 := dk_seg dksX6_from_0 23 rfl rfl
theorem dksX6_from_2 : cX6_from.data.toList.drop 46 = dktX6_from_2 := dk_seg dksX6_from_1 23 rfl rfl
theorem dksX6_from_3 : cX6_from.data.toList.drop 70 = dktX6_from_3 := dk_seg dksX6_from_2 24 rfl rfl
theorem dX6_from_0 : decode cX6_from 0 = .ok (.aload_n 0, 1) := dk_42 (dk_at dksX6_from_0 0 rfl rfl)
theorem dX6_from_1 : decode cX6_from 1 = .ok (.iload_n 1, 1) := dk_27 (dk_at dksX6_from_0 1 rfl rfl)
theorem dX6_from_2 : decode cX6_from 2 = .ok (.invokevirtual 108, 3) := dk_182 0 108 (dk_at dksX6_from_0 2 rfl rfl)
theorem dX6_from_5 : decode cX6_from 5 = .ok (.ifCond .eq 11, 3) := dk_153 0 11 (dk_at dksX6_from_0 5 rfl rfl)
theorem dX6_from_8 : decode cX6_from 8 = .ok (.aload_n 0, 1) := dk_42 (dk_at dksX6_from_0 8 rfl rfl)
theorem dX6_from_9 : decode cX6_from 9 = .ok (.iload_n 2, 1) := dk_28 (dk_at dksX6_from_0 9 rfl rfl)
theorem dX6_from_10 : decode cX6_from 10 = .ok (.invokevirtual 108, 3) := dk_182 0 108 (dk_at dksX6_from_0 10 rfl rfl)
theorem dX6_from_13 : decode cX6_from 13 = .ok (.ifCond .ne 5, 3) := dk_154 0 5 (dk_at dksX6_from_0 13 rfl rfl)
theorem dX6_from_16 : decode cX6_from 16 = .ok (.iconst (-1), 1) := dk_2 (dk_at dksX6_from_0 16 rfl rfl)
theorem dX6_from_17 : decode cX6_from 17 = .ok (.ireturn, 1) := dk_172 (dk_at dksX6_from_0 17 rfl rfl)
theorem dX6_from_18 : decode cX6_from 18 = .ok (.aload_n 0, 1) := dk_42 (dk_at dksX6_from_0 18 rfl rfl)
theorem dX6_from_19 : decode cX6_from 19 = .ok (.iload_n 1, 1) := dk_27 (dk_at dksX6_from_0 19 rfl rfl)
theorem dX6_from_20 : decode cX6_from 20 = .ok (.invokevirtual 112, 3) := dk_182 0 112 (dk_at dksX6_from_0 20 rfl rfl)
theorem dX6_from_23 : decode cX6_from 23 = .ok (.ifCond .eq 23, 3) := dk_153 0 23 (dk_at dksX6_from_1 0 rfl rfl)
theorem dX6_from_26 : decode cX6_from 26 = .ok (.aload_n 0, 1) := dk_42 (dk_at dksX6_from_1 3 rfl rfl)
theorem dX6_from_27 : decode cX6_from 27 = .ok (.iload_n 2, 1) := dk_28 (dk_at dksX6_from_1 4 rfl rfl)
theorem dX6_from_28 : decode cX6_from 28 = .ok (.invokevirtual 112, 3) := dk_182 0 112 (dk_at dksX6_from_1 5 rfl rfl)
theorem dX6_from_31 : decode cX6_from 31 = .ok (.ifCond .eq 15, 3) := dk_153 0 15 (dk_at dksX6_from_1 8 rfl rfl)
theorem dX6_from_34 : decode cX6_from 34 = .ok (.aload_n 0, 1) := dk_42 (dk_at dksX6_from_1 11 rfl rfl)
theorem dX6_from_35 : decode cX6_from 35 = .ok (.iload_n 1, 1) := dk_27 (dk_at dksX6_from_1 12 rfl rfl)
theorem dX6_from_36 : decode cX6_from 36 = .ok (.invokevirtual 377, 3) := dk_182 1 121 (dk_at dksX6_from_1 13 rfl rfl)
theorem dX6_from_39 : decode cX6_from 39 = .ok (.iload_n 2, 1) := dk_28 (dk_at dksX6_from_1 16 rfl rfl)
theorem dX6_from_40 : decode cX6_from 40 = .ok (.invokestatic 288, 3) := dk_184 1 32 (dk_at dksX6_from_1 17 rfl rfl)
theorem dX6_from_43 : decode cX6_from 43 = .ok (.ifCond .ne 6, 3) := dk_154 0 6 (dk_at dksX6_from_1 20 rfl rfl)
theorem dX6_from_46 : decode cX6_from 46 = .ok (.bipush (-2), 2) := dk_16 254 (dk_at dksX6_from_2 0 rfl rfl)
theorem dX6_from_48 : decode cX6_from 48 = .ok (.ireturn, 1) := dk_172 (dk_at dksX6_from_2 2 rfl rfl)
theorem dX6_from_49 : decode cX6_from 49 = .ok (.iconst 1, 1) := dk_4 (dk_at dksX6_from_2 3 rfl rfl)
theorem dX6_from_50 : decode cX6_from 50 = .ok (.iload_n 1, 1) := dk_27 (dk_at dksX6_from_2 4 rfl rfl)
theorem dX6_from_51 : decode cX6_from 51 = .ok (.ishl, 1) := dk_120 (dk_at dksX6_from_2 5 rfl rfl)
theorem dX6_from_52 : decode cX6_from 52 = .ok (.istore_n 3, 1) := dk_62 (dk_at dksX6_from_2 6 rfl rfl)
theorem dX6_from_53 : decode cX6_from 53 = .ok (.iconst 0, 1) := dk_3 (dk_at dksX6_from_2 7 rfl rfl)
theorem dX6_from_54 : decode cX6_from 54 = .ok (.istore 4, 2) := dk_54 4 (dk_at dksX6_from_2 8 rfl rfl)
theorem dX6_from_56 : decode cX6_from 56 = .ok (.iload_n 3, 1) := dk_29 (dk_at dksX6_from_2 10 rfl rfl)
theorem dX6_from_57 : decode cX6_from 57 = .ok (.iload_n 2, 1) := dk_28 (dk_at dksX6_from_2 11 rfl rfl)
theorem dX6_from_58 : decode cX6_from 58 = .ok (.invokestatic 288, 3) := dk_184 1 32 (dk_at dksX6_from_2 12 rfl rfl)
theorem dX6_from_61 : decode cX6_from 61 = .ok (.ifCond .ne 18, 3) := dk_154 0 18 (dk_at dksX6_from_2 15 rfl rfl)
theorem dX6_from_64 : decode cX6_from 64 = .ok (.aload_n 0, 1) := dk_42 (dk_at dksX6_from_2 18 rfl rfl)
theorem dX6_from_65 : decode cX6_from 65 = .ok (.iload_n 3, 1) := dk_29 (dk_at dksX6_from_2 19 rfl rfl)
theorem dX6_from_66 : decode cX6_from 66 = .ok (.invokevirtual 374, 3) := dk_182 1 118 (dk_at dksX6_from_2 20 rfl rfl)
theorem dX6_from_69 : decode cX6_from 69 = .ok (.istore_n 3, 1) := dk_62 (dk_at dksX6_from_2 23 rfl rfl)
theorem dX6_from_70 : decode cX6_from 70 = .ok (.iload 4, 2) := dk_21 4 (dk_at dksX6_from_3 0 rfl rfl)
theorem dX6_from_72 : decode cX6_from 72 = .ok (.iconst 1, 1) := dk_4 (dk_at dksX6_from_3 2 rfl rfl)
theorem dX6_from_73 : decode cX6_from 73 = .ok (.iadd, 1) := dk_96 (dk_at dksX6_from_3 3 rfl rfl)
theorem dX6_from_74 : decode cX6_from 74 = .ok (.istore 4, 2) := dk_54 4 (dk_at dksX6_from_3 4 rfl rfl)
theorem dX6_from_76 : decode cX6_from 76 = .ok (.goto (-20), 3) := dk_167 255 236 (dk_at dksX6_from_3 6 rfl rfl)
theorem dX6_from_79 : decode cX6_from 79 = .ok (.iload 4, 2) := dk_21 4 (dk_at dksX6_from_3 9 rfl rfl)
theorem dX6_from_81 : decode cX6_from 81 = .ok (.ireturn, 1) := dk_172 (dk_at dksX6_from_3 11 rfl rfl)
abbrev cX6_thread : ByteArray := prog_20_method_91_code
def yX6_thread : MethodName := ⟨RX6, "thread", "(II)I"⟩
def dkwX6_thread_10 : List UInt8 := [21, 6, 54, 4, 132, 5, 1, 167, 255, 198, 21, 4, 172]
abbrev dktX6_thread_10 : List UInt8 := dkwX6_thread_10 ++ []
def dkwX6_thread_9 : List UInt8 := [21, 4, 182, 1, 130, 42, 21, 6, 182, 1, 130, 126, 154, 0, 12, 21, 6, 4, 96, 54, 6, 167, 255, 220]
abbrev dktX6_thread_9 : List UInt8 := dkwX6_thread_9 ++ dktX6_thread_10
def dkwX6_thread_8 : List UInt8 := [163, 0, 58, 21, 4, 4, 96, 54, 6, 42, 180, 0, 95, 21, 6, 46, 29, 21, 5, 100, 160, 0, 19, 42]
abbrev dktX6_thread_8 : List UInt8 := dkwX6_thread_8 ++ dktX6_thread_9
def dkwX6_thread_7 : List UInt8 := [21, 4, 46, 29, 159, 0, 12, 21, 4, 4, 96, 54, 4, 167, 255, 239, 4, 54, 5, 21, 5, 28]
abbrev dktX6_thread_7 : List UInt8 := dkwX6_thread_7 ++ dktX6_thread_8
def dkwX6_thread_6 : List UInt8 := [28, 16, 100, 160, 0, 5, 29, 172, 28, 29, 161, 0, 6, 16, 252, 172, 3, 54, 4, 42, 180, 0, 95]
abbrev dktX6_thread_6 : List UInt8 := dkwX6_thread_6 ++ dktX6_thread_7
def dkwX6_thread_5 : List UInt8 := [132, 5, 1, 167, 255, 205, 29, 42, 180, 0, 95, 21, 4, 46, 184, 1, 54, 62, 132, 4, 255, 167, 255, 168]
abbrev dktX6_thread_5 : List UInt8 := dkwX6_thread_5 ++ dktX6_thread_6
def dkwX6_thread_4 : List UInt8 := [21, 4, 42, 180, 0, 95, 21, 4, 46, 42, 180, 0, 95, 21, 5, 46, 4, 96, 184, 1, 54, 79]
abbrev dktX6_thread_4 : List UInt8 := dkwX6_thread_4 ++ dktX6_thread_5
def dkwX6_thread_3 : List UInt8 := [27, 162, 0, 51, 42, 21, 4, 182, 1, 130, 42, 21, 5, 182, 1, 130, 126, 153, 0, 29, 42, 180, 0, 95]
abbrev dktX6_thread_3 : List UInt8 := dkwX6_thread_3 ++ dktX6_thread_4
def dkwX6_thread_2 : List UInt8 := [100, 54, 4, 21, 4, 155, 0, 89, 42, 180, 0, 95, 21, 4, 4, 79, 21, 4, 4, 96, 54, 5, 21, 5]
abbrev dktX6_thread_2 : List UInt8 := dkwX6_thread_2 ++ dktX6_thread_3
def dkwX6_thread_1 : List UInt8 := [160, 0, 13, 5, 27, 104, 42, 180, 0, 134, 164, 0, 5, 2, 172, 42, 3, 181, 0, 134, 3, 62, 27, 4]
abbrev dktX6_thread_1 : List UInt8 := dkwX6_thread_1 ++ dktX6_thread_2
def dkwX6_thread_0 : List UInt8 := [27, 4, 16, 20, 184, 0, 104, 153, 0, 29, 28, 3, 16, 19, 184, 0, 104, 154, 0, 9, 28, 16, 100]
abbrev dktX6_thread_0 : List UInt8 := dkwX6_thread_0 ++ dktX6_thread_1
theorem dksX6_thread_0 : cX6_thread.data.toList.drop 0 = dktX6_thread_0 := by decide +kernel
theorem dksX6_thread_1 : cX6_thread.data.toList.drop 23 = dktX6_thread_1 := dk_seg dksX6_thread_0 23 rfl rfl
theorem dksX6_thread_2 : cX6_thread.data.toList.drop 47 = dktX6_thread_2 := dk_seg dksX6_thread_1 24 rfl rfl
theorem dksX6_thread_3 : cX6_thread.data.toList.drop 71 = dktX6_thread_3 := dk_seg dksX6_thread_2 24 rfl rfl
theorem dksX6_thread_4 : cX6_thread.data.toList.drop 95 = dktX6_thread_4 := dk_seg dksX6_thread_3 24 rfl rfl
theorem dksX6_thread_5 : cX6_thread.data.toList.drop 117 = dktX6_thread_5 := dk_seg dksX6_thread_4 22 rfl rfl
theorem dksX6_thread_6 : cX6_thread.data.toList.drop 141 = dktX6_thread_6 := dk_seg dksX6_thread_5 24 rfl rfl
theorem dksX6_thread_7 : cX6_thread.data.toList.drop 164 = dktX6_thread_7 := dk_seg dksX6_thread_6 23 rfl rfl
theorem dksX6_thread_8 : cX6_thread.data.toList.drop 186 = dktX6_thread_8 := dk_seg dksX6_thread_7 22 rfl rfl
theorem dksX6_thread_9 : cX6_thread.data.toList.drop 210 = dktX6_thread_9 := dk_seg dksX6_thread_8 24 rfl rfl
theorem dksX6_thread_10 : cX6_thread.data.toList.drop 234 = dktX6_thread_10 := dk_seg dksX6_thread_9 24 rfl rfl
theorem dX6_thread_0 : decode cX6_thread 0 = .ok (.iload_n 1, 1) := dk_27 (dk_at dksX6_thread_0 0 rfl rfl)
theorem dX6_thread_1 : decode cX6_thread 1 = .ok (.iconst 1, 1) := dk_4 (dk_at dksX6_thread_0 1 rfl rfl)
theorem dX6_thread_2 : decode cX6_thread 2 = .ok (.bipush 20, 2) := dk_16 20 (dk_at dksX6_thread_0 2 rfl rfl)
theorem dX6_thread_4 : decode cX6_thread 4 = .ok (.invokestatic 104, 3) := dk_184 0 104 (dk_at dksX6_thread_0 4 rfl rfl)
theorem dX6_thread_7 : decode cX6_thread 7 = .ok (.ifCond .eq 29, 3) := dk_153 0 29 (dk_at dksX6_thread_0 7 rfl rfl)
theorem dX6_thread_10 : decode cX6_thread 10 = .ok (.iload_n 2, 1) := dk_28 (dk_at dksX6_thread_0 10 rfl rfl)
theorem dX6_thread_11 : decode cX6_thread 11 = .ok (.iconst 0, 1) := dk_3 (dk_at dksX6_thread_0 11 rfl rfl)
theorem dX6_thread_12 : decode cX6_thread 12 = .ok (.bipush 19, 2) := dk_16 19 (dk_at dksX6_thread_0 12 rfl rfl)
theorem dX6_thread_14 : decode cX6_thread 14 = .ok (.invokestatic 104, 3) := dk_184 0 104 (dk_at dksX6_thread_0 14 rfl rfl)
theorem dX6_thread_17 : decode cX6_thread 17 = .ok (.ifCond .ne 9, 3) := dk_154 0 9 (dk_at dksX6_thread_0 17 rfl rfl)
theorem dX6_thread_20 : decode cX6_thread 20 = .ok (.iload_n 2, 1) := dk_28 (dk_at dksX6_thread_0 20 rfl rfl)
theorem dX6_thread_21 : decode cX6_thread 21 = .ok (.bipush 100, 2) := dk_16 100 (dk_at dksX6_thread_0 21 rfl rfl)
theorem dX6_thread_23 : decode cX6_thread 23 = .ok (.if_icmp .ne 13, 3) := dk_160 0 13 (dk_at dksX6_thread_1 0 rfl rfl)
theorem dX6_thread_26 : decode cX6_thread 26 = .ok (.iconst 2, 1) := dk_5 (dk_at dksX6_thread_1 3 rfl rfl)
theorem dX6_thread_27 : decode cX6_thread 27 = .ok (.iload_n 1, 1) := dk_27 (dk_at dksX6_thread_1 4 rfl rfl)
theorem dX6_thread_28 : decode cX6_thread 28 = .ok (.imul, 1) := dk_104 (dk_at dksX6_thread_1 5 rfl rfl)
theorem dX6_thread_29 : decode cX6_thread 29 = .ok (.aload_n 0, 1) := dk_42 (dk_at dksX6_thread_1 6 rfl rfl)
theorem dX6_thread_30 : decode cX6_thread 30 = .ok (.getfield 134, 3) := dk_180 0 134 (dk_at dksX6_thread_1 7 rfl rfl)
theorem dX6_thread_33 : decode cX6_thread 33 = .ok (.if_icmp .le 5, 3) := dk_164 0 5 (dk_at dksX6_thread_1 10 rfl rfl)
theorem dX6_thread_36 : decode cX6_thread 36 = .ok (.iconst (-1), 1) := dk_2 (dk_at dksX6_thread_1 13 rfl rfl)
theorem dX6_thread_37 : decode cX6_thread 37 = .ok (.ireturn, 1) := dk_172 (dk_at dksX6_thread_1 14 rfl rfl)
theorem dX6_thread_38 : decode cX6_thread 38 = .ok (.aload_n 0, 1) := dk_42 (dk_at dksX6_thread_1 15 rfl rfl)
theorem dX6_thread_39 : decode cX6_thread 39 = .ok (.iconst 0, 1) := dk_3 (dk_at dksX6_thread_1 16 rfl rfl)
theorem dX6_thread_40 : decode cX6_thread 40 = .ok (.putfield 134, 3) := dk_181 0 134 (dk_at dksX6_thread_1 17 rfl rfl)
theorem dX6_thread_43 : decode cX6_thread 43 = .ok (.iconst 0, 1) := dk_3 (dk_at dksX6_thread_1 20 rfl rfl)
theorem dX6_thread_44 : decode cX6_thread 44 = .ok (.istore_n 3, 1) := dk_62 (dk_at dksX6_thread_1 21 rfl rfl)
theorem dX6_thread_45 : decode cX6_thread 45 = .ok (.iload_n 1, 1) := dk_27 (dk_at dksX6_thread_1 22 rfl rfl)
theorem dX6_thread_46 : decode cX6_thread 46 = .ok (.iconst 1, 1) := dk_4 (dk_at dksX6_thread_1 23 rfl rfl)
theorem dX6_thread_47 : decode cX6_thread 47 = .ok (.isub, 1) := dk_100 (dk_at dksX6_thread_2 0 rfl rfl)
theorem dX6_thread_48 : decode cX6_thread 48 = .ok (.istore 4, 2) := dk_54 4 (dk_at dksX6_thread_2 1 rfl rfl)
theorem dX6_thread_50 : decode cX6_thread 50 = .ok (.iload 4, 2) := dk_21 4 (dk_at dksX6_thread_2 3 rfl rfl)
theorem dX6_thread_52 : decode cX6_thread 52 = .ok (.ifCond .lt 89, 3) := dk_155 0 89 (dk_at dksX6_thread_2 5 rfl rfl)
theorem dX6_thread_55 : decode cX6_thread 55 = .ok (.aload_n 0, 1) := dk_42 (dk_at dksX6_thread_2 8 rfl rfl)
theorem dX6_thread_56 : decode cX6_thread 56 = .ok (.getfield 95, 3) := dk_180 0 95 (dk_at dksX6_thread_2 9 rfl rfl)
theorem dX6_thread_59 : decode cX6_thread 59 = .ok (.iload 4, 2) := dk_21 4 (dk_at dksX6_thread_2 12 rfl rfl)
theorem dX6_thread_61 : decode cX6_thread 61 = .ok (.iconst 1, 1) := dk_4 (dk_at dksX6_thread_2 14 rfl rfl)
theorem dX6_thread_62 : decode cX6_thread 62 = .ok (.iastore, 1) := dk_79 (dk_at dksX6_thread_2 15 rfl rfl)
theorem dX6_thread_63 : decode cX6_thread 63 = .ok (.iload 4, 2) := dk_21 4 (dk_at dksX6_thread_2 16 rfl rfl)
theorem dX6_thread_65 : decode cX6_thread 65 = .ok (.iconst 1, 1) := dk_4 (dk_at dksX6_thread_2 18 rfl rfl)
theorem dX6_thread_66 : decode cX6_thread 66 = .ok (.iadd, 1) := dk_96 (dk_at dksX6_thread_2 19 rfl rfl)
theorem dX6_thread_67 : decode cX6_thread 67 = .ok (.istore 5, 2) := dk_54 5 (dk_at dksX6_thread_2 20 rfl rfl)
theorem dX6_thread_69 : decode cX6_thread 69 = .ok (.iload 5, 2) := dk_21 5 (dk_at dksX6_thread_2 22 rfl rfl)
theorem dX6_thread_71 : decode cX6_thread 71 = .ok (.iload_n 1, 1) := dk_27 (dk_at dksX6_thread_3 0 rfl rfl)
theorem dX6_thread_72 : decode cX6_thread 72 = .ok (.if_icmp .ge 51, 3) := dk_162 0 51 (dk_at dksX6_thread_3 1 rfl rfl)
theorem dX6_thread_75 : decode cX6_thread 75 = .ok (.aload_n 0, 1) := dk_42 (dk_at dksX6_thread_3 4 rfl rfl)
theorem dX6_thread_76 : decode cX6_thread 76 = .ok (.iload 4, 2) := dk_21 4 (dk_at dksX6_thread_3 5 rfl rfl)
theorem dX6_thread_78 : decode cX6_thread 78 = .ok (.invokevirtual 386, 3) := dk_182 1 130 (dk_at dksX6_thread_3 7 rfl rfl)
theorem dX6_thread_81 : decode cX6_thread 81 = .ok (.aload_n 0, 1) := dk_42 (dk_at dksX6_thread_3 10 rfl rfl)
theorem dX6_thread_82 : decode cX6_thread 82 = .ok (.iload 5, 2) := dk_21 5 (dk_at dksX6_thread_3 11 rfl rfl)
theorem dX6_thread_84 : decode cX6_thread 84 = .ok (.invokevirtual 386, 3) := dk_182 1 130 (dk_at dksX6_thread_3 13 rfl rfl)
theorem dX6_thread_87 : decode cX6_thread 87 = .ok (.iand, 1) := dk_126 (dk_at dksX6_thread_3 16 rfl rfl)
theorem dX6_thread_88 : decode cX6_thread 88 = .ok (.ifCond .eq 29, 3) := dk_153 0 29 (dk_at dksX6_thread_3 17 rfl rfl)
theorem dX6_thread_91 : decode cX6_thread 91 = .ok (.aload_n 0, 1) := dk_42 (dk_at dksX6_thread_3 20 rfl rfl)
theorem dX6_thread_92 : decode cX6_thread 92 = .ok (.getfield 95, 3) := dk_180 0 95 (dk_at dksX6_thread_3 21 rfl rfl)
theorem dX6_thread_95 : decode cX6_thread 95 = .ok (.iload 4, 2) := dk_21 4 (dk_at dksX6_thread_4 0 rfl rfl)
theorem dX6_thread_97 : decode cX6_thread 97 = .ok (.aload_n 0, 1) := dk_42 (dk_at dksX6_thread_4 2 rfl rfl)
theorem dX6_thread_98 : decode cX6_thread 98 = .ok (.getfield 95, 3) := dk_180 0 95 (dk_at dksX6_thread_4 3 rfl rfl)
theorem dX6_thread_101 : decode cX6_thread 101 = .ok (.iload 4, 2) := dk_21 4 (dk_at dksX6_thread_4 6 rfl rfl)
theorem dX6_thread_103 : decode cX6_thread 103 = .ok (.iaload, 1) := dk_46 (dk_at dksX6_thread_4 8 rfl rfl)
theorem dX6_thread_104 : decode cX6_thread 104 = .ok (.aload_n 0, 1) := dk_42 (dk_at dksX6_thread_4 9 rfl rfl)
theorem dX6_thread_105 : decode cX6_thread 105 = .ok (.getfield 95, 3) := dk_180 0 95 (dk_at dksX6_thread_4 10 rfl rfl)
theorem dX6_thread_108 : decode cX6_thread 108 = .ok (.iload 5, 2) := dk_21 5 (dk_at dksX6_thread_4 13 rfl rfl)
theorem dX6_thread_110 : decode cX6_thread 110 = .ok (.iaload, 1) := dk_46 (dk_at dksX6_thread_4 15 rfl rfl)
theorem dX6_thread_111 : decode cX6_thread 111 = .ok (.iconst 1, 1) := dk_4 (dk_at dksX6_thread_4 16 rfl rfl)
theorem dX6_thread_112 : decode cX6_thread 112 = .ok (.iadd, 1) := dk_96 (dk_at dksX6_thread_4 17 rfl rfl)
theorem dX6_thread_113 : decode cX6_thread 113 = .ok (.invokestatic 310, 3) := dk_184 1 54 (dk_at dksX6_thread_4 18 rfl rfl)
theorem dX6_thread_116 : decode cX6_thread 116 = .ok (.iastore, 1) := dk_79 (dk_at dksX6_thread_4 21 rfl rfl)
theorem dX6_thread_117 : decode cX6_thread 117 = .ok (.iinc 5 1, 3) := dk_132 5 1 (dk_at dksX6_thread_5 0 rfl rfl)
theorem dX6_thread_120 : decode cX6_thread 120 = .ok (.goto (-51), 3) := dk_167 255 205 (dk_at dksX6_thread_5 3 rfl rfl)
theorem dX6_thread_123 : decode cX6_thread 123 = .ok (.iload_n 3, 1) := dk_29 (dk_at dksX6_thread_5 6 rfl rfl)
theorem dX6_thread_124 : decode cX6_thread 124 = .ok (.aload_n 0, 1) := dk_42 (dk_at dksX6_thread_5 7 rfl rfl)
theorem dX6_thread_125 : decode cX6_thread 125 = .ok (.getfield 95, 3) := dk_180 0 95 (dk_at dksX6_thread_5 8 rfl rfl)
theorem dX6_thread_128 : decode cX6_thread 128 = .ok (.iload 4, 2) := dk_21 4 (dk_at dksX6_thread_5 11 rfl rfl)
theorem dX6_thread_130 : decode cX6_thread 130 = .ok (.iaload, 1) := dk_46 (dk_at dksX6_thread_5 13 rfl rfl)
theorem dX6_thread_131 : decode cX6_thread 131 = .ok (.invokestatic 310, 3) := dk_184 1 54 (dk_at dksX6_thread_5 14 rfl rfl)
theorem dX6_thread_134 : decode cX6_thread 134 = .ok (.istore_n 3, 1) := dk_62 (dk_at dksX6_thread_5 17 rfl rfl)
theorem dX6_thread_135 : decode cX6_thread 135 = .ok (.iinc 4 (-1), 3) := dk_132 4 255 (dk_at dksX6_thread_5 18 rfl rfl)
theorem dX6_thread_138 : decode cX6_thread 138 = .ok (.goto (-88), 3) := dk_167 255 168 (dk_at dksX6_thread_5 21 rfl rfl)
theorem dX6_thread_141 : decode cX6_thread 141 = .ok (.iload_n 2, 1) := dk_28 (dk_at dksX6_thread_6 0 rfl rfl)
theorem dX6_thread_142 : decode cX6_thread 142 = .ok (.bipush 100, 2) := dk_16 100 (dk_at dksX6_thread_6 1 rfl rfl)
theorem dX6_thread_144 : decode cX6_thread 144 = .ok (.if_icmp .ne 5, 3) := dk_160 0 5 (dk_at dksX6_thread_6 3 rfl rfl)
theorem dX6_thread_147 : decode cX6_thread 147 = .ok (.iload_n 3, 1) := dk_29 (dk_at dksX6_thread_6 6 rfl rfl)
theorem dX6_thread_148 : decode cX6_thread 148 = .ok (.ireturn, 1) := dk_172 (dk_at dksX6_thread_6 7 rfl rfl)
theorem dX6_thread_149 : decode cX6_thread 149 = .ok (.iload_n 2, 1) := dk_28 (dk_at dksX6_thread_6 8 rfl rfl)
theorem dX6_thread_150 : decode cX6_thread 150 = .ok (.iload_n 3, 1) := dk_29 (dk_at dksX6_thread_6 9 rfl rfl)
theorem dX6_thread_151 : decode cX6_thread 151 = .ok (.if_icmp .lt 6, 3) := dk_161 0 6 (dk_at dksX6_thread_6 10 rfl rfl)
theorem dX6_thread_154 : decode cX6_thread 154 = .ok (.bipush (-4), 2) := dk_16 252 (dk_at dksX6_thread_6 13 rfl rfl)
theorem dX6_thread_156 : decode cX6_thread 156 = .ok (.ireturn, 1) := dk_172 (dk_at dksX6_thread_6 15 rfl rfl)
theorem dX6_thread_157 : decode cX6_thread 157 = .ok (.iconst 0, 1) := dk_3 (dk_at dksX6_thread_6 16 rfl rfl)
theorem dX6_thread_158 : decode cX6_thread 158 = .ok (.istore 4, 2) := dk_54 4 (dk_at dksX6_thread_6 17 rfl rfl)
theorem dX6_thread_160 : decode cX6_thread 160 = .ok (.aload_n 0, 1) := dk_42 (dk_at dksX6_thread_6 19 rfl rfl)
theorem dX6_thread_161 : decode cX6_thread 161 = .ok (.getfield 95, 3) := dk_180 0 95 (dk_at dksX6_thread_6 20 rfl rfl)
theorem dX6_thread_164 : decode cX6_thread 164 = .ok (.iload 4, 2) := dk_21 4 (dk_at dksX6_thread_7 0 rfl rfl)
theorem dX6_thread_166 : decode cX6_thread 166 = .ok (.iaload, 1) := dk_46 (dk_at dksX6_thread_7 2 rfl rfl)
theorem dX6_thread_167 : decode cX6_thread 167 = .ok (.iload_n 3, 1) := dk_29 (dk_at dksX6_thread_7 3 rfl rfl)
theorem dX6_thread_168 : decode cX6_thread 168 = .ok (.if_icmp .eq 12, 3) := dk_159 0 12 (dk_at dksX6_thread_7 4 rfl rfl)
theorem dX6_thread_171 : decode cX6_thread 171 = .ok (.iload 4, 2) := dk_21 4 (dk_at dksX6_thread_7 7 rfl rfl)
theorem dX6_thread_173 : decode cX6_thread 173 = .ok (.iconst 1, 1) := dk_4 (dk_at dksX6_thread_7 9 rfl rfl)
theorem dX6_thread_174 : decode cX6_thread 174 = .ok (.iadd, 1) := dk_96 (dk_at dksX6_thread_7 10 rfl rfl)
theorem dX6_thread_175 : decode cX6_thread 175 = .ok (.istore 4, 2) := dk_54 4 (dk_at dksX6_thread_7 11 rfl rfl)
theorem dX6_thread_177 : decode cX6_thread 177 = .ok (.goto (-17), 3) := dk_167 255 239 (dk_at dksX6_thread_7 13 rfl rfl)
theorem dX6_thread_180 : decode cX6_thread 180 = .ok (.iconst 1, 1) := dk_4 (dk_at dksX6_thread_7 16 rfl rfl)
theorem dX6_thread_181 : decode cX6_thread 181 = .ok (.istore 5, 2) := dk_54 5 (dk_at dksX6_thread_7 17 rfl rfl)
theorem dX6_thread_183 : decode cX6_thread 183 = .ok (.iload 5, 2) := dk_21 5 (dk_at dksX6_thread_7 19 rfl rfl)
theorem dX6_thread_185 : decode cX6_thread 185 = .ok (.iload_n 2, 1) := dk_28 (dk_at dksX6_thread_7 21 rfl rfl)
theorem dX6_thread_186 : decode cX6_thread 186 = .ok (.if_icmp .gt 58, 3) := dk_163 0 58 (dk_at dksX6_thread_8 0 rfl rfl)
theorem dX6_thread_189 : decode cX6_thread 189 = .ok (.iload 4, 2) := dk_21 4 (dk_at dksX6_thread_8 3 rfl rfl)
theorem dX6_thread_191 : decode cX6_thread 191 = .ok (.iconst 1, 1) := dk_4 (dk_at dksX6_thread_8 5 rfl rfl)
theorem dX6_thread_192 : decode cX6_thread 192 = .ok (.iadd, 1) := dk_96 (dk_at dksX6_thread_8 6 rfl rfl)
theorem dX6_thread_193 : decode cX6_thread 193 = .ok (.istore 6, 2) := dk_54 6 (dk_at dksX6_thread_8 7 rfl rfl)
theorem dX6_thread_195 : decode cX6_thread 195 = .ok (.aload_n 0, 1) := dk_42 (dk_at dksX6_thread_8 9 rfl rfl)
theorem dX6_thread_196 : decode cX6_thread 196 = .ok (.getfield 95, 3) := dk_180 0 95 (dk_at dksX6_thread_8 10 rfl rfl)
theorem dX6_thread_199 : decode cX6_thread 199 = .ok (.iload 6, 2) := dk_21 6 (dk_at dksX6_thread_8 13 rfl rfl)
theorem dX6_thread_201 : decode cX6_thread 201 = .ok (.iaload, 1) := dk_46 (dk_at dksX6_thread_8 15 rfl rfl)
theorem dX6_thread_202 : decode cX6_thread 202 = .ok (.iload_n 3, 1) := dk_29 (dk_at dksX6_thread_8 16 rfl rfl)
theorem dX6_thread_203 : decode cX6_thread 203 = .ok (.iload 5, 2) := dk_21 5 (dk_at dksX6_thread_8 17 rfl rfl)
theorem dX6_thread_205 : decode cX6_thread 205 = .ok (.isub, 1) := dk_100 (dk_at dksX6_thread_8 19 rfl rfl)
theorem dX6_thread_206 : decode cX6_thread 206 = .ok (.if_icmp .ne 19, 3) := dk_160 0 19 (dk_at dksX6_thread_8 20 rfl rfl)
theorem dX6_thread_209 : decode cX6_thread 209 = .ok (.aload_n 0, 1) := dk_42 (dk_at dksX6_thread_8 23 rfl rfl)
theorem dX6_thread_210 : decode cX6_thread 210 = .ok (.iload 4, 2) := dk_21 4 (dk_at dksX6_thread_9 0 rfl rfl)
theorem dX6_thread_212 : decode cX6_thread 212 = .ok (.invokevirtual 386, 3) := dk_182 1 130 (dk_at dksX6_thread_9 2 rfl rfl)
theorem dX6_thread_215 : decode cX6_thread 215 = .ok (.aload_n 0, 1) := dk_42 (dk_at dksX6_thread_9 5 rfl rfl)
theorem dX6_thread_216 : decode cX6_thread 216 = .ok (.iload 6, 2) := dk_21 6 (dk_at dksX6_thread_9 6 rfl rfl)
theorem dX6_thread_218 : decode cX6_thread 218 = .ok (.invokevirtual 386, 3) := dk_182 1 130 (dk_at dksX6_thread_9 8 rfl rfl)
theorem dX6_thread_221 : decode cX6_thread 221 = .ok (.iand, 1) := dk_126 (dk_at dksX6_thread_9 11 rfl rfl)
theorem dX6_thread_222 : decode cX6_thread 222 = .ok (.ifCond .ne 12, 3) := dk_154 0 12 (dk_at dksX6_thread_9 12 rfl rfl)
theorem dX6_thread_225 : decode cX6_thread 225 = .ok (.iload 6, 2) := dk_21 6 (dk_at dksX6_thread_9 15 rfl rfl)
theorem dX6_thread_227 : decode cX6_thread 227 = .ok (.iconst 1, 1) := dk_4 (dk_at dksX6_thread_9 17 rfl rfl)
theorem dX6_thread_228 : decode cX6_thread 228 = .ok (.iadd, 1) := dk_96 (dk_at dksX6_thread_9 18 rfl rfl)
theorem dX6_thread_229 : decode cX6_thread 229 = .ok (.istore 6, 2) := dk_54 6 (dk_at dksX6_thread_9 19 rfl rfl)
theorem dX6_thread_231 : decode cX6_thread 231 = .ok (.goto (-36), 3) := dk_167 255 220 (dk_at dksX6_thread_9 21 rfl rfl)
theorem dX6_thread_234 : decode cX6_thread 234 = .ok (.iload 6, 2) := dk_21 6 (dk_at dksX6_thread_10 0 rfl rfl)
theorem dX6_thread_236 : decode cX6_thread 236 = .ok (.istore 4, 2) := dk_54 4 (dk_at dksX6_thread_10 2 rfl rfl)
theorem dX6_thread_238 : decode cX6_thread 238 = .ok (.iinc 5 1, 3) := dk_132 5 1 (dk_at dksX6_thread_10 4 rfl rfl)
theorem dX6_thread_241 : decode cX6_thread 241 = .ok (.goto (-58), 3) := dk_167 255 198 (dk_at dksX6_thread_10 7 rfl rfl)
theorem dX6_thread_244 : decode cX6_thread 244 = .ok (.iload 4, 2) := dk_21 4 (dk_at dksX6_thread_10 10 rfl rfl)
theorem dX6_thread_246 : decode cX6_thread 246 = .ok (.ireturn, 1) := dk_172 (dk_at dksX6_thread_10 12 rfl rfl)
abbrev cX6_sayingOf : ByteArray := prog_20_method_90_code
def yX6_sayingOf : MethodName := ⟨RX6, "sayingOf", "(I)I"⟩
def dkwX6_sayingOf_0 : List UInt8 := [17, 1, 0, 42, 5, 27, 104, 182, 1, 127, 104, 42, 5, 27, 104, 4, 96, 182, 1, 127, 96, 172]
abbrev dktX6_sayingOf_0 : List UInt8 := dkwX6_sayingOf_0 ++ []
theorem dksX6_sayingOf_0 : cX6_sayingOf.data.toList.drop 0 = dktX6_sayingOf_0 := by decide +kernel
theorem dX6_sayingOf_0 : decode cX6_sayingOf 0 = .ok (.sipush 256, 3) := dk_17 1 0 (dk_at dksX6_sayingOf_0 0 rfl rfl)
theorem dX6_sayingOf_3 : decode cX6_sayingOf 3 = .ok (.aload_n 0, 1) := dk_42 (dk_at dksX6_sayingOf_0 3 rfl rfl)
theorem dX6_sayingOf_4 : decode cX6_sayingOf 4 = .ok (.iconst 2, 1) := dk_5 (dk_at dksX6_sayingOf_0 4 rfl rfl)
theorem dX6_sayingOf_5 : decode cX6_sayingOf 5 = .ok (.iload_n 1, 1) := dk_27 (dk_at dksX6_sayingOf_0 5 rfl rfl)
theorem dX6_sayingOf_6 : decode cX6_sayingOf 6 = .ok (.imul, 1) := dk_104 (dk_at dksX6_sayingOf_0 6 rfl rfl)
theorem dX6_sayingOf_7 : decode cX6_sayingOf 7 = .ok (.invokevirtual 383, 3) := dk_182 1 127 (dk_at dksX6_sayingOf_0 7 rfl rfl)
theorem dX6_sayingOf_10 : decode cX6_sayingOf 10 = .ok (.imul, 1) := dk_104 (dk_at dksX6_sayingOf_0 10 rfl rfl)
theorem dX6_sayingOf_11 : decode cX6_sayingOf 11 = .ok (.aload_n 0, 1) := dk_42 (dk_at dksX6_sayingOf_0 11 rfl rfl)
theorem dX6_sayingOf_12 : decode cX6_sayingOf 12 = .ok (.iconst 2, 1) := dk_5 (dk_at dksX6_sayingOf_0 12 rfl rfl)
theorem dX6_sayingOf_13 : decode cX6_sayingOf 13 = .ok (.iload_n 1, 1) := dk_27 (dk_at dksX6_sayingOf_0 13 rfl rfl)
theorem dX6_sayingOf_14 : decode cX6_sayingOf 14 = .ok (.imul, 1) := dk_104 (dk_at dksX6_sayingOf_0 14 rfl rfl)
theorem dX6_sayingOf_15 : decode cX6_sayingOf 15 = .ok (.iconst 1, 1) := dk_4 (dk_at dksX6_sayingOf_0 15 rfl rfl)
theorem dX6_sayingOf_16 : decode cX6_sayingOf 16 = .ok (.iadd, 1) := dk_96 (dk_at dksX6_sayingOf_0 16 rfl rfl)
theorem dX6_sayingOf_17 : decode cX6_sayingOf 17 = .ok (.invokevirtual 383, 3) := dk_182 1 127 (dk_at dksX6_sayingOf_0 17 rfl rfl)
theorem dX6_sayingOf_20 : decode cX6_sayingOf 20 = .ok (.iadd, 1) := dk_96 (dk_at dksX6_sayingOf_0 20 rfl rfl)
theorem dX6_sayingOf_21 : decode cX6_sayingOf 21 = .ok (.ireturn, 1) := dk_172 (dk_at dksX6_sayingOf_0 21 rfl rfl)
abbrev cX6_octet : ByteArray := prog_20_method_22_code
def yX6_octet : MethodName := ⟨RX6, "octet", "(I)I"⟩
def dkwX6_octet_0 : List UInt8 := [42, 180, 0, 19, 27, 51, 17, 0, 255, 126, 172]
abbrev dktX6_octet_0 : List UInt8 := dkwX6_octet_0 ++ []
theorem dksX6_octet_0 : cX6_octet.data.toList.drop 0 = dktX6_octet_0 := by decide +kernel
theorem dX6_octet_0 : decode cX6_octet 0 = .ok (.aload_n 0, 1) := dk_42 (dk_at dksX6_octet_0 0 rfl rfl)
theorem dX6_octet_1 : decode cX6_octet 1 = .ok (.getfield 19, 3) := dk_180 0 19 (dk_at dksX6_octet_0 1 rfl rfl)
theorem dX6_octet_4 : decode cX6_octet 4 = .ok (.iload_n 1, 1) := dk_27 (dk_at dksX6_octet_0 4 rfl rfl)
theorem dX6_octet_5 : decode cX6_octet 5 = .ok (.baload, 1) := dk_51 (dk_at dksX6_octet_0 5 rfl rfl)
theorem dX6_octet_6 : decode cX6_octet 6 = .ok (.sipush 255, 3) := dk_17 0 255 (dk_at dksX6_octet_0 6 rfl rfl)
theorem dX6_octet_9 : decode cX6_octet 9 = .ok (.iand, 1) := dk_126 (dk_at dksX6_octet_0 9 rfl rfl)
theorem dX6_octet_10 : decode cX6_octet 10 = .ok (.ireturn, 1) := dk_172 (dk_at dksX6_octet_0 10 rfl rfl)
abbrev cX6_good : ByteArray := prog_20_method_92_code
def yX6_good : MethodName := ⟨RX6, "good", "(II)I"⟩
def dkwX6_good_6 : List UInt8 := [160, 0, 8, 21, 4, 167, 0, 5, 21, 5, 172]
abbrev dktX6_good_6 : List UInt8 := dkwX6_good_6 ++ []
def dkwX6_good_5 : List UInt8 := [132, 8, 1, 167, 255, 183, 132, 6, 1, 167, 255, 163, 28, 154, 0, 7, 29, 167, 0, 15, 28, 4]
abbrev dktX6_good_5 : List UInt8 := dkwX6_good_5 ++ dktX6_good_6
def dkwX6_good_4 : List UInt8 := [96, 54, 7, 21, 7, 21, 5, 163, 0, 6, 167, 0, 14, 21, 7, 54, 5, 21, 6, 62, 21, 8, 54, 4]
abbrev dktX6_good_4 : List UInt8 := dkwX6_good_4 ++ dktX6_good_5
def dkwX6_good_3 : List UInt8 := [21, 9, 16, 254, 160, 0, 7, 3, 167, 0, 16, 42, 21, 9, 16, 10, 27, 104, 21, 8, 96, 182, 1, 72]
abbrev dktX6_good_3 : List UInt8 := dkwX6_good_3 ++ dktX6_good_4
def dkwX6_good_2 : List UInt8 := [54, 8, 21, 8, 16, 10, 162, 0, 72, 42, 16, 10, 27, 104, 21, 8, 96, 182, 0, 247, 54, 9, 21, 7]
abbrev dktX6_good_2 : List UInt8 := dkwX6_good_2 ++ dktX6_good_3
def dkwX6_good_1 : List UInt8 := [3, 54, 4, 19, 1, 102, 54, 5, 3, 54, 6, 21, 6, 16, 10, 162, 0, 92, 3, 54, 7, 21, 6]
abbrev dktX6_good_1 : List UInt8 := dkwX6_good_1 ++ dktX6_good_2
def dkwX6_good_0 : List UInt8 := [27, 3, 8, 184, 0, 104, 153, 0, 12, 28, 3, 5, 184, 0, 104, 154, 0, 7, 17, 252, 24, 172, 3, 62]
abbrev dktX6_good_0 : List UInt8 := dkwX6_good_0 ++ dktX6_good_1
theorem dksX6_good_0 : cX6_good.data.toList.drop 0 = dktX6_good_0 := by decide +kernel
theorem dksX6_good_1 : cX6_good.data.toList.drop 24 = dktX6_good_1 := dk_seg dksX6_good_0 24 rfl rfl
theorem dksX6_good_2 : cX6_good.data.toList.drop 47 = dktX6_good_2 := dk_seg dksX6_good_1 23 rfl rfl
theorem dksX6_good_3 : cX6_good.data.toList.drop 71 = dktX6_good_3 := dk_seg dksX6_good_2 24 rfl rfl
theorem dksX6_good_4 : cX6_good.data.toList.drop 95 = dktX6_good_4 := dk_seg dksX6_good_3 24 rfl rfl
theorem dksX6_good_5 : cX6_good.data.toList.drop 119 = dktX6_good_5 := dk_seg dksX6_good_4 24 rfl rfl
theorem dksX6_good_6 : cX6_good.data.toList.drop 141 = dktX6_good_6 := dk_seg dksX6_good_5 22 rfl rfl
theorem dX6_good_0 : decode cX6_good 0 = .ok (.iload_n 1, 1) := dk_27 (dk_at dksX6_good_0 0 rfl rfl)
theorem dX6_good_1 : decode cX6_good 1 = .ok (.iconst 0, 1) := dk_3 (dk_at dksX6_good_0 1 rfl rfl)
theorem dX6_good_2 : decode cX6_good 2 = .ok (.iconst 5, 1) := dk_8 (dk_at dksX6_good_0 2 rfl rfl)
theorem dX6_good_3 : decode cX6_good 3 = .ok (.invokestatic 104, 3) := dk_184 0 104 (dk_at dksX6_good_0 3 rfl rfl)
theorem dX6_good_6 : decode cX6_good 6 = .ok (.ifCond .eq 12, 3) := dk_153 0 12 (dk_at dksX6_good_0 6 rfl rfl)
theorem dX6_good_9 : decode cX6_good 9 = .ok (.iload_n 2, 1) := dk_28 (dk_at dksX6_good_0 9 rfl rfl)
theorem dX6_good_10 : decode cX6_good 10 = .ok (.iconst 0, 1) := dk_3 (dk_at dksX6_good_0 10 rfl rfl)
theorem dX6_good_11 : decode cX6_good 11 = .ok (.iconst 2, 1) := dk_5 (dk_at dksX6_good_0 11 rfl rfl)
theorem dX6_good_12 : decode cX6_good 12 = .ok (.invokestatic 104, 3) := dk_184 0 104 (dk_at dksX6_good_0 12 rfl rfl)
theorem dX6_good_15 : decode cX6_good 15 = .ok (.ifCond .ne 7, 3) := dk_154 0 7 (dk_at dksX6_good_0 15 rfl rfl)
theorem dX6_good_18 : decode cX6_good 18 = .ok (.sipush (-1000), 3) := dk_17 252 24 (dk_at dksX6_good_0 18 rfl rfl)
theorem dX6_good_21 : decode cX6_good 21 = .ok (.ireturn, 1) := dk_172 (dk_at dksX6_good_0 21 rfl rfl)
theorem dX6_good_22 : decode cX6_good 22 = .ok (.iconst 0, 1) := dk_3 (dk_at dksX6_good_0 22 rfl rfl)
theorem dX6_good_23 : decode cX6_good 23 = .ok (.istore_n 3, 1) := dk_62 (dk_at dksX6_good_0 23 rfl rfl)
theorem dX6_good_24 : decode cX6_good 24 = .ok (.iconst 0, 1) := dk_3 (dk_at dksX6_good_1 0 rfl rfl)
theorem dX6_good_25 : decode cX6_good 25 = .ok (.istore 4, 2) := dk_54 4 (dk_at dksX6_good_1 1 rfl rfl)
theorem dX6_good_27 : decode cX6_good 27 = .ok (.ldc_w 358, 3) := dk_19 1 102 (dk_at dksX6_good_1 3 rfl rfl)
theorem dX6_good_30 : decode cX6_good 30 = .ok (.istore 5, 2) := dk_54 5 (dk_at dksX6_good_1 6 rfl rfl)
theorem dX6_good_32 : decode cX6_good 32 = .ok (.iconst 0, 1) := dk_3 (dk_at dksX6_good_1 8 rfl rfl)
theorem dX6_good_33 : decode cX6_good 33 = .ok (.istore 6, 2) := dk_54 6 (dk_at dksX6_good_1 9 rfl rfl)
theorem dX6_good_35 : decode cX6_good 35 = .ok (.iload 6, 2) := dk_21 6 (dk_at dksX6_good_1 11 rfl rfl)
theorem dX6_good_37 : decode cX6_good 37 = .ok (.bipush 10, 2) := dk_16 10 (dk_at dksX6_good_1 13 rfl rfl)
theorem dX6_good_39 : decode cX6_good 39 = .ok (.if_icmp .ge 92, 3) := dk_162 0 92 (dk_at dksX6_good_1 15 rfl rfl)
theorem dX6_good_42 : decode cX6_good 42 = .ok (.iconst 0, 1) := dk_3 (dk_at dksX6_good_1 18 rfl rfl)
theorem dX6_good_43 : decode cX6_good 43 = .ok (.istore 7, 2) := dk_54 7 (dk_at dksX6_good_1 19 rfl rfl)
theorem dX6_good_45 : decode cX6_good 45 = .ok (.iload 6, 2) := dk_21 6 (dk_at dksX6_good_1 21 rfl rfl)
theorem dX6_good_47 : decode cX6_good 47 = .ok (.istore 8, 2) := dk_54 8 (dk_at dksX6_good_2 0 rfl rfl)
theorem dX6_good_49 : decode cX6_good 49 = .ok (.iload 8, 2) := dk_21 8 (dk_at dksX6_good_2 2 rfl rfl)
theorem dX6_good_51 : decode cX6_good 51 = .ok (.bipush 10, 2) := dk_16 10 (dk_at dksX6_good_2 4 rfl rfl)
theorem dX6_good_53 : decode cX6_good 53 = .ok (.if_icmp .ge 72, 3) := dk_162 0 72 (dk_at dksX6_good_2 6 rfl rfl)
theorem dX6_good_56 : decode cX6_good 56 = .ok (.aload_n 0, 1) := dk_42 (dk_at dksX6_good_2 9 rfl rfl)
theorem dX6_good_57 : decode cX6_good 57 = .ok (.bipush 10, 2) := dk_16 10 (dk_at dksX6_good_2 10 rfl rfl)
theorem dX6_good_59 : decode cX6_good 59 = .ok (.iload_n 1, 1) := dk_27 (dk_at dksX6_good_2 12 rfl rfl)
theorem dX6_good_60 : decode cX6_good 60 = .ok (.imul, 1) := dk_104 (dk_at dksX6_good_2 13 rfl rfl)
theorem dX6_good_61 : decode cX6_good 61 = .ok (.iload 8, 2) := dk_21 8 (dk_at dksX6_good_2 14 rfl rfl)
theorem dX6_good_63 : decode cX6_good 63 = .ok (.iadd, 1) := dk_96 (dk_at dksX6_good_2 16 rfl rfl)
theorem dX6_good_64 : decode cX6_good 64 = .ok (.invokevirtual 247, 3) := dk_182 0 247 (dk_at dksX6_good_2 17 rfl rfl)
theorem dX6_good_67 : decode cX6_good 67 = .ok (.istore 9, 2) := dk_54 9 (dk_at dksX6_good_2 20 rfl rfl)
theorem dX6_good_69 : decode cX6_good 69 = .ok (.iload 7, 2) := dk_21 7 (dk_at dksX6_good_2 22 rfl rfl)
theorem dX6_good_71 : decode cX6_good 71 = .ok (.iload 9, 2) := dk_21 9 (dk_at dksX6_good_3 0 rfl rfl)
theorem dX6_good_73 : decode cX6_good 73 = .ok (.bipush (-2), 2) := dk_16 254 (dk_at dksX6_good_3 2 rfl rfl)
theorem dX6_good_75 : decode cX6_good 75 = .ok (.if_icmp .ne 7, 3) := dk_160 0 7 (dk_at dksX6_good_3 4 rfl rfl)
theorem dX6_good_78 : decode cX6_good 78 = .ok (.iconst 0, 1) := dk_3 (dk_at dksX6_good_3 7 rfl rfl)
theorem dX6_good_79 : decode cX6_good 79 = .ok (.goto 16, 3) := dk_167 0 16 (dk_at dksX6_good_3 8 rfl rfl)
theorem dX6_good_82 : decode cX6_good 82 = .ok (.aload_n 0, 1) := dk_42 (dk_at dksX6_good_3 11 rfl rfl)
theorem dX6_good_83 : decode cX6_good 83 = .ok (.iload 9, 2) := dk_21 9 (dk_at dksX6_good_3 12 rfl rfl)
theorem dX6_good_85 : decode cX6_good 85 = .ok (.bipush 10, 2) := dk_16 10 (dk_at dksX6_good_3 14 rfl rfl)
theorem dX6_good_87 : decode cX6_good 87 = .ok (.iload_n 1, 1) := dk_27 (dk_at dksX6_good_3 16 rfl rfl)
theorem dX6_good_88 : decode cX6_good 88 = .ok (.imul, 1) := dk_104 (dk_at dksX6_good_3 17 rfl rfl)
theorem dX6_good_89 : decode cX6_good 89 = .ok (.iload 8, 2) := dk_21 8 (dk_at dksX6_good_3 18 rfl rfl)
theorem dX6_good_91 : decode cX6_good 91 = .ok (.iadd, 1) := dk_96 (dk_at dksX6_good_3 20 rfl rfl)
theorem dX6_good_92 : decode cX6_good 92 = .ok (.invokevirtual 328, 3) := dk_182 1 72 (dk_at dksX6_good_3 21 rfl rfl)
theorem dX6_good_95 : decode cX6_good 95 = .ok (.iadd, 1) := dk_96 (dk_at dksX6_good_4 0 rfl rfl)
theorem dX6_good_96 : decode cX6_good 96 = .ok (.istore 7, 2) := dk_54 7 (dk_at dksX6_good_4 1 rfl rfl)
theorem dX6_good_98 : decode cX6_good 98 = .ok (.iload 7, 2) := dk_21 7 (dk_at dksX6_good_4 3 rfl rfl)
theorem dX6_good_100 : decode cX6_good 100 = .ok (.iload 5, 2) := dk_21 5 (dk_at dksX6_good_4 5 rfl rfl)
theorem dX6_good_102 : decode cX6_good 102 = .ok (.if_icmp .gt 6, 3) := dk_163 0 6 (dk_at dksX6_good_4 7 rfl rfl)
theorem dX6_good_105 : decode cX6_good 105 = .ok (.goto 14, 3) := dk_167 0 14 (dk_at dksX6_good_4 10 rfl rfl)
theorem dX6_good_108 : decode cX6_good 108 = .ok (.iload 7, 2) := dk_21 7 (dk_at dksX6_good_4 13 rfl rfl)
theorem dX6_good_110 : decode cX6_good 110 = .ok (.istore 5, 2) := dk_54 5 (dk_at dksX6_good_4 15 rfl rfl)
theorem dX6_good_112 : decode cX6_good 112 = .ok (.iload 6, 2) := dk_21 6 (dk_at dksX6_good_4 17 rfl rfl)
theorem dX6_good_114 : decode cX6_good 114 = .ok (.istore_n 3, 1) := dk_62 (dk_at dksX6_good_4 19 rfl rfl)
theorem dX6_good_115 : decode cX6_good 115 = .ok (.iload 8, 2) := dk_21 8 (dk_at dksX6_good_4 20 rfl rfl)
theorem dX6_good_117 : decode cX6_good 117 = .ok (.istore 4, 2) := dk_54 4 (dk_at dksX6_good_4 22 rfl rfl)
theorem dX6_good_119 : decode cX6_good 119 = .ok (.iinc 8 1, 3) := dk_132 8 1 (dk_at dksX6_good_5 0 rfl rfl)
theorem dX6_good_122 : decode cX6_good 122 = .ok (.goto (-73), 3) := dk_167 255 183 (dk_at dksX6_good_5 3 rfl rfl)
theorem dX6_good_125 : decode cX6_good 125 = .ok (.iinc 6 1, 3) := dk_132 6 1 (dk_at dksX6_good_5 6 rfl rfl)
theorem dX6_good_128 : decode cX6_good 128 = .ok (.goto (-93), 3) := dk_167 255 163 (dk_at dksX6_good_5 9 rfl rfl)
theorem dX6_good_131 : decode cX6_good 131 = .ok (.iload_n 2, 1) := dk_28 (dk_at dksX6_good_5 12 rfl rfl)
theorem dX6_good_132 : decode cX6_good 132 = .ok (.ifCond .ne 7, 3) := dk_154 0 7 (dk_at dksX6_good_5 13 rfl rfl)
theorem dX6_good_135 : decode cX6_good 135 = .ok (.iload_n 3, 1) := dk_29 (dk_at dksX6_good_5 16 rfl rfl)
theorem dX6_good_136 : decode cX6_good 136 = .ok (.goto 15, 3) := dk_167 0 15 (dk_at dksX6_good_5 17 rfl rfl)
theorem dX6_good_139 : decode cX6_good 139 = .ok (.iload_n 2, 1) := dk_28 (dk_at dksX6_good_5 20 rfl rfl)
theorem dX6_good_140 : decode cX6_good 140 = .ok (.iconst 1, 1) := dk_4 (dk_at dksX6_good_5 21 rfl rfl)
theorem dX6_good_141 : decode cX6_good 141 = .ok (.if_icmp .ne 8, 3) := dk_160 0 8 (dk_at dksX6_good_6 0 rfl rfl)
theorem dX6_good_144 : decode cX6_good 144 = .ok (.iload 4, 2) := dk_21 4 (dk_at dksX6_good_6 3 rfl rfl)
theorem dX6_good_146 : decode cX6_good 146 = .ok (.goto 5, 3) := dk_167 0 5 (dk_at dksX6_good_6 5 rfl rfl)
theorem dX6_good_149 : decode cX6_good 149 = .ok (.iload 5, 2) := dk_21 5 (dk_at dksX6_good_6 8 rfl rfl)
theorem dX6_good_151 : decode cX6_good 151 = .ok (.ireturn, 1) := dk_172 (dk_at dksX6_good_6 10 rfl rfl)
abbrev cX6_silent : ByteArray := prog_20_method_95_code
def yX6_silent : MethodName := ⟨RX6, "silent", "(I)I"⟩
def dkwX6_silent_3 : List UInt8 := [27, 154, 0, 7, 28, 167, 0, 14, 27, 4, 160, 0, 7, 29, 167, 0, 5, 21, 4, 172]
abbrev dktX6_silent_3 : List UInt8 := dkwX6_silent_3 ++ []
def dkwX6_silent_2 : List UInt8 := [21, 5, 182, 1, 136, 154, 0, 6, 167, 0, 10, 28, 4, 96, 61, 21, 5, 62, 132, 5, 255, 167, 255, 211]
abbrev dktX6_silent_2 : List UInt8 := dkwX6_silent_2 ++ dktX6_silent_3
def dkwX6_silent_1 : List UInt8 := [21, 5, 155, 0, 46, 27, 5, 160, 0, 16, 21, 4, 42, 21, 5, 182, 1, 133, 184, 1, 54, 54, 4, 42]
abbrev dktX6_silent_1 : List UInt8 := dkwX6_silent_1 ++ dktX6_silent_2
def dkwX6_silent_0 : List UInt8 := [27, 3, 5, 184, 0, 104, 154, 0, 5, 2, 172, 3, 61, 16, 254, 62, 3, 54, 4, 16, 59, 54, 5]
abbrev dktX6_silent_0 : List UInt8 := dkwX6_silent_0 ++ dktX6_silent_1
theorem dksX6_silent_0 : cX6_silent.data.toList.drop 0 = dktX6_silent_0 := by decide +kernel
theorem dksX6_silent_1 : cX6_silent.data.toList.drop 23 = dktX6_silent_1 := dk_seg dksX6_silent_0 23 rfl rfl
theorem dksX6_silent_2 : cX6_silent.data.toList.drop 47 = dktX6_silent_2 := dk_seg dksX6_silent_1 24 rfl rfl
theorem dksX6_silent_3 : cX6_silent.data.toList.drop 71 = dktX6_silent_3 := dk_seg dksX6_silent_2 24 rfl rfl
theorem dX6_silent_0 : decode cX6_silent 0 = .ok (.iload_n 1, 1) := dk_27 (dk_at dksX6_silent_0 0 rfl rfl)
theorem dX6_silent_1 : decode cX6_silent 1 = .ok (.iconst 0, 1) := dk_3 (dk_at dksX6_silent_0 1 rfl rfl)
theorem dX6_silent_2 : decode cX6_silent 2 = .ok (.iconst 2, 1) := dk_5 (dk_at dksX6_silent_0 2 rfl rfl)
theorem dX6_silent_3 : decode cX6_silent 3 = .ok (.invokestatic 104, 3) := dk_184 0 104 (dk_at dksX6_silent_0 3 rfl rfl)
theorem dX6_silent_6 : decode cX6_silent 6 = .ok (.ifCond .ne 5, 3) := dk_154 0 5 (dk_at dksX6_silent_0 6 rfl rfl)
theorem dX6_silent_9 : decode cX6_silent 9 = .ok (.iconst (-1), 1) := dk_2 (dk_at dksX6_silent_0 9 rfl rfl)
theorem dX6_silent_10 : decode cX6_silent 10 = .ok (.ireturn, 1) := dk_172 (dk_at dksX6_silent_0 10 rfl rfl)
theorem dX6_silent_11 : decode cX6_silent 11 = .ok (.iconst 0, 1) := dk_3 (dk_at dksX6_silent_0 11 rfl rfl)
theorem dX6_silent_12 : decode cX6_silent 12 = .ok (.istore_n 2, 1) := dk_61 (dk_at dksX6_silent_0 12 rfl rfl)
theorem dX6_silent_13 : decode cX6_silent 13 = .ok (.bipush (-2), 2) := dk_16 254 (dk_at dksX6_silent_0 13 rfl rfl)
theorem dX6_silent_15 : decode cX6_silent 15 = .ok (.istore_n 3, 1) := dk_62 (dk_at dksX6_silent_0 15 rfl rfl)
theorem dX6_silent_16 : decode cX6_silent 16 = .ok (.iconst 0, 1) := dk_3 (dk_at dksX6_silent_0 16 rfl rfl)
theorem dX6_silent_17 : decode cX6_silent 17 = .ok (.istore 4, 2) := dk_54 4 (dk_at dksX6_silent_0 17 rfl rfl)
theorem dX6_silent_19 : decode cX6_silent 19 = .ok (.bipush 59, 2) := dk_16 59 (dk_at dksX6_silent_0 19 rfl rfl)
theorem dX6_silent_21 : decode cX6_silent 21 = .ok (.istore 5, 2) := dk_54 5 (dk_at dksX6_silent_0 21 rfl rfl)
theorem dX6_silent_23 : decode cX6_silent 23 = .ok (.iload 5, 2) := dk_21 5 (dk_at dksX6_silent_1 0 rfl rfl)
theorem dX6_silent_25 : decode cX6_silent 25 = .ok (.ifCond .lt 46, 3) := dk_155 0 46 (dk_at dksX6_silent_1 2 rfl rfl)
theorem dX6_silent_28 : decode cX6_silent 28 = .ok (.iload_n 1, 1) := dk_27 (dk_at dksX6_silent_1 5 rfl rfl)
theorem dX6_silent_29 : decode cX6_silent 29 = .ok (.iconst 2, 1) := dk_5 (dk_at dksX6_silent_1 6 rfl rfl)
theorem dX6_silent_30 : decode cX6_silent 30 = .ok (.if_icmp .ne 16, 3) := dk_160 0 16 (dk_at dksX6_silent_1 7 rfl rfl)
theorem dX6_silent_33 : decode cX6_silent 33 = .ok (.iload 4, 2) := dk_21 4 (dk_at dksX6_silent_1 10 rfl rfl)
theorem dX6_silent_35 : decode cX6_silent 35 = .ok (.aload_n 0, 1) := dk_42 (dk_at dksX6_silent_1 12 rfl rfl)
theorem dX6_silent_36 : decode cX6_silent 36 = .ok (.iload 5, 2) := dk_21 5 (dk_at dksX6_silent_1 13 rfl rfl)
theorem dX6_silent_38 : decode cX6_silent 38 = .ok (.invokevirtual 389, 3) := dk_182 1 133 (dk_at dksX6_silent_1 15 rfl rfl)
theorem dX6_silent_41 : decode cX6_silent 41 = .ok (.invokestatic 310, 3) := dk_184 1 54 (dk_at dksX6_silent_1 18 rfl rfl)
theorem dX6_silent_44 : decode cX6_silent 44 = .ok (.istore 4, 2) := dk_54 4 (dk_at dksX6_silent_1 21 rfl rfl)
theorem dX6_silent_46 : decode cX6_silent 46 = .ok (.aload_n 0, 1) := dk_42 (dk_at dksX6_silent_1 23 rfl rfl)
theorem dX6_silent_47 : decode cX6_silent 47 = .ok (.iload 5, 2) := dk_21 5 (dk_at dksX6_silent_2 0 rfl rfl)
theorem dX6_silent_49 : decode cX6_silent 49 = .ok (.invokevirtual 392, 3) := dk_182 1 136 (dk_at dksX6_silent_2 2 rfl rfl)
theorem dX6_silent_52 : decode cX6_silent 52 = .ok (.ifCond .ne 6, 3) := dk_154 0 6 (dk_at dksX6_silent_2 5 rfl rfl)
theorem dX6_silent_55 : decode cX6_silent 55 = .ok (.goto 10, 3) := dk_167 0 10 (dk_at dksX6_silent_2 8 rfl rfl)
theorem dX6_silent_58 : decode cX6_silent 58 = .ok (.iload_n 2, 1) := dk_28 (dk_at dksX6_silent_2 11 rfl rfl)
theorem dX6_silent_59 : decode cX6_silent 59 = .ok (.iconst 1, 1) := dk_4 (dk_at dksX6_silent_2 12 rfl rfl)
theorem dX6_silent_60 : decode cX6_silent 60 = .ok (.iadd, 1) := dk_96 (dk_at dksX6_silent_2 13 rfl rfl)
theorem dX6_silent_61 : decode cX6_silent 61 = .ok (.istore_n 2, 1) := dk_61 (dk_at dksX6_silent_2 14 rfl rfl)
theorem dX6_silent_62 : decode cX6_silent 62 = .ok (.iload 5, 2) := dk_21 5 (dk_at dksX6_silent_2 15 rfl rfl)
theorem dX6_silent_64 : decode cX6_silent 64 = .ok (.istore_n 3, 1) := dk_62 (dk_at dksX6_silent_2 17 rfl rfl)
theorem dX6_silent_65 : decode cX6_silent 65 = .ok (.iinc 5 (-1), 3) := dk_132 5 255 (dk_at dksX6_silent_2 18 rfl rfl)
theorem dX6_silent_68 : decode cX6_silent 68 = .ok (.goto (-45), 3) := dk_167 255 211 (dk_at dksX6_silent_2 21 rfl rfl)
theorem dX6_silent_71 : decode cX6_silent 71 = .ok (.iload_n 1, 1) := dk_27 (dk_at dksX6_silent_3 0 rfl rfl)
theorem dX6_silent_72 : decode cX6_silent 72 = .ok (.ifCond .ne 7, 3) := dk_154 0 7 (dk_at dksX6_silent_3 1 rfl rfl)
theorem dX6_silent_75 : decode cX6_silent 75 = .ok (.iload_n 2, 1) := dk_28 (dk_at dksX6_silent_3 4 rfl rfl)
theorem dX6_silent_76 : decode cX6_silent 76 = .ok (.goto 14, 3) := dk_167 0 14 (dk_at dksX6_silent_3 5 rfl rfl)
theorem dX6_silent_79 : decode cX6_silent 79 = .ok (.iload_n 1, 1) := dk_27 (dk_at dksX6_silent_3 8 rfl rfl)
theorem dX6_silent_80 : decode cX6_silent 80 = .ok (.iconst 1, 1) := dk_4 (dk_at dksX6_silent_3 9 rfl rfl)
theorem dX6_silent_81 : decode cX6_silent 81 = .ok (.if_icmp .ne 7, 3) := dk_160 0 7 (dk_at dksX6_silent_3 10 rfl rfl)
theorem dX6_silent_84 : decode cX6_silent 84 = .ok (.iload_n 3, 1) := dk_29 (dk_at dksX6_silent_3 13 rfl rfl)
theorem dX6_silent_85 : decode cX6_silent 85 = .ok (.goto 5, 3) := dk_167 0 5 (dk_at dksX6_silent_3 14 rfl rfl)
theorem dX6_silent_88 : decode cX6_silent 88 = .ok (.iload 4, 2) := dk_21 4 (dk_at dksX6_silent_3 17 rfl rfl)
theorem dX6_silent_90 : decode cX6_silent 90 = .ok (.ireturn, 1) := dk_172 (dk_at dksX6_silent_3 19 rfl rfl)
abbrev cX6_walksFrom : ByteArray := prog_20_method_93_code
def yX6_walksFrom : MethodName := ⟨RX6, "walksFrom", "(I)I"⟩
def dkwX6_walksFrom_6 : List UInt8 := [167, 255, 175, 132, 3, 1, 167, 255, 161, 28, 172]
abbrev dktX6_walksFrom_6 : List UInt8 := dkwX6_walksFrom_6 ++ []
def dkwX6_walksFrom_5 : List UInt8 := [180, 0, 101, 29, 46, 46, 4, 96, 79, 42, 180, 0, 101, 28, 21, 4, 79, 28, 4, 96, 61, 132, 4, 1]
abbrev dktX6_walksFrom_5 : List UInt8 := dkwX6_walksFrom_5 ++ dktX6_walksFrom_6
def dkwX6_walksFrom_4 : List UInt8 := [182, 0, 247, 16, 254, 159, 0, 6, 167, 0, 35, 42, 180, 0, 98, 21, 4, 42, 180, 0, 98, 42]
abbrev dktX6_walksFrom_4 : List UInt8 := dkwX6_walksFrom_4 ++ dktX6_walksFrom_5
def dkwX6_walksFrom_3 : List UInt8 := [46, 21, 4, 184, 0, 119, 153, 0, 60, 42, 180, 0, 98, 21, 4, 46, 2, 160, 0, 49, 42, 21, 4]
abbrev dktX6_walksFrom_3 : List UInt8 := dkwX6_walksFrom_3 ++ dktX6_walksFrom_4
def dkwX6_walksFrom_2 : List UInt8 := [4, 61, 3, 62, 29, 28, 162, 0, 96, 3, 54, 4, 21, 4, 16, 60, 162, 0, 80, 42, 180, 0, 101, 29]
abbrev dktX6_walksFrom_2 : List UInt8 := dkwX6_walksFrom_2 ++ dktX6_walksFrom_3
def dkwX6_walksFrom_1 : List UInt8 := [182, 0, 247, 16, 254, 159, 0, 5, 3, 172, 42, 180, 0, 98, 27, 3, 79, 42, 180, 0, 101, 3, 27, 79]
abbrev dktX6_walksFrom_1 : List UInt8 := dkwX6_walksFrom_1 ++ dktX6_walksFrom_2
def dkwX6_walksFrom_0 : List UInt8 := [3, 61, 28, 16, 60, 162, 0, 16, 42, 180, 0, 98, 28, 2, 79, 132, 2, 1, 167, 255, 240, 42, 27]
abbrev dktX6_walksFrom_0 : List UInt8 := dkwX6_walksFrom_0 ++ dktX6_walksFrom_1
theorem dksX6_walksFrom_0 : cX6_walksFrom.data.toList.drop 0 = dktX6_walksFrom_0 := by decide +kernel
theorem dksX6_walksFrom_1 : cX6_walksFrom.data.toList.drop 23 = dktX6_walksFrom_1 := dk_seg dksX6_walksFrom_0 23 rfl rfl
theorem dksX6_walksFrom_2 : cX6_walksFrom.data.toList.drop 47 = dktX6_walksFrom_2 := dk_seg dksX6_walksFrom_1 24 rfl rfl
theorem dksX6_walksFrom_3 : cX6_walksFrom.data.toList.drop 71 = dktX6_walksFrom_3 := dk_seg dksX6_walksFrom_2 24 rfl rfl
theorem dksX6_walksFrom_4 : cX6_walksFrom.data.toList.drop 94 = dktX6_walksFrom_4 := dk_seg dksX6_walksFrom_3 23 rfl rfl
theorem dksX6_walksFrom_5 : cX6_walksFrom.data.toList.drop 116 = dktX6_walksFrom_5 := dk_seg dksX6_walksFrom_4 22 rfl rfl
theorem dksX6_walksFrom_6 : cX6_walksFrom.data.toList.drop 140 = dktX6_walksFrom_6 := dk_seg dksX6_walksFrom_5 24 rfl rfl
theorem dX6_walksFrom_0 : decode cX6_walksFrom 0 = .ok (.iconst 0, 1) := dk_3 (dk_at dksX6_walksFrom_0 0 rfl rfl)
theorem dX6_walksFrom_1 : decode cX6_walksFrom 1 = .ok (.istore_n 2, 1) := dk_61 (dk_at dksX6_walksFrom_0 1 rfl rfl)
theorem dX6_walksFrom_2 : decode cX6_walksFrom 2 = .ok (.iload_n 2, 1) := dk_28 (dk_at dksX6_walksFrom_0 2 rfl rfl)
theorem dX6_walksFrom_3 : decode cX6_walksFrom 3 = .ok (.bipush 60, 2) := dk_16 60 (dk_at dksX6_walksFrom_0 3 rfl rfl)
theorem dX6_walksFrom_5 : decode cX6_walksFrom 5 = .ok (.if_icmp .ge 16, 3) := dk_162 0 16 (dk_at dksX6_walksFrom_0 5 rfl rfl)
theorem dX6_walksFrom_8 : decode cX6_walksFrom 8 = .ok (.aload_n 0, 1) := dk_42 (dk_at dksX6_walksFrom_0 8 rfl rfl)
theorem dX6_walksFrom_9 : decode cX6_walksFrom 9 = .ok (.getfield 98, 3) := dk_180 0 98 (dk_at dksX6_walksFrom_0 9 rfl rfl)
theorem dX6_walksFrom_12 : decode cX6_walksFrom 12 = .ok (.iload_n 2, 1) := dk_28 (dk_at dksX6_walksFrom_0 12 rfl rfl)
theorem dX6_walksFrom_13 : decode cX6_walksFrom 13 = .ok (.iconst (-1), 1) := dk_2 (dk_at dksX6_walksFrom_0 13 rfl rfl)
theorem dX6_walksFrom_14 : decode cX6_walksFrom 14 = .ok (.iastore, 1) := dk_79 (dk_at dksX6_walksFrom_0 14 rfl rfl)
theorem dX6_walksFrom_15 : decode cX6_walksFrom 15 = .ok (.iinc 2 1, 3) := dk_132 2 1 (dk_at dksX6_walksFrom_0 15 rfl rfl)
theorem dX6_walksFrom_18 : decode cX6_walksFrom 18 = .ok (.goto (-16), 3) := dk_167 255 240 (dk_at dksX6_walksFrom_0 18 rfl rfl)
theorem dX6_walksFrom_21 : decode cX6_walksFrom 21 = .ok (.aload_n 0, 1) := dk_42 (dk_at dksX6_walksFrom_0 21 rfl rfl)
theorem dX6_walksFrom_22 : decode cX6_walksFrom 22 = .ok (.iload_n 1, 1) := dk_27 (dk_at dksX6_walksFrom_0 22 rfl rfl)
theorem dX6_walksFrom_23 : decode cX6_walksFrom 23 = .ok (.invokevirtual 247, 3) := dk_182 0 247 (dk_at dksX6_walksFrom_1 0 rfl rfl)
theorem dX6_walksFrom_26 : decode cX6_walksFrom 26 = .ok (.bipush (-2), 2) := dk_16 254 (dk_at dksX6_walksFrom_1 3 rfl rfl)
theorem dX6_walksFrom_28 : decode cX6_walksFrom 28 = .ok (.if_icmp .eq 5, 3) := dk_159 0 5 (dk_at dksX6_walksFrom_1 5 rfl rfl)
theorem dX6_walksFrom_31 : decode cX6_walksFrom 31 = .ok (.iconst 0, 1) := dk_3 (dk_at dksX6_walksFrom_1 8 rfl rfl)
theorem dX6_walksFrom_32 : decode cX6_walksFrom 32 = .ok (.ireturn, 1) := dk_172 (dk_at dksX6_walksFrom_1 9 rfl rfl)
theorem dX6_walksFrom_33 : decode cX6_walksFrom 33 = .ok (.aload_n 0, 1) := dk_42 (dk_at dksX6_walksFrom_1 10 rfl rfl)
theorem dX6_walksFrom_34 : decode cX6_walksFrom 34 = .ok (.getfield 98, 3) := dk_180 0 98 (dk_at dksX6_walksFrom_1 11 rfl rfl)
theorem dX6_walksFrom_37 : decode cX6_walksFrom 37 = .ok (.iload_n 1, 1) := dk_27 (dk_at dksX6_walksFrom_1 14 rfl rfl)
theorem dX6_walksFrom_38 : decode cX6_walksFrom 38 = .ok (.iconst 0, 1) := dk_3 (dk_at dksX6_walksFrom_1 15 rfl rfl)
theorem dX6_walksFrom_39 : decode cX6_walksFrom 39 = .ok (.iastore, 1) := dk_79 (dk_at dksX6_walksFrom_1 16 rfl rfl)
theorem dX6_walksFrom_40 : decode cX6_walksFrom 40 = .ok (.aload_n 0, 1) := dk_42 (dk_at dksX6_walksFrom_1 17 rfl rfl)
theorem dX6_walksFrom_41 : decode cX6_walksFrom 41 = .ok (.getfield 101, 3) := dk_180 0 101 (dk_at dksX6_walksFrom_1 18 rfl rfl)
theorem dX6_walksFrom_44 : decode cX6_walksFrom 44 = .ok (.iconst 0, 1) := dk_3 (dk_at dksX6_walksFrom_1 21 rfl rfl)
theorem dX6_walksFrom_45 : decode cX6_walksFrom 45 = .ok (.iload_n 1, 1) := dk_27 (dk_at dksX6_walksFrom_1 22 rfl rfl)
theorem dX6_walksFrom_46 : decode cX6_walksFrom 46 = .ok (.iastore, 1) := dk_79 (dk_at dksX6_walksFrom_1 23 rfl rfl)
theorem dX6_walksFrom_47 : decode cX6_walksFrom 47 = .ok (.iconst 1, 1) := dk_4 (dk_at dksX6_walksFrom_2 0 rfl rfl)
theorem dX6_walksFrom_48 : decode cX6_walksFrom 48 = .ok (.istore_n 2, 1) := dk_61 (dk_at dksX6_walksFrom_2 1 rfl rfl)
theorem dX6_walksFrom_49 : decode cX6_walksFrom 49 = .ok (.iconst 0, 1) := dk_3 (dk_at dksX6_walksFrom_2 2 rfl rfl)
theorem dX6_walksFrom_50 : decode cX6_walksFrom 50 = .ok (.istore_n 3, 1) := dk_62 (dk_at dksX6_walksFrom_2 3 rfl rfl)
theorem dX6_walksFrom_51 : decode cX6_walksFrom 51 = .ok (.iload_n 3, 1) := dk_29 (dk_at dksX6_walksFrom_2 4 rfl rfl)
theorem dX6_walksFrom_52 : decode cX6_walksFrom 52 = .ok (.iload_n 2, 1) := dk_28 (dk_at dksX6_walksFrom_2 5 rfl rfl)
theorem dX6_walksFrom_53 : decode cX6_walksFrom 53 = .ok (.if_icmp .ge 96, 3) := dk_162 0 96 (dk_at dksX6_walksFrom_2 6 rfl rfl)
theorem dX6_walksFrom_56 : decode cX6_walksFrom 56 = .ok (.iconst 0, 1) := dk_3 (dk_at dksX6_walksFrom_2 9 rfl rfl)
theorem dX6_walksFrom_57 : decode cX6_walksFrom 57 = .ok (.istore 4, 2) := dk_54 4 (dk_at dksX6_walksFrom_2 10 rfl rfl)
theorem dX6_walksFrom_59 : decode cX6_walksFrom 59 = .ok (.iload 4, 2) := dk_21 4 (dk_at dksX6_walksFrom_2 12 rfl rfl)
theorem dX6_walksFrom_61 : decode cX6_walksFrom 61 = .ok (.bipush 60, 2) := dk_16 60 (dk_at dksX6_walksFrom_2 14 rfl rfl)
theorem dX6_walksFrom_63 : decode cX6_walksFrom 63 = .ok (.if_icmp .ge 80, 3) := dk_162 0 80 (dk_at dksX6_walksFrom_2 16 rfl rfl)
theorem dX6_walksFrom_66 : decode cX6_walksFrom 66 = .ok (.aload_n 0, 1) := dk_42 (dk_at dksX6_walksFrom_2 19 rfl rfl)
theorem dX6_walksFrom_67 : decode cX6_walksFrom 67 = .ok (.getfield 101, 3) := dk_180 0 101 (dk_at dksX6_walksFrom_2 20 rfl rfl)
theorem dX6_walksFrom_70 : decode cX6_walksFrom 70 = .ok (.iload_n 3, 1) := dk_29 (dk_at dksX6_walksFrom_2 23 rfl rfl)
theorem dX6_walksFrom_71 : decode cX6_walksFrom 71 = .ok (.iaload, 1) := dk_46 (dk_at dksX6_walksFrom_3 0 rfl rfl)
theorem dX6_walksFrom_72 : decode cX6_walksFrom 72 = .ok (.iload 4, 2) := dk_21 4 (dk_at dksX6_walksFrom_3 1 rfl rfl)
theorem dX6_walksFrom_74 : decode cX6_walksFrom 74 = .ok (.invokestatic 119, 3) := dk_184 0 119 (dk_at dksX6_walksFrom_3 3 rfl rfl)
theorem dX6_walksFrom_77 : decode cX6_walksFrom 77 = .ok (.ifCond .eq 60, 3) := dk_153 0 60 (dk_at dksX6_walksFrom_3 6 rfl rfl)
theorem dX6_walksFrom_80 : decode cX6_walksFrom 80 = .ok (.aload_n 0, 1) := dk_42 (dk_at dksX6_walksFrom_3 9 rfl rfl)
theorem dX6_walksFrom_81 : decode cX6_walksFrom 81 = .ok (.getfield 98, 3) := dk_180 0 98 (dk_at dksX6_walksFrom_3 10 rfl rfl)
theorem dX6_walksFrom_84 : decode cX6_walksFrom 84 = .ok (.iload 4, 2) := dk_21 4 (dk_at dksX6_walksFrom_3 13 rfl rfl)
theorem dX6_walksFrom_86 : decode cX6_walksFrom 86 = .ok (.iaload, 1) := dk_46 (dk_at dksX6_walksFrom_3 15 rfl rfl)
theorem dX6_walksFrom_87 : decode cX6_walksFrom 87 = .ok (.iconst (-1), 1) := dk_2 (dk_at dksX6_walksFrom_3 16 rfl rfl)
theorem dX6_walksFrom_88 : decode cX6_walksFrom 88 = .ok (.if_icmp .ne 49, 3) := dk_160 0 49 (dk_at dksX6_walksFrom_3 17 rfl rfl)
theorem dX6_walksFrom_91 : decode cX6_walksFrom 91 = .ok (.aload_n 0, 1) := dk_42 (dk_at dksX6_walksFrom_3 20 rfl rfl)
theorem dX6_walksFrom_92 : decode cX6_walksFrom 92 = .ok (.iload 4, 2) := dk_21 4 (dk_at dksX6_walksFrom_3 21 rfl rfl)
theorem dX6_walksFrom_94 : decode cX6_walksFrom 94 = .ok (.invokevirtual 247, 3) := dk_182 0 247 (dk_at dksX6_walksFrom_4 0 rfl rfl)
theorem dX6_walksFrom_97 : decode cX6_walksFrom 97 = .ok (.bipush (-2), 2) := dk_16 254 (dk_at dksX6_walksFrom_4 3 rfl rfl)
theorem dX6_walksFrom_99 : decode cX6_walksFrom 99 = .ok (.if_icmp .eq 6, 3) := dk_159 0 6 (dk_at dksX6_walksFrom_4 5 rfl rfl)
theorem dX6_walksFrom_102 : decode cX6_walksFrom 102 = .ok (.goto 35, 3) := dk_167 0 35 (dk_at dksX6_walksFrom_4 8 rfl rfl)
theorem dX6_walksFrom_105 : decode cX6_walksFrom 105 = .ok (.aload_n 0, 1) := dk_42 (dk_at dksX6_walksFrom_4 11 rfl rfl)
theorem dX6_walksFrom_106 : decode cX6_walksFrom 106 = .ok (.getfield 98, 3) := dk_180 0 98 (dk_at dksX6_walksFrom_4 12 rfl rfl)
theorem dX6_walksFrom_109 : decode cX6_walksFrom 109 = .ok (.iload 4, 2) := dk_21 4 (dk_at dksX6_walksFrom_4 15 rfl rfl)
theorem dX6_walksFrom_111 : decode cX6_walksFrom 111 = .ok (.aload_n 0, 1) := dk_42 (dk_at dksX6_walksFrom_4 17 rfl rfl)
theorem dX6_walksFrom_112 : decode cX6_walksFrom 112 = .ok (.getfield 98, 3) := dk_180 0 98 (dk_at dksX6_walksFrom_4 18 rfl rfl)
theorem dX6_walksFrom_115 : decode cX6_walksFrom 115 = .ok (.aload_n 0, 1) := dk_42 (dk_at dksX6_walksFrom_4 21 rfl rfl)
theorem dX6_walksFrom_116 : decode cX6_walksFrom 116 = .ok (.getfield 101, 3) := dk_180 0 101 (dk_at dksX6_walksFrom_5 0 rfl rfl)
theorem dX6_walksFrom_119 : decode cX6_walksFrom 119 = .ok (.iload_n 3, 1) := dk_29 (dk_at dksX6_walksFrom_5 3 rfl rfl)
theorem dX6_walksFrom_120 : decode cX6_walksFrom 120 = .ok (.iaload, 1) := dk_46 (dk_at dksX6_walksFrom_5 4 rfl rfl)
theorem dX6_walksFrom_121 : decode cX6_walksFrom 121 = .ok (.iaload, 1) := dk_46 (dk_at dksX6_walksFrom_5 5 rfl rfl)
theorem dX6_walksFrom_122 : decode cX6_walksFrom 122 = .ok (.iconst 1, 1) := dk_4 (dk_at dksX6_walksFrom_5 6 rfl rfl)
theorem dX6_walksFrom_123 : decode cX6_walksFrom 123 = .ok (.iadd, 1) := dk_96 (dk_at dksX6_walksFrom_5 7 rfl rfl)
theorem dX6_walksFrom_124 : decode cX6_walksFrom 124 = .ok (.iastore, 1) := dk_79 (dk_at dksX6_walksFrom_5 8 rfl rfl)
theorem dX6_walksFrom_125 : decode cX6_walksFrom 125 = .ok (.aload_n 0, 1) := dk_42 (dk_at dksX6_walksFrom_5 9 rfl rfl)
theorem dX6_walksFrom_126 : decode cX6_walksFrom 126 = .ok (.getfield 101, 3) := dk_180 0 101 (dk_at dksX6_walksFrom_5 10 rfl rfl)
theorem dX6_walksFrom_129 : decode cX6_walksFrom 129 = .ok (.iload_n 2, 1) := dk_28 (dk_at dksX6_walksFrom_5 13 rfl rfl)
theorem dX6_walksFrom_130 : decode cX6_walksFrom 130 = .ok (.iload 4, 2) := dk_21 4 (dk_at dksX6_walksFrom_5 14 rfl rfl)
theorem dX6_walksFrom_132 : decode cX6_walksFrom 132 = .ok (.iastore, 1) := dk_79 (dk_at dksX6_walksFrom_5 16 rfl rfl)
theorem dX6_walksFrom_133 : decode cX6_walksFrom 133 = .ok (.iload_n 2, 1) := dk_28 (dk_at dksX6_walksFrom_5 17 rfl rfl)
theorem dX6_walksFrom_134 : decode cX6_walksFrom 134 = .ok (.iconst 1, 1) := dk_4 (dk_at dksX6_walksFrom_5 18 rfl rfl)
theorem dX6_walksFrom_135 : decode cX6_walksFrom 135 = .ok (.iadd, 1) := dk_96 (dk_at dksX6_walksFrom_5 19 rfl rfl)
theorem dX6_walksFrom_136 : decode cX6_walksFrom 136 = .ok (.istore_n 2, 1) := dk_61 (dk_at dksX6_walksFrom_5 20 rfl rfl)
theorem dX6_walksFrom_137 : decode cX6_walksFrom 137 = .ok (.iinc 4 1, 3) := dk_132 4 1 (dk_at dksX6_walksFrom_5 21 rfl rfl)
theorem dX6_walksFrom_140 : decode cX6_walksFrom 140 = .ok (.goto (-81), 3) := dk_167 255 175 (dk_at dksX6_walksFrom_6 0 rfl rfl)
theorem dX6_walksFrom_143 : decode cX6_walksFrom 143 = .ok (.iinc 3 1, 3) := dk_132 3 1 (dk_at dksX6_walksFrom_6 3 rfl rfl)
theorem dX6_walksFrom_146 : decode cX6_walksFrom 146 = .ok (.goto (-95), 3) := dk_167 255 161 (dk_at dksX6_walksFrom_6 6 rfl rfl)
theorem dX6_walksFrom_149 : decode cX6_walksFrom 149 = .ok (.iload_n 2, 1) := dk_28 (dk_at dksX6_walksFrom_6 9 rfl rfl)
theorem dX6_walksFrom_150 : decode cX6_walksFrom 150 = .ok (.ireturn, 1) := dk_172 (dk_at dksX6_walksFrom_6 10 rfl rfl)
abbrev cX6_isSilent : ByteArray := prog_20_method_94_code
def yX6_isSilent : MethodName := ⟨RX6, "isSilent", "(I)Z"⟩
def dkwX6_isSilent_2 : List UInt8 := [4, 172]
abbrev dktX6_isSilent_2 : List UInt8 := dkwX6_isSilent_2 ++ []
def dkwX6_isSilent_1 : List UInt8 := [184, 0, 119, 153, 0, 15, 42, 28, 182, 0, 247, 16, 254, 159, 0, 5, 3, 172, 132, 2, 1, 167, 255, 227]
abbrev dktX6_isSilent_1 : List UInt8 := dkwX6_isSilent_1 ++ dktX6_isSilent_2
def dkwX6_isSilent_0 : List UInt8 := [42, 27, 182, 0, 247, 16, 254, 159, 0, 5, 3, 172, 3, 61, 28, 16, 60, 162, 0, 29, 27, 28]
abbrev dktX6_isSilent_0 : List UInt8 := dkwX6_isSilent_0 ++ dktX6_isSilent_1
theorem dksX6_isSilent_0 : cX6_isSilent.data.toList.drop 0 = dktX6_isSilent_0 := by decide +kernel
theorem dksX6_isSilent_1 : cX6_isSilent.data.toList.drop 22 = dktX6_isSilent_1 := dk_seg dksX6_isSilent_0 22 rfl rfl
theorem dksX6_isSilent_2 : cX6_isSilent.data.toList.drop 46 = dktX6_isSilent_2 := dk_seg dksX6_isSilent_1 24 rfl rfl
theorem dX6_isSilent_0 : decode cX6_isSilent 0 = .ok (.aload_n 0, 1) := dk_42 (dk_at dksX6_isSilent_0 0 rfl rfl)
theorem dX6_isSilent_1 : decode cX6_isSilent 1 = .ok (.iload_n 1, 1) := dk_27 (dk_at dksX6_isSilent_0 1 rfl rfl)
theorem dX6_isSilent_2 : decode cX6_isSilent 2 = .ok (.invokevirtual 247, 3) := dk_182 0 247 (dk_at dksX6_isSilent_0 2 rfl rfl)
theorem dX6_isSilent_5 : decode cX6_isSilent 5 = .ok (.bipush (-2), 2) := dk_16 254 (dk_at dksX6_isSilent_0 5 rfl rfl)
theorem dX6_isSilent_7 : decode cX6_isSilent 7 = .ok (.if_icmp .eq 5, 3) := dk_159 0 5 (dk_at dksX6_isSilent_0 7 rfl rfl)
theorem dX6_isSilent_10 : decode cX6_isSilent 10 = .ok (.iconst 0, 1) := dk_3 (dk_at dksX6_isSilent_0 10 rfl rfl)
theorem dX6_isSilent_11 : decode cX6_isSilent 11 = .ok (.ireturn, 1) := dk_172 (dk_at dksX6_isSilent_0 11 rfl rfl)
theorem dX6_isSilent_12 : decode cX6_isSilent 12 = .ok (.iconst 0, 1) := dk_3 (dk_at dksX6_isSilent_0 12 rfl rfl)
theorem dX6_isSilent_13 : decode cX6_isSilent 13 = .ok (.istore_n 2, 1) := dk_61 (dk_at dksX6_isSilent_0 13 rfl rfl)
theorem dX6_isSilent_14 : decode cX6_isSilent 14 = .ok (.iload_n 2, 1) := dk_28 (dk_at dksX6_isSilent_0 14 rfl rfl)
theorem dX6_isSilent_15 : decode cX6_isSilent 15 = .ok (.bipush 60, 2) := dk_16 60 (dk_at dksX6_isSilent_0 15 rfl rfl)
theorem dX6_isSilent_17 : decode cX6_isSilent 17 = .ok (.if_icmp .ge 29, 3) := dk_162 0 29 (dk_at dksX6_isSilent_0 17 rfl rfl)
theorem dX6_isSilent_20 : decode cX6_isSilent 20 = .ok (.iload_n 1, 1) := dk_27 (dk_at dksX6_isSilent_0 20 rfl rfl)
theorem dX6_isSilent_21 : decode cX6_isSilent 21 = .ok (.iload_n 2, 1) := dk_28 (dk_at dksX6_isSilent_0 21 rfl rfl)
theorem dX6_isSilent_22 : decode cX6_isSilent 22 = .ok (.invokestatic 119, 3) := dk_184 0 119 (dk_at dksX6_isSilent_1 0 rfl rfl)
theorem dX6_isSilent_25 : decode cX6_isSilent 25 = .ok (.ifCond .eq 15, 3) := dk_153 0 15 (dk_at dksX6_isSilent_1 3 rfl rfl)
theorem dX6_isSilent_28 : decode cX6_isSilent 28 = .ok (.aload_n 0, 1) := dk_42 (dk_at dksX6_isSilent_1 6 rfl rfl)
theorem dX6_isSilent_29 : decode cX6_isSilent 29 = .ok (.iload_n 2, 1) := dk_28 (dk_at dksX6_isSilent_1 7 rfl rfl)
theorem dX6_isSilent_30 : decode cX6_isSilent 30 = .ok (.invokevirtual 247, 3) := dk_182 0 247 (dk_at dksX6_isSilent_1 8 rfl rfl)
theorem dX6_isSilent_33 : decode cX6_isSilent 33 = .ok (.bipush (-2), 2) := dk_16 254 (dk_at dksX6_isSilent_1 11 rfl rfl)
theorem dX6_isSilent_35 : decode cX6_isSilent 35 = .ok (.if_icmp .eq 5, 3) := dk_159 0 5 (dk_at dksX6_isSilent_1 13 rfl rfl)
theorem dX6_isSilent_38 : decode cX6_isSilent 38 = .ok (.iconst 0, 1) := dk_3 (dk_at dksX6_isSilent_1 16 rfl rfl)
theorem dX6_isSilent_39 : decode cX6_isSilent 39 = .ok (.ireturn, 1) := dk_172 (dk_at dksX6_isSilent_1 17 rfl rfl)
theorem dX6_isSilent_40 : decode cX6_isSilent 40 = .ok (.iinc 2 1, 3) := dk_132 2 1 (dk_at dksX6_isSilent_1 18 rfl rfl)
theorem dX6_isSilent_43 : decode cX6_isSilent 43 = .ok (.goto (-29), 3) := dk_167 255 227 (dk_at dksX6_isSilent_1 21 rfl rfl)
theorem dX6_isSilent_46 : decode cX6_isSilent 46 = .ok (.iconst 1, 1) := dk_4 (dk_at dksX6_isSilent_2 0 rfl rfl)
theorem dX6_isSilent_47 : decode cX6_isSilent 47 = .ok (.ireturn, 1) := dk_172 (dk_at dksX6_isSilent_2 1 rfl rfl)
abbrev cX6_visit : ByteArray := prog_20_method_97_code
def yX6_visit : MethodName := ⟨RX6, "visit", "(I)I"⟩
def dkwX6_visit_1 : List UInt8 := [182, 1, 133, 87, 42, 42, 180, 0, 7, 16, 48, 27, 96, 46, 182, 1, 139, 172]
abbrev dktX6_visit_1 : List UInt8 := dkwX6_visit_1 ++ []
def dkwX6_visit_0 : List UInt8 := [42, 27, 182, 0, 108, 154, 0, 5, 2, 172, 42, 27, 182, 0, 112, 154, 0, 6, 16, 254, 172, 42, 3]
abbrev dktX6_visit_0 : List UInt8 := dkwX6_visit_0 ++ dktX6_visit_1
theorem dksX6_visit_0 : cX6_visit.data.toList.drop 0 = dktX6_visit_0 := by decide +kernel
theorem dksX6_visit_1 : cX6_visit.data.toList.drop 23 = dktX6_visit_1 := dk_seg dksX6_visit_0 23 rfl rfl
theorem dX6_visit_0 : decode cX6_visit 0 = .ok (.aload_n 0, 1) := dk_42 (dk_at dksX6_visit_0 0 rfl rfl)
theorem dX6_visit_1 : decode cX6_visit 1 = .ok (.iload_n 1, 1) := dk_27 (dk_at dksX6_visit_0 1 rfl rfl)
theorem dX6_visit_2 : decode cX6_visit 2 = .ok (.invokevirtual 108, 3) := dk_182 0 108 (dk_at dksX6_visit_0 2 rfl rfl)
theorem dX6_visit_5 : decode cX6_visit 5 = .ok (.ifCond .ne 5, 3) := dk_154 0 5 (dk_at dksX6_visit_0 5 rfl rfl)
theorem dX6_visit_8 : decode cX6_visit 8 = .ok (.iconst (-1), 1) := dk_2 (dk_at dksX6_visit_0 8 rfl rfl)
theorem dX6_visit_9 : decode cX6_visit 9 = .ok (.ireturn, 1) := dk_172 (dk_at dksX6_visit_0 9 rfl rfl)
theorem dX6_visit_10 : decode cX6_visit 10 = .ok (.aload_n 0, 1) := dk_42 (dk_at dksX6_visit_0 10 rfl rfl)
theorem dX6_visit_11 : decode cX6_visit 11 = .ok (.iload_n 1, 1) := dk_27 (dk_at dksX6_visit_0 11 rfl rfl)
theorem dX6_visit_12 : decode cX6_visit 12 = .ok (.invokevirtual 112, 3) := dk_182 0 112 (dk_at dksX6_visit_0 12 rfl rfl)
theorem dX6_visit_15 : decode cX6_visit 15 = .ok (.ifCond .ne 6, 3) := dk_154 0 6 (dk_at dksX6_visit_0 15 rfl rfl)
theorem dX6_visit_18 : decode cX6_visit 18 = .ok (.bipush (-2), 2) := dk_16 254 (dk_at dksX6_visit_0 18 rfl rfl)
theorem dX6_visit_20 : decode cX6_visit 20 = .ok (.ireturn, 1) := dk_172 (dk_at dksX6_visit_0 20 rfl rfl)
theorem dX6_visit_21 : decode cX6_visit 21 = .ok (.aload_n 0, 1) := dk_42 (dk_at dksX6_visit_0 21 rfl rfl)
theorem dX6_visit_22 : decode cX6_visit 22 = .ok (.iconst 0, 1) := dk_3 (dk_at dksX6_visit_0 22 rfl rfl)
theorem dX6_visit_23 : decode cX6_visit 23 = .ok (.invokevirtual 389, 3) := dk_182 1 133 (dk_at dksX6_visit_1 0 rfl rfl)
theorem dX6_visit_26 : decode cX6_visit 26 = .ok (.pop, 1) := dk_87 (dk_at dksX6_visit_1 3 rfl rfl)
theorem dX6_visit_27 : decode cX6_visit 27 = .ok (.aload_n 0, 1) := dk_42 (dk_at dksX6_visit_1 4 rfl rfl)
theorem dX6_visit_28 : decode cX6_visit 28 = .ok (.aload_n 0, 1) := dk_42 (dk_at dksX6_visit_1 5 rfl rfl)
theorem dX6_visit_29 : decode cX6_visit 29 = .ok (.getfield 7, 3) := dk_180 0 7 (dk_at dksX6_visit_1 6 rfl rfl)
theorem dX6_visit_32 : decode cX6_visit 32 = .ok (.bipush 48, 2) := dk_16 48 (dk_at dksX6_visit_1 9 rfl rfl)
theorem dX6_visit_34 : decode cX6_visit 34 = .ok (.iload_n 1, 1) := dk_27 (dk_at dksX6_visit_1 11 rfl rfl)
theorem dX6_visit_35 : decode cX6_visit 35 = .ok (.iadd, 1) := dk_96 (dk_at dksX6_visit_1 12 rfl rfl)
theorem dX6_visit_36 : decode cX6_visit 36 = .ok (.iaload, 1) := dk_46 (dk_at dksX6_visit_1 13 rfl rfl)
theorem dX6_visit_37 : decode cX6_visit 37 = .ok (.invokevirtual 395, 3) := dk_182 1 139 (dk_at dksX6_visit_1 14 rfl rfl)
theorem dX6_visit_40 : decode cX6_visit 40 = .ok (.ireturn, 1) := dk_172 (dk_at dksX6_visit_1 17 rfl rfl)
abbrev cX6_stepsBeside : ByteArray := prog_20_method_96_code
def yX6_stepsBeside : MethodName := ⟨RX6, "stepsBeside", "(I)I"⟩
def dkwX6_stepsBeside_2 : List UInt8 := [180, 0, 98, 29, 46, 61, 132, 3, 1, 167, 255, 206, 28, 172]
abbrev dktX6_stepsBeside_2 : List UInt8 := dkwX6_stepsBeside_2 ++ []
def dkwX6_stepsBeside_1 : List UInt8 := [46, 2, 159, 0, 26, 28, 16, 254, 159, 0, 13, 42, 180, 0, 98, 29, 46, 28, 162, 0, 10, 42]
abbrev dktX6_stepsBeside_1 : List UInt8 := dkwX6_stepsBeside_1 ++ dktX6_stepsBeside_2
def dkwX6_stepsBeside_0 : List UInt8 := [16, 254, 61, 3, 62, 29, 16, 60, 162, 0, 50, 27, 29, 184, 0, 119, 153, 0, 36, 42, 180, 0, 98, 29]
abbrev dktX6_stepsBeside_0 : List UInt8 := dkwX6_stepsBeside_0 ++ dktX6_stepsBeside_1
theorem dksX6_stepsBeside_0 : cX6_stepsBeside.data.toList.drop 0 = dktX6_stepsBeside_0 := by decide +kernel
theorem dksX6_stepsBeside_1 : cX6_stepsBeside.data.toList.drop 24 = dktX6_stepsBeside_1 := dk_seg dksX6_stepsBeside_0 24 rfl rfl
theorem dksX6_stepsBeside_2 : cX6_stepsBeside.data.toList.drop 46 = dktX6_stepsBeside_2 := dk_seg dksX6_stepsBeside_1 22 rfl rfl
theorem dX6_stepsBeside_0 : decode cX6_stepsBeside 0 = .ok (.bipush (-2), 2) := dk_16 254 (dk_at dksX6_stepsBeside_0 0 rfl rfl)
theorem dX6_stepsBeside_2 : decode cX6_stepsBeside 2 = .ok (.istore_n 2, 1) := dk_61 (dk_at dksX6_stepsBeside_0 2 rfl rfl)
theorem dX6_stepsBeside_3 : decode cX6_stepsBeside 3 = .ok (.iconst 0, 1) := dk_3 (dk_at dksX6_stepsBeside_0 3 rfl rfl)
theorem dX6_stepsBeside_4 : decode cX6_stepsBeside 4 = .ok (.istore_n 3, 1) := dk_62 (dk_at dksX6_stepsBeside_0 4 rfl rfl)
theorem dX6_stepsBeside_5 : decode cX6_stepsBeside 5 = .ok (.iload_n 3, 1) := dk_29 (dk_at dksX6_stepsBeside_0 5 rfl rfl)
theorem dX6_stepsBeside_6 : decode cX6_stepsBeside 6 = .ok (.bipush 60, 2) := dk_16 60 (dk_at dksX6_stepsBeside_0 6 rfl rfl)
theorem dX6_stepsBeside_8 : decode cX6_stepsBeside 8 = .ok (.if_icmp .ge 50, 3) := dk_162 0 50 (dk_at dksX6_stepsBeside_0 8 rfl rfl)
theorem dX6_stepsBeside_11 : decode cX6_stepsBeside 11 = .ok (.iload_n 1, 1) := dk_27 (dk_at dksX6_stepsBeside_0 11 rfl rfl)
theorem dX6_stepsBeside_12 : decode cX6_stepsBeside 12 = .ok (.iload_n 3, 1) := dk_29 (dk_at dksX6_stepsBeside_0 12 rfl rfl)
theorem dX6_stepsBeside_13 : decode cX6_stepsBeside 13 = .ok (.invokestatic 119, 3) := dk_184 0 119 (dk_at dksX6_stepsBeside_0 13 rfl rfl)
theorem dX6_stepsBeside_16 : decode cX6_stepsBeside 16 = .ok (.ifCond .eq 36, 3) := dk_153 0 36 (dk_at dksX6_stepsBeside_0 16 rfl rfl)
theorem dX6_stepsBeside_19 : decode cX6_stepsBeside 19 = .ok (.aload_n 0, 1) := dk_42 (dk_at dksX6_stepsBeside_0 19 rfl rfl)
theorem dX6_stepsBeside_20 : decode cX6_stepsBeside 20 = .ok (.getfield 98, 3) := dk_180 0 98 (dk_at dksX6_stepsBeside_0 20 rfl rfl)
theorem dX6_stepsBeside_23 : decode cX6_stepsBeside 23 = .ok (.iload_n 3, 1) := dk_29 (dk_at dksX6_stepsBeside_0 23 rfl rfl)
theorem dX6_stepsBeside_24 : decode cX6_stepsBeside 24 = .ok (.iaload, 1) := dk_46 (dk_at dksX6_stepsBeside_1 0 rfl rfl)
theorem dX6_stepsBeside_25 : decode cX6_stepsBeside 25 = .ok (.iconst (-1), 1) := dk_2 (dk_at dksX6_stepsBeside_1 1 rfl rfl)
theorem dX6_stepsBeside_26 : decode cX6_stepsBeside 26 = .ok (.if_icmp .eq 26, 3) := dk_159 0 26 (dk_at dksX6_stepsBeside_1 2 rfl rfl)
theorem dX6_stepsBeside_29 : decode cX6_stepsBeside 29 = .ok (.iload_n 2, 1) := dk_28 (dk_at dksX6_stepsBeside_1 5 rfl rfl)
theorem dX6_stepsBeside_30 : decode cX6_stepsBeside 30 = .ok (.bipush (-2), 2) := dk_16 254 (dk_at dksX6_stepsBeside_1 6 rfl rfl)
theorem dX6_stepsBeside_32 : decode cX6_stepsBeside 32 = .ok (.if_icmp .eq 13, 3) := dk_159 0 13 (dk_at dksX6_stepsBeside_1 8 rfl rfl)
theorem dX6_stepsBeside_35 : decode cX6_stepsBeside 35 = .ok (.aload_n 0, 1) := dk_42 (dk_at dksX6_stepsBeside_1 11 rfl rfl)
theorem dX6_stepsBeside_36 : decode cX6_stepsBeside 36 = .ok (.getfield 98, 3) := dk_180 0 98 (dk_at dksX6_stepsBeside_1 12 rfl rfl)
theorem dX6_stepsBeside_39 : decode cX6_stepsBeside 39 = .ok (.iload_n 3, 1) := dk_29 (dk_at dksX6_stepsBeside_1 15 rfl rfl)
theorem dX6_stepsBeside_40 : decode cX6_stepsBeside 40 = .ok (.iaload, 1) := dk_46 (dk_at dksX6_stepsBeside_1 16 rfl rfl)
theorem dX6_stepsBeside_41 : decode cX6_stepsBeside 41 = .ok (.iload_n 2, 1) := dk_28 (dk_at dksX6_stepsBeside_1 17 rfl rfl)
theorem dX6_stepsBeside_42 : decode cX6_stepsBeside 42 = .ok (.if_icmp .ge 10, 3) := dk_162 0 10 (dk_at dksX6_stepsBeside_1 18 rfl rfl)
theorem dX6_stepsBeside_45 : decode cX6_stepsBeside 45 = .ok (.aload_n 0, 1) := dk_42 (dk_at dksX6_stepsBeside_1 21 rfl rfl)
theorem dX6_stepsBeside_46 : decode cX6_stepsBeside 46 = .ok (.getfield 98, 3) := dk_180 0 98 (dk_at dksX6_stepsBeside_2 0 rfl rfl)
theorem dX6_stepsBeside_49 : decode cX6_stepsBeside 49 = .ok (.iload_n 3, 1) := dk_29 (dk_at dksX6_stepsBeside_2 3 rfl rfl)
theorem dX6_stepsBeside_50 : decode cX6_stepsBeside 50 = .ok (.iaload, 1) := dk_46 (dk_at dksX6_stepsBeside_2 4 rfl rfl)
theorem dX6_stepsBeside_51 : decode cX6_stepsBeside 51 = .ok (.istore_n 2, 1) := dk_61 (dk_at dksX6_stepsBeside_2 5 rfl rfl)
theorem dX6_stepsBeside_52 : decode cX6_stepsBeside 52 = .ok (.iinc 3 1, 3) := dk_132 3 1 (dk_at dksX6_stepsBeside_2 6 rfl rfl)
theorem dX6_stepsBeside_55 : decode cX6_stepsBeside 55 = .ok (.goto (-50), 3) := dk_167 255 206 (dk_at dksX6_stepsBeside_2 9 rfl rfl)
theorem dX6_stepsBeside_58 : decode cX6_stepsBeside 58 = .ok (.iload_n 2, 1) := dk_28 (dk_at dksX6_stepsBeside_2 12 rfl rfl)
theorem dX6_stepsBeside_59 : decode cX6_stepsBeside 59 = .ok (.ireturn, 1) := dk_172 (dk_at dksX6_stepsBeside_2 13 rfl rfl)
abbrev cX6_visited : ByteArray := prog_20_method_98_code
def yX6_visited : MethodName := ⟨RX6, "visited", "()I"⟩
def dkwX6_visited_2 : List UInt8 := [132, 2, 1, 167, 255, 215, 27, 172]
abbrev dktX6_visited_2 : List UInt8 := dkwX6_visited_2 ++ []
def dkwX6_visited_1 : List UInt8 := [42, 42, 180, 0, 7, 16, 48, 28, 96, 46, 182, 1, 139, 16, 254, 159, 0, 9, 27, 4, 28, 120, 128, 60]
abbrev dktX6_visited_1 : List UInt8 := dkwX6_visited_1 ++ dktX6_visited_2
def dkwX6_visited_0 : List UInt8 := [42, 3, 182, 1, 133, 87, 3, 60, 3, 61, 28, 16, 16, 162, 0, 41, 42, 28, 182, 0, 112, 153, 0, 27]
abbrev dktX6_visited_0 : List UInt8 := dkwX6_visited_0 ++ dktX6_visited_1
theorem dksX6_visited_0 : cX6_visited.data.toList.drop 0 = dktX6_visited_0 := by decide +kernel
theorem dksX6_visited_1 : cX6_visited.data.toList.drop 24 = dktX6_visited_1 := dk_seg dksX6_visited_0 24 rfl rfl
theorem dksX6_visited_2 : cX6_visited.data.toList.drop 48 = dktX6_visited_2 := dk_seg dksX6_visited_1 24 rfl rfl
theorem dX6_visited_0 : decode cX6_visited 0 = .ok (.aload_n 0, 1) := dk_42 (dk_at dksX6_visited_0 0 rfl rfl)
theorem dX6_visited_1 : decode cX6_visited 1 = .ok (.iconst 0, 1) := dk_3 (dk_at dksX6_visited_0 1 rfl rfl)
theorem dX6_visited_2 : decode cX6_visited 2 = .ok (.invokevirtual 389, 3) := dk_182 1 133 (dk_at dksX6_visited_0 2 rfl rfl)
theorem dX6_visited_5 : decode cX6_visited 5 = .ok (.pop, 1) := dk_87 (dk_at dksX6_visited_0 5 rfl rfl)
theorem dX6_visited_6 : decode cX6_visited 6 = .ok (.iconst 0, 1) := dk_3 (dk_at dksX6_visited_0 6 rfl rfl)
theorem dX6_visited_7 : decode cX6_visited 7 = .ok (.istore_n 1, 1) := dk_60 (dk_at dksX6_visited_0 7 rfl rfl)
theorem dX6_visited_8 : decode cX6_visited 8 = .ok (.iconst 0, 1) := dk_3 (dk_at dksX6_visited_0 8 rfl rfl)
theorem dX6_visited_9 : decode cX6_visited 9 = .ok (.istore_n 2, 1) := dk_61 (dk_at dksX6_visited_0 9 rfl rfl)
theorem dX6_visited_10 : decode cX6_visited 10 = .ok (.iload_n 2, 1) := dk_28 (dk_at dksX6_visited_0 10 rfl rfl)
theorem dX6_visited_11 : decode cX6_visited 11 = .ok (.bipush 16, 2) := dk_16 16 (dk_at dksX6_visited_0 11 rfl rfl)
theorem dX6_visited_13 : decode cX6_visited 13 = .ok (.if_icmp .ge 41, 3) := dk_162 0 41 (dk_at dksX6_visited_0 13 rfl rfl)
theorem dX6_visited_16 : decode cX6_visited 16 = .ok (.aload_n 0, 1) := dk_42 (dk_at dksX6_visited_0 16 rfl rfl)
theorem dX6_visited_17 : decode cX6_visited 17 = .ok (.iload_n 2, 1) := dk_28 (dk_at dksX6_visited_0 17 rfl rfl)
theorem dX6_visited_18 : decode cX6_visited 18 = .ok (.invokevirtual 112, 3) := dk_182 0 112 (dk_at dksX6_visited_0 18 rfl rfl)
theorem dX6_visited_21 : decode cX6_visited 21 = .ok (.ifCond .eq 27, 3) := dk_153 0 27 (dk_at dksX6_visited_0 21 rfl rfl)
theorem dX6_visited_24 : decode cX6_visited 24 = .ok (.aload_n 0, 1) := dk_42 (dk_at dksX6_visited_1 0 rfl rfl)
theorem dX6_visited_25 : decode cX6_visited 25 = .ok (.aload_n 0, 1) := dk_42 (dk_at dksX6_visited_1 1 rfl rfl)
theorem dX6_visited_26 : decode cX6_visited 26 = .ok (.getfield 7, 3) := dk_180 0 7 (dk_at dksX6_visited_1 2 rfl rfl)
theorem dX6_visited_29 : decode cX6_visited 29 = .ok (.bipush 48, 2) := dk_16 48 (dk_at dksX6_visited_1 5 rfl rfl)
theorem dX6_visited_31 : decode cX6_visited 31 = .ok (.iload_n 2, 1) := dk_28 (dk_at dksX6_visited_1 7 rfl rfl)
theorem dX6_visited_32 : decode cX6_visited 32 = .ok (.iadd, 1) := dk_96 (dk_at dksX6_visited_1 8 rfl rfl)
theorem dX6_visited_33 : decode cX6_visited 33 = .ok (.iaload, 1) := dk_46 (dk_at dksX6_visited_1 9 rfl rfl)
theorem dX6_visited_34 : decode cX6_visited 34 = .ok (.invokevirtual 395, 3) := dk_182 1 139 (dk_at dksX6_visited_1 10 rfl rfl)
theorem dX6_visited_37 : decode cX6_visited 37 = .ok (.bipush (-2), 2) := dk_16 254 (dk_at dksX6_visited_1 13 rfl rfl)
theorem dX6_visited_39 : decode cX6_visited 39 = .ok (.if_icmp .eq 9, 3) := dk_159 0 9 (dk_at dksX6_visited_1 15 rfl rfl)
theorem dX6_visited_42 : decode cX6_visited 42 = .ok (.iload_n 1, 1) := dk_27 (dk_at dksX6_visited_1 18 rfl rfl)
theorem dX6_visited_43 : decode cX6_visited 43 = .ok (.iconst 1, 1) := dk_4 (dk_at dksX6_visited_1 19 rfl rfl)
theorem dX6_visited_44 : decode cX6_visited 44 = .ok (.iload_n 2, 1) := dk_28 (dk_at dksX6_visited_1 20 rfl rfl)
theorem dX6_visited_45 : decode cX6_visited 45 = .ok (.ishl, 1) := dk_120 (dk_at dksX6_visited_1 21 rfl rfl)
theorem dX6_visited_46 : decode cX6_visited 46 = .ok (.ior, 1) := dk_128 (dk_at dksX6_visited_1 22 rfl rfl)
theorem dX6_visited_47 : decode cX6_visited 47 = .ok (.istore_n 1, 1) := dk_60 (dk_at dksX6_visited_1 23 rfl rfl)
theorem dX6_visited_48 : decode cX6_visited 48 = .ok (.iinc 2 1, 3) := dk_132 2 1 (dk_at dksX6_visited_2 0 rfl rfl)
theorem dX6_visited_51 : decode cX6_visited 51 = .ok (.goto (-41), 3) := dk_167 255 215 (dk_at dksX6_visited_2 3 rfl rfl)
theorem dX6_visited_54 : decode cX6_visited 54 = .ok (.iload_n 1, 1) := dk_27 (dk_at dksX6_visited_2 6 rfl rfl)
theorem dX6_visited_55 : decode cX6_visited 55 = .ok (.ireturn, 1) := dk_172 (dk_at dksX6_visited_2 7 rfl rfl)
abbrev cX6_alike : ByteArray := prog_20_method_99_code
def yX6_alike : MethodName := ⟨RX6, "alike", "(II)I"⟩
def dkwX6_alike_4 : List UInt8 := [54, 4, 21, 5, 62, 132, 5, 1, 167, 255, 183, 28, 154, 0, 7, 29, 167, 0, 5, 21, 4, 172]
abbrev dktX6_alike_4 : List UInt8 := dkwX6_alike_4 ++ []
def dkwX6_alike_3 : List UInt8 := [21, 5, 27, 159, 0, 26, 29, 16, 254, 159, 0, 13, 21, 6, 21, 4, 161, 0, 6, 167, 0, 10, 21, 6]
abbrev dktX6_alike_3 : List UInt8 := dkwX6_alike_3 ++ dktX6_alike_4
def dkwX6_alike_2 : List UInt8 := [180, 0, 7, 16, 16, 21, 5, 96, 46, 130, 184, 0, 126, 54, 6, 42, 21, 5, 182, 0, 108, 153, 0, 32]
abbrev dktX6_alike_2 : List UInt8 := dkwX6_alike_2 ++ dktX6_alike_3
def dkwX6_alike_1 : List UInt8 := [54, 4, 3, 54, 5, 21, 5, 16, 16, 162, 0, 72, 42, 180, 0, 7, 16, 16, 27, 96, 46, 42]
abbrev dktX6_alike_1 : List UInt8 := dkwX6_alike_1 ++ dktX6_alike_2
def dkwX6_alike_0 : List UInt8 := [42, 27, 182, 0, 108, 153, 0, 12, 28, 3, 4, 184, 0, 104, 154, 0, 5, 2, 172, 16, 254, 62, 16, 254]
abbrev dktX6_alike_0 : List UInt8 := dkwX6_alike_0 ++ dktX6_alike_1
theorem dksX6_alike_0 : cX6_alike.data.toList.drop 0 = dktX6_alike_0 := by decide +kernel
theorem dksX6_alike_1 : cX6_alike.data.toList.drop 24 = dktX6_alike_1 := dk_seg dksX6_alike_0 24 rfl rfl
theorem dksX6_alike_2 : cX6_alike.data.toList.drop 46 = dktX6_alike_2 := dk_seg dksX6_alike_1 22 rfl rfl
theorem dksX6_alike_3 : cX6_alike.data.toList.drop 70 = dktX6_alike_3 := dk_seg dksX6_alike_2 24 rfl rfl
theorem dksX6_alike_4 : cX6_alike.data.toList.drop 94 = dktX6_alike_4 := dk_seg dksX6_alike_3 24 rfl rfl
theorem dX6_alike_0 : decode cX6_alike 0 = .ok (.aload_n 0, 1) := dk_42 (dk_at dksX6_alike_0 0 rfl rfl)
theorem dX6_alike_1 : decode cX6_alike 1 = .ok (.iload_n 1, 1) := dk_27 (dk_at dksX6_alike_0 1 rfl rfl)
theorem dX6_alike_2 : decode cX6_alike 2 = .ok (.invokevirtual 108, 3) := dk_182 0 108 (dk_at dksX6_alike_0 2 rfl rfl)
theorem dX6_alike_5 : decode cX6_alike 5 = .ok (.ifCond .eq 12, 3) := dk_153 0 12 (dk_at dksX6_alike_0 5 rfl rfl)
theorem dX6_alike_8 : decode cX6_alike 8 = .ok (.iload_n 2, 1) := dk_28 (dk_at dksX6_alike_0 8 rfl rfl)
theorem dX6_alike_9 : decode cX6_alike 9 = .ok (.iconst 0, 1) := dk_3 (dk_at dksX6_alike_0 9 rfl rfl)
theorem dX6_alike_10 : decode cX6_alike 10 = .ok (.iconst 1, 1) := dk_4 (dk_at dksX6_alike_0 10 rfl rfl)
theorem dX6_alike_11 : decode cX6_alike 11 = .ok (.invokestatic 104, 3) := dk_184 0 104 (dk_at dksX6_alike_0 11 rfl rfl)
theorem dX6_alike_14 : decode cX6_alike 14 = .ok (.ifCond .ne 5, 3) := dk_154 0 5 (dk_at dksX6_alike_0 14 rfl rfl)
theorem dX6_alike_17 : decode cX6_alike 17 = .ok (.iconst (-1), 1) := dk_2 (dk_at dksX6_alike_0 17 rfl rfl)
theorem dX6_alike_18 : decode cX6_alike 18 = .ok (.ireturn, 1) := dk_172 (dk_at dksX6_alike_0 18 rfl rfl)
theorem dX6_alike_19 : decode cX6_alike 19 = .ok (.bipush (-2), 2) := dk_16 254 (dk_at dksX6_alike_0 19 rfl rfl)
theorem dX6_alike_21 : decode cX6_alike 21 = .ok (.istore_n 3, 1) := dk_62 (dk_at dksX6_alike_0 21 rfl rfl)
theorem dX6_alike_22 : decode cX6_alike 22 = .ok (.bipush (-2), 2) := dk_16 254 (dk_at dksX6_alike_0 22 rfl rfl)
theorem dX6_alike_24 : decode cX6_alike 24 = .ok (.istore 4, 2) := dk_54 4 (dk_at dksX6_alike_1 0 rfl rfl)
theorem dX6_alike_26 : decode cX6_alike 26 = .ok (.iconst 0, 1) := dk_3 (dk_at dksX6_alike_1 2 rfl rfl)
theorem dX6_alike_27 : decode cX6_alike 27 = .ok (.istore 5, 2) := dk_54 5 (dk_at dksX6_alike_1 3 rfl rfl)
theorem dX6_alike_29 : decode cX6_alike 29 = .ok (.iload 5, 2) := dk_21 5 (dk_at dksX6_alike_1 5 rfl rfl)
theorem dX6_alike_31 : decode cX6_alike 31 = .ok (.bipush 16, 2) := dk_16 16 (dk_at dksX6_alike_1 7 rfl rfl)
theorem dX6_alike_33 : decode cX6_alike 33 = .ok (.if_icmp .ge 72, 3) := dk_162 0 72 (dk_at dksX6_alike_1 9 rfl rfl)
theorem dX6_alike_36 : decode cX6_alike 36 = .ok (.aload_n 0, 1) := dk_42 (dk_at dksX6_alike_1 12 rfl rfl)
theorem dX6_alike_37 : decode cX6_alike 37 = .ok (.getfield 7, 3) := dk_180 0 7 (dk_at dksX6_alike_1 13 rfl rfl)
theorem dX6_alike_40 : decode cX6_alike 40 = .ok (.bipush 16, 2) := dk_16 16 (dk_at dksX6_alike_1 16 rfl rfl)
theorem dX6_alike_42 : decode cX6_alike 42 = .ok (.iload_n 1, 1) := dk_27 (dk_at dksX6_alike_1 18 rfl rfl)
theorem dX6_alike_43 : decode cX6_alike 43 = .ok (.iadd, 1) := dk_96 (dk_at dksX6_alike_1 19 rfl rfl)
theorem dX6_alike_44 : decode cX6_alike 44 = .ok (.iaload, 1) := dk_46 (dk_at dksX6_alike_1 20 rfl rfl)
theorem dX6_alike_45 : decode cX6_alike 45 = .ok (.aload_n 0, 1) := dk_42 (dk_at dksX6_alike_1 21 rfl rfl)
theorem dX6_alike_46 : decode cX6_alike 46 = .ok (.getfield 7, 3) := dk_180 0 7 (dk_at dksX6_alike_2 0 rfl rfl)
theorem dX6_alike_49 : decode cX6_alike 49 = .ok (.bipush 16, 2) := dk_16 16 (dk_at dksX6_alike_2 3 rfl rfl)
theorem dX6_alike_51 : decode cX6_alike 51 = .ok (.iload 5, 2) := dk_21 5 (dk_at dksX6_alike_2 5 rfl rfl)
theorem dX6_alike_53 : decode cX6_alike 53 = .ok (.iadd, 1) := dk_96 (dk_at dksX6_alike_2 7 rfl rfl)
theorem dX6_alike_54 : decode cX6_alike 54 = .ok (.iaload, 1) := dk_46 (dk_at dksX6_alike_2 8 rfl rfl)
theorem dX6_alike_55 : decode cX6_alike 55 = .ok (.ixor, 1) := dk_130 (dk_at dksX6_alike_2 9 rfl rfl)
theorem dX6_alike_56 : decode cX6_alike 56 = .ok (.invokestatic 126, 3) := dk_184 0 126 (dk_at dksX6_alike_2 10 rfl rfl)
theorem dX6_alike_59 : decode cX6_alike 59 = .ok (.istore 6, 2) := dk_54 6 (dk_at dksX6_alike_2 13 rfl rfl)
theorem dX6_alike_61 : decode cX6_alike 61 = .ok (.aload_n 0, 1) := dk_42 (dk_at dksX6_alike_2 15 rfl rfl)
theorem dX6_alike_62 : decode cX6_alike 62 = .ok (.iload 5, 2) := dk_21 5 (dk_at dksX6_alike_2 16 rfl rfl)
theorem dX6_alike_64 : decode cX6_alike 64 = .ok (.invokevirtual 108, 3) := dk_182 0 108 (dk_at dksX6_alike_2 18 rfl rfl)
theorem dX6_alike_67 : decode cX6_alike 67 = .ok (.ifCond .eq 32, 3) := dk_153 0 32 (dk_at dksX6_alike_2 21 rfl rfl)
theorem dX6_alike_70 : decode cX6_alike 70 = .ok (.iload 5, 2) := dk_21 5 (dk_at dksX6_alike_3 0 rfl rfl)
theorem dX6_alike_72 : decode cX6_alike 72 = .ok (.iload_n 1, 1) := dk_27 (dk_at dksX6_alike_3 2 rfl rfl)
theorem dX6_alike_73 : decode cX6_alike 73 = .ok (.if_icmp .eq 26, 3) := dk_159 0 26 (dk_at dksX6_alike_3 3 rfl rfl)
theorem dX6_alike_76 : decode cX6_alike 76 = .ok (.iload_n 3, 1) := dk_29 (dk_at dksX6_alike_3 6 rfl rfl)
theorem dX6_alike_77 : decode cX6_alike 77 = .ok (.bipush (-2), 2) := dk_16 254 (dk_at dksX6_alike_3 7 rfl rfl)
theorem dX6_alike_79 : decode cX6_alike 79 = .ok (.if_icmp .eq 13, 3) := dk_159 0 13 (dk_at dksX6_alike_3 9 rfl rfl)
theorem dX6_alike_82 : decode cX6_alike 82 = .ok (.iload 6, 2) := dk_21 6 (dk_at dksX6_alike_3 12 rfl rfl)
theorem dX6_alike_84 : decode cX6_alike 84 = .ok (.iload 4, 2) := dk_21 4 (dk_at dksX6_alike_3 14 rfl rfl)
theorem dX6_alike_86 : decode cX6_alike 86 = .ok (.if_icmp .lt 6, 3) := dk_161 0 6 (dk_at dksX6_alike_3 16 rfl rfl)
theorem dX6_alike_89 : decode cX6_alike 89 = .ok (.goto 10, 3) := dk_167 0 10 (dk_at dksX6_alike_3 19 rfl rfl)
theorem dX6_alike_92 : decode cX6_alike 92 = .ok (.iload 6, 2) := dk_21 6 (dk_at dksX6_alike_3 22 rfl rfl)
theorem dX6_alike_94 : decode cX6_alike 94 = .ok (.istore 4, 2) := dk_54 4 (dk_at dksX6_alike_4 0 rfl rfl)
theorem dX6_alike_96 : decode cX6_alike 96 = .ok (.iload 5, 2) := dk_21 5 (dk_at dksX6_alike_4 2 rfl rfl)
theorem dX6_alike_98 : decode cX6_alike 98 = .ok (.istore_n 3, 1) := dk_62 (dk_at dksX6_alike_4 4 rfl rfl)
theorem dX6_alike_99 : decode cX6_alike 99 = .ok (.iinc 5 1, 3) := dk_132 5 1 (dk_at dksX6_alike_4 5 rfl rfl)
theorem dX6_alike_102 : decode cX6_alike 102 = .ok (.goto (-73), 3) := dk_167 255 183 (dk_at dksX6_alike_4 8 rfl rfl)
theorem dX6_alike_105 : decode cX6_alike 105 = .ok (.iload_n 2, 1) := dk_28 (dk_at dksX6_alike_4 11 rfl rfl)
theorem dX6_alike_106 : decode cX6_alike 106 = .ok (.ifCond .ne 7, 3) := dk_154 0 7 (dk_at dksX6_alike_4 12 rfl rfl)
theorem dX6_alike_109 : decode cX6_alike 109 = .ok (.iload_n 3, 1) := dk_29 (dk_at dksX6_alike_4 15 rfl rfl)
theorem dX6_alike_110 : decode cX6_alike 110 = .ok (.goto 5, 3) := dk_167 0 5 (dk_at dksX6_alike_4 16 rfl rfl)
theorem dX6_alike_113 : decode cX6_alike 113 = .ok (.iload 4, 2) := dk_21 4 (dk_at dksX6_alike_4 19 rfl rfl)
theorem dX6_alike_115 : decode cX6_alike 115 = .ok (.ireturn, 1) := dk_172 (dk_at dksX6_alike_4 21 rfl rfl)
abbrev cX6_seed : ByteArray := prog_20_method_100_code
def yX6_seed : MethodName := ⟨RX6, "seed", "(I)Z"⟩
def dkwX6_seed_0 : List UInt8 := [27, 3, 18, 133, 184, 0, 104, 154, 0, 5, 3, 172, 42, 180, 0, 7, 16, 65, 27, 79, 4, 172]
abbrev dktX6_seed_0 : List UInt8 := dkwX6_seed_0 ++ []
theorem dksX6_seed_0 : cX6_seed.data.toList.drop 0 = dktX6_seed_0 := by decide +kernel
theorem dX6_seed_0 : decode cX6_seed 0 = .ok (.iload_n 1, 1) := dk_27 (dk_at dksX6_seed_0 0 rfl rfl)
theorem dX6_seed_1 : decode cX6_seed 1 = .ok (.iconst 0, 1) := dk_3 (dk_at dksX6_seed_0 1 rfl rfl)
theorem dX6_seed_2 : decode cX6_seed 2 = .ok (.ldc 133, 2) := dk_18 133 (dk_at dksX6_seed_0 2 rfl rfl)
theorem dX6_seed_4 : decode cX6_seed 4 = .ok (.invokestatic 104, 3) := dk_184 0 104 (dk_at dksX6_seed_0 4 rfl rfl)
theorem dX6_seed_7 : decode cX6_seed 7 = .ok (.ifCond .ne 5, 3) := dk_154 0 5 (dk_at dksX6_seed_0 7 rfl rfl)
theorem dX6_seed_10 : decode cX6_seed 10 = .ok (.iconst 0, 1) := dk_3 (dk_at dksX6_seed_0 10 rfl rfl)
theorem dX6_seed_11 : decode cX6_seed 11 = .ok (.ireturn, 1) := dk_172 (dk_at dksX6_seed_0 11 rfl rfl)
theorem dX6_seed_12 : decode cX6_seed 12 = .ok (.aload_n 0, 1) := dk_42 (dk_at dksX6_seed_0 12 rfl rfl)
theorem dX6_seed_13 : decode cX6_seed 13 = .ok (.getfield 7, 3) := dk_180 0 7 (dk_at dksX6_seed_0 13 rfl rfl)
theorem dX6_seed_16 : decode cX6_seed 16 = .ok (.bipush 65, 2) := dk_16 65 (dk_at dksX6_seed_0 16 rfl rfl)
theorem dX6_seed_18 : decode cX6_seed 18 = .ok (.iload_n 1, 1) := dk_27 (dk_at dksX6_seed_0 18 rfl rfl)
theorem dX6_seed_19 : decode cX6_seed 19 = .ok (.iastore, 1) := dk_79 (dk_at dksX6_seed_0 19 rfl rfl)
theorem dX6_seed_20 : decode cX6_seed 20 = .ok (.iconst 1, 1) := dk_4 (dk_at dksX6_seed_0 20 rfl rfl)
theorem dX6_seed_21 : decode cX6_seed 21 = .ok (.ireturn, 1) := dk_172 (dk_at dksX6_seed_0 21 rfl rfl)
abbrev cX6_keep : ByteArray := prog_20_method_101_code
def yX6_keep : MethodName := ⟨RX6, "keep", "()I"⟩
def dkwX6_keep_0 : List UInt8 := [42, 4, 181, 1, 142, 42, 180, 0, 7, 42, 180, 0, 16, 184, 1, 10, 42, 180, 0, 7, 16, 64, 46, 172]
abbrev dktX6_keep_0 : List UInt8 := dkwX6_keep_0 ++ []
theorem dksX6_keep_0 : cX6_keep.data.toList.drop 0 = dktX6_keep_0 := by decide +kernel
theorem dX6_keep_0 : decode cX6_keep 0 = .ok (.aload_n 0, 1) := dk_42 (dk_at dksX6_keep_0 0 rfl rfl)
theorem dX6_keep_1 : decode cX6_keep 1 = .ok (.iconst 1, 1) := dk_4 (dk_at dksX6_keep_0 1 rfl rfl)
theorem dX6_keep_2 : decode cX6_keep 2 = .ok (.putfield 398, 3) := dk_181 1 142 (dk_at dksX6_keep_0 2 rfl rfl)
theorem dX6_keep_5 : decode cX6_keep 5 = .ok (.aload_n 0, 1) := dk_42 (dk_at dksX6_keep_0 5 rfl rfl)
theorem dX6_keep_6 : decode cX6_keep 6 = .ok (.getfield 7, 3) := dk_180 0 7 (dk_at dksX6_keep_0 6 rfl rfl)
theorem dX6_keep_9 : decode cX6_keep 9 = .ok (.aload_n 0, 1) := dk_42 (dk_at dksX6_keep_0 9 rfl rfl)
theorem dX6_keep_10 : decode cX6_keep 10 = .ok (.getfield 16, 3) := dk_180 0 16 (dk_at dksX6_keep_0 10 rfl rfl)
theorem dX6_keep_13 : decode cX6_keep 13 = .ok (.invokestatic 266, 3) := dk_184 1 10 (dk_at dksX6_keep_0 13 rfl rfl)
theorem dX6_keep_16 : decode cX6_keep 16 = .ok (.aload_n 0, 1) := dk_42 (dk_at dksX6_keep_0 16 rfl rfl)
theorem dX6_keep_17 : decode cX6_keep 17 = .ok (.getfield 7, 3) := dk_180 0 7 (dk_at dksX6_keep_0 17 rfl rfl)
theorem dX6_keep_20 : decode cX6_keep 20 = .ok (.bipush 64, 2) := dk_16 64 (dk_at dksX6_keep_0 20 rfl rfl)
theorem dX6_keep_22 : decode cX6_keep 22 = .ok (.iaload, 1) := dk_46 (dk_at dksX6_keep_0 22 rfl rfl)
theorem dX6_keep_23 : decode cX6_keep 23 = .ok (.ireturn, 1) := dk_172 (dk_at dksX6_keep_0 23 rfl rfl)
abbrev cX6_undo : ByteArray := prog_20_method_102_code
def yX6_undo : MethodName := ⟨RX6, "undo", "()Z"⟩
def dkwX6_undo_0 : List UInt8 := [42, 180, 1, 142, 154, 0, 5, 3, 172, 42, 180, 0, 16, 42, 180, 0, 7, 184, 1, 10, 4, 172]
abbrev dktX6_undo_0 : List UInt8 := dkwX6_undo_0 ++ []
theorem dksX6_undo_0 : cX6_undo.data.toList.drop 0 = dktX6_undo_0 := by decide +kernel
theorem dX6_undo_0 : decode cX6_undo 0 = .ok (.aload_n 0, 1) := dk_42 (dk_at dksX6_undo_0 0 rfl rfl)
theorem dX6_undo_1 : decode cX6_undo 1 = .ok (.getfield 398, 3) := dk_180 1 142 (dk_at dksX6_undo_0 1 rfl rfl)
theorem dX6_undo_4 : decode cX6_undo 4 = .ok (.ifCond .ne 5, 3) := dk_154 0 5 (dk_at dksX6_undo_0 4 rfl rfl)
theorem dX6_undo_7 : decode cX6_undo 7 = .ok (.iconst 0, 1) := dk_3 (dk_at dksX6_undo_0 7 rfl rfl)
theorem dX6_undo_8 : decode cX6_undo 8 = .ok (.ireturn, 1) := dk_172 (dk_at dksX6_undo_0 8 rfl rfl)
theorem dX6_undo_9 : decode cX6_undo 9 = .ok (.aload_n 0, 1) := dk_42 (dk_at dksX6_undo_0 9 rfl rfl)
theorem dX6_undo_10 : decode cX6_undo 10 = .ok (.getfield 16, 3) := dk_180 0 16 (dk_at dksX6_undo_0 10 rfl rfl)
theorem dX6_undo_13 : decode cX6_undo 13 = .ok (.aload_n 0, 1) := dk_42 (dk_at dksX6_undo_0 13 rfl rfl)
theorem dX6_undo_14 : decode cX6_undo 14 = .ok (.getfield 7, 3) := dk_180 0 7 (dk_at dksX6_undo_0 14 rfl rfl)
theorem dX6_undo_17 : decode cX6_undo 17 = .ok (.invokestatic 266, 3) := dk_184 1 10 (dk_at dksX6_undo_0 17 rfl rfl)
theorem dX6_undo_20 : decode cX6_undo 20 = .ok (.iconst 1, 1) := dk_4 (dk_at dksX6_undo_0 20 rfl rfl)
theorem dX6_undo_21 : decode cX6_undo 21 = .ok (.ireturn, 1) := dk_172 (dk_at dksX6_undo_0 21 rfl rfl)
abbrev cX6_check : ByteArray := prog_20_method_103_code
def yX6_check : MethodName := ⟨RX6, "check", "(I)I"⟩
def dkwX6_check_3 : List UInt8 := [172]
abbrev dktX6_check_3 : List UInt8 := dkwX6_check_3 ++ []
def dkwX6_check_2 : List UInt8 := [180, 0, 7, 16, 32, 28, 96, 46, 167, 0, 4, 3, 159, 0, 5, 28, 172, 132, 2, 1, 167, 255, 217, 2]
abbrev dktX6_check_2 : List UInt8 := dkwX6_check_2 ++ dktX6_check_3
def dkwX6_check_1 : List UInt8 := [181, 0, 134, 3, 61, 28, 27, 162, 0, 40, 42, 28, 182, 1, 127, 42, 28, 182, 0, 108, 153, 0, 15, 42]
abbrev dktX6_check_1 : List UInt8 := dkwX6_check_1 ++ dktX6_check_2
def dkwX6_check_0 : List UInt8 := [27, 3, 16, 16, 184, 0, 104, 153, 0, 11, 27, 42, 180, 0, 134, 164, 0, 6, 16, 254, 172, 42, 3]
abbrev dktX6_check_0 : List UInt8 := dkwX6_check_0 ++ dktX6_check_1
theorem dksX6_check_0 : cX6_check.data.toList.drop 0 = dktX6_check_0 := by decide +kernel
theorem dksX6_check_1 : cX6_check.data.toList.drop 23 = dktX6_check_1 := dk_seg dksX6_check_0 23 rfl rfl
theorem dksX6_check_2 : cX6_check.data.toList.drop 47 = dktX6_check_2 := dk_seg dksX6_check_1 24 rfl rfl
theorem dksX6_check_3 : cX6_check.data.toList.drop 71 = dktX6_check_3 := dk_seg dksX6_check_2 24 rfl rfl
theorem dX6_check_0 : decode cX6_check 0 = .ok (.iload_n 1, 1) := dk_27 (dk_at dksX6_check_0 0 rfl rfl)
theorem dX6_check_1 : decode cX6_check 1 = .ok (.iconst 0, 1) := dk_3 (dk_at dksX6_check_0 1 rfl rfl)
theorem dX6_check_2 : decode cX6_check 2 = .ok (.bipush 16, 2) := dk_16 16 (dk_at dksX6_check_0 2 rfl rfl)
theorem dX6_check_4 : decode cX6_check 4 = .ok (.invokestatic 104, 3) := dk_184 0 104 (dk_at dksX6_check_0 4 rfl rfl)
theorem dX6_check_7 : decode cX6_check 7 = .ok (.ifCond .eq 11, 3) := dk_153 0 11 (dk_at dksX6_check_0 7 rfl rfl)
theorem dX6_check_10 : decode cX6_check 10 = .ok (.iload_n 1, 1) := dk_27 (dk_at dksX6_check_0 10 rfl rfl)
theorem dX6_check_11 : decode cX6_check 11 = .ok (.aload_n 0, 1) := dk_42 (dk_at dksX6_check_0 11 rfl rfl)
theorem dX6_check_12 : decode cX6_check 12 = .ok (.getfield 134, 3) := dk_180 0 134 (dk_at dksX6_check_0 12 rfl rfl)
theorem dX6_check_15 : decode cX6_check 15 = .ok (.if_icmp .le 6, 3) := dk_164 0 6 (dk_at dksX6_check_0 15 rfl rfl)
theorem dX6_check_18 : decode cX6_check 18 = .ok (.bipush (-2), 2) := dk_16 254 (dk_at dksX6_check_0 18 rfl rfl)
theorem dX6_check_20 : decode cX6_check 20 = .ok (.ireturn, 1) := dk_172 (dk_at dksX6_check_0 20 rfl rfl)
theorem dX6_check_21 : decode cX6_check 21 = .ok (.aload_n 0, 1) := dk_42 (dk_at dksX6_check_0 21 rfl rfl)
theorem dX6_check_22 : decode cX6_check 22 = .ok (.iconst 0, 1) := dk_3 (dk_at dksX6_check_0 22 rfl rfl)
theorem dX6_check_23 : decode cX6_check 23 = .ok (.putfield 134, 3) := dk_181 0 134 (dk_at dksX6_check_1 0 rfl rfl)
theorem dX6_check_26 : decode cX6_check 26 = .ok (.iconst 0, 1) := dk_3 (dk_at dksX6_check_1 3 rfl rfl)
theorem dX6_check_27 : decode cX6_check 27 = .ok (.istore_n 2, 1) := dk_61 (dk_at dksX6_check_1 4 rfl rfl)
theorem dX6_check_28 : decode cX6_check 28 = .ok (.iload_n 2, 1) := dk_28 (dk_at dksX6_check_1 5 rfl rfl)
theorem dX6_check_29 : decode cX6_check 29 = .ok (.iload_n 1, 1) := dk_27 (dk_at dksX6_check_1 6 rfl rfl)
theorem dX6_check_30 : decode cX6_check 30 = .ok (.if_icmp .ge 40, 3) := dk_162 0 40 (dk_at dksX6_check_1 7 rfl rfl)
theorem dX6_check_33 : decode cX6_check 33 = .ok (.aload_n 0, 1) := dk_42 (dk_at dksX6_check_1 10 rfl rfl)
theorem dX6_check_34 : decode cX6_check 34 = .ok (.iload_n 2, 1) := dk_28 (dk_at dksX6_check_1 11 rfl rfl)
theorem dX6_check_35 : decode cX6_check 35 = .ok (.invokevirtual 383, 3) := dk_182 1 127 (dk_at dksX6_check_1 12 rfl rfl)
theorem dX6_check_38 : decode cX6_check 38 = .ok (.aload_n 0, 1) := dk_42 (dk_at dksX6_check_1 15 rfl rfl)
theorem dX6_check_39 : decode cX6_check 39 = .ok (.iload_n 2, 1) := dk_28 (dk_at dksX6_check_1 16 rfl rfl)
theorem dX6_check_40 : decode cX6_check 40 = .ok (.invokevirtual 108, 3) := dk_182 0 108 (dk_at dksX6_check_1 17 rfl rfl)
theorem dX6_check_43 : decode cX6_check 43 = .ok (.ifCond .eq 15, 3) := dk_153 0 15 (dk_at dksX6_check_1 20 rfl rfl)
theorem dX6_check_46 : decode cX6_check 46 = .ok (.aload_n 0, 1) := dk_42 (dk_at dksX6_check_1 23 rfl rfl)
theorem dX6_check_47 : decode cX6_check 47 = .ok (.getfield 7, 3) := dk_180 0 7 (dk_at dksX6_check_2 0 rfl rfl)
theorem dX6_check_50 : decode cX6_check 50 = .ok (.bipush 32, 2) := dk_16 32 (dk_at dksX6_check_2 3 rfl rfl)
theorem dX6_check_52 : decode cX6_check 52 = .ok (.iload_n 2, 1) := dk_28 (dk_at dksX6_check_2 5 rfl rfl)
theorem dX6_check_53 : decode cX6_check 53 = .ok (.iadd, 1) := dk_96 (dk_at dksX6_check_2 6 rfl rfl)
theorem dX6_check_54 : decode cX6_check 54 = .ok (.iaload, 1) := dk_46 (dk_at dksX6_check_2 7 rfl rfl)
theorem dX6_check_55 : decode cX6_check 55 = .ok (.goto 4, 3) := dk_167 0 4 (dk_at dksX6_check_2 8 rfl rfl)
theorem dX6_check_58 : decode cX6_check 58 = .ok (.iconst 0, 1) := dk_3 (dk_at dksX6_check_2 11 rfl rfl)
theorem dX6_check_59 : decode cX6_check 59 = .ok (.if_icmp .eq 5, 3) := dk_159 0 5 (dk_at dksX6_check_2 12 rfl rfl)
theorem dX6_check_62 : decode cX6_check 62 = .ok (.iload_n 2, 1) := dk_28 (dk_at dksX6_check_2 15 rfl rfl)
theorem dX6_check_63 : decode cX6_check 63 = .ok (.ireturn, 1) := dk_172 (dk_at dksX6_check_2 16 rfl rfl)
theorem dX6_check_64 : decode cX6_check 64 = .ok (.iinc 2 1, 3) := dk_132 2 1 (dk_at dksX6_check_2 17 rfl rfl)
theorem dX6_check_67 : decode cX6_check 67 = .ok (.goto (-39), 3) := dk_167 255 217 (dk_at dksX6_check_2 20 rfl rfl)
theorem dX6_check_70 : decode cX6_check 70 = .ok (.iconst (-1), 1) := dk_2 (dk_at dksX6_check_2 23 rfl rfl)
theorem dX6_check_71 : decode cX6_check 71 = .ok (.ireturn, 1) := dk_172 (dk_at dksX6_check_3 0 rfl rfl)
abbrev cX6_count : ByteArray := prog_20_method_104_code
def yX6_count : MethodName := ⟨RX6, "count", "(I)I"⟩
def dkwX6_count_6 : List UInt8 := [16, 20, 100, 182, 0, 247, 167, 0, 4, 2, 172]
abbrev dktX6_count_6 : List UInt8 := dkwX6_count_6 ++ []
def dkwX6_count_5 : List UInt8 := [3, 96, 61, 132, 3, 1, 167, 255, 223, 28, 172, 27, 16, 20, 16, 79, 184, 0, 104, 153, 0, 14, 42, 27]
abbrev dktX6_count_5 : List UInt8 := dkwX6_count_5 ++ dktX6_count_6
def dkwX6_count_4 : List UInt8 := [162, 0, 33, 28, 42, 29, 182, 0, 108, 153, 0, 15, 42, 180, 0, 7, 16, 32, 29, 96, 46, 167, 0, 4]
abbrev dktX6_count_4 : List UInt8 := dkwX6_count_4 ++ dktX6_count_5
def dkwX6_count_3 : List UInt8 := [180, 0, 234, 172, 42, 180, 0, 134, 172, 42, 180, 0, 7, 16, 65, 46, 172, 3, 62, 29, 16, 16]
abbrev dktX6_count_3 : List UInt8 := dkwX6_count_3 ++ dktX6_count_4
def dkwX6_count_2 : List UInt8 := [42, 180, 0, 7, 16, 64, 46, 172, 42, 182, 1, 99, 172, 42, 182, 1, 124, 172, 42, 180, 1, 23, 172, 42]
abbrev dktX6_count_2 : List UInt8 := dkwX6_count_2 ++ dktX6_count_3
def dkwX6_count_1 : List UInt8 := [170, 0, 0, 0, 126, 0, 0, 0, 0, 0, 0, 0, 7, 0, 0, 0, 45, 0, 0, 0, 53, 0, 0, 0, 58, 0, 0, 0, 63, 0, 0, 0, 68, 0, 0, 0, 73, 0, 0, 0, 78, 0, 0, 0, 86]
abbrev dktX6_count_1 : List UInt8 := dkwX6_count_1 ++ dktX6_count_2
def dkwX6_count_0 : List UInt8 := [3, 61, 27]
abbrev dktX6_count_0 : List UInt8 := dkwX6_count_0 ++ dktX6_count_1
theorem dksX6_count_0 : cX6_count.data.toList.drop 0 = dktX6_count_0 := by decide +kernel
theorem dksX6_count_1 : cX6_count.data.toList.drop 3 = dktX6_count_1 := dk_seg dksX6_count_0 3 rfl rfl
theorem dksX6_count_2 : cX6_count.data.toList.drop 48 = dktX6_count_2 := dk_seg dksX6_count_1 45 rfl rfl
theorem dksX6_count_3 : cX6_count.data.toList.drop 72 = dktX6_count_3 := dk_seg dksX6_count_2 24 rfl rfl
theorem dksX6_count_4 : cX6_count.data.toList.drop 94 = dktX6_count_4 := dk_seg dksX6_count_3 22 rfl rfl
theorem dksX6_count_5 : cX6_count.data.toList.drop 118 = dktX6_count_5 := dk_seg dksX6_count_4 24 rfl rfl
theorem dksX6_count_6 : cX6_count.data.toList.drop 142 = dktX6_count_6 := dk_seg dksX6_count_5 24 rfl rfl
theorem dX6_count_0 : decode cX6_count 0 = .ok (.iconst 0, 1) := dk_3 (dk_at dksX6_count_0 0 rfl rfl)
theorem dX6_count_1 : decode cX6_count 1 = .ok (.istore_n 2, 1) := dk_61 (dk_at dksX6_count_0 1 rfl rfl)
theorem dX6_count_2 : decode cX6_count 2 = .ok (.iload_n 1, 1) := dk_27 (dk_at dksX6_count_0 2 rfl rfl)
theorem dX6_count_3 : decode cX6_count 3 = .ok (.tableswitch 126 0 7 #[45, 53, 58, 63, 68, 73, 78, 86], 45) := by decide +kernel
theorem dX6_count_48 : decode cX6_count 48 = .ok (.aload_n 0, 1) := dk_42 (dk_at dksX6_count_2 0 rfl rfl)
theorem dX6_count_49 : decode cX6_count 49 = .ok (.getfield 7, 3) := dk_180 0 7 (dk_at dksX6_count_2 1 rfl rfl)
theorem dX6_count_52 : decode cX6_count 52 = .ok (.bipush 64, 2) := dk_16 64 (dk_at dksX6_count_2 4 rfl rfl)
theorem dX6_count_54 : decode cX6_count 54 = .ok (.iaload, 1) := dk_46 (dk_at dksX6_count_2 6 rfl rfl)
theorem dX6_count_55 : decode cX6_count 55 = .ok (.ireturn, 1) := dk_172 (dk_at dksX6_count_2 7 rfl rfl)
theorem dX6_count_56 : decode cX6_count 56 = .ok (.aload_n 0, 1) := dk_42 (dk_at dksX6_count_2 8 rfl rfl)
theorem dX6_count_57 : decode cX6_count 57 = .ok (.invokevirtual 355, 3) := dk_182 1 99 (dk_at dksX6_count_2 9 rfl rfl)
theorem dX6_count_60 : decode cX6_count 60 = .ok (.ireturn, 1) := dk_172 (dk_at dksX6_count_2 12 rfl rfl)
theorem dX6_count_61 : decode cX6_count 61 = .ok (.aload_n 0, 1) := dk_42 (dk_at dksX6_count_2 13 rfl rfl)
theorem dX6_count_62 : decode cX6_count 62 = .ok (.invokevirtual 380, 3) := dk_182 1 124 (dk_at dksX6_count_2 14 rfl rfl)
theorem dX6_count_65 : decode cX6_count 65 = .ok (.ireturn, 1) := dk_172 (dk_at dksX6_count_2 17 rfl rfl)
theorem dX6_count_66 : decode cX6_count 66 = .ok (.aload_n 0, 1) := dk_42 (dk_at dksX6_count_2 18 rfl rfl)
theorem dX6_count_67 : decode cX6_count 67 = .ok (.getfield 279, 3) := dk_180 1 23 (dk_at dksX6_count_2 19 rfl rfl)
theorem dX6_count_70 : decode cX6_count 70 = .ok (.ireturn, 1) := dk_172 (dk_at dksX6_count_2 22 rfl rfl)
theorem dX6_count_71 : decode cX6_count 71 = .ok (.aload_n 0, 1) := dk_42 (dk_at dksX6_count_2 23 rfl rfl)
theorem dX6_count_72 : decode cX6_count 72 = .ok (.getfield 234, 3) := dk_180 0 234 (dk_at dksX6_count_3 0 rfl rfl)
theorem dX6_count_75 : decode cX6_count 75 = .ok (.ireturn, 1) := dk_172 (dk_at dksX6_count_3 3 rfl rfl)
theorem dX6_count_76 : decode cX6_count 76 = .ok (.aload_n 0, 1) := dk_42 (dk_at dksX6_count_3 4 rfl rfl)
theorem dX6_count_77 : decode cX6_count 77 = .ok (.getfield 134, 3) := dk_180 0 134 (dk_at dksX6_count_3 5 rfl rfl)
theorem dX6_count_80 : decode cX6_count 80 = .ok (.ireturn, 1) := dk_172 (dk_at dksX6_count_3 8 rfl rfl)
theorem dX6_count_81 : decode cX6_count 81 = .ok (.aload_n 0, 1) := dk_42 (dk_at dksX6_count_3 9 rfl rfl)
theorem dX6_count_82 : decode cX6_count 82 = .ok (.getfield 7, 3) := dk_180 0 7 (dk_at dksX6_count_3 10 rfl rfl)
theorem dX6_count_85 : decode cX6_count 85 = .ok (.bipush 65, 2) := dk_16 65 (dk_at dksX6_count_3 13 rfl rfl)
theorem dX6_count_87 : decode cX6_count 87 = .ok (.iaload, 1) := dk_46 (dk_at dksX6_count_3 15 rfl rfl)
theorem dX6_count_88 : decode cX6_count 88 = .ok (.ireturn, 1) := dk_172 (dk_at dksX6_count_3 16 rfl rfl)
theorem dX6_count_89 : decode cX6_count 89 = .ok (.iconst 0, 1) := dk_3 (dk_at dksX6_count_3 17 rfl rfl)
theorem dX6_count_90 : decode cX6_count 90 = .ok (.istore_n 3, 1) := dk_62 (dk_at dksX6_count_3 18 rfl rfl)
theorem dX6_count_91 : decode cX6_count 91 = .ok (.iload_n 3, 1) := dk_29 (dk_at dksX6_count_3 19 rfl rfl)
theorem dX6_count_92 : decode cX6_count 92 = .ok (.bipush 16, 2) := dk_16 16 (dk_at dksX6_count_3 20 rfl rfl)
theorem dX6_count_94 : decode cX6_count 94 = .ok (.if_icmp .ge 33, 3) := dk_162 0 33 (dk_at dksX6_count_4 0 rfl rfl)
theorem dX6_count_97 : decode cX6_count 97 = .ok (.iload_n 2, 1) := dk_28 (dk_at dksX6_count_4 3 rfl rfl)
theorem dX6_count_98 : decode cX6_count 98 = .ok (.aload_n 0, 1) := dk_42 (dk_at dksX6_count_4 4 rfl rfl)
theorem dX6_count_99 : decode cX6_count 99 = .ok (.iload_n 3, 1) := dk_29 (dk_at dksX6_count_4 5 rfl rfl)
theorem dX6_count_100 : decode cX6_count 100 = .ok (.invokevirtual 108, 3) := dk_182 0 108 (dk_at dksX6_count_4 6 rfl rfl)
theorem dX6_count_103 : decode cX6_count 103 = .ok (.ifCond .eq 15, 3) := dk_153 0 15 (dk_at dksX6_count_4 9 rfl rfl)
theorem dX6_count_106 : decode cX6_count 106 = .ok (.aload_n 0, 1) := dk_42 (dk_at dksX6_count_4 12 rfl rfl)
theorem dX6_count_107 : decode cX6_count 107 = .ok (.getfield 7, 3) := dk_180 0 7 (dk_at dksX6_count_4 13 rfl rfl)
theorem dX6_count_110 : decode cX6_count 110 = .ok (.bipush 32, 2) := dk_16 32 (dk_at dksX6_count_4 16 rfl rfl)
theorem dX6_count_112 : decode cX6_count 112 = .ok (.iload_n 3, 1) := dk_29 (dk_at dksX6_count_4 18 rfl rfl)
theorem dX6_count_113 : decode cX6_count 113 = .ok (.iadd, 1) := dk_96 (dk_at dksX6_count_4 19 rfl rfl)
theorem dX6_count_114 : decode cX6_count 114 = .ok (.iaload, 1) := dk_46 (dk_at dksX6_count_4 20 rfl rfl)
theorem dX6_count_115 : decode cX6_count 115 = .ok (.goto 4, 3) := dk_167 0 4 (dk_at dksX6_count_4 21 rfl rfl)
theorem dX6_count_118 : decode cX6_count 118 = .ok (.iconst 0, 1) := dk_3 (dk_at dksX6_count_5 0 rfl rfl)
theorem dX6_count_119 : decode cX6_count 119 = .ok (.iadd, 1) := dk_96 (dk_at dksX6_count_5 1 rfl rfl)
theorem dX6_count_120 : decode cX6_count 120 = .ok (.istore_n 2, 1) := dk_61 (dk_at dksX6_count_5 2 rfl rfl)
theorem dX6_count_121 : decode cX6_count 121 = .ok (.iinc 3 1, 3) := dk_132 3 1 (dk_at dksX6_count_5 3 rfl rfl)
theorem dX6_count_124 : decode cX6_count 124 = .ok (.goto (-33), 3) := dk_167 255 223 (dk_at dksX6_count_5 6 rfl rfl)
theorem dX6_count_127 : decode cX6_count 127 = .ok (.iload_n 2, 1) := dk_28 (dk_at dksX6_count_5 9 rfl rfl)
theorem dX6_count_128 : decode cX6_count 128 = .ok (.ireturn, 1) := dk_172 (dk_at dksX6_count_5 10 rfl rfl)
theorem dX6_count_129 : decode cX6_count 129 = .ok (.iload_n 1, 1) := dk_27 (dk_at dksX6_count_5 11 rfl rfl)
theorem dX6_count_130 : decode cX6_count 130 = .ok (.bipush 20, 2) := dk_16 20 (dk_at dksX6_count_5 12 rfl rfl)
theorem dX6_count_132 : decode cX6_count 132 = .ok (.bipush 79, 2) := dk_16 79 (dk_at dksX6_count_5 14 rfl rfl)
theorem dX6_count_134 : decode cX6_count 134 = .ok (.invokestatic 104, 3) := dk_184 0 104 (dk_at dksX6_count_5 16 rfl rfl)
theorem dX6_count_137 : decode cX6_count 137 = .ok (.ifCond .eq 14, 3) := dk_153 0 14 (dk_at dksX6_count_5 19 rfl rfl)
theorem dX6_count_140 : decode cX6_count 140 = .ok (.aload_n 0, 1) := dk_42 (dk_at dksX6_count_5 22 rfl rfl)
theorem dX6_count_141 : decode cX6_count 141 = .ok (.iload_n 1, 1) := dk_27 (dk_at dksX6_count_5 23 rfl rfl)
theorem dX6_count_142 : decode cX6_count 142 = .ok (.bipush 20, 2) := dk_16 20 (dk_at dksX6_count_6 0 rfl rfl)
theorem dX6_count_144 : decode cX6_count 144 = .ok (.isub, 1) := dk_100 (dk_at dksX6_count_6 2 rfl rfl)
theorem dX6_count_145 : decode cX6_count 145 = .ok (.invokevirtual 247, 3) := dk_182 0 247 (dk_at dksX6_count_6 3 rfl rfl)
theorem dX6_count_148 : decode cX6_count 148 = .ok (.goto 4, 3) := dk_167 0 4 (dk_at dksX6_count_6 6 rfl rfl)
theorem dX6_count_151 : decode cX6_count 151 = .ok (.iconst (-1), 1) := dk_2 (dk_at dksX6_count_6 9 rfl rfl)
theorem dX6_count_152 : decode cX6_count 152 = .ok (.ireturn, 1) := dk_172 (dk_at dksX6_count_6 10 rfl rfl)
theorem q112 : (Jvm.Cond.initialized "TalkingPlotsModel") ∈ lw_all := lw_g (lw_at lw_m1 7 rfl) rfl
theorem q1172 : (Jvm.Cond.instantiable "TalkingPlotsModel" (50 : Nat)) ∈ lw_all := lw_g (lw_at lw_m5 107 rfl) rfl
theorem q1174 : (Jvm.Cond.instanceMethod ({ cls := "TalkingPlotsModel", name := "<init>", desc := "()V" } : Jvm.MethodName)) ∈ lw_all := lw_g (lw_at lw_m5 109 rfl) rfl
theorem q1175 : (Jvm.Cond.code ({ cls := "TalkingPlotsModel", name := "<init>", desc := "()V" } : Jvm.MethodName) prog_20_method_1_code (2 : Nat) (Option.none : Option Jvm.ClassFile.FieldType)) ∈ lw_all := lw_g (lw_at lw_m5 110 rfl) rfl
theorem q1176 : (Jvm.Cond.methodLink "TalkingPlotsModel" (1 : Nat) ({ cls := "java/lang/Object", name := "<init>", desc := "()V" } : Jvm.MethodName)) ∈ lw_all := lw_g (lw_at lw_m5 111 rfl) rfl
theorem q1177 : (Jvm.Cond.fieldLink "TalkingPlotsModel" (7 : Nat) "TalkingPlotsModel" "now" "[I") ∈ lw_all := lw_g (lw_at lw_m5 112 rfl) rfl
theorem q1178 : (Jvm.Cond.fieldLink "TalkingPlotsModel" (13 : Nat) "TalkingPlotsModel" "aside" "[I") ∈ lw_all := lw_g (lw_at lw_m5 113 rfl) rfl
theorem q1179 : (Jvm.Cond.fieldLink "TalkingPlotsModel" (16 : Nat) "TalkingPlotsModel" "kept" "[I") ∈ lw_all := lw_g (lw_at lw_m5 114 rfl) rfl
theorem q1180 : (Jvm.Cond.fieldLink "TalkingPlotsModel" (19 : Nat) "TalkingPlotsModel" "tape" "[B") ∈ lw_all := lw_g (lw_at lw_m5 115 rfl) rfl
theorem q1181 : (Jvm.Cond.fieldLink "TalkingPlotsModel" (134 : Nat) "TalkingPlotsModel" "taped" "I") ∈ lw_all := lw_g (lw_at lw_m5 116 rfl) rfl
theorem q1182 : (Jvm.Cond.fieldLink "TalkingPlotsModel" (142 : Nat) "TalkingPlotsModel" "place0" "I") ∈ lw_all := lw_g (lw_at lw_m5 117 rfl) rfl
theorem q1183 : (Jvm.Cond.fieldLink "TalkingPlotsModel" (145 : Nat) "TalkingPlotsModel" "length0" "I") ∈ lw_all := lw_g (lw_at lw_m5 118 rfl) rfl
theorem q1184 : (Jvm.Cond.fieldLink "TalkingPlotsModel" (152 : Nat) "TalkingPlotsModel" "fault" "I") ∈ lw_all := lw_g (lw_at lw_m5 119 rfl) rfl
theorem q1185 : (Jvm.Cond.fieldLink "TalkingPlotsModel" (158 : Nat) "TalkingPlotsModel" "number0" "I") ∈ lw_all := lw_g (lw_at lw_m5 120 rfl) rfl
theorem q1186 : (Jvm.Cond.fieldLink "TalkingPlotsModel" (169 : Nat) "TalkingPlotsModel" "open" "I") ∈ lw_all := lw_g (lw_at lw_m5 121 rfl) rfl
theorem q1187 : (Jvm.Cond.fieldLink "TalkingPlotsModel" (165 : Nat) "TalkingPlotsModel" "codeMany" "I") ∈ lw_all := lw_g (lw_at lw_m5 122 rfl) rfl
theorem q1188 : (Jvm.Cond.fieldLink "TalkingPlotsModel" (172 : Nat) "TalkingPlotsModel" "waiting" "I") ∈ lw_all := lw_g (lw_at lw_m5 123 rfl) rfl
theorem q1189 : (Jvm.Cond.fieldLink "TalkingPlotsModel" (219 : Nat) "TalkingPlotsModel" "saidMany" "I") ∈ lw_all := lw_g (lw_at lw_m5 124 rfl) rfl
theorem q1190 : (Jvm.Cond.fieldLink "TalkingPlotsModel" (234 : Nat) "TalkingPlotsModel" "clauses" "I") ∈ lw_all := lw_g (lw_at lw_m5 125 rfl) rfl
theorem q1191 : (Jvm.Cond.fieldLink "TalkingPlotsModel" (23 : Nat) "TalkingPlotsModel" "said" "[I") ∈ lw_all := lw_g (lw_at lw_m5 126 rfl) rfl
theorem q1192 : (Jvm.Cond.fieldLink "TalkingPlotsModel" (26 : Nat) "TalkingPlotsModel" "waitsAt" "[I") ∈ lw_all := lw_g (lw_at lw_m5 127 rfl) rfl
theorem q1193 : (Jvm.Cond.fieldLink "TalkingPlotsModel" (29 : Nat) "TalkingPlotsModel" "saidLetter" "[I") ∈ lw_all := lw_g (lw_at lw_m5 128 rfl) rfl
theorem q1194 : (Jvm.Cond.fieldLink "TalkingPlotsModel" (32 : Nat) "TalkingPlotsModel" "saidFrom" "[I") ∈ lw_all := lw_g (lw_at lw_m5 129 rfl) rfl
theorem q1195 : (Jvm.Cond.fieldLink "TalkingPlotsModel" (35 : Nat) "TalkingPlotsModel" "saidHalf" "[I") ∈ lw_all := lw_g (lw_at lw_m5 130 rfl) rfl
theorem q1196 : (Jvm.Cond.fieldLink "TalkingPlotsModel" (38 : Nat) "TalkingPlotsModel" "saidTo" "[I") ∈ lw_all := lw_g (lw_at lw_m5 131 rfl) rfl
theorem q1197 : (Jvm.Cond.fieldLink "TalkingPlotsModel" (41 : Nat) "TalkingPlotsModel" "codes" "[I") ∈ lw_all := lw_g (lw_at lw_m5 132 rfl) rfl
theorem q1198 : (Jvm.Cond.fieldLink "TalkingPlotsModel" (44 : Nat) "TalkingPlotsModel" "clauseOf" "[I") ∈ lw_all := lw_g (lw_at lw_m5 133 rfl) rfl
theorem q1199 : (Jvm.Cond.fieldLink "TalkingPlotsModel" (47 : Nat) "TalkingPlotsModel" "codeFrom" "[I") ∈ lw_all := lw_g (lw_at lw_m5 134 rfl) rfl
theorem q1200 : (Jvm.Cond.fieldLink "TalkingPlotsModel" (50 : Nat) "TalkingPlotsModel" "codeHalf" "[I") ∈ lw_all := lw_g (lw_at lw_m5 135 rfl) rfl
theorem q1201 : (Jvm.Cond.fieldLink "TalkingPlotsModel" (53 : Nat) "TalkingPlotsModel" "codeTo" "[I") ∈ lw_all := lw_g (lw_at lw_m5 136 rfl) rfl
theorem q1202 : (Jvm.Cond.fieldLink "TalkingPlotsModel" (56 : Nat) "TalkingPlotsModel" "stack" "[I") ∈ lw_all := lw_g (lw_at lw_m5 137 rfl) rfl
theorem q1203 : (Jvm.Cond.fieldLink "TalkingPlotsModel" (59 : Nat) "TalkingPlotsModel" "facts" "[I") ∈ lw_all := lw_g (lw_at lw_m5 138 rfl) rfl
theorem q1204 : (Jvm.Cond.fieldLink "TalkingPlotsModel" (253 : Nat) "TalkingPlotsModel" "lines" "I") ∈ lw_all := lw_g (lw_at lw_m5 139 rfl) rfl
theorem q1205 : (Jvm.Cond.fieldLink "TalkingPlotsModel" (62 : Nat) "TalkingPlotsModel" "wishWho" "[I") ∈ lw_all := lw_g (lw_at lw_m5 140 rfl) rfl
theorem q1206 : (Jvm.Cond.fieldLink "TalkingPlotsModel" (65 : Nat) "TalkingPlotsModel" "wishHow" "[I") ∈ lw_all := lw_g (lw_at lw_m5 141 rfl) rfl
theorem q1207 : (Jvm.Cond.fieldLink "TalkingPlotsModel" (68 : Nat) "TalkingPlotsModel" "wishOther" "[I") ∈ lw_all := lw_g (lw_at lw_m5 142 rfl) rfl
theorem q1208 : (Jvm.Cond.fieldLink "TalkingPlotsModel" (71 : Nat) "TalkingPlotsModel" "newWho" "[I") ∈ lw_all := lw_g (lw_at lw_m5 143 rfl) rfl
theorem q1209 : (Jvm.Cond.fieldLink "TalkingPlotsModel" (74 : Nat) "TalkingPlotsModel" "newHow" "[I") ∈ lw_all := lw_g (lw_at lw_m5 144 rfl) rfl
theorem q1210 : (Jvm.Cond.fieldLink "TalkingPlotsModel" (77 : Nat) "TalkingPlotsModel" "newOther" "[I") ∈ lw_all := lw_g (lw_at lw_m5 145 rfl) rfl
theorem q1211 : (Jvm.Cond.fieldLink "TalkingPlotsModel" (279 : Nat) "TalkingPlotsModel" "wishMany" "I") ∈ lw_all := lw_g (lw_at lw_m5 146 rfl) rfl
theorem q1212 : (Jvm.Cond.fieldLink "TalkingPlotsModel" (273 : Nat) "TalkingPlotsModel" "newMany" "I") ∈ lw_all := lw_g (lw_at lw_m5 147 rfl) rfl
theorem q1213 : (Jvm.Cond.fieldLink "TalkingPlotsModel" (300 : Nat) "TalkingPlotsModel" "talked" "I") ∈ lw_all := lw_g (lw_at lw_m5 148 rfl) rfl
theorem q1214 : (Jvm.Cond.fieldLink "TalkingPlotsModel" (291 : Nat) "TalkingPlotsModel" "learnt" "I") ∈ lw_all := lw_g (lw_at lw_m5 149 rfl) rfl
theorem q1215 : (Jvm.Cond.fieldLink "TalkingPlotsModel" (80 : Nat) "TalkingPlotsModel" "orderNow" "[I") ∈ lw_all := lw_g (lw_at lw_m5 150 rfl) rfl
theorem q1216 : (Jvm.Cond.fieldLink "TalkingPlotsModel" (83 : Nat) "TalkingPlotsModel" "orderBest" "[I") ∈ lw_all := lw_g (lw_at lw_m5 151 rfl) rfl
theorem q1217 : (Jvm.Cond.fieldLink "TalkingPlotsModel" (86 : Nat) "TalkingPlotsModel" "placeOf" "[I") ∈ lw_all := lw_g (lw_at lw_m5 152 rfl) rfl
theorem q1218 : (Jvm.Cond.fieldLink "TalkingPlotsModel" (349 : Nat) "TalkingPlotsModel" "ordersGood" "I") ∈ lw_all := lw_g (lw_at lw_m5 153 rfl) rfl
theorem q1219 : (Jvm.Cond.fieldLink "TalkingPlotsModel" (352 : Nat) "TalkingPlotsModel" "mostSaid" "I") ∈ lw_all := lw_g (lw_at lw_m5 154 rfl) rfl
theorem q1220 : (Jvm.Cond.fieldLink "TalkingPlotsModel" (89 : Nat) "TalkingPlotsModel" "coupleOf" "[I") ∈ lw_all := lw_g (lw_at lw_m5 155 rfl) rfl
theorem q1221 : (Jvm.Cond.fieldLink "TalkingPlotsModel" (92 : Nat) "TalkingPlotsModel" "mostFor" "[I") ∈ lw_all := lw_g (lw_at lw_m5 156 rfl) rfl
theorem q1222 : (Jvm.Cond.fieldLink "TalkingPlotsModel" (365 : Nat) "TalkingPlotsModel" "coupleMany" "I") ∈ lw_all := lw_g (lw_at lw_m5 157 rfl) rfl
theorem q1223 : (Jvm.Cond.fieldLink "TalkingPlotsModel" (95 : Nat) "TalkingPlotsModel" "longFrom" "[I") ∈ lw_all := lw_g (lw_at lw_m5 158 rfl) rfl
theorem q1224 : (Jvm.Cond.fieldLink "TalkingPlotsModel" (98 : Nat) "TalkingPlotsModel" "stepsTo" "[I") ∈ lw_all := lw_g (lw_at lw_m5 159 rfl) rfl
theorem q1225 : (Jvm.Cond.fieldLink "TalkingPlotsModel" (101 : Nat) "TalkingPlotsModel" "queue" "[I") ∈ lw_all := lw_g (lw_at lw_m5 160 rfl) rfl
theorem q1226 : (Jvm.Cond.fieldLink "TalkingPlotsModel" (398 : Nat) "TalkingPlotsModel" "isKept" "Z") ∈ lw_all := lw_g (lw_at lw_m5 161 rfl) rfl
theorem q1227 : (Jvm.Cond.laysFinal "TalkingPlotsModel" "TalkingPlotsModel" "now" "[I") ∈ lw_all := lw_g (lw_at lw_m5 162 rfl) rfl
theorem q1228 : (Jvm.Cond.soleField "TalkingPlotsModel" "now") ∈ lw_all := lw_g (lw_at lw_m5 163 rfl) rfl
theorem q1229 : (Jvm.Cond.laysFinal "TalkingPlotsModel" "TalkingPlotsModel" "aside" "[I") ∈ lw_all := lw_g (lw_at lw_m5 164 rfl) rfl
theorem q1230 : (Jvm.Cond.soleField "TalkingPlotsModel" "aside") ∈ lw_all := lw_g (lw_at lw_m5 165 rfl) rfl
theorem q1231 : (Jvm.Cond.laysFinal "TalkingPlotsModel" "TalkingPlotsModel" "kept" "[I") ∈ lw_all := lw_g (lw_at lw_m5 166 rfl) rfl
theorem q1232 : (Jvm.Cond.soleField "TalkingPlotsModel" "kept") ∈ lw_all := lw_g (lw_at lw_m5 167 rfl) rfl
theorem q1233 : (Jvm.Cond.laysFinal "TalkingPlotsModel" "TalkingPlotsModel" "tape" "[B") ∈ lw_all := lw_g (lw_at lw_m5 168 rfl) rfl
theorem q1234 : (Jvm.Cond.soleField "TalkingPlotsModel" "tape") ∈ lw_all := lw_g (lw_at lw_m5 169 rfl) rfl
theorem q1235 : (Jvm.Cond.lays "TalkingPlotsModel" "TalkingPlotsModel" "taped" "I") ∈ lw_all := lw_g (lw_at lw_m5 170 rfl) rfl
theorem q1236 : (Jvm.Cond.soleField "TalkingPlotsModel" "taped") ∈ lw_all := lw_g (lw_at lw_m5 171 rfl) rfl
theorem q1237 : (Jvm.Cond.lays "TalkingPlotsModel" "TalkingPlotsModel" "place0" "I") ∈ lw_all := lw_g (lw_at lw_m5 172 rfl) rfl
theorem q1238 : (Jvm.Cond.soleField "TalkingPlotsModel" "place0") ∈ lw_all := lw_g (lw_at lw_m5 173 rfl) rfl
theorem q1239 : (Jvm.Cond.lays "TalkingPlotsModel" "TalkingPlotsModel" "length0" "I") ∈ lw_all := lw_g (lw_at lw_m5 174 rfl) rfl
theorem q1240 : (Jvm.Cond.soleField "TalkingPlotsModel" "length0") ∈ lw_all := lw_g (lw_at lw_m5 175 rfl) rfl
theorem q1241 : (Jvm.Cond.lays "TalkingPlotsModel" "TalkingPlotsModel" "fault" "I") ∈ lw_all := lw_g (lw_at lw_m5 176 rfl) rfl
theorem q1242 : (Jvm.Cond.soleField "TalkingPlotsModel" "fault") ∈ lw_all := lw_g (lw_at lw_m5 177 rfl) rfl
theorem q1243 : (Jvm.Cond.lays "TalkingPlotsModel" "TalkingPlotsModel" "number0" "I") ∈ lw_all := lw_g (lw_at lw_m5 178 rfl) rfl
theorem q1244 : (Jvm.Cond.soleField "TalkingPlotsModel" "number0") ∈ lw_all := lw_g (lw_at lw_m5 179 rfl) rfl
theorem q1245 : (Jvm.Cond.lays "TalkingPlotsModel" "TalkingPlotsModel" "open" "I") ∈ lw_all := lw_g (lw_at lw_m5 180 rfl) rfl
theorem q1246 : (Jvm.Cond.soleField "TalkingPlotsModel" "open") ∈ lw_all := lw_g (lw_at lw_m5 181 rfl) rfl
theorem q1247 : (Jvm.Cond.lays "TalkingPlotsModel" "TalkingPlotsModel" "codeMany" "I") ∈ lw_all := lw_g (lw_at lw_m5 182 rfl) rfl
theorem q1248 : (Jvm.Cond.soleField "TalkingPlotsModel" "codeMany") ∈ lw_all := lw_g (lw_at lw_m5 183 rfl) rfl
theorem q1249 : (Jvm.Cond.lays "TalkingPlotsModel" "TalkingPlotsModel" "waiting" "I") ∈ lw_all := lw_g (lw_at lw_m5 184 rfl) rfl
theorem q1250 : (Jvm.Cond.soleField "TalkingPlotsModel" "waiting") ∈ lw_all := lw_g (lw_at lw_m5 185 rfl) rfl
theorem q1251 : (Jvm.Cond.lays "TalkingPlotsModel" "TalkingPlotsModel" "saidMany" "I") ∈ lw_all := lw_g (lw_at lw_m5 186 rfl) rfl
theorem q1252 : (Jvm.Cond.soleField "TalkingPlotsModel" "saidMany") ∈ lw_all := lw_g (lw_at lw_m5 187 rfl) rfl
theorem q1253 : (Jvm.Cond.lays "TalkingPlotsModel" "TalkingPlotsModel" "clauses" "I") ∈ lw_all := lw_g (lw_at lw_m5 188 rfl) rfl
theorem q1254 : (Jvm.Cond.soleField "TalkingPlotsModel" "clauses") ∈ lw_all := lw_g (lw_at lw_m5 189 rfl) rfl
theorem q1255 : (Jvm.Cond.laysFinal "TalkingPlotsModel" "TalkingPlotsModel" "said" "[I") ∈ lw_all := lw_g (lw_at lw_m5 190 rfl) rfl
theorem q1256 : (Jvm.Cond.soleField "TalkingPlotsModel" "said") ∈ lw_all := lw_g (lw_at lw_m5 191 rfl) rfl
theorem q1257 : (Jvm.Cond.laysFinal "TalkingPlotsModel" "TalkingPlotsModel" "waitsAt" "[I") ∈ lw_all := lw_g (lw_at lw_m5 192 rfl) rfl
theorem q1258 : (Jvm.Cond.soleField "TalkingPlotsModel" "waitsAt") ∈ lw_all := lw_g (lw_at lw_m5 193 rfl) rfl
theorem q1259 : (Jvm.Cond.laysFinal "TalkingPlotsModel" "TalkingPlotsModel" "saidLetter" "[I") ∈ lw_all := lw_g (lw_at lw_m5 194 rfl) rfl
theorem q1260 : (Jvm.Cond.soleField "TalkingPlotsModel" "saidLetter") ∈ lw_all := lw_g (lw_at lw_m5 195 rfl) rfl
theorem q1261 : (Jvm.Cond.laysFinal "TalkingPlotsModel" "TalkingPlotsModel" "saidFrom" "[I") ∈ lw_all := lw_g (lw_at lw_m5 196 rfl) rfl
theorem q1262 : (Jvm.Cond.soleField "TalkingPlotsModel" "saidFrom") ∈ lw_all := lw_g (lw_at lw_m5 197 rfl) rfl
theorem q1263 : (Jvm.Cond.laysFinal "TalkingPlotsModel" "TalkingPlotsModel" "saidHalf" "[I") ∈ lw_all := lw_g (lw_at lw_m5 198 rfl) rfl
theorem q1264 : (Jvm.Cond.soleField "TalkingPlotsModel" "saidHalf") ∈ lw_all := lw_g (lw_at lw_m5 199 rfl) rfl
theorem q1265 : (Jvm.Cond.laysFinal "TalkingPlotsModel" "TalkingPlotsModel" "saidTo" "[I") ∈ lw_all := lw_g (lw_at lw_m5 200 rfl) rfl
theorem q1266 : (Jvm.Cond.soleField "TalkingPlotsModel" "saidTo") ∈ lw_all := lw_g (lw_at lw_m5 201 rfl) rfl
theorem q1267 : (Jvm.Cond.laysFinal "TalkingPlotsModel" "TalkingPlotsModel" "codes" "[I") ∈ lw_all := lw_g (lw_at lw_m5 202 rfl) rfl
theorem q1268 : (Jvm.Cond.soleField "TalkingPlotsModel" "codes") ∈ lw_all := lw_g (lw_at lw_m5 203 rfl) rfl
theorem q1269 : (Jvm.Cond.laysFinal "TalkingPlotsModel" "TalkingPlotsModel" "clauseOf" "[I") ∈ lw_all := lw_g (lw_at lw_m5 204 rfl) rfl
theorem q1270 : (Jvm.Cond.soleField "TalkingPlotsModel" "clauseOf") ∈ lw_all := lw_g (lw_at lw_m5 205 rfl) rfl
theorem q1271 : (Jvm.Cond.laysFinal "TalkingPlotsModel" "TalkingPlotsModel" "codeFrom" "[I") ∈ lw_all := lw_g (lw_at lw_m5 206 rfl) rfl
theorem q1272 : (Jvm.Cond.soleField "TalkingPlotsModel" "codeFrom") ∈ lw_all := lw_g (lw_at lw_m5 207 rfl) rfl
theorem q1273 : (Jvm.Cond.laysFinal "TalkingPlotsModel" "TalkingPlotsModel" "codeHalf" "[I") ∈ lw_all := lw_g (lw_at lw_m5 208 rfl) rfl
theorem q1274 : (Jvm.Cond.soleField "TalkingPlotsModel" "codeHalf") ∈ lw_all := lw_g (lw_at lw_m5 209 rfl) rfl
theorem q1275 : (Jvm.Cond.laysFinal "TalkingPlotsModel" "TalkingPlotsModel" "codeTo" "[I") ∈ lw_all := lw_g (lw_at lw_m5 210 rfl) rfl
theorem q1276 : (Jvm.Cond.soleField "TalkingPlotsModel" "codeTo") ∈ lw_all := lw_g (lw_at lw_m5 211 rfl) rfl
theorem q1277 : (Jvm.Cond.laysFinal "TalkingPlotsModel" "TalkingPlotsModel" "stack" "[I") ∈ lw_all := lw_g (lw_at lw_m5 212 rfl) rfl
theorem q1278 : (Jvm.Cond.soleField "TalkingPlotsModel" "stack") ∈ lw_all := lw_g (lw_at lw_m5 213 rfl) rfl
theorem q1279 : (Jvm.Cond.laysFinal "TalkingPlotsModel" "TalkingPlotsModel" "facts" "[I") ∈ lw_all := lw_g (lw_at lw_m5 214 rfl) rfl
theorem q1280 : (Jvm.Cond.soleField "TalkingPlotsModel" "facts") ∈ lw_all := lw_g (lw_at lw_m5 215 rfl) rfl
theorem q1281 : (Jvm.Cond.lays "TalkingPlotsModel" "TalkingPlotsModel" "lines" "I") ∈ lw_all := lw_g (lw_at lw_m5 216 rfl) rfl
theorem q1282 : (Jvm.Cond.soleField "TalkingPlotsModel" "lines") ∈ lw_all := lw_g (lw_at lw_m5 217 rfl) rfl
theorem q1283 : (Jvm.Cond.laysFinal "TalkingPlotsModel" "TalkingPlotsModel" "wishWho" "[I") ∈ lw_all := lw_g (lw_at lw_m5 218 rfl) rfl
theorem q1284 : (Jvm.Cond.soleField "TalkingPlotsModel" "wishWho") ∈ lw_all := lw_g (lw_at lw_m5 219 rfl) rfl
theorem q1285 : (Jvm.Cond.laysFinal "TalkingPlotsModel" "TalkingPlotsModel" "wishHow" "[I") ∈ lw_all := lw_g (lw_at lw_m5 220 rfl) rfl
theorem q1286 : (Jvm.Cond.soleField "TalkingPlotsModel" "wishHow") ∈ lw_all := lw_g (lw_at lw_m5 221 rfl) rfl
theorem q1287 : (Jvm.Cond.laysFinal "TalkingPlotsModel" "TalkingPlotsModel" "wishOther" "[I") ∈ lw_all := lw_g (lw_at lw_m5 222 rfl) rfl
theorem q1288 : (Jvm.Cond.soleField "TalkingPlotsModel" "wishOther") ∈ lw_all := lw_g (lw_at lw_m5 223 rfl) rfl
theorem q1289 : (Jvm.Cond.laysFinal "TalkingPlotsModel" "TalkingPlotsModel" "newWho" "[I") ∈ lw_all := lw_g (lw_at lw_m5 224 rfl) rfl
theorem q1290 : (Jvm.Cond.soleField "TalkingPlotsModel" "newWho") ∈ lw_all := lw_g (lw_at lw_m5 225 rfl) rfl
theorem q1291 : (Jvm.Cond.laysFinal "TalkingPlotsModel" "TalkingPlotsModel" "newHow" "[I") ∈ lw_all := lw_g (lw_at lw_m5 226 rfl) rfl
theorem q1292 : (Jvm.Cond.soleField "TalkingPlotsModel" "newHow") ∈ lw_all := lw_g (lw_at lw_m5 227 rfl) rfl
theorem q1293 : (Jvm.Cond.laysFinal "TalkingPlotsModel" "TalkingPlotsModel" "newOther" "[I") ∈ lw_all := lw_g (lw_at lw_m5 228 rfl) rfl
theorem q1294 : (Jvm.Cond.soleField "TalkingPlotsModel" "newOther") ∈ lw_all := lw_g (lw_at lw_m5 229 rfl) rfl
theorem q1295 : (Jvm.Cond.lays "TalkingPlotsModel" "TalkingPlotsModel" "wishMany" "I") ∈ lw_all := lw_g (lw_at lw_m5 230 rfl) rfl
theorem q1296 : (Jvm.Cond.soleField "TalkingPlotsModel" "wishMany") ∈ lw_all := lw_g (lw_at lw_m5 231 rfl) rfl
theorem q1297 : (Jvm.Cond.lays "TalkingPlotsModel" "TalkingPlotsModel" "newMany" "I") ∈ lw_all := lw_g (lw_at lw_m5 232 rfl) rfl
theorem q1298 : (Jvm.Cond.soleField "TalkingPlotsModel" "newMany") ∈ lw_all := lw_g (lw_at lw_m5 233 rfl) rfl
theorem q1299 : (Jvm.Cond.lays "TalkingPlotsModel" "TalkingPlotsModel" "talked" "I") ∈ lw_all := lw_g (lw_at lw_m5 234 rfl) rfl
theorem q1300 : (Jvm.Cond.soleField "TalkingPlotsModel" "talked") ∈ lw_all := lw_g (lw_at lw_m5 235 rfl) rfl
theorem q1301 : (Jvm.Cond.lays "TalkingPlotsModel" "TalkingPlotsModel" "learnt" "I") ∈ lw_all := lw_g (lw_at lw_m5 236 rfl) rfl
theorem q1302 : (Jvm.Cond.soleField "TalkingPlotsModel" "learnt") ∈ lw_all := lw_g (lw_at lw_m5 237 rfl) rfl
theorem q1303 : (Jvm.Cond.laysFinal "TalkingPlotsModel" "TalkingPlotsModel" "orderNow" "[I") ∈ lw_all := lw_g (lw_at lw_m5 238 rfl) rfl
theorem q1304 : (Jvm.Cond.soleField "TalkingPlotsModel" "orderNow") ∈ lw_all := lw_g (lw_at lw_m5 239 rfl) rfl
theorem q1305 : (Jvm.Cond.laysFinal "TalkingPlotsModel" "TalkingPlotsModel" "orderBest" "[I") ∈ lw_all := lw_g (lw_at lw_m6 0 rfl) rfl
theorem q1306 : (Jvm.Cond.soleField "TalkingPlotsModel" "orderBest") ∈ lw_all := lw_g (lw_at lw_m6 1 rfl) rfl
theorem q1307 : (Jvm.Cond.laysFinal "TalkingPlotsModel" "TalkingPlotsModel" "placeOf" "[I") ∈ lw_all := lw_g (lw_at lw_m6 2 rfl) rfl
theorem q1308 : (Jvm.Cond.soleField "TalkingPlotsModel" "placeOf") ∈ lw_all := lw_g (lw_at lw_m6 3 rfl) rfl
theorem q1309 : (Jvm.Cond.lays "TalkingPlotsModel" "TalkingPlotsModel" "ordersGood" "I") ∈ lw_all := lw_g (lw_at lw_m6 4 rfl) rfl
theorem q1310 : (Jvm.Cond.soleField "TalkingPlotsModel" "ordersGood") ∈ lw_all := lw_g (lw_at lw_m6 5 rfl) rfl
theorem q1311 : (Jvm.Cond.lays "TalkingPlotsModel" "TalkingPlotsModel" "mostSaid" "I") ∈ lw_all := lw_g (lw_at lw_m6 6 rfl) rfl
theorem q1312 : (Jvm.Cond.soleField "TalkingPlotsModel" "mostSaid") ∈ lw_all := lw_g (lw_at lw_m6 7 rfl) rfl
theorem q1313 : (Jvm.Cond.laysFinal "TalkingPlotsModel" "TalkingPlotsModel" "coupleOf" "[I") ∈ lw_all := lw_g (lw_at lw_m6 8 rfl) rfl
theorem q1314 : (Jvm.Cond.soleField "TalkingPlotsModel" "coupleOf") ∈ lw_all := lw_g (lw_at lw_m6 9 rfl) rfl
theorem q1315 : (Jvm.Cond.laysFinal "TalkingPlotsModel" "TalkingPlotsModel" "mostFor" "[I") ∈ lw_all := lw_g (lw_at lw_m6 10 rfl) rfl
theorem q1316 : (Jvm.Cond.soleField "TalkingPlotsModel" "mostFor") ∈ lw_all := lw_g (lw_at lw_m6 11 rfl) rfl
theorem q1317 : (Jvm.Cond.lays "TalkingPlotsModel" "TalkingPlotsModel" "coupleMany" "I") ∈ lw_all := lw_g (lw_at lw_m6 12 rfl) rfl
theorem q1318 : (Jvm.Cond.soleField "TalkingPlotsModel" "coupleMany") ∈ lw_all := lw_g (lw_at lw_m6 13 rfl) rfl
theorem q1319 : (Jvm.Cond.laysFinal "TalkingPlotsModel" "TalkingPlotsModel" "longFrom" "[I") ∈ lw_all := lw_g (lw_at lw_m6 14 rfl) rfl
theorem q1320 : (Jvm.Cond.soleField "TalkingPlotsModel" "longFrom") ∈ lw_all := lw_g (lw_at lw_m6 15 rfl) rfl
theorem q1321 : (Jvm.Cond.laysFinal "TalkingPlotsModel" "TalkingPlotsModel" "stepsTo" "[I") ∈ lw_all := lw_g (lw_at lw_m6 16 rfl) rfl
theorem q1322 : (Jvm.Cond.soleField "TalkingPlotsModel" "stepsTo") ∈ lw_all := lw_g (lw_at lw_m6 17 rfl) rfl
theorem q1323 : (Jvm.Cond.laysFinal "TalkingPlotsModel" "TalkingPlotsModel" "queue" "[I") ∈ lw_all := lw_g (lw_at lw_m6 18 rfl) rfl
theorem q1324 : (Jvm.Cond.soleField "TalkingPlotsModel" "queue") ∈ lw_all := lw_g (lw_at lw_m6 19 rfl) rfl
theorem q1325 : (Jvm.Cond.lays "TalkingPlotsModel" "TalkingPlotsModel" "isKept" "Z") ∈ lw_all := lw_g (lw_at lw_m6 20 rfl) rfl
theorem q1326 : (Jvm.Cond.soleField "TalkingPlotsModel" "isKept") ∈ lw_all := lw_g (lw_at lw_m6 21 rfl) rfl
theorem q1327 : (Jvm.Cond.superclass "TalkingPlotsModel" "java/lang/Object") ∈ lw_all := lw_g (lw_at lw_m6 22 rfl) rfl
theorem q1329 : (Jvm.Cond.instanceMethod ({ cls := "TalkingPlotsModel", name := "person", desc := "(III)Z" } : Jvm.MethodName)) ∈ lw_all := lw_g (lw_at lw_m6 24 rfl) rfl
theorem q1330 : (Jvm.Cond.selects "TalkingPlotsModel" ({ cls := "TalkingPlotsModel", name := "person", desc := "(III)Z" } : Jvm.MethodName) ({ cls := "TalkingPlotsModel", name := "person", desc := "(III)Z" } : Jvm.MethodName)) ∈ lw_all := lw_g (lw_at lw_m6 25 rfl) rfl
theorem q1331 : (Jvm.Cond.code ({ cls := "TalkingPlotsModel", name := "person", desc := "(III)Z" } : Jvm.MethodName) prog_20_method_19_code (4 : Nat) (Option.some Jvm.ClassFile.FieldType.boolean)) ∈ lw_all := lw_g (lw_at lw_m6 26 rfl) rfl
theorem q1332 : (Jvm.Cond.methodLink "TalkingPlotsModel" (104 : Nat) ({ cls := "TalkingPlotsModel", name := "in", desc := "(III)Z" } : Jvm.MethodName)) ∈ lw_all := lw_g (lw_at lw_m6 27 rfl) rfl
theorem q1333 : (Jvm.Cond.static ({ cls := "TalkingPlotsModel", name := "in", desc := "(III)Z" } : Jvm.MethodName)) ∈ lw_all := lw_g (lw_at lw_m6 28 rfl) rfl
theorem q1334 : (Jvm.Cond.code ({ cls := "TalkingPlotsModel", name := "in", desc := "(III)Z" } : Jvm.MethodName) prog_20_method_2_code (3 : Nat) (Option.some Jvm.ClassFile.FieldType.boolean)) ∈ lw_all := lw_g (lw_at lw_m6 29 rfl) rfl
theorem q1335 : (Jvm.Cond.constant "TalkingPlotsModel" (133 : Nat) (65535 : Int32)) ∈ lw_all := lw_g (lw_at lw_m6 30 rfl) rfl
theorem q1337 : (Jvm.Cond.instanceMethod ({ cls := "TalkingPlotsModel", name := "feed", desc := "(IIIII)I" } : Jvm.MethodName)) ∈ lw_all := lw_g (lw_at lw_m6 32 rfl) rfl
theorem q1338 : (Jvm.Cond.selects "TalkingPlotsModel" ({ cls := "TalkingPlotsModel", name := "feed", desc := "(IIIII)I" } : Jvm.MethodName) ({ cls := "TalkingPlotsModel", name := "feed", desc := "(IIIII)I" } : Jvm.MethodName)) ∈ lw_all := lw_g (lw_at lw_m6 33 rfl) rfl
theorem q1339 : (Jvm.Cond.code ({ cls := "TalkingPlotsModel", name := "feed", desc := "(IIIII)I" } : Jvm.MethodName) prog_20_method_21_code (6 : Nat) (Option.some Jvm.ClassFile.FieldType.int)) ∈ lw_all := lw_g (lw_at lw_m6 34 rfl) rfl
theorem q1340 : (Jvm.Cond.methodLink "TalkingPlotsModel" (138 : Nat) ({ cls := "TalkingPlotsModel", name := "types", desc := "(I)V" } : Jvm.MethodName)) ∈ lw_all := lw_g (lw_at lw_m6 35 rfl) rfl
theorem q1341 : (Jvm.Cond.privateMethod ({ cls := "TalkingPlotsModel", name := "types", desc := "(I)V" } : Jvm.MethodName)) ∈ lw_tbl := lw_at lw_m6 36 rfl
theorem q1342 : (Jvm.Cond.instanceMethod ({ cls := "TalkingPlotsModel", name := "types", desc := "(I)V" } : Jvm.MethodName)) ∈ lw_all := lw_g (lw_at lw_m6 37 rfl) rfl
theorem q1343 : (Jvm.Cond.code ({ cls := "TalkingPlotsModel", name := "types", desc := "(I)V" } : Jvm.MethodName) prog_20_method_20_code (3 : Nat) (Option.none : Option Jvm.ClassFile.FieldType)) ∈ lw_all := lw_g (lw_at lw_m6 38 rfl) rfl
theorem q1345 : (Jvm.Cond.instanceMethod ({ cls := "TalkingPlotsModel", name := "law", desc := "(I)I" } : Jvm.MethodName)) ∈ lw_all := lw_g (lw_at lw_m6 40 rfl) rfl
theorem q1346 : (Jvm.Cond.selects "TalkingPlotsModel" ({ cls := "TalkingPlotsModel", name := "law", desc := "(I)I" } : Jvm.MethodName) ({ cls := "TalkingPlotsModel", name := "law", desc := "(I)I" } : Jvm.MethodName)) ∈ lw_all := lw_g (lw_at lw_m6 41 rfl) rfl
theorem q1347 : (Jvm.Cond.code ({ cls := "TalkingPlotsModel", name := "law", desc := "(I)I" } : Jvm.MethodName) prog_20_method_44_code (4 : Nat) (Option.some Jvm.ClassFile.FieldType.int)) ∈ lw_all := lw_g (lw_at lw_m6 42 rfl) rfl
theorem q1348 : (Jvm.Cond.methodLink "TalkingPlotsModel" (225 : Nat) ({ cls := "TalkingPlotsModel", name := "beginsText", desc := "(I)V" } : Jvm.MethodName)) ∈ lw_all := lw_g (lw_at lw_m6 43 rfl) rfl
theorem q1349 : (Jvm.Cond.privateMethod ({ cls := "TalkingPlotsModel", name := "beginsText", desc := "(I)V" } : Jvm.MethodName)) ∈ lw_tbl := lw_at lw_m6 44 rfl
theorem q1350 : (Jvm.Cond.instanceMethod ({ cls := "TalkingPlotsModel", name := "beginsText", desc := "(I)V" } : Jvm.MethodName)) ∈ lw_all := lw_g (lw_at lw_m6 45 rfl) rfl
theorem q1351 : (Jvm.Cond.code ({ cls := "TalkingPlotsModel", name := "beginsText", desc := "(I)V" } : Jvm.MethodName) prog_20_method_43_code (2 : Nat) (Option.none : Option Jvm.ClassFile.FieldType)) ∈ lw_all := lw_g (lw_at lw_m6 46 rfl) rfl
theorem q1352 : (Jvm.Cond.methodLink "TalkingPlotsModel" (228 : Nat) ({ cls := "TalkingPlotsModel", name := "readsRule", desc := "()Z" } : Jvm.MethodName)) ∈ lw_all := lw_g (lw_at lw_m6 47 rfl) rfl
theorem q1353 : (Jvm.Cond.privateMethod ({ cls := "TalkingPlotsModel", name := "readsRule", desc := "()Z" } : Jvm.MethodName)) ∈ lw_tbl := lw_at lw_m6 48 rfl
theorem q1354 : (Jvm.Cond.instanceMethod ({ cls := "TalkingPlotsModel", name := "readsRule", desc := "()Z" } : Jvm.MethodName)) ∈ lw_all := lw_g (lw_at lw_m6 49 rfl) rfl
theorem q1355 : (Jvm.Cond.code ({ cls := "TalkingPlotsModel", name := "readsRule", desc := "()Z" } : Jvm.MethodName) prog_20_method_42_code (2 : Nat) (Option.some Jvm.ClassFile.FieldType.boolean)) ∈ lw_all := lw_g (lw_at lw_m6 50 rfl) rfl
theorem q1356 : (Jvm.Cond.methodLink "TalkingPlotsModel" (148 : Nat) ({ cls := "TalkingPlotsModel", name := "here", desc := "()I" } : Jvm.MethodName)) ∈ lw_all := lw_g (lw_at lw_m6 51 rfl) rfl
theorem q1357 : (Jvm.Cond.privateMethod ({ cls := "TalkingPlotsModel", name := "here", desc := "()I" } : Jvm.MethodName)) ∈ lw_tbl := lw_at lw_m6 52 rfl
theorem q1358 : (Jvm.Cond.instanceMethod ({ cls := "TalkingPlotsModel", name := "here", desc := "()I" } : Jvm.MethodName)) ∈ lw_all := lw_g (lw_at lw_m6 53 rfl) rfl
theorem q1359 : (Jvm.Cond.code ({ cls := "TalkingPlotsModel", name := "here", desc := "()I" } : Jvm.MethodName) prog_20_method_23_code (1 : Nat) (Option.some Jvm.ClassFile.FieldType.int)) ∈ lw_all := lw_g (lw_at lw_m6 54 rfl) rfl
theorem q1360 : (Jvm.Cond.methodLink "TalkingPlotsModel" (155 : Nat) ({ cls := "TalkingPlotsModel", name := "wrongAt", desc := "(II)Z" } : Jvm.MethodName)) ∈ lw_all := lw_g (lw_at lw_m6 55 rfl) rfl
theorem q1361 : (Jvm.Cond.privateMethod ({ cls := "TalkingPlotsModel", name := "wrongAt", desc := "(II)Z" } : Jvm.MethodName)) ∈ lw_tbl := lw_at lw_m6 56 rfl
theorem q1362 : (Jvm.Cond.instanceMethod ({ cls := "TalkingPlotsModel", name := "wrongAt", desc := "(II)Z" } : Jvm.MethodName)) ∈ lw_all := lw_g (lw_at lw_m6 57 rfl) rfl
theorem q1363 : (Jvm.Cond.code ({ cls := "TalkingPlotsModel", name := "wrongAt", desc := "(II)Z" } : Jvm.MethodName) prog_20_method_25_code (3 : Nat) (Option.some Jvm.ClassFile.FieldType.boolean)) ∈ lw_all := lw_g (lw_at lw_m6 58 rfl) rfl
theorem q1364 : (Jvm.Cond.methodLink "TalkingPlotsModel" (204 : Nat) ({ cls := "TalkingPlotsModel", name := "readsSum", desc := "()Z" } : Jvm.MethodName)) ∈ lw_all := lw_g (lw_at lw_m6 59 rfl) rfl
theorem q1365 : (Jvm.Cond.privateMethod ({ cls := "TalkingPlotsModel", name := "readsSum", desc := "()Z" } : Jvm.MethodName)) ∈ lw_tbl := lw_at lw_m6 60 rfl
theorem q1366 : (Jvm.Cond.instanceMethod ({ cls := "TalkingPlotsModel", name := "readsSum", desc := "()Z" } : Jvm.MethodName)) ∈ lw_all := lw_g (lw_at lw_m6 61 rfl) rfl
theorem q1367 : (Jvm.Cond.code ({ cls := "TalkingPlotsModel", name := "readsSum", desc := "()Z" } : Jvm.MethodName) prog_20_method_36_code (3 : Nat) (Option.some Jvm.ClassFile.FieldType.boolean)) ∈ lw_all := lw_g (lw_at lw_m6 62 rfl) rfl
theorem q1368 : (Jvm.Cond.methodLink "TalkingPlotsModel" (191 : Nat) ({ cls := "TalkingPlotsModel", name := "readsFactor", desc := "()Z" } : Jvm.MethodName)) ∈ lw_all := lw_g (lw_at lw_m6 63 rfl) rfl
theorem q1369 : (Jvm.Cond.privateMethod ({ cls := "TalkingPlotsModel", name := "readsFactor", desc := "()Z" } : Jvm.MethodName)) ∈ lw_tbl := lw_at lw_m6 64 rfl
theorem q1370 : (Jvm.Cond.instanceMethod ({ cls := "TalkingPlotsModel", name := "readsFactor", desc := "()Z" } : Jvm.MethodName)) ∈ lw_all := lw_g (lw_at lw_m6 65 rfl) rfl
theorem q1371 : (Jvm.Cond.code ({ cls := "TalkingPlotsModel", name := "readsFactor", desc := "()Z" } : Jvm.MethodName) prog_20_method_34_code (2 : Nat) (Option.some Jvm.ClassFile.FieldType.boolean)) ∈ lw_all := lw_g (lw_at lw_m6 66 rfl) rfl
theorem q1372 : (Jvm.Cond.methodLink "TalkingPlotsModel" (182 : Nat) ({ cls := "TalkingPlotsModel", name := "opens", desc := "(I)Z" } : Jvm.MethodName)) ∈ lw_all := lw_g (lw_at lw_m6 67 rfl) rfl
theorem q1373 : (Jvm.Cond.privateMethod ({ cls := "TalkingPlotsModel", name := "opens", desc := "(I)Z" } : Jvm.MethodName)) ∈ lw_tbl := lw_at lw_m6 68 rfl
theorem q1374 : (Jvm.Cond.instanceMethod ({ cls := "TalkingPlotsModel", name := "opens", desc := "(I)Z" } : Jvm.MethodName)) ∈ lw_all := lw_g (lw_at lw_m6 69 rfl) rfl
theorem q1375 : (Jvm.Cond.code ({ cls := "TalkingPlotsModel", name := "opens", desc := "(I)Z" } : Jvm.MethodName) prog_20_method_29_code (2 : Nat) (Option.some Jvm.ClassFile.FieldType.boolean)) ∈ lw_all := lw_g (lw_at lw_m6 70 rfl) rfl
theorem q1376 : (Jvm.Cond.constant "TalkingPlotsModel" (168 : Nat) (1048576 : Int32)) ∈ lw_all := lw_g (lw_at lw_m6 71 rfl) rfl
theorem q1377 : (Jvm.Cond.methodLink "TalkingPlotsModel" (161 : Nat) ({ cls := "TalkingPlotsModel", name := "isDigit", desc := "()Z" } : Jvm.MethodName)) ∈ lw_all := lw_g (lw_at lw_m6 72 rfl) rfl
theorem q1378 : (Jvm.Cond.privateMethod ({ cls := "TalkingPlotsModel", name := "isDigit", desc := "()Z" } : Jvm.MethodName)) ∈ lw_tbl := lw_at lw_m6 73 rfl
theorem q1379 : (Jvm.Cond.instanceMethod ({ cls := "TalkingPlotsModel", name := "isDigit", desc := "()Z" } : Jvm.MethodName)) ∈ lw_all := lw_g (lw_at lw_m6 74 rfl) rfl
theorem q1380 : (Jvm.Cond.code ({ cls := "TalkingPlotsModel", name := "isDigit", desc := "()Z" } : Jvm.MethodName) prog_20_method_24_code (1 : Nat) (Option.some Jvm.ClassFile.FieldType.boolean)) ∈ lw_all := lw_g (lw_at lw_m6 75 rfl) rfl
theorem q1381 : (Jvm.Cond.methodLink "TalkingPlotsModel" (185 : Nat) ({ cls := "TalkingPlotsModel", name := "readsNumber", desc := "()Z" } : Jvm.MethodName)) ∈ lw_all := lw_g (lw_at lw_m6 76 rfl) rfl
theorem q1382 : (Jvm.Cond.privateMethod ({ cls := "TalkingPlotsModel", name := "readsNumber", desc := "()Z" } : Jvm.MethodName)) ∈ lw_tbl := lw_at lw_m6 77 rfl
theorem q1383 : (Jvm.Cond.instanceMethod ({ cls := "TalkingPlotsModel", name := "readsNumber", desc := "()Z" } : Jvm.MethodName)) ∈ lw_all := lw_g (lw_at lw_m6 78 rfl) rfl
theorem q1384 : (Jvm.Cond.code ({ cls := "TalkingPlotsModel", name := "readsNumber", desc := "()Z" } : Jvm.MethodName) prog_20_method_27_code (2 : Nat) (Option.some Jvm.ClassFile.FieldType.boolean)) ∈ lw_all := lw_g (lw_at lw_m6 79 rfl) rfl
theorem q1385 : (Jvm.Cond.methodLink "TalkingPlotsModel" (178 : Nat) ({ cls := "TalkingPlotsModel", name := "notes", desc := "(II)V" } : Jvm.MethodName)) ∈ lw_all := lw_g (lw_at lw_m6 80 rfl) rfl
theorem q1386 : (Jvm.Cond.privateMethod ({ cls := "TalkingPlotsModel", name := "notes", desc := "(II)V" } : Jvm.MethodName)) ∈ lw_tbl := lw_at lw_m6 81 rfl
theorem q1387 : (Jvm.Cond.instanceMethod ({ cls := "TalkingPlotsModel", name := "notes", desc := "(II)V" } : Jvm.MethodName)) ∈ lw_all := lw_g (lw_at lw_m6 82 rfl) rfl
theorem q1388 : (Jvm.Cond.code ({ cls := "TalkingPlotsModel", name := "notes", desc := "(II)V" } : Jvm.MethodName) prog_20_method_28_code (3 : Nat) (Option.none : Option Jvm.ClassFile.FieldType)) ∈ lw_all := lw_g (lw_at lw_m6 83 rfl) rfl
theorem q1389 : (Jvm.Cond.methodLink "TalkingPlotsModel" (188 : Nat) ({ cls := "TalkingPlotsModel", name := "factOf", desc := "(I)I" } : Jvm.MethodName)) ∈ lw_all := lw_g (lw_at lw_m6 84 rfl) rfl
theorem q1390 : (Jvm.Cond.static ({ cls := "TalkingPlotsModel", name := "factOf", desc := "(I)I" } : Jvm.MethodName)) ∈ lw_all := lw_g (lw_at lw_m6 85 rfl) rfl
theorem q1391 : (Jvm.Cond.code ({ cls := "TalkingPlotsModel", name := "factOf", desc := "(I)I" } : Jvm.MethodName) prog_20_method_31_code (1 : Nat) (Option.some Jvm.ClassFile.FieldType.int)) ∈ lw_all := lw_g (lw_at lw_m6 86 rfl) rfl
theorem q1392 : (Jvm.Cond.methodLink "TalkingPlotsModel" (194 : Nat) ({ cls := "TalkingPlotsModel", name := "sumSign", desc := "(I)I" } : Jvm.MethodName)) ∈ lw_all := lw_g (lw_at lw_m6 87 rfl) rfl
theorem q1393 : (Jvm.Cond.static ({ cls := "TalkingPlotsModel", name := "sumSign", desc := "(I)I" } : Jvm.MethodName)) ∈ lw_all := lw_g (lw_at lw_m6 88 rfl) rfl
theorem q1394 : (Jvm.Cond.code ({ cls := "TalkingPlotsModel", name := "sumSign", desc := "(I)I" } : Jvm.MethodName) prog_20_method_32_code (1 : Nat) (Option.some Jvm.ClassFile.FieldType.int)) ∈ lw_all := lw_g (lw_at lw_m6 89 rfl) rfl
theorem q1395 : (Jvm.Cond.methodLink "TalkingPlotsModel" (197 : Nat) ({ cls := "TalkingPlotsModel", name := "closesSums", desc := "(Z)V" } : Jvm.MethodName)) ∈ lw_all := lw_g (lw_at lw_m6 90 rfl) rfl
theorem q1396 : (Jvm.Cond.privateMethod ({ cls := "TalkingPlotsModel", name := "closesSums", desc := "(Z)V" } : Jvm.MethodName)) ∈ lw_tbl := lw_at lw_m6 91 rfl
theorem q1397 : (Jvm.Cond.instanceMethod ({ cls := "TalkingPlotsModel", name := "closesSums", desc := "(Z)V" } : Jvm.MethodName)) ∈ lw_all := lw_g (lw_at lw_m6 92 rfl) rfl
theorem q1398 : (Jvm.Cond.code ({ cls := "TalkingPlotsModel", name := "closesSums", desc := "(Z)V" } : Jvm.MethodName) prog_20_method_33_code (2 : Nat) (Option.none : Option Jvm.ClassFile.FieldType)) ∈ lw_all := lw_g (lw_at lw_m6 93 rfl) rfl
theorem q1399 : (Jvm.Cond.methodLink "TalkingPlotsModel" (175 : Nat) ({ cls := "TalkingPlotsModel", name := "waitTop", desc := "()I" } : Jvm.MethodName)) ∈ lw_all := lw_g (lw_at lw_m6 94 rfl) rfl
theorem q1400 : (Jvm.Cond.privateMethod ({ cls := "TalkingPlotsModel", name := "waitTop", desc := "()I" } : Jvm.MethodName)) ∈ lw_tbl := lw_at lw_m6 95 rfl
theorem q1401 : (Jvm.Cond.instanceMethod ({ cls := "TalkingPlotsModel", name := "waitTop", desc := "()I" } : Jvm.MethodName)) ∈ lw_all := lw_g (lw_at lw_m6 96 rfl) rfl
theorem q1402 : (Jvm.Cond.code ({ cls := "TalkingPlotsModel", name := "waitTop", desc := "()I" } : Jvm.MethodName) prog_20_method_30_code (1 : Nat) (Option.some Jvm.ClassFile.FieldType.int)) ∈ lw_all := lw_g (lw_at lw_m6 97 rfl) rfl
theorem q1403 : (Jvm.Cond.methodLink "TalkingPlotsModel" (201 : Nat) ({ cls := "TalkingPlotsModel", name := "hasOpenSum", desc := "(I)Z" } : Jvm.MethodName)) ∈ lw_all := lw_g (lw_at lw_m6 98 rfl) rfl
theorem q1404 : (Jvm.Cond.privateMethod ({ cls := "TalkingPlotsModel", name := "hasOpenSum", desc := "(I)Z" } : Jvm.MethodName)) ∈ lw_tbl := lw_at lw_m6 99 rfl
theorem q1405 : (Jvm.Cond.instanceMethod ({ cls := "TalkingPlotsModel", name := "hasOpenSum", desc := "(I)Z" } : Jvm.MethodName)) ∈ lw_all := lw_g (lw_at lw_m6 100 rfl) rfl
theorem q1406 : (Jvm.Cond.code ({ cls := "TalkingPlotsModel", name := "hasOpenSum", desc := "(I)Z" } : Jvm.MethodName) prog_20_method_35_code (3 : Nat) (Option.some Jvm.ClassFile.FieldType.boolean)) ∈ lw_all := lw_g (lw_at lw_m6 101 rfl) rfl
theorem q1407 : (Jvm.Cond.methodLink "TalkingPlotsModel" (222 : Nat) ({ cls := "TalkingPlotsModel", name := "readsCondition", desc := "()Z" } : Jvm.MethodName)) ∈ lw_all := lw_g (lw_at lw_m6 102 rfl) rfl
theorem q1408 : (Jvm.Cond.privateMethod ({ cls := "TalkingPlotsModel", name := "readsCondition", desc := "()Z" } : Jvm.MethodName)) ∈ lw_tbl := lw_at lw_m6 103 rfl
theorem q1409 : (Jvm.Cond.instanceMethod ({ cls := "TalkingPlotsModel", name := "readsCondition", desc := "()Z" } : Jvm.MethodName)) ∈ lw_all := lw_g (lw_at lw_m6 104 rfl) rfl
theorem q1410 : (Jvm.Cond.code ({ cls := "TalkingPlotsModel", name := "readsCondition", desc := "()Z" } : Jvm.MethodName) prog_20_method_41_code (1 : Nat) (Option.some Jvm.ClassFile.FieldType.boolean)) ∈ lw_all := lw_g (lw_at lw_m6 105 rfl) rfl
theorem q1411 : (Jvm.Cond.methodLink "TalkingPlotsModel" (210 : Nat) ({ cls := "TalkingPlotsModel", name := "readsCompared", desc := "()Z" } : Jvm.MethodName)) ∈ lw_all := lw_g (lw_at lw_m6 106 rfl) rfl
theorem q1412 : (Jvm.Cond.privateMethod ({ cls := "TalkingPlotsModel", name := "readsCompared", desc := "()Z" } : Jvm.MethodName)) ∈ lw_tbl := lw_at lw_m6 107 rfl
theorem q1413 : (Jvm.Cond.instanceMethod ({ cls := "TalkingPlotsModel", name := "readsCompared", desc := "()Z" } : Jvm.MethodName)) ∈ lw_all := lw_g (lw_at lw_m6 108 rfl) rfl
theorem q1414 : (Jvm.Cond.code ({ cls := "TalkingPlotsModel", name := "readsCompared", desc := "()Z" } : Jvm.MethodName) prog_20_method_40_code (2 : Nat) (Option.some Jvm.ClassFile.FieldType.boolean)) ∈ lw_all := lw_g (lw_at lw_m6 109 rfl) rfl
theorem q1415 : (Jvm.Cond.methodLink "TalkingPlotsModel" (207 : Nat) ({ cls := "TalkingPlotsModel", name := "endsPiece", desc := "()V" } : Jvm.MethodName)) ∈ lw_all := lw_g (lw_at lw_m6 110 rfl) rfl
theorem q1416 : (Jvm.Cond.privateMethod ({ cls := "TalkingPlotsModel", name := "endsPiece", desc := "()V" } : Jvm.MethodName)) ∈ lw_tbl := lw_at lw_m6 111 rfl
theorem q1417 : (Jvm.Cond.instanceMethod ({ cls := "TalkingPlotsModel", name := "endsPiece", desc := "()V" } : Jvm.MethodName)) ∈ lw_all := lw_g (lw_at lw_m6 112 rfl) rfl
theorem q1418 : (Jvm.Cond.code ({ cls := "TalkingPlotsModel", name := "endsPiece", desc := "()V" } : Jvm.MethodName) prog_20_method_37_code (1 : Nat) (Option.none : Option Jvm.ClassFile.FieldType)) ∈ lw_all := lw_g (lw_at lw_m6 113 rfl) rfl
theorem q1419 : (Jvm.Cond.methodLink "TalkingPlotsModel" (213 : Nat) ({ cls := "TalkingPlotsModel", name := "lands", desc := "(Z)V" } : Jvm.MethodName)) ∈ lw_all := lw_g (lw_at lw_m6 114 rfl) rfl
theorem q1420 : (Jvm.Cond.privateMethod ({ cls := "TalkingPlotsModel", name := "lands", desc := "(Z)V" } : Jvm.MethodName)) ∈ lw_tbl := lw_at lw_m6 115 rfl
theorem q1421 : (Jvm.Cond.instanceMethod ({ cls := "TalkingPlotsModel", name := "lands", desc := "(Z)V" } : Jvm.MethodName)) ∈ lw_all := lw_g (lw_at lw_m6 116 rfl) rfl
theorem q1422 : (Jvm.Cond.code ({ cls := "TalkingPlotsModel", name := "lands", desc := "(Z)V" } : Jvm.MethodName) prog_20_method_38_code (3 : Nat) (Option.none : Option Jvm.ClassFile.FieldType)) ∈ lw_all := lw_g (lw_at lw_m6 117 rfl) rfl
theorem q1423 : (Jvm.Cond.methodLink "TalkingPlotsModel" (216 : Nat) ({ cls := "TalkingPlotsModel", name := "jumps", desc := "(I)V" } : Jvm.MethodName)) ∈ lw_all := lw_g (lw_at lw_m6 118 rfl) rfl
theorem q1424 : (Jvm.Cond.privateMethod ({ cls := "TalkingPlotsModel", name := "jumps", desc := "(I)V" } : Jvm.MethodName)) ∈ lw_tbl := lw_at lw_m6 119 rfl
theorem q1425 : (Jvm.Cond.instanceMethod ({ cls := "TalkingPlotsModel", name := "jumps", desc := "(I)V" } : Jvm.MethodName)) ∈ lw_all := lw_g (lw_at lw_m6 120 rfl) rfl
theorem q1426 : (Jvm.Cond.code ({ cls := "TalkingPlotsModel", name := "jumps", desc := "(I)V" } : Jvm.MethodName) prog_20_method_39_code (2 : Nat) (Option.none : Option Jvm.ClassFile.FieldType)) ∈ lw_all := lw_g (lw_at lw_m6 121 rfl) rfl
theorem q1427 : (Jvm.Cond.methodLink "TalkingPlotsModel" (231 : Nat) ({ cls := "TalkingPlotsModel", name := "takes", desc := "(I)Z" } : Jvm.MethodName)) ∈ lw_all := lw_g (lw_at lw_m6 122 rfl) rfl
theorem q1428 : (Jvm.Cond.privateMethod ({ cls := "TalkingPlotsModel", name := "takes", desc := "(I)Z" } : Jvm.MethodName)) ∈ lw_tbl := lw_at lw_m6 123 rfl
theorem q1429 : (Jvm.Cond.instanceMethod ({ cls := "TalkingPlotsModel", name := "takes", desc := "(I)Z" } : Jvm.MethodName)) ∈ lw_all := lw_g (lw_at lw_m6 124 rfl) rfl
theorem q1430 : (Jvm.Cond.code ({ cls := "TalkingPlotsModel", name := "takes", desc := "(I)Z" } : Jvm.MethodName) prog_20_method_26_code (2 : Nat) (Option.some Jvm.ClassFile.FieldType.boolean)) ∈ lw_all := lw_g (lw_at lw_m6 125 rfl) rfl
theorem q1432 : (Jvm.Cond.instanceMethod ({ cls := "TalkingPlotsModel", name := "burials", desc := "(I)I" } : Jvm.MethodName)) ∈ lw_all := lw_g (lw_at lw_m6 127 rfl) rfl
theorem q1433 : (Jvm.Cond.selects "TalkingPlotsModel" ({ cls := "TalkingPlotsModel", name := "burials", desc := "(I)I" } : Jvm.MethodName) ({ cls := "TalkingPlotsModel", name := "burials", desc := "(I)I" } : Jvm.MethodName)) ∈ lw_all := lw_g (lw_at lw_m6 128 rfl) rfl
theorem q1434 : (Jvm.Cond.code ({ cls := "TalkingPlotsModel", name := "burials", desc := "(I)I" } : Jvm.MethodName) prog_20_method_55_code (3 : Nat) (Option.some Jvm.ClassFile.FieldType.int)) ∈ lw_all := lw_g (lw_at lw_m6 129 rfl) rfl
theorem q1435 : (Jvm.Cond.methodLink "TalkingPlotsModel" (266 : Nat) ({ cls := "TalkingPlotsModel", name := "copies", desc := "([I[I)V" } : Jvm.MethodName)) ∈ lw_all := lw_g (lw_at lw_m6 130 rfl) rfl
theorem q1436 : (Jvm.Cond.static ({ cls := "TalkingPlotsModel", name := "copies", desc := "([I[I)V" } : Jvm.MethodName)) ∈ lw_all := lw_g (lw_at lw_m6 131 rfl) rfl
theorem q1437 : (Jvm.Cond.code ({ cls := "TalkingPlotsModel", name := "copies", desc := "([I[I)V" } : Jvm.MethodName) prog_20_method_8_code (3 : Nat) (Option.none : Option Jvm.ClassFile.FieldType)) ∈ lw_all := lw_g (lw_at lw_m6 132 rfl) rfl
theorem q1438 : (Jvm.Cond.methodLink "TalkingPlotsModel" (270 : Nat) ({ cls := "TalkingPlotsModel", name := "readsLine", desc := "()Z" } : Jvm.MethodName)) ∈ lw_all := lw_g (lw_at lw_m6 133 rfl) rfl
theorem q1439 : (Jvm.Cond.privateMethod ({ cls := "TalkingPlotsModel", name := "readsLine", desc := "()Z" } : Jvm.MethodName)) ∈ lw_tbl := lw_at lw_m6 134 rfl
theorem q1440 : (Jvm.Cond.instanceMethod ({ cls := "TalkingPlotsModel", name := "readsLine", desc := "()Z" } : Jvm.MethodName)) ∈ lw_all := lw_g (lw_at lw_m6 135 rfl) rfl
theorem q1441 : (Jvm.Cond.code ({ cls := "TalkingPlotsModel", name := "readsLine", desc := "()Z" } : Jvm.MethodName) prog_20_method_54_code (3 : Nat) (Option.some Jvm.ClassFile.FieldType.boolean)) ∈ lw_all := lw_g (lw_at lw_m6 136 rfl) rfl
theorem q1442 : (Jvm.Cond.methodLink "TalkingPlotsModel" (250 : Nat) ({ cls := "TalkingPlotsModel", name := "isLetter", desc := "()Z" } : Jvm.MethodName)) ∈ lw_all := lw_g (lw_at lw_m6 137 rfl) rfl
theorem q1443 : (Jvm.Cond.privateMethod ({ cls := "TalkingPlotsModel", name := "isLetter", desc := "()Z" } : Jvm.MethodName)) ∈ lw_tbl := lw_at lw_m6 138 rfl
theorem q1444 : (Jvm.Cond.instanceMethod ({ cls := "TalkingPlotsModel", name := "isLetter", desc := "()Z" } : Jvm.MethodName)) ∈ lw_all := lw_g (lw_at lw_m6 139 rfl) rfl
theorem q1445 : (Jvm.Cond.code ({ cls := "TalkingPlotsModel", name := "isLetter", desc := "()Z" } : Jvm.MethodName) prog_20_method_50_code (1 : Nat) (Option.some Jvm.ClassFile.FieldType.boolean)) ∈ lw_all := lw_g (lw_at lw_m6 140 rfl) rfl
theorem q1446 : (Jvm.Cond.methodLink "TalkingPlotsModel" (108 : Nat) ({ cls := "TalkingPlotsModel", name := "isTold", desc := "(I)Z" } : Jvm.MethodName)) ∈ lw_all := lw_g (lw_at lw_m6 141 rfl) rfl
theorem q1447 : (Jvm.Cond.privateMethod ({ cls := "TalkingPlotsModel", name := "isTold", desc := "(I)Z" } : Jvm.MethodName)) ∈ lw_tbl := lw_at lw_m6 142 rfl
theorem q1448 : (Jvm.Cond.instanceMethod ({ cls := "TalkingPlotsModel", name := "isTold", desc := "(I)Z" } : Jvm.MethodName)) ∈ lw_all := lw_g (lw_at lw_m6 143 rfl) rfl
theorem q1449 : (Jvm.Cond.code ({ cls := "TalkingPlotsModel", name := "isTold", desc := "(I)Z" } : Jvm.MethodName) prog_20_method_9_code (2 : Nat) (Option.some Jvm.ClassFile.FieldType.boolean)) ∈ lw_all := lw_g (lw_at lw_m6 144 rfl) rfl
theorem q1450 : (Jvm.Cond.methodLink "TalkingPlotsModel" (256 : Nat) ({ cls := "TalkingPlotsModel", name := "readsPlot", desc := "(I)Z" } : Jvm.MethodName)) ∈ lw_all := lw_g (lw_at lw_m6 145 rfl) rfl
theorem q1451 : (Jvm.Cond.privateMethod ({ cls := "TalkingPlotsModel", name := "readsPlot", desc := "(I)Z" } : Jvm.MethodName)) ∈ lw_tbl := lw_at lw_m6 146 rfl
theorem q1452 : (Jvm.Cond.instanceMethod ({ cls := "TalkingPlotsModel", name := "readsPlot", desc := "(I)Z" } : Jvm.MethodName)) ∈ lw_all := lw_g (lw_at lw_m6 147 rfl) rfl
theorem q1453 : (Jvm.Cond.code ({ cls := "TalkingPlotsModel", name := "readsPlot", desc := "(I)Z" } : Jvm.MethodName) prog_20_method_51_code (6 : Nat) (Option.some Jvm.ClassFile.FieldType.boolean)) ∈ lw_all := lw_g (lw_at lw_m6 148 rfl) rfl
theorem q1454 : (Jvm.Cond.methodLink "TalkingPlotsModel" (247 : Nat) ({ cls := "TalkingPlotsModel", name := "whoLies", desc := "(I)I" } : Jvm.MethodName)) ∈ lw_all := lw_g (lw_at lw_m6 149 rfl) rfl
theorem q1455 : (Jvm.Cond.privateMethod ({ cls := "TalkingPlotsModel", name := "whoLies", desc := "(I)I" } : Jvm.MethodName)) ∈ lw_tbl := lw_at lw_m6 150 rfl
theorem q1456 : (Jvm.Cond.instanceMethod ({ cls := "TalkingPlotsModel", name := "whoLies", desc := "(I)I" } : Jvm.MethodName)) ∈ lw_all := lw_g (lw_at lw_m6 151 rfl) rfl
theorem q1457 : (Jvm.Cond.code ({ cls := "TalkingPlotsModel", name := "whoLies", desc := "(I)I" } : Jvm.MethodName) prog_20_method_13_code (3 : Nat) (Option.some Jvm.ClassFile.FieldType.int)) ∈ lw_all := lw_g (lw_at lw_m6 152 rfl) rfl
theorem q1458 : (Jvm.Cond.methodLink "TalkingPlotsModel" (112 : Nat) ({ cls := "TalkingPlotsModel", name := "isLaid", desc := "(I)Z" } : Jvm.MethodName)) ∈ lw_all := lw_g (lw_at lw_m6 153 rfl) rfl
theorem q1459 : (Jvm.Cond.privateMethod ({ cls := "TalkingPlotsModel", name := "isLaid", desc := "(I)Z" } : Jvm.MethodName)) ∈ lw_tbl := lw_at lw_m6 154 rfl
theorem q1460 : (Jvm.Cond.instanceMethod ({ cls := "TalkingPlotsModel", name := "isLaid", desc := "(I)Z" } : Jvm.MethodName)) ∈ lw_all := lw_g (lw_at lw_m6 155 rfl) rfl
theorem q1461 : (Jvm.Cond.code ({ cls := "TalkingPlotsModel", name := "isLaid", desc := "(I)Z" } : Jvm.MethodName) prog_20_method_10_code (2 : Nat) (Option.some Jvm.ClassFile.FieldType.boolean)) ∈ lw_all := lw_g (lw_at lw_m6 156 rfl) rfl
theorem q1462 : (Jvm.Cond.methodLink "TalkingPlotsModel" (259 : Nat) ({ cls := "TalkingPlotsModel", name := "readsOther", desc := "(I)Z" } : Jvm.MethodName)) ∈ lw_all := lw_g (lw_at lw_m6 157 rfl) rfl
theorem q1463 : (Jvm.Cond.privateMethod ({ cls := "TalkingPlotsModel", name := "readsOther", desc := "(I)Z" } : Jvm.MethodName)) ∈ lw_tbl := lw_at lw_m6 158 rfl
theorem q1464 : (Jvm.Cond.instanceMethod ({ cls := "TalkingPlotsModel", name := "readsOther", desc := "(I)Z" } : Jvm.MethodName)) ∈ lw_all := lw_g (lw_at lw_m6 159 rfl) rfl
theorem q1465 : (Jvm.Cond.code ({ cls := "TalkingPlotsModel", name := "readsOther", desc := "(I)Z" } : Jvm.MethodName) prog_20_method_52_code (4 : Nat) (Option.some Jvm.ClassFile.FieldType.boolean)) ∈ lw_all := lw_g (lw_at lw_m6 160 rfl) rfl
theorem q1466 : (Jvm.Cond.methodLink "TalkingPlotsModel" (262 : Nat) ({ cls := "TalkingPlotsModel", name := "readsTopic", desc := "(IZ)Z" } : Jvm.MethodName)) ∈ lw_all := lw_g (lw_at lw_m6 161 rfl) rfl
theorem q1467 : (Jvm.Cond.privateMethod ({ cls := "TalkingPlotsModel", name := "readsTopic", desc := "(IZ)Z" } : Jvm.MethodName)) ∈ lw_tbl := lw_at lw_m6 162 rfl
theorem q1468 : (Jvm.Cond.instanceMethod ({ cls := "TalkingPlotsModel", name := "readsTopic", desc := "(IZ)Z" } : Jvm.MethodName)) ∈ lw_all := lw_g (lw_at lw_m6 163 rfl) rfl
theorem q1469 : (Jvm.Cond.code ({ cls := "TalkingPlotsModel", name := "readsTopic", desc := "(IZ)Z" } : Jvm.MethodName) prog_20_method_53_code (4 : Nat) (Option.some Jvm.ClassFile.FieldType.boolean)) ∈ lw_all := lw_g (lw_at lw_m6 164 rfl) rfl
theorem q1471 : (Jvm.Cond.instanceMethod ({ cls := "TalkingPlotsModel", name := "wishes", desc := "(I)I" } : Jvm.MethodName)) ∈ lw_all := lw_g (lw_at lw_m6 166 rfl) rfl
theorem q1472 : (Jvm.Cond.selects "TalkingPlotsModel" ({ cls := "TalkingPlotsModel", name := "wishes", desc := "(I)I" } : Jvm.MethodName) ({ cls := "TalkingPlotsModel", name := "wishes", desc := "(I)I" } : Jvm.MethodName)) ∈ lw_all := lw_g (lw_at lw_m6 167 rfl) rfl
theorem q1473 : (Jvm.Cond.code ({ cls := "TalkingPlotsModel", name := "wishes", desc := "(I)I" } : Jvm.MethodName) prog_20_method_57_code (4 : Nat) (Option.some Jvm.ClassFile.FieldType.int)) ∈ lw_all := lw_g (lw_at lw_m6 168 rfl) rfl
theorem q1474 : (Jvm.Cond.methodLink "TalkingPlotsModel" (276 : Nat) ({ cls := "TalkingPlotsModel", name := "readsWish", desc := "()Z" } : Jvm.MethodName)) ∈ lw_all := lw_g (lw_at lw_m6 169 rfl) rfl
theorem q1475 : (Jvm.Cond.privateMethod ({ cls := "TalkingPlotsModel", name := "readsWish", desc := "()Z" } : Jvm.MethodName)) ∈ lw_tbl := lw_at lw_m6 170 rfl
theorem q1476 : (Jvm.Cond.instanceMethod ({ cls := "TalkingPlotsModel", name := "readsWish", desc := "()Z" } : Jvm.MethodName)) ∈ lw_all := lw_g (lw_at lw_m6 171 rfl) rfl
theorem q1477 : (Jvm.Cond.code ({ cls := "TalkingPlotsModel", name := "readsWish", desc := "()Z" } : Jvm.MethodName) prog_20_method_56_code (4 : Nat) (Option.some Jvm.ClassFile.FieldType.boolean)) ∈ lw_all := lw_g (lw_at lw_m6 172 rfl) rfl
theorem q1479 : (Jvm.Cond.instanceMethod ({ cls := "TalkingPlotsModel", name := "nights", desc := "(I)I" } : Jvm.MethodName)) ∈ lw_all := lw_g (lw_at lw_m6 174 rfl) rfl
theorem q1480 : (Jvm.Cond.selects "TalkingPlotsModel" ({ cls := "TalkingPlotsModel", name := "nights", desc := "(I)I" } : Jvm.MethodName) ({ cls := "TalkingPlotsModel", name := "nights", desc := "(I)I" } : Jvm.MethodName)) ∈ lw_all := lw_g (lw_at lw_m6 175 rfl) rfl
theorem q1481 : (Jvm.Cond.code ({ cls := "TalkingPlotsModel", name := "nights", desc := "(I)I" } : Jvm.MethodName) prog_20_method_62_code (2 : Nat) (Option.some Jvm.ClassFile.FieldType.int)) ∈ lw_all := lw_g (lw_at lw_m6 176 rfl) rfl
theorem q1482 : (Jvm.Cond.methodLink "TalkingPlotsModel" (316 : Nat) ({ cls := "TalkingPlotsModel", name := "nightsGo", desc := "(I)V" } : Jvm.MethodName)) ∈ lw_all := lw_g (lw_at lw_m6 177 rfl) rfl
theorem q1483 : (Jvm.Cond.privateMethod ({ cls := "TalkingPlotsModel", name := "nightsGo", desc := "(I)V" } : Jvm.MethodName)) ∈ lw_tbl := lw_at lw_m6 178 rfl
theorem q1484 : (Jvm.Cond.instanceMethod ({ cls := "TalkingPlotsModel", name := "nightsGo", desc := "(I)V" } : Jvm.MethodName)) ∈ lw_all := lw_g (lw_at lw_m6 179 rfl) rfl
theorem q1485 : (Jvm.Cond.code ({ cls := "TalkingPlotsModel", name := "nightsGo", desc := "(I)V" } : Jvm.MethodName) prog_20_method_61_code (4 : Nat) (Option.none : Option Jvm.ClassFile.FieldType)) ∈ lw_all := lw_g (lw_at lw_m6 180 rfl) rfl
theorem q1486 : (Jvm.Cond.methodLink "TalkingPlotsModel" (313 : Nat) ({ cls := "TalkingPlotsModel", name := "turnOf", desc := "(I)V" } : Jvm.MethodName)) ∈ lw_all := lw_g (lw_at lw_m6 181 rfl) rfl
theorem q1487 : (Jvm.Cond.privateMethod ({ cls := "TalkingPlotsModel", name := "turnOf", desc := "(I)V" } : Jvm.MethodName)) ∈ lw_tbl := lw_at lw_m6 182 rfl
theorem q1488 : (Jvm.Cond.instanceMethod ({ cls := "TalkingPlotsModel", name := "turnOf", desc := "(I)V" } : Jvm.MethodName)) ∈ lw_all := lw_g (lw_at lw_m6 183 rfl) rfl
theorem q1489 : (Jvm.Cond.code ({ cls := "TalkingPlotsModel", name := "turnOf", desc := "(I)V" } : Jvm.MethodName) prog_20_method_60_code (6 : Nat) (Option.none : Option Jvm.ClassFile.FieldType)) ∈ lw_all := lw_g (lw_at lw_m6 184 rfl) rfl
theorem q1490 : (Jvm.Cond.methodLink "TalkingPlotsModel" (282 : Nat) ({ cls := "TalkingPlotsModel", name := "feels", desc := "(II)V" } : Jvm.MethodName)) ∈ lw_all := lw_g (lw_at lw_m6 185 rfl) rfl
theorem q1491 : (Jvm.Cond.privateMethod ({ cls := "TalkingPlotsModel", name := "feels", desc := "(II)V" } : Jvm.MethodName)) ∈ lw_tbl := lw_at lw_m6 186 rfl
theorem q1492 : (Jvm.Cond.instanceMethod ({ cls := "TalkingPlotsModel", name := "feels", desc := "(II)V" } : Jvm.MethodName)) ∈ lw_all := lw_g (lw_at lw_m6 187 rfl) rfl
theorem q1493 : (Jvm.Cond.code ({ cls := "TalkingPlotsModel", name := "feels", desc := "(II)V" } : Jvm.MethodName) prog_20_method_49_code (4 : Nat) (Option.none : Option Jvm.ClassFile.FieldType)) ∈ lw_all := lw_g (lw_at lw_m6 188 rfl) rfl
theorem q1494 : (Jvm.Cond.methodLink "TalkingPlotsModel" (129 : Nat) ({ cls := "TalkingPlotsModel", name := "shared", desc := "(II)I" } : Jvm.MethodName)) ∈ lw_all := lw_g (lw_at lw_m6 189 rfl) rfl
theorem q1495 : (Jvm.Cond.privateMethod ({ cls := "TalkingPlotsModel", name := "shared", desc := "(II)I" } : Jvm.MethodName)) ∈ lw_tbl := lw_at lw_m6 190 rfl
theorem q1496 : (Jvm.Cond.instanceMethod ({ cls := "TalkingPlotsModel", name := "shared", desc := "(II)I" } : Jvm.MethodName)) ∈ lw_all := lw_g (lw_at lw_m6 191 rfl) rfl
theorem q1497 : (Jvm.Cond.code ({ cls := "TalkingPlotsModel", name := "shared", desc := "(II)I" } : Jvm.MethodName) prog_20_method_17_code (3 : Nat) (Option.some Jvm.ClassFile.FieldType.int)) ∈ lw_all := lw_g (lw_at lw_m6 192 rfl) rfl
theorem q1498 : (Jvm.Cond.methodLink "TalkingPlotsModel" (126 : Nat) ({ cls := "TalkingPlotsModel", name := "bits", desc := "(I)I" } : Jvm.MethodName)) ∈ lw_all := lw_g (lw_at lw_m6 193 rfl) rfl
theorem q1499 : (Jvm.Cond.static ({ cls := "TalkingPlotsModel", name := "bits", desc := "(I)I" } : Jvm.MethodName)) ∈ lw_all := lw_g (lw_at lw_m6 194 rfl) rfl
theorem q1500 : (Jvm.Cond.code ({ cls := "TalkingPlotsModel", name := "bits", desc := "(I)I" } : Jvm.MethodName) prog_20_method_7_code (3 : Nat) (Option.some Jvm.ClassFile.FieldType.int)) ∈ lw_all := lw_g (lw_at lw_m6 195 rfl) rfl
theorem q1501 : (Jvm.Cond.methodLink "TalkingPlotsModel" (244 : Nat) ({ cls := "TalkingPlotsModel", name := "besideSet", desc := "(I)I" } : Jvm.MethodName)) ∈ lw_all := lw_g (lw_at lw_m6 196 rfl) rfl
theorem q1502 : (Jvm.Cond.privateMethod ({ cls := "TalkingPlotsModel", name := "besideSet", desc := "(I)I" } : Jvm.MethodName)) ∈ lw_tbl := lw_at lw_m6 197 rfl
theorem q1503 : (Jvm.Cond.instanceMethod ({ cls := "TalkingPlotsModel", name := "besideSet", desc := "(I)I" } : Jvm.MethodName)) ∈ lw_all := lw_g (lw_at lw_m6 198 rfl) rfl
theorem q1504 : (Jvm.Cond.code ({ cls := "TalkingPlotsModel", name := "besideSet", desc := "(I)I" } : Jvm.MethodName) prog_20_method_16_code (4 : Nat) (Option.some Jvm.ClassFile.FieldType.int)) ∈ lw_all := lw_g (lw_at lw_m6 199 rfl) rfl
theorem q1505 : (Jvm.Cond.methodLink "TalkingPlotsModel" (123 : Nat) ({ cls := "TalkingPlotsModel", name := "areBeside", desc := "(II)Z" } : Jvm.MethodName)) ∈ lw_all := lw_g (lw_at lw_m6 200 rfl) rfl
theorem q1506 : (Jvm.Cond.privateMethod ({ cls := "TalkingPlotsModel", name := "areBeside", desc := "(II)Z" } : Jvm.MethodName)) ∈ lw_tbl := lw_at lw_m6 201 rfl
theorem q1507 : (Jvm.Cond.instanceMethod ({ cls := "TalkingPlotsModel", name := "areBeside", desc := "(II)Z" } : Jvm.MethodName)) ∈ lw_all := lw_g (lw_at lw_m6 202 rfl) rfl
theorem q1508 : (Jvm.Cond.code ({ cls := "TalkingPlotsModel", name := "areBeside", desc := "(II)Z" } : Jvm.MethodName) prog_20_method_15_code (3 : Nat) (Option.some Jvm.ClassFile.FieldType.boolean)) ∈ lw_all := lw_g (lw_at lw_m6 203 rfl) rfl
theorem q1509 : (Jvm.Cond.methodLink "TalkingPlotsModel" (119 : Nat) ({ cls := "TalkingPlotsModel", name := "areNext", desc := "(II)Z" } : Jvm.MethodName)) ∈ lw_all := lw_g (lw_at lw_m6 204 rfl) rfl
theorem q1510 : (Jvm.Cond.static ({ cls := "TalkingPlotsModel", name := "areNext", desc := "(II)Z" } : Jvm.MethodName)) ∈ lw_all := lw_g (lw_at lw_m6 205 rfl) rfl
theorem q1511 : (Jvm.Cond.code ({ cls := "TalkingPlotsModel", name := "areNext", desc := "(II)Z" } : Jvm.MethodName) prog_20_method_14_code (2 : Nat) (Option.some Jvm.ClassFile.FieldType.boolean)) ∈ lw_all := lw_g (lw_at lw_m6 206 rfl) rfl
theorem q1512 : (Jvm.Cond.methodLink "TalkingPlotsModel" (115 : Nat) ({ cls := "TalkingPlotsModel", name := "size", desc := "(I)I" } : Jvm.MethodName)) ∈ lw_all := lw_g (lw_at lw_m6 207 rfl) rfl
theorem q1513 : (Jvm.Cond.static ({ cls := "TalkingPlotsModel", name := "size", desc := "(I)I" } : Jvm.MethodName)) ∈ lw_all := lw_g (lw_at lw_m6 208 rfl) rfl
theorem q1514 : (Jvm.Cond.code ({ cls := "TalkingPlotsModel", name := "size", desc := "(I)I" } : Jvm.MethodName) prog_20_method_5_code (1 : Nat) (Option.some Jvm.ClassFile.FieldType.int)) ∈ lw_all := lw_g (lw_at lw_m6 209 rfl) rfl
theorem q1515 : (Jvm.Cond.methodLink "TalkingPlotsModel" (294 : Nat) ({ cls := "TalkingPlotsModel", name := "holdsAny", desc := "(I)Z" } : Jvm.MethodName)) ∈ lw_all := lw_g (lw_at lw_m6 210 rfl) rfl
theorem q1516 : (Jvm.Cond.privateMethod ({ cls := "TalkingPlotsModel", name := "holdsAny", desc := "(I)Z" } : Jvm.MethodName)) ∈ lw_tbl := lw_at lw_m6 211 rfl
theorem q1517 : (Jvm.Cond.instanceMethod ({ cls := "TalkingPlotsModel", name := "holdsAny", desc := "(I)Z" } : Jvm.MethodName)) ∈ lw_all := lw_g (lw_at lw_m6 212 rfl) rfl
theorem q1518 : (Jvm.Cond.code ({ cls := "TalkingPlotsModel", name := "holdsAny", desc := "(I)Z" } : Jvm.MethodName) prog_20_method_48_code (3 : Nat) (Option.some Jvm.ClassFile.FieldType.boolean)) ∈ lw_all := lw_g (lw_at lw_m6 213 rfl) rfl
theorem q1519 : (Jvm.Cond.methodLink "TalkingPlotsModel" (241 : Nat) ({ cls := "TalkingPlotsModel", name := "comesTo", desc := "(II)I" } : Jvm.MethodName)) ∈ lw_all := lw_g (lw_at lw_m6 214 rfl) rfl
theorem q1520 : (Jvm.Cond.privateMethod ({ cls := "TalkingPlotsModel", name := "comesTo", desc := "(II)I" } : Jvm.MethodName)) ∈ lw_tbl := lw_at lw_m6 215 rfl
theorem q1521 : (Jvm.Cond.instanceMethod ({ cls := "TalkingPlotsModel", name := "comesTo", desc := "(II)I" } : Jvm.MethodName)) ∈ lw_all := lw_g (lw_at lw_m6 216 rfl) rfl
theorem q1522 : (Jvm.Cond.code ({ cls := "TalkingPlotsModel", name := "comesTo", desc := "(II)I" } : Jvm.MethodName) prog_20_method_46_code (8 : Nat) (Option.some Jvm.ClassFile.FieldType.int)) ∈ lw_all := lw_g (lw_at lw_m6 217 rfl) rfl
theorem q1523 : (Jvm.Cond.methodLink "TalkingPlotsModel" (237 : Nat) ({ cls := "TalkingPlotsModel", name := "reckon", desc := "(III)I" } : Jvm.MethodName)) ∈ lw_all := lw_g (lw_at lw_m6 218 rfl) rfl
theorem q1524 : (Jvm.Cond.static ({ cls := "TalkingPlotsModel", name := "reckon", desc := "(III)I" } : Jvm.MethodName)) ∈ lw_all := lw_g (lw_at lw_m6 219 rfl) rfl
theorem q1525 : (Jvm.Cond.code ({ cls := "TalkingPlotsModel", name := "reckon", desc := "(III)I" } : Jvm.MethodName) prog_20_method_45_code (3 : Nat) (Option.some Jvm.ClassFile.FieldType.int)) ∈ lw_all := lw_g (lw_at lw_m6 220 rfl) rfl
theorem q1526 : (Jvm.Cond.methodLink "TalkingPlotsModel" (297 : Nat) ({ cls := "TalkingPlotsModel", name := "likesMost", desc := "(I)I" } : Jvm.MethodName)) ∈ lw_all := lw_g (lw_at lw_m6 221 rfl) rfl
theorem q1527 : (Jvm.Cond.privateMethod ({ cls := "TalkingPlotsModel", name := "likesMost", desc := "(I)I" } : Jvm.MethodName)) ∈ lw_tbl := lw_at lw_m6 222 rfl
theorem q1528 : (Jvm.Cond.instanceMethod ({ cls := "TalkingPlotsModel", name := "likesMost", desc := "(I)I" } : Jvm.MethodName)) ∈ lw_all := lw_g (lw_at lw_m6 223 rfl) rfl
theorem q1529 : (Jvm.Cond.code ({ cls := "TalkingPlotsModel", name := "likesMost", desc := "(I)I" } : Jvm.MethodName) prog_20_method_58_code (6 : Nat) (Option.some Jvm.ClassFile.FieldType.int)) ∈ lw_all := lw_g (lw_at lw_m6 224 rfl) rfl
theorem q1530 : (Jvm.Cond.methodLink "TalkingPlotsModel" (285 : Nat) ({ cls := "TalkingPlotsModel", name := "byLaw", desc := "(II)I" } : Jvm.MethodName)) ∈ lw_all := lw_g (lw_at lw_m6 225 rfl) rfl
theorem q1531 : (Jvm.Cond.privateMethod ({ cls := "TalkingPlotsModel", name := "byLaw", desc := "(II)I" } : Jvm.MethodName)) ∈ lw_tbl := lw_at lw_m6 226 rfl
theorem q1532 : (Jvm.Cond.instanceMethod ({ cls := "TalkingPlotsModel", name := "byLaw", desc := "(II)I" } : Jvm.MethodName)) ∈ lw_all := lw_g (lw_at lw_m6 227 rfl) rfl
theorem q1533 : (Jvm.Cond.code ({ cls := "TalkingPlotsModel", name := "byLaw", desc := "(II)I" } : Jvm.MethodName) prog_20_method_47_code (5 : Nat) (Option.some Jvm.ClassFile.FieldType.int)) ∈ lw_all := lw_g (lw_at lw_m6 228 rfl) rfl
theorem q1534 : (Jvm.Cond.constant "TalkingPlotsModel" (303 : Nat) (65536 : Int32)) ∈ lw_all := lw_g (lw_at lw_m6 229 rfl) rfl
theorem q1535 : (Jvm.Cond.methodLink "TalkingPlotsModel" (304 : Nat) ({ cls := "TalkingPlotsModel", name := "learns", desc := "(II)V" } : Jvm.MethodName)) ∈ lw_all := lw_g (lw_at lw_m6 230 rfl) rfl
theorem q1536 : (Jvm.Cond.privateMethod ({ cls := "TalkingPlotsModel", name := "learns", desc := "(II)V" } : Jvm.MethodName)) ∈ lw_tbl := lw_at lw_m6 231 rfl
theorem q1537 : (Jvm.Cond.instanceMethod ({ cls := "TalkingPlotsModel", name := "learns", desc := "(II)V" } : Jvm.MethodName)) ∈ lw_all := lw_g (lw_at lw_m6 232 rfl) rfl
theorem q1538 : (Jvm.Cond.code ({ cls := "TalkingPlotsModel", name := "learns", desc := "(II)V" } : Jvm.MethodName) prog_20_method_59_code (4 : Nat) (Option.none : Option Jvm.ClassFile.FieldType)) ∈ lw_all := lw_g (lw_at lw_m6 233 rfl) rfl
theorem q1539 : (Jvm.Cond.methodLink "TalkingPlotsModel" (288 : Nat) ({ cls := "TalkingPlotsModel", name := "has", desc := "(II)Z" } : Jvm.MethodName)) ∈ lw_all := lw_g (lw_at lw_m6 234 rfl) rfl
theorem q1540 : (Jvm.Cond.static ({ cls := "TalkingPlotsModel", name := "has", desc := "(II)Z" } : Jvm.MethodName)) ∈ lw_all := lw_g (lw_at lw_m6 235 rfl) rfl
theorem q1541 : (Jvm.Cond.code ({ cls := "TalkingPlotsModel", name := "has", desc := "(II)Z" } : Jvm.MethodName) prog_20_method_6_code (2 : Nat) (Option.some Jvm.ClassFile.FieldType.boolean)) ∈ lw_all := lw_g (lw_at lw_m6 236 rfl) rfl
theorem q1542 : (Jvm.Cond.methodLink "TalkingPlotsModel" (307 : Nat) ({ cls := "TalkingPlotsModel", name := "min", desc := "(II)I" } : Jvm.MethodName)) ∈ lw_all := lw_g (lw_at lw_m6 237 rfl) rfl
theorem q1543 : (Jvm.Cond.static ({ cls := "TalkingPlotsModel", name := "min", desc := "(II)I" } : Jvm.MethodName)) ∈ lw_all := lw_g (lw_at lw_m6 238 rfl) rfl
theorem q1544 : (Jvm.Cond.code ({ cls := "TalkingPlotsModel", name := "min", desc := "(II)I" } : Jvm.MethodName) prog_20_method_3_code (2 : Nat) (Option.some Jvm.ClassFile.FieldType.int)) ∈ lw_all := lw_g (lw_at lw_m6 239 rfl) rfl
theorem q1545 : (Jvm.Cond.methodLink "TalkingPlotsModel" (310 : Nat) ({ cls := "TalkingPlotsModel", name := "max", desc := "(II)I" } : Jvm.MethodName)) ∈ lw_all := lw_g (lw_at lw_m7 0 rfl) rfl
theorem q1546 : (Jvm.Cond.static ({ cls := "TalkingPlotsModel", name := "max", desc := "(II)I" } : Jvm.MethodName)) ∈ lw_all := lw_g (lw_at lw_m7 1 rfl) rfl
theorem q1547 : (Jvm.Cond.code ({ cls := "TalkingPlotsModel", name := "max", desc := "(II)I" } : Jvm.MethodName) prog_20_method_4_code (2 : Nat) (Option.some Jvm.ClassFile.FieldType.int)) ∈ lw_all := lw_g (lw_at lw_m7 2 rfl) rfl
theorem q1549 : (Jvm.Cond.instanceMethod ({ cls := "TalkingPlotsModel", name := "tried", desc := "(II)I" } : Jvm.MethodName)) ∈ lw_all := lw_g (lw_at lw_m7 4 rfl) rfl
theorem q1550 : (Jvm.Cond.selects "TalkingPlotsModel" ({ cls := "TalkingPlotsModel", name := "tried", desc := "(II)I" } : Jvm.MethodName) ({ cls := "TalkingPlotsModel", name := "tried", desc := "(II)I" } : Jvm.MethodName)) ∈ lw_all := lw_g (lw_at lw_m7 5 rfl) rfl
theorem q1551 : (Jvm.Cond.code ({ cls := "TalkingPlotsModel", name := "tried", desc := "(II)I" } : Jvm.MethodName) prog_20_method_64_code (4 : Nat) (Option.some Jvm.ClassFile.FieldType.int)) ∈ lw_all := lw_g (lw_at lw_m7 6 rfl) rfl
theorem q1552 : (Jvm.Cond.methodLink "TalkingPlotsModel" (319 : Nat) ({ cls := "TalkingPlotsModel", name := "moodless", desc := "()I" } : Jvm.MethodName)) ∈ lw_all := lw_g (lw_at lw_m7 7 rfl) rfl
theorem q1553 : (Jvm.Cond.privateMethod ({ cls := "TalkingPlotsModel", name := "moodless", desc := "()I" } : Jvm.MethodName)) ∈ lw_tbl := lw_at lw_m7 8 rfl
theorem q1554 : (Jvm.Cond.instanceMethod ({ cls := "TalkingPlotsModel", name := "moodless", desc := "()I" } : Jvm.MethodName)) ∈ lw_all := lw_g (lw_at lw_m7 9 rfl) rfl
theorem q1555 : (Jvm.Cond.code ({ cls := "TalkingPlotsModel", name := "moodless", desc := "()I" } : Jvm.MethodName) prog_20_method_63_code (3 : Nat) (Option.some Jvm.ClassFile.FieldType.int)) ∈ lw_all := lw_g (lw_at lw_m7 10 rfl) rfl
theorem q1557 : (Jvm.Cond.instanceMethod ({ cls := "TalkingPlotsModel", name := "personIs", desc := "(II)I" } : Jvm.MethodName)) ∈ lw_all := lw_g (lw_at lw_m7 12 rfl) rfl
theorem q1558 : (Jvm.Cond.selects "TalkingPlotsModel" ({ cls := "TalkingPlotsModel", name := "personIs", desc := "(II)I" } : Jvm.MethodName) ({ cls := "TalkingPlotsModel", name := "personIs", desc := "(II)I" } : Jvm.MethodName)) ∈ lw_all := lw_g (lw_at lw_m7 13 rfl) rfl
theorem q1559 : (Jvm.Cond.code ({ cls := "TalkingPlotsModel", name := "personIs", desc := "(II)I" } : Jvm.MethodName) prog_20_method_66_code (3 : Nat) (Option.some Jvm.ClassFile.FieldType.int)) ∈ lw_all := lw_g (lw_at lw_m7 14 rfl) rfl
theorem q1560 : (Jvm.Cond.methodLink "TalkingPlotsModel" (322 : Nat) ({ cls := "TalkingPlotsModel", name := "rankOf", desc := "(I)I" } : Jvm.MethodName)) ∈ lw_all := lw_g (lw_at lw_m7 15 rfl) rfl
theorem q1561 : (Jvm.Cond.privateMethod ({ cls := "TalkingPlotsModel", name := "rankOf", desc := "(I)I" } : Jvm.MethodName)) ∈ lw_tbl := lw_at lw_m7 16 rfl
theorem q1562 : (Jvm.Cond.instanceMethod ({ cls := "TalkingPlotsModel", name := "rankOf", desc := "(I)I" } : Jvm.MethodName)) ∈ lw_all := lw_g (lw_at lw_m7 17 rfl) rfl
theorem q1563 : (Jvm.Cond.code ({ cls := "TalkingPlotsModel", name := "rankOf", desc := "(I)I" } : Jvm.MethodName) prog_20_method_65_code (4 : Nat) (Option.some Jvm.ClassFile.FieldType.int)) ∈ lw_all := lw_g (lw_at lw_m7 18 rfl) rfl
theorem q1565 : (Jvm.Cond.instanceMethod ({ cls := "TalkingPlotsModel", name := "talk", desc := "(II)I" } : Jvm.MethodName)) ∈ lw_all := lw_g (lw_at lw_m7 20 rfl) rfl
theorem q1566 : (Jvm.Cond.selects "TalkingPlotsModel" ({ cls := "TalkingPlotsModel", name := "talk", desc := "(II)I" } : Jvm.MethodName) ({ cls := "TalkingPlotsModel", name := "talk", desc := "(II)I" } : Jvm.MethodName)) ∈ lw_all := lw_g (lw_at lw_m7 21 rfl) rfl
theorem q1567 : (Jvm.Cond.code ({ cls := "TalkingPlotsModel", name := "talk", desc := "(II)I" } : Jvm.MethodName) prog_20_method_67_code (3 : Nat) (Option.some Jvm.ClassFile.FieldType.int)) ∈ lw_all := lw_g (lw_at lw_m7 22 rfl) rfl
theorem q1568 : (Jvm.Cond.methodLink "TalkingPlotsModel" (325 : Nat) ({ cls := "TalkingPlotsModel", name := "talkOf", desc := "(II)I" } : Jvm.MethodName)) ∈ lw_all := lw_g (lw_at lw_m7 23 rfl) rfl
theorem q1569 : (Jvm.Cond.privateMethod ({ cls := "TalkingPlotsModel", name := "talkOf", desc := "(II)I" } : Jvm.MethodName)) ∈ lw_tbl := lw_at lw_m7 24 rfl
theorem q1570 : (Jvm.Cond.instanceMethod ({ cls := "TalkingPlotsModel", name := "talkOf", desc := "(II)I" } : Jvm.MethodName)) ∈ lw_all := lw_g (lw_at lw_m7 25 rfl) rfl
theorem q1571 : (Jvm.Cond.code ({ cls := "TalkingPlotsModel", name := "talkOf", desc := "(II)I" } : Jvm.MethodName) prog_20_method_18_code (3 : Nat) (Option.some Jvm.ClassFile.FieldType.int)) ∈ lw_all := lw_g (lw_at lw_m7 26 rfl) rfl
theorem q1573 : (Jvm.Cond.instanceMethod ({ cls := "TalkingPlotsModel", name := "yardTalk", desc := "()I" } : Jvm.MethodName)) ∈ lw_all := lw_g (lw_at lw_m7 28 rfl) rfl
theorem q1574 : (Jvm.Cond.selects "TalkingPlotsModel" ({ cls := "TalkingPlotsModel", name := "yardTalk", desc := "()I" } : Jvm.MethodName) ({ cls := "TalkingPlotsModel", name := "yardTalk", desc := "()I" } : Jvm.MethodName)) ∈ lw_all := lw_g (lw_at lw_m7 29 rfl) rfl
theorem q1575 : (Jvm.Cond.code ({ cls := "TalkingPlotsModel", name := "yardTalk", desc := "()I" } : Jvm.MethodName) prog_20_method_68_code (4 : Nat) (Option.some Jvm.ClassFile.FieldType.int)) ∈ lw_all := lw_g (lw_at lw_m7 30 rfl) rfl
theorem q1577 : (Jvm.Cond.instanceMethod ({ cls := "TalkingPlotsModel", name := "best", desc := "(II)I" } : Jvm.MethodName)) ∈ lw_all := lw_g (lw_at lw_m7 32 rfl) rfl
theorem q1578 : (Jvm.Cond.selects "TalkingPlotsModel" ({ cls := "TalkingPlotsModel", name := "best", desc := "(II)I" } : Jvm.MethodName) ({ cls := "TalkingPlotsModel", name := "best", desc := "(II)I" } : Jvm.MethodName)) ∈ lw_all := lw_g (lw_at lw_m7 33 rfl) rfl
theorem q1579 : (Jvm.Cond.code ({ cls := "TalkingPlotsModel", name := "best", desc := "(II)I" } : Jvm.MethodName) prog_20_method_70_code (8 : Nat) (Option.some Jvm.ClassFile.FieldType.int)) ∈ lw_all := lw_g (lw_at lw_m7 34 rfl) rfl
theorem q1580 : (Jvm.Cond.methodLink "TalkingPlotsModel" (328 : Nat) ({ cls := "TalkingPlotsModel", name := "talkAt", desc := "(II)I" } : Jvm.MethodName)) ∈ lw_all := lw_g (lw_at lw_m7 35 rfl) rfl
theorem q1581 : (Jvm.Cond.privateMethod ({ cls := "TalkingPlotsModel", name := "talkAt", desc := "(II)I" } : Jvm.MethodName)) ∈ lw_tbl := lw_at lw_m7 36 rfl
theorem q1582 : (Jvm.Cond.instanceMethod ({ cls := "TalkingPlotsModel", name := "talkAt", desc := "(II)I" } : Jvm.MethodName)) ∈ lw_all := lw_g (lw_at lw_m7 37 rfl) rfl
theorem q1583 : (Jvm.Cond.code ({ cls := "TalkingPlotsModel", name := "talkAt", desc := "(II)I" } : Jvm.MethodName) prog_20_method_69_code (5 : Nat) (Option.some Jvm.ClassFile.FieldType.int)) ∈ lw_all := lw_g (lw_at lw_m7 38 rfl) rfl
theorem q1585 : (Jvm.Cond.instanceMethod ({ cls := "TalkingPlotsModel", name := "move", desc := "(I)I" } : Jvm.MethodName)) ∈ lw_all := lw_g (lw_at lw_m7 40 rfl) rfl
theorem q1586 : (Jvm.Cond.selects "TalkingPlotsModel" ({ cls := "TalkingPlotsModel", name := "move", desc := "(I)I" } : Jvm.MethodName) ({ cls := "TalkingPlotsModel", name := "move", desc := "(I)I" } : Jvm.MethodName)) ∈ lw_all := lw_g (lw_at lw_m7 41 rfl) rfl
theorem q1587 : (Jvm.Cond.code ({ cls := "TalkingPlotsModel", name := "move", desc := "(I)I" } : Jvm.MethodName) prog_20_method_71_code (8 : Nat) (Option.some Jvm.ClassFile.FieldType.int)) ∈ lw_all := lw_g (lw_at lw_m7 42 rfl) rfl
theorem q1589 : (Jvm.Cond.instanceMethod ({ cls := "TalkingPlotsModel", name := "change", desc := "(I)I" } : Jvm.MethodName)) ∈ lw_all := lw_g (lw_at lw_m7 44 rfl) rfl
theorem q1590 : (Jvm.Cond.selects "TalkingPlotsModel" ({ cls := "TalkingPlotsModel", name := "change", desc := "(I)I" } : Jvm.MethodName) ({ cls := "TalkingPlotsModel", name := "change", desc := "(I)I" } : Jvm.MethodName)) ∈ lw_all := lw_g (lw_at lw_m7 45 rfl) rfl
theorem q1591 : (Jvm.Cond.code ({ cls := "TalkingPlotsModel", name := "change", desc := "(I)I" } : Jvm.MethodName) prog_20_method_73_code (9 : Nat) (Option.some Jvm.ClassFile.FieldType.int)) ∈ lw_all := lw_g (lw_at lw_m7 46 rfl) rfl
theorem q1592 : (Jvm.Cond.methodLink "TalkingPlotsModel" (331 : Nat) ({ cls := "TalkingPlotsModel", name := "yardTalk", desc := "()I" } : Jvm.MethodName)) ∈ lw_all := lw_g (lw_at lw_m7 47 rfl) rfl
theorem q1593 : (Jvm.Cond.methodLink "TalkingPlotsModel" (334 : Nat) ({ cls := "TalkingPlotsModel", name := "changesPlots", desc := "(II)V" } : Jvm.MethodName)) ∈ lw_all := lw_g (lw_at lw_m7 48 rfl) rfl
theorem q1594 : (Jvm.Cond.privateMethod ({ cls := "TalkingPlotsModel", name := "changesPlots", desc := "(II)V" } : Jvm.MethodName)) ∈ lw_tbl := lw_at lw_m7 49 rfl
theorem q1595 : (Jvm.Cond.instanceMethod ({ cls := "TalkingPlotsModel", name := "changesPlots", desc := "(II)V" } : Jvm.MethodName)) ∈ lw_all := lw_g (lw_at lw_m7 50 rfl) rfl
theorem q1596 : (Jvm.Cond.code ({ cls := "TalkingPlotsModel", name := "changesPlots", desc := "(II)V" } : Jvm.MethodName) prog_20_method_72_code (4 : Nat) (Option.none : Option Jvm.ClassFile.FieldType)) ∈ lw_all := lw_g (lw_at lw_m7 51 rfl) rfl
theorem q1598 : (Jvm.Cond.instanceMethod ({ cls := "TalkingPlotsModel", name := "hold", desc := "(I)I" } : Jvm.MethodName)) ∈ lw_all := lw_g (lw_at lw_m7 53 rfl) rfl
theorem q1599 : (Jvm.Cond.selects "TalkingPlotsModel" ({ cls := "TalkingPlotsModel", name := "hold", desc := "(I)I" } : Jvm.MethodName) ({ cls := "TalkingPlotsModel", name := "hold", desc := "(I)I" } : Jvm.MethodName)) ∈ lw_all := lw_g (lw_at lw_m7 54 rfl) rfl
theorem q1600 : (Jvm.Cond.code ({ cls := "TalkingPlotsModel", name := "hold", desc := "(I)I" } : Jvm.MethodName) prog_20_method_76_code (5 : Nat) (Option.some Jvm.ClassFile.FieldType.int)) ∈ lw_all := lw_g (lw_at lw_m7 55 rfl) rfl
theorem q1601 : (Jvm.Cond.methodLink "TalkingPlotsModel" (340 : Nat) ({ cls := "TalkingPlotsModel", name := "holdsWish", desc := "(I)Z" } : Jvm.MethodName)) ∈ lw_all := lw_g (lw_at lw_m7 56 rfl) rfl
theorem q1602 : (Jvm.Cond.privateMethod ({ cls := "TalkingPlotsModel", name := "holdsWish", desc := "(I)Z" } : Jvm.MethodName)) ∈ lw_tbl := lw_at lw_m7 57 rfl
theorem q1603 : (Jvm.Cond.instanceMethod ({ cls := "TalkingPlotsModel", name := "holdsWish", desc := "(I)Z" } : Jvm.MethodName)) ∈ lw_all := lw_g (lw_at lw_m7 58 rfl) rfl
theorem q1604 : (Jvm.Cond.code ({ cls := "TalkingPlotsModel", name := "holdsWish", desc := "(I)Z" } : Jvm.MethodName) prog_20_method_75_code (4 : Nat) (Option.some Jvm.ClassFile.FieldType.boolean)) ∈ lw_all := lw_g (lw_at lw_m7 59 rfl) rfl
theorem q1605 : (Jvm.Cond.methodLink "TalkingPlotsModel" (337 : Nat) ({ cls := "TalkingPlotsModel", name := "isByWall", desc := "(I)Z" } : Jvm.MethodName)) ∈ lw_all := lw_g (lw_at lw_m7 60 rfl) rfl
theorem q1606 : (Jvm.Cond.static ({ cls := "TalkingPlotsModel", name := "isByWall", desc := "(I)Z" } : Jvm.MethodName)) ∈ lw_all := lw_g (lw_at lw_m7 61 rfl) rfl
theorem q1607 : (Jvm.Cond.code ({ cls := "TalkingPlotsModel", name := "isByWall", desc := "(I)Z" } : Jvm.MethodName) prog_20_method_74_code (1 : Nat) (Option.some Jvm.ClassFile.FieldType.boolean)) ∈ lw_all := lw_g (lw_at lw_m7 62 rfl) rfl
theorem q1609 : (Jvm.Cond.instanceMethod ({ cls := "TalkingPlotsModel", name := "row", desc := "(II)I" } : Jvm.MethodName)) ∈ lw_all := lw_g (lw_at lw_m7 64 rfl) rfl
theorem q1610 : (Jvm.Cond.selects "TalkingPlotsModel" ({ cls := "TalkingPlotsModel", name := "row", desc := "(II)I" } : Jvm.MethodName) ({ cls := "TalkingPlotsModel", name := "row", desc := "(II)I" } : Jvm.MethodName)) ∈ lw_all := lw_g (lw_at lw_m7 65 rfl) rfl
theorem q1611 : (Jvm.Cond.code ({ cls := "TalkingPlotsModel", name := "row", desc := "(II)I" } : Jvm.MethodName) prog_20_method_81_code (5 : Nat) (Option.some Jvm.ClassFile.FieldType.int)) ∈ lw_all := lw_g (lw_at lw_m7 66 rfl) rfl
theorem q1612 : (Jvm.Cond.methodLink "TalkingPlotsModel" (355 : Nat) ({ cls := "TalkingPlotsModel", name := "toldSet", desc := "()I" } : Jvm.MethodName)) ∈ lw_all := lw_g (lw_at lw_m7 67 rfl) rfl
theorem q1613 : (Jvm.Cond.privateMethod ({ cls := "TalkingPlotsModel", name := "toldSet", desc := "()I" } : Jvm.MethodName)) ∈ lw_tbl := lw_at lw_m7 68 rfl
theorem q1614 : (Jvm.Cond.instanceMethod ({ cls := "TalkingPlotsModel", name := "toldSet", desc := "()I" } : Jvm.MethodName)) ∈ lw_all := lw_g (lw_at lw_m7 69 rfl) rfl
theorem q1615 : (Jvm.Cond.code ({ cls := "TalkingPlotsModel", name := "toldSet", desc := "()I" } : Jvm.MethodName) prog_20_method_11_code (3 : Nat) (Option.some Jvm.ClassFile.FieldType.int)) ∈ lw_all := lw_g (lw_at lw_m7 70 rfl) rfl
theorem q1616 : (Jvm.Cond.constant "TalkingPlotsModel" (358 : Nat) (-1000000 : Int32)) ∈ lw_all := lw_g (lw_at lw_m7 71 rfl) rfl
theorem q1617 : (Jvm.Cond.methodLink "TalkingPlotsModel" (359 : Nat) ({ cls := "TalkingPlotsModel", name := "mayBeOrder", desc := "(I)V" } : Jvm.MethodName)) ∈ lw_all := lw_g (lw_at lw_m7 72 rfl) rfl
theorem q1618 : (Jvm.Cond.privateMethod ({ cls := "TalkingPlotsModel", name := "mayBeOrder", desc := "(I)V" } : Jvm.MethodName)) ∈ lw_tbl := lw_at lw_m7 73 rfl
theorem q1619 : (Jvm.Cond.instanceMethod ({ cls := "TalkingPlotsModel", name := "mayBeOrder", desc := "(I)V" } : Jvm.MethodName)) ∈ lw_all := lw_g (lw_at lw_m7 74 rfl) rfl
theorem q1620 : (Jvm.Cond.code ({ cls := "TalkingPlotsModel", name := "mayBeOrder", desc := "(I)V" } : Jvm.MethodName) prog_20_method_80_code (5 : Nat) (Option.none : Option Jvm.ClassFile.FieldType)) ∈ lw_all := lw_g (lw_at lw_m7 75 rfl) rfl
theorem q1621 : (Jvm.Cond.methodLink "TalkingPlotsModel" (346 : Nat) ({ cls := "TalkingPlotsModel", name := "holdsInRow", desc := "(II)Z" } : Jvm.MethodName)) ∈ lw_all := lw_g (lw_at lw_m7 76 rfl) rfl
theorem q1622 : (Jvm.Cond.privateMethod ({ cls := "TalkingPlotsModel", name := "holdsInRow", desc := "(II)Z" } : Jvm.MethodName)) ∈ lw_tbl := lw_at lw_m7 77 rfl
theorem q1623 : (Jvm.Cond.instanceMethod ({ cls := "TalkingPlotsModel", name := "holdsInRow", desc := "(II)Z" } : Jvm.MethodName)) ∈ lw_all := lw_g (lw_at lw_m7 78 rfl) rfl
theorem q1624 : (Jvm.Cond.code ({ cls := "TalkingPlotsModel", name := "holdsInRow", desc := "(II)Z" } : Jvm.MethodName) prog_20_method_79_code (5 : Nat) (Option.some Jvm.ClassFile.FieldType.boolean)) ∈ lw_all := lw_g (lw_at lw_m7 79 rfl) rfl
theorem q1625 : (Jvm.Cond.methodLink "TalkingPlotsModel" (362 : Nat) ({ cls := "TalkingPlotsModel", name := "nextOrder", desc := "(I)Z" } : Jvm.MethodName)) ∈ lw_all := lw_g (lw_at lw_m7 80 rfl) rfl
theorem q1626 : (Jvm.Cond.privateMethod ({ cls := "TalkingPlotsModel", name := "nextOrder", desc := "(I)Z" } : Jvm.MethodName)) ∈ lw_tbl := lw_at lw_m7 81 rfl
theorem q1627 : (Jvm.Cond.instanceMethod ({ cls := "TalkingPlotsModel", name := "nextOrder", desc := "(I)Z" } : Jvm.MethodName)) ∈ lw_all := lw_g (lw_at lw_m7 82 rfl) rfl
theorem q1628 : (Jvm.Cond.code ({ cls := "TalkingPlotsModel", name := "nextOrder", desc := "(I)Z" } : Jvm.MethodName) prog_20_method_78_code (6 : Nat) (Option.some Jvm.ClassFile.FieldType.boolean)) ∈ lw_all := lw_g (lw_at lw_m7 83 rfl) rfl
theorem q1629 : (Jvm.Cond.methodLink "TalkingPlotsModel" (343 : Nat) ({ cls := "TalkingPlotsModel", name := "changesOrder", desc := "(II)V" } : Jvm.MethodName)) ∈ lw_all := lw_g (lw_at lw_m7 84 rfl) rfl
theorem q1630 : (Jvm.Cond.privateMethod ({ cls := "TalkingPlotsModel", name := "changesOrder", desc := "(II)V" } : Jvm.MethodName)) ∈ lw_tbl := lw_at lw_m7 85 rfl
theorem q1631 : (Jvm.Cond.instanceMethod ({ cls := "TalkingPlotsModel", name := "changesOrder", desc := "(II)V" } : Jvm.MethodName)) ∈ lw_all := lw_g (lw_at lw_m7 86 rfl) rfl
theorem q1632 : (Jvm.Cond.code ({ cls := "TalkingPlotsModel", name := "changesOrder", desc := "(II)V" } : Jvm.MethodName) prog_20_method_77_code (4 : Nat) (Option.none : Option Jvm.ClassFile.FieldType)) ∈ lw_all := lw_g (lw_at lw_m7 87 rfl) rfl
theorem q1634 : (Jvm.Cond.instanceMethod ({ cls := "TalkingPlotsModel", name := "couples", desc := "(II)I" } : Jvm.MethodName)) ∈ lw_all := lw_g (lw_at lw_m7 89 rfl) rfl
theorem q1635 : (Jvm.Cond.selects "TalkingPlotsModel" ({ cls := "TalkingPlotsModel", name := "couples", desc := "(II)I" } : Jvm.MethodName) ({ cls := "TalkingPlotsModel", name := "couples", desc := "(II)I" } : Jvm.MethodName)) ∈ lw_all := lw_g (lw_at lw_m7 90 rfl) rfl
theorem q1636 : (Jvm.Cond.code ({ cls := "TalkingPlotsModel", name := "couples", desc := "(II)I" } : Jvm.MethodName) prog_20_method_84_code (4 : Nat) (Option.some Jvm.ClassFile.FieldType.int)) ∈ lw_all := lw_g (lw_at lw_m7 91 rfl) rfl
theorem q1637 : (Jvm.Cond.methodLink "TalkingPlotsModel" (368 : Nat) ({ cls := "TalkingPlotsModel", name := "laysCouples", desc := "()V" } : Jvm.MethodName)) ∈ lw_all := lw_g (lw_at lw_m7 92 rfl) rfl
theorem q1638 : (Jvm.Cond.privateMethod ({ cls := "TalkingPlotsModel", name := "laysCouples", desc := "()V" } : Jvm.MethodName)) ∈ lw_tbl := lw_at lw_m7 93 rfl
theorem q1639 : (Jvm.Cond.instanceMethod ({ cls := "TalkingPlotsModel", name := "laysCouples", desc := "()V" } : Jvm.MethodName)) ∈ lw_all := lw_g (lw_at lw_m7 94 rfl) rfl
theorem q1640 : (Jvm.Cond.code ({ cls := "TalkingPlotsModel", name := "laysCouples", desc := "()V" } : Jvm.MethodName) prog_20_method_82_code (4 : Nat) (Option.none : Option Jvm.ClassFile.FieldType)) ∈ lw_all := lw_g (lw_at lw_m7 95 rfl) rfl
theorem q1641 : (Jvm.Cond.methodLink "TalkingPlotsModel" (371 : Nat) ({ cls := "TalkingPlotsModel", name := "isWith", desc := "(I)I" } : Jvm.MethodName)) ∈ lw_all := lw_g (lw_at lw_m7 96 rfl) rfl
theorem q1642 : (Jvm.Cond.privateMethod ({ cls := "TalkingPlotsModel", name := "isWith", desc := "(I)I" } : Jvm.MethodName)) ∈ lw_tbl := lw_at lw_m7 97 rfl
theorem q1643 : (Jvm.Cond.instanceMethod ({ cls := "TalkingPlotsModel", name := "isWith", desc := "(I)I" } : Jvm.MethodName)) ∈ lw_all := lw_g (lw_at lw_m7 98 rfl) rfl
theorem q1644 : (Jvm.Cond.code ({ cls := "TalkingPlotsModel", name := "isWith", desc := "(I)I" } : Jvm.MethodName) prog_20_method_83_code (6 : Nat) (Option.some Jvm.ClassFile.FieldType.int)) ∈ lw_all := lw_g (lw_at lw_m7 99 rfl) rfl
theorem q1646 : (Jvm.Cond.instanceMethod ({ cls := "TalkingPlotsModel", name := "heard", desc := "(II)I" } : Jvm.MethodName)) ∈ lw_all := lw_g (lw_at lw_m7 101 rfl) rfl
theorem q1647 : (Jvm.Cond.selects "TalkingPlotsModel" ({ cls := "TalkingPlotsModel", name := "heard", desc := "(II)I" } : Jvm.MethodName) ({ cls := "TalkingPlotsModel", name := "heard", desc := "(II)I" } : Jvm.MethodName)) ∈ lw_all := lw_g (lw_at lw_m7 102 rfl) rfl
theorem q1648 : (Jvm.Cond.code ({ cls := "TalkingPlotsModel", name := "heard", desc := "(II)I" } : Jvm.MethodName) prog_20_method_86_code (5 : Nat) (Option.some Jvm.ClassFile.FieldType.int)) ∈ lw_all := lw_g (lw_at lw_m7 103 rfl) rfl
theorem q1649 : (Jvm.Cond.methodLink "TalkingPlotsModel" (374 : Nat) ({ cls := "TalkingPlotsModel", name := "andBeside", desc := "(I)I" } : Jvm.MethodName)) ∈ lw_all := lw_g (lw_at lw_m7 104 rfl) rfl
theorem q1650 : (Jvm.Cond.privateMethod ({ cls := "TalkingPlotsModel", name := "andBeside", desc := "(I)I" } : Jvm.MethodName)) ∈ lw_tbl := lw_at lw_m7 105 rfl
theorem q1651 : (Jvm.Cond.instanceMethod ({ cls := "TalkingPlotsModel", name := "andBeside", desc := "(I)I" } : Jvm.MethodName)) ∈ lw_all := lw_g (lw_at lw_m7 106 rfl) rfl
theorem q1652 : (Jvm.Cond.code ({ cls := "TalkingPlotsModel", name := "andBeside", desc := "(I)I" } : Jvm.MethodName) prog_20_method_85_code (4 : Nat) (Option.some Jvm.ClassFile.FieldType.int)) ∈ lw_all := lw_g (lw_at lw_m7 107 rfl) rfl
theorem q1654 : (Jvm.Cond.instanceMethod ({ cls := "TalkingPlotsModel", name := "circles", desc := "(I)I" } : Jvm.MethodName)) ∈ lw_all := lw_g (lw_at lw_m7 109 rfl) rfl
theorem q1655 : (Jvm.Cond.selects "TalkingPlotsModel" ({ cls := "TalkingPlotsModel", name := "circles", desc := "(I)I" } : Jvm.MethodName) ({ cls := "TalkingPlotsModel", name := "circles", desc := "(I)I" } : Jvm.MethodName)) ∈ lw_all := lw_g (lw_at lw_m7 110 rfl) rfl
theorem q1656 : (Jvm.Cond.code ({ cls := "TalkingPlotsModel", name := "circles", desc := "(I)I" } : Jvm.MethodName) prog_20_method_88_code (5 : Nat) (Option.some Jvm.ClassFile.FieldType.int)) ∈ lw_all := lw_g (lw_at lw_m7 111 rfl) rfl
theorem q1657 : (Jvm.Cond.methodLink "TalkingPlotsModel" (377 : Nat) ({ cls := "TalkingPlotsModel", name := "circleOf", desc := "(I)I" } : Jvm.MethodName)) ∈ lw_all := lw_g (lw_at lw_m7 112 rfl) rfl
theorem q1658 : (Jvm.Cond.privateMethod ({ cls := "TalkingPlotsModel", name := "circleOf", desc := "(I)I" } : Jvm.MethodName)) ∈ lw_tbl := lw_at lw_m7 113 rfl
theorem q1659 : (Jvm.Cond.instanceMethod ({ cls := "TalkingPlotsModel", name := "circleOf", desc := "(I)I" } : Jvm.MethodName)) ∈ lw_all := lw_g (lw_at lw_m7 114 rfl) rfl
theorem q1660 : (Jvm.Cond.code ({ cls := "TalkingPlotsModel", name := "circleOf", desc := "(I)I" } : Jvm.MethodName) prog_20_method_87_code (3 : Nat) (Option.some Jvm.ClassFile.FieldType.int)) ∈ lw_all := lw_g (lw_at lw_m7 115 rfl) rfl
theorem q1661 : (Jvm.Cond.methodLink "TalkingPlotsModel" (380 : Nat) ({ cls := "TalkingPlotsModel", name := "laidSet", desc := "()I" } : Jvm.MethodName)) ∈ lw_all := lw_g (lw_at lw_m7 116 rfl) rfl
theorem q1662 : (Jvm.Cond.privateMethod ({ cls := "TalkingPlotsModel", name := "laidSet", desc := "()I" } : Jvm.MethodName)) ∈ lw_tbl := lw_at lw_m7 117 rfl
theorem q1663 : (Jvm.Cond.instanceMethod ({ cls := "TalkingPlotsModel", name := "laidSet", desc := "()I" } : Jvm.MethodName)) ∈ lw_all := lw_g (lw_at lw_m7 118 rfl) rfl
theorem q1664 : (Jvm.Cond.code ({ cls := "TalkingPlotsModel", name := "laidSet", desc := "()I" } : Jvm.MethodName) prog_20_method_12_code (3 : Nat) (Option.some Jvm.ClassFile.FieldType.int)) ∈ lw_all := lw_g (lw_at lw_m7 119 rfl) rfl
theorem q1666 : (Jvm.Cond.instanceMethod ({ cls := "TalkingPlotsModel", name := "from", desc := "(II)I" } : Jvm.MethodName)) ∈ lw_all := lw_g (lw_at lw_m7 121 rfl) rfl
theorem q1667 : (Jvm.Cond.selects "TalkingPlotsModel" ({ cls := "TalkingPlotsModel", name := "from", desc := "(II)I" } : Jvm.MethodName) ({ cls := "TalkingPlotsModel", name := "from", desc := "(II)I" } : Jvm.MethodName)) ∈ lw_all := lw_g (lw_at lw_m7 122 rfl) rfl
theorem q1668 : (Jvm.Cond.code ({ cls := "TalkingPlotsModel", name := "from", desc := "(II)I" } : Jvm.MethodName) prog_20_method_89_code (5 : Nat) (Option.some Jvm.ClassFile.FieldType.int)) ∈ lw_all := lw_g (lw_at lw_m7 123 rfl) rfl
theorem q1670 : (Jvm.Cond.instanceMethod ({ cls := "TalkingPlotsModel", name := "thread", desc := "(II)I" } : Jvm.MethodName)) ∈ lw_all := lw_g (lw_at lw_m7 125 rfl) rfl
theorem q1671 : (Jvm.Cond.selects "TalkingPlotsModel" ({ cls := "TalkingPlotsModel", name := "thread", desc := "(II)I" } : Jvm.MethodName) ({ cls := "TalkingPlotsModel", name := "thread", desc := "(II)I" } : Jvm.MethodName)) ∈ lw_all := lw_g (lw_at lw_m7 126 rfl) rfl
theorem q1672 : (Jvm.Cond.code ({ cls := "TalkingPlotsModel", name := "thread", desc := "(II)I" } : Jvm.MethodName) prog_20_method_91_code (7 : Nat) (Option.some Jvm.ClassFile.FieldType.int)) ∈ lw_all := lw_g (lw_at lw_m7 127 rfl) rfl
theorem q1673 : (Jvm.Cond.methodLink "TalkingPlotsModel" (386 : Nat) ({ cls := "TalkingPlotsModel", name := "sayingOf", desc := "(I)I" } : Jvm.MethodName)) ∈ lw_all := lw_g (lw_at lw_m7 128 rfl) rfl
theorem q1674 : (Jvm.Cond.privateMethod ({ cls := "TalkingPlotsModel", name := "sayingOf", desc := "(I)I" } : Jvm.MethodName)) ∈ lw_tbl := lw_at lw_m7 129 rfl
theorem q1675 : (Jvm.Cond.instanceMethod ({ cls := "TalkingPlotsModel", name := "sayingOf", desc := "(I)I" } : Jvm.MethodName)) ∈ lw_all := lw_g (lw_at lw_m7 130 rfl) rfl
theorem q1676 : (Jvm.Cond.code ({ cls := "TalkingPlotsModel", name := "sayingOf", desc := "(I)I" } : Jvm.MethodName) prog_20_method_90_code (2 : Nat) (Option.some Jvm.ClassFile.FieldType.int)) ∈ lw_all := lw_g (lw_at lw_m7 131 rfl) rfl
theorem q1677 : (Jvm.Cond.methodLink "TalkingPlotsModel" (383 : Nat) ({ cls := "TalkingPlotsModel", name := "octet", desc := "(I)I" } : Jvm.MethodName)) ∈ lw_all := lw_g (lw_at lw_m7 132 rfl) rfl
theorem q1678 : (Jvm.Cond.privateMethod ({ cls := "TalkingPlotsModel", name := "octet", desc := "(I)I" } : Jvm.MethodName)) ∈ lw_tbl := lw_at lw_m7 133 rfl
theorem q1679 : (Jvm.Cond.instanceMethod ({ cls := "TalkingPlotsModel", name := "octet", desc := "(I)I" } : Jvm.MethodName)) ∈ lw_all := lw_g (lw_at lw_m7 134 rfl) rfl
theorem q1680 : (Jvm.Cond.code ({ cls := "TalkingPlotsModel", name := "octet", desc := "(I)I" } : Jvm.MethodName) prog_20_method_22_code (2 : Nat) (Option.some Jvm.ClassFile.FieldType.int)) ∈ lw_all := lw_g (lw_at lw_m7 135 rfl) rfl
theorem q1682 : (Jvm.Cond.instanceMethod ({ cls := "TalkingPlotsModel", name := "good", desc := "(II)I" } : Jvm.MethodName)) ∈ lw_all := lw_g (lw_at lw_m7 137 rfl) rfl
theorem q1683 : (Jvm.Cond.selects "TalkingPlotsModel" ({ cls := "TalkingPlotsModel", name := "good", desc := "(II)I" } : Jvm.MethodName) ({ cls := "TalkingPlotsModel", name := "good", desc := "(II)I" } : Jvm.MethodName)) ∈ lw_all := lw_g (lw_at lw_m7 138 rfl) rfl
theorem q1684 : (Jvm.Cond.code ({ cls := "TalkingPlotsModel", name := "good", desc := "(II)I" } : Jvm.MethodName) prog_20_method_92_code (10 : Nat) (Option.some Jvm.ClassFile.FieldType.int)) ∈ lw_all := lw_g (lw_at lw_m7 139 rfl) rfl
theorem q1686 : (Jvm.Cond.instanceMethod ({ cls := "TalkingPlotsModel", name := "silent", desc := "(I)I" } : Jvm.MethodName)) ∈ lw_all := lw_g (lw_at lw_m7 141 rfl) rfl
theorem q1687 : (Jvm.Cond.selects "TalkingPlotsModel" ({ cls := "TalkingPlotsModel", name := "silent", desc := "(I)I" } : Jvm.MethodName) ({ cls := "TalkingPlotsModel", name := "silent", desc := "(I)I" } : Jvm.MethodName)) ∈ lw_all := lw_g (lw_at lw_m7 142 rfl) rfl
theorem q1688 : (Jvm.Cond.code ({ cls := "TalkingPlotsModel", name := "silent", desc := "(I)I" } : Jvm.MethodName) prog_20_method_95_code (6 : Nat) (Option.some Jvm.ClassFile.FieldType.int)) ∈ lw_all := lw_g (lw_at lw_m7 143 rfl) rfl
theorem q1689 : (Jvm.Cond.methodLink "TalkingPlotsModel" (389 : Nat) ({ cls := "TalkingPlotsModel", name := "walksFrom", desc := "(I)I" } : Jvm.MethodName)) ∈ lw_all := lw_g (lw_at lw_m7 144 rfl) rfl
theorem q1690 : (Jvm.Cond.privateMethod ({ cls := "TalkingPlotsModel", name := "walksFrom", desc := "(I)I" } : Jvm.MethodName)) ∈ lw_tbl := lw_at lw_m7 145 rfl
theorem q1691 : (Jvm.Cond.instanceMethod ({ cls := "TalkingPlotsModel", name := "walksFrom", desc := "(I)I" } : Jvm.MethodName)) ∈ lw_all := lw_g (lw_at lw_m7 146 rfl) rfl
theorem q1692 : (Jvm.Cond.code ({ cls := "TalkingPlotsModel", name := "walksFrom", desc := "(I)I" } : Jvm.MethodName) prog_20_method_93_code (5 : Nat) (Option.some Jvm.ClassFile.FieldType.int)) ∈ lw_all := lw_g (lw_at lw_m7 147 rfl) rfl
theorem q1693 : (Jvm.Cond.methodLink "TalkingPlotsModel" (392 : Nat) ({ cls := "TalkingPlotsModel", name := "isSilent", desc := "(I)Z" } : Jvm.MethodName)) ∈ lw_all := lw_g (lw_at lw_m7 148 rfl) rfl
theorem q1694 : (Jvm.Cond.privateMethod ({ cls := "TalkingPlotsModel", name := "isSilent", desc := "(I)Z" } : Jvm.MethodName)) ∈ lw_tbl := lw_at lw_m7 149 rfl
theorem q1695 : (Jvm.Cond.instanceMethod ({ cls := "TalkingPlotsModel", name := "isSilent", desc := "(I)Z" } : Jvm.MethodName)) ∈ lw_all := lw_g (lw_at lw_m7 150 rfl) rfl
theorem q1696 : (Jvm.Cond.code ({ cls := "TalkingPlotsModel", name := "isSilent", desc := "(I)Z" } : Jvm.MethodName) prog_20_method_94_code (3 : Nat) (Option.some Jvm.ClassFile.FieldType.boolean)) ∈ lw_all := lw_g (lw_at lw_m7 151 rfl) rfl
theorem q1698 : (Jvm.Cond.instanceMethod ({ cls := "TalkingPlotsModel", name := "visit", desc := "(I)I" } : Jvm.MethodName)) ∈ lw_all := lw_g (lw_at lw_m7 153 rfl) rfl
theorem q1699 : (Jvm.Cond.selects "TalkingPlotsModel" ({ cls := "TalkingPlotsModel", name := "visit", desc := "(I)I" } : Jvm.MethodName) ({ cls := "TalkingPlotsModel", name := "visit", desc := "(I)I" } : Jvm.MethodName)) ∈ lw_all := lw_g (lw_at lw_m7 154 rfl) rfl
theorem q1700 : (Jvm.Cond.code ({ cls := "TalkingPlotsModel", name := "visit", desc := "(I)I" } : Jvm.MethodName) prog_20_method_97_code (2 : Nat) (Option.some Jvm.ClassFile.FieldType.int)) ∈ lw_all := lw_g (lw_at lw_m7 155 rfl) rfl
theorem q1701 : (Jvm.Cond.methodLink "TalkingPlotsModel" (395 : Nat) ({ cls := "TalkingPlotsModel", name := "stepsBeside", desc := "(I)I" } : Jvm.MethodName)) ∈ lw_all := lw_g (lw_at lw_m7 156 rfl) rfl
theorem q1702 : (Jvm.Cond.privateMethod ({ cls := "TalkingPlotsModel", name := "stepsBeside", desc := "(I)I" } : Jvm.MethodName)) ∈ lw_tbl := lw_at lw_m7 157 rfl
theorem q1703 : (Jvm.Cond.instanceMethod ({ cls := "TalkingPlotsModel", name := "stepsBeside", desc := "(I)I" } : Jvm.MethodName)) ∈ lw_all := lw_g (lw_at lw_m7 158 rfl) rfl
theorem q1704 : (Jvm.Cond.code ({ cls := "TalkingPlotsModel", name := "stepsBeside", desc := "(I)I" } : Jvm.MethodName) prog_20_method_96_code (4 : Nat) (Option.some Jvm.ClassFile.FieldType.int)) ∈ lw_all := lw_g (lw_at lw_m7 159 rfl) rfl
theorem q1706 : (Jvm.Cond.instanceMethod ({ cls := "TalkingPlotsModel", name := "visited", desc := "()I" } : Jvm.MethodName)) ∈ lw_all := lw_g (lw_at lw_m7 161 rfl) rfl
theorem q1707 : (Jvm.Cond.selects "TalkingPlotsModel" ({ cls := "TalkingPlotsModel", name := "visited", desc := "()I" } : Jvm.MethodName) ({ cls := "TalkingPlotsModel", name := "visited", desc := "()I" } : Jvm.MethodName)) ∈ lw_all := lw_g (lw_at lw_m7 162 rfl) rfl
theorem q1708 : (Jvm.Cond.code ({ cls := "TalkingPlotsModel", name := "visited", desc := "()I" } : Jvm.MethodName) prog_20_method_98_code (3 : Nat) (Option.some Jvm.ClassFile.FieldType.int)) ∈ lw_all := lw_g (lw_at lw_m7 163 rfl) rfl
theorem q1710 : (Jvm.Cond.instanceMethod ({ cls := "TalkingPlotsModel", name := "alike", desc := "(II)I" } : Jvm.MethodName)) ∈ lw_all := lw_g (lw_at lw_m7 165 rfl) rfl
theorem q1711 : (Jvm.Cond.selects "TalkingPlotsModel" ({ cls := "TalkingPlotsModel", name := "alike", desc := "(II)I" } : Jvm.MethodName) ({ cls := "TalkingPlotsModel", name := "alike", desc := "(II)I" } : Jvm.MethodName)) ∈ lw_all := lw_g (lw_at lw_m7 166 rfl) rfl
theorem q1712 : (Jvm.Cond.code ({ cls := "TalkingPlotsModel", name := "alike", desc := "(II)I" } : Jvm.MethodName) prog_20_method_99_code (7 : Nat) (Option.some Jvm.ClassFile.FieldType.int)) ∈ lw_all := lw_g (lw_at lw_m7 167 rfl) rfl
theorem q1714 : (Jvm.Cond.instanceMethod ({ cls := "TalkingPlotsModel", name := "seed", desc := "(I)Z" } : Jvm.MethodName)) ∈ lw_all := lw_g (lw_at lw_m7 169 rfl) rfl
theorem q1715 : (Jvm.Cond.selects "TalkingPlotsModel" ({ cls := "TalkingPlotsModel", name := "seed", desc := "(I)Z" } : Jvm.MethodName) ({ cls := "TalkingPlotsModel", name := "seed", desc := "(I)Z" } : Jvm.MethodName)) ∈ lw_all := lw_g (lw_at lw_m7 170 rfl) rfl
theorem q1716 : (Jvm.Cond.code ({ cls := "TalkingPlotsModel", name := "seed", desc := "(I)Z" } : Jvm.MethodName) prog_20_method_100_code (2 : Nat) (Option.some Jvm.ClassFile.FieldType.boolean)) ∈ lw_all := lw_g (lw_at lw_m7 171 rfl) rfl
theorem q1718 : (Jvm.Cond.instanceMethod ({ cls := "TalkingPlotsModel", name := "keep", desc := "()I" } : Jvm.MethodName)) ∈ lw_all := lw_g (lw_at lw_m7 173 rfl) rfl
theorem q1719 : (Jvm.Cond.selects "TalkingPlotsModel" ({ cls := "TalkingPlotsModel", name := "keep", desc := "()I" } : Jvm.MethodName) ({ cls := "TalkingPlotsModel", name := "keep", desc := "()I" } : Jvm.MethodName)) ∈ lw_all := lw_g (lw_at lw_m7 174 rfl) rfl
theorem q1720 : (Jvm.Cond.code ({ cls := "TalkingPlotsModel", name := "keep", desc := "()I" } : Jvm.MethodName) prog_20_method_101_code (1 : Nat) (Option.some Jvm.ClassFile.FieldType.int)) ∈ lw_all := lw_g (lw_at lw_m7 175 rfl) rfl
theorem q1722 : (Jvm.Cond.instanceMethod ({ cls := "TalkingPlotsModel", name := "undo", desc := "()Z" } : Jvm.MethodName)) ∈ lw_all := lw_g (lw_at lw_m7 177 rfl) rfl
theorem q1723 : (Jvm.Cond.selects "TalkingPlotsModel" ({ cls := "TalkingPlotsModel", name := "undo", desc := "()Z" } : Jvm.MethodName) ({ cls := "TalkingPlotsModel", name := "undo", desc := "()Z" } : Jvm.MethodName)) ∈ lw_all := lw_g (lw_at lw_m7 178 rfl) rfl
theorem q1724 : (Jvm.Cond.code ({ cls := "TalkingPlotsModel", name := "undo", desc := "()Z" } : Jvm.MethodName) prog_20_method_102_code (1 : Nat) (Option.some Jvm.ClassFile.FieldType.boolean)) ∈ lw_all := lw_g (lw_at lw_m7 179 rfl) rfl
theorem q1726 : (Jvm.Cond.instanceMethod ({ cls := "TalkingPlotsModel", name := "check", desc := "(I)I" } : Jvm.MethodName)) ∈ lw_all := lw_g (lw_at lw_m7 181 rfl) rfl
theorem q1727 : (Jvm.Cond.selects "TalkingPlotsModel" ({ cls := "TalkingPlotsModel", name := "check", desc := "(I)I" } : Jvm.MethodName) ({ cls := "TalkingPlotsModel", name := "check", desc := "(I)I" } : Jvm.MethodName)) ∈ lw_all := lw_g (lw_at lw_m7 182 rfl) rfl
theorem q1728 : (Jvm.Cond.code ({ cls := "TalkingPlotsModel", name := "check", desc := "(I)I" } : Jvm.MethodName) prog_20_method_103_code (3 : Nat) (Option.some Jvm.ClassFile.FieldType.int)) ∈ lw_all := lw_g (lw_at lw_m7 183 rfl) rfl
theorem q1730 : (Jvm.Cond.instanceMethod ({ cls := "TalkingPlotsModel", name := "count", desc := "(I)I" } : Jvm.MethodName)) ∈ lw_all := lw_g (lw_at lw_m7 185 rfl) rfl
theorem q1731 : (Jvm.Cond.selects "TalkingPlotsModel" ({ cls := "TalkingPlotsModel", name := "count", desc := "(I)I" } : Jvm.MethodName) ({ cls := "TalkingPlotsModel", name := "count", desc := "(I)I" } : Jvm.MethodName)) ∈ lw_all := lw_g (lw_at lw_m7 186 rfl) rfl
theorem q1732 : (Jvm.Cond.code ({ cls := "TalkingPlotsModel", name := "count", desc := "(I)I" } : Jvm.MethodName) prog_20_method_104_code (4 : Nat) (Option.some Jvm.ClassFile.FieldType.int)) ∈ lw_all := lw_g (lw_at lw_m7 187 rfl) rfl
theorem in_X6 : ∀ w ∈ wsX60, w ∈ lw_all := lw_in wsX60 [1227, 1229, 1231, 1233, 1235, 1237, 1239, 1241, 1243, 1245, 1247, 1249, 1251, 1253, 1255, 1257, 1259, 1261, 1263, 1265, 1267, 1269, 1271, 1273, 1275, 1277, 1279, 1281, 1283, 1285, 1287, 1289, 1291, 1293, 1295, 1297, 1299, 1301, 1303, 1305, 1307, 1309, 1311, 1313, 1315, 1317, 1319, 1321, 1323, 1325] (by decide +kernel) (by decide +kernel)
