/-! LostroomModel -/
set_option maxRecDepth 100000
def RX2 : String := "LostroomModel"
def TX2 : u_T := fun k => match k with
  | 0 => ("LostroomModel", "thrown", "I", false)
  | 1 => ("LostroomModel", "today", "I", false)
  | 2 => ("LostroomModel", "nears", "[I", true)
  | 3 => ("LostroomModel", "alikes", "[I", true)
  | 4 => ("LostroomModel", "terms", "[I", true)
  | 5 => ("LostroomModel", "rates", "[I", true)
  | 6 => ("LostroomModel", "stops", "[I", true)
  | 7 => ("LostroomModel", "threshold", "I", false)
  | 8 => ("LostroomModel", "finds", "I", false)
  | 9 => ("LostroomModel", "kinds", "[I", true)
  | 10 => ("LostroomModel", "places", "[I", true)
  | 11 => ("LostroomModel", "days", "[I", true)
  | 12 => ("LostroomModel", "words", "[I", true)
  | 13 => ("LostroomModel", "secrets", "[I", true)
  | 14 => ("LostroomModel", "values", "[I", true)
  | 15 => ("LostroomModel", "states", "[I", true)
  | 16 => ("LostroomModel", "rooms", "[I", true)
  | 17 => ("LostroomModel", "goesTo", "[I", true)
  | 18 => ("LostroomModel", "lasts", "[I", true)
  | 19 => ("LostroomModel", "areHeld", "[Z", true)
  | 20 => ("LostroomModel", "prices", "[I", true)
  | 21 => ("LostroomModel", "soldOn", "[I", true)
  | 22 => ("LostroomModel", "handMany", "[I", true)
  | 23 => ("LostroomModel", "handRoom", "[I", true)
  | 24 => ("LostroomModel", "handDay", "[I", true)
  | 25 => ("LostroomModel", "claims", "I", false)
  | 26 => ("LostroomModel", "claimKind", "[I", true)
  | 27 => ("LostroomModel", "claimPlace", "[I", true)
  | 28 => ("LostroomModel", "froms", "[I", true)
  | 29 => ("LostroomModel", "tos", "[I", true)
  | 30 => ("LostroomModel", "said", "[I", true)
  | 31 => ("LostroomModel", "tolds", "[I", true)
  | 32 => ("LostroomModel", "claimState", "[I", true)
  | 33 => ("LostroomModel", "endedOn", "[I", true)
  | 34 => ("LostroomModel", "servedBy", "[I", true)
  | 35 => ("LostroomModel", "fees", "I", false)
  | 36 => ("LostroomModel", "rewards", "I", false)
  | _ => ("LostroomModel", "proceeds", "I", false)
def tyX2 : Nat → FieldType := fun k => match k with
  | 0 => .int
  | 1 => .int
  | 2 => .array .int
  | 3 => .array .int
  | 4 => .array .int
  | 5 => .array .int
  | 6 => .array .int
  | 7 => .int
  | 8 => .int
  | 9 => .array .int
  | 10 => .array .int
  | 11 => .array .int
  | 12 => .array .int
  | 13 => .array .int
  | 14 => .array .int
  | 15 => .array .int
  | 16 => .array .int
  | 17 => .array .int
  | 18 => .array .int
  | 19 => .array .boolean
  | 20 => .array .int
  | 21 => .array .int
  | 22 => .array .int
  | 23 => .array .int
  | 24 => .array .int
  | 25 => .int
  | 26 => .array .int
  | 27 => .array .int
  | 28 => .array .int
  | 29 => .array .int
  | 30 => .array .int
  | 31 => .array .int
  | 32 => .array .int
  | 33 => .array .int
  | 34 => .array .int
  | 35 => .int
  | 36 => .int
  | _ => .int
abbrev wsX20 : List Cond := u_ws RX2 TX2 38
set_option maxRecDepth 100000 in
theorem nmX2 : ∀ a, a < 38 → ∀ b, b < 38 → a ≠ b → (TX2 a).2.1 ≠ (TX2 b).2.1 := by decide +kernel
set_option maxRecDepth 100000 in
theorem tyX2_ok : ∀ k, k < 38 → parseFieldDescriptor (TX2 k).2.2.1 = some (tyX2 k) := by decide +kernel
abbrev cX2_init : ByteArray := prog_6_method_1_code
def yX2_init : MethodName := ⟨RX2, "<init>", "()V"⟩
def dkwX2_init_11 : List UInt8 := [180, 0, 16, 27, 16, 60, 79, 132, 1, 1, 167, 255, 239, 177]
abbrev dktX2_init_11 : List UInt8 := dkwX2_init_11 ++ []
def dkwX2_init_10 : List UInt8 := [16, 20, 188, 10, 181, 0, 99, 42, 16, 20, 188, 10, 181, 0, 102, 3, 60, 27, 16, 8, 162, 0, 17, 42]
abbrev dktX2_init_10 : List UInt8 := dkwX2_init_10 ++ dktX2_init_11
def dkwX2_init_9 : List UInt8 := [16, 20, 188, 10, 181, 0, 90, 42, 16, 20, 188, 10, 181, 0, 93, 42, 16, 20, 188, 10, 181, 0, 96, 42]
abbrev dktX2_init_9 : List UInt8 := dkwX2_init_9 ++ dktX2_init_10
def dkwX2_init_8 : List UInt8 := [16, 20, 188, 10, 181, 0, 81, 42, 16, 20, 188, 10, 181, 0, 84, 42, 16, 20, 188, 10, 181, 0, 87, 42]
abbrev dktX2_init_8 : List UInt8 := dkwX2_init_8 ++ dktX2_init_9
def dkwX2_init_7 : List UInt8 := [188, 10, 181, 0, 72, 42, 17, 1, 104, 188, 10, 181, 0, 75, 42, 16, 20, 188, 10, 181, 0, 78, 42]
abbrev dktX2_init_7 : List UInt8 := dkwX2_init_7 ++ dktX2_init_8
def dkwX2_init_6 : List UInt8 := [181, 0, 63, 42, 16, 30, 188, 10, 181, 0, 66, 42, 16, 30, 188, 10, 181, 0, 69, 42, 17, 1, 104]
abbrev dktX2_init_6 : List UInt8 := dkwX2_init_6 ++ dktX2_init_7
def dkwX2_init_5 : List UInt8 := [181, 0, 53, 42, 16, 30, 188, 10, 181, 0, 56, 42, 16, 30, 188, 4, 181, 0, 59, 42, 16, 30, 188, 10]
abbrev dktX2_init_5 : List UInt8 := dkwX2_init_5 ++ dktX2_init_6
def dkwX2_init_4 : List UInt8 := [181, 0, 44, 42, 16, 30, 188, 10, 181, 0, 47, 42, 16, 30, 188, 10, 181, 0, 50, 42, 16, 30, 188, 10]
abbrev dktX2_init_4 : List UInt8 := dkwX2_init_4 ++ dktX2_init_5
def dkwX2_init_3 : List UInt8 := [181, 0, 35, 42, 16, 30, 188, 10, 181, 0, 38, 42, 16, 30, 188, 10, 181, 0, 41, 42, 16, 30, 188, 10]
abbrev dktX2_init_3 : List UInt8 := dkwX2_init_3 ++ dktX2_init_4
def dkwX2_init_2 : List UInt8 := [181, 0, 25, 42, 16, 30, 188, 10, 181, 0, 29, 42, 16, 30, 188, 10, 181, 0, 32, 42, 16, 30, 188, 10]
abbrev dktX2_init_2 : List UInt8 := dkwX2_init_2 ++ dktX2_init_3
def dkwX2_init_1 : List UInt8 := [188, 10, 181, 0, 16, 42, 16, 8, 188, 10, 181, 0, 19, 42, 7, 188, 10, 181, 0, 22, 42, 16, 50]
abbrev dktX2_init_1 : List UInt8 := dkwX2_init_1 ++ dktX2_init_2
def dkwX2_init_0 : List UInt8 := [42, 183, 0, 1, 42, 16, 24, 188, 10, 181, 0, 7, 42, 16, 8, 188, 10, 181, 0, 13, 42, 16, 8]
abbrev dktX2_init_0 : List UInt8 := dkwX2_init_0 ++ dktX2_init_1
theorem dksX2_init_0 : cX2_init.data.toList.drop 0 = dktX2_init_0 := by decide +kernel
theorem dksX2_init_1 : cX2_init.data.toList.drop 23 = dktX2_init_1 := dk_seg dksX2_init_0 23 rfl rfl
theorem dksX2_init_2 : cX2_init.data.toList.drop 46 = dktX2_init_2 := dk_seg dksX2_init_1 23 rfl rfl
theorem dksX2_init_3 : cX2_init.data.toList.drop 70 = dktX2_init_3 := dk_seg dksX2_init_2 24 rfl rfl
theorem dksX2_init_4 : cX2_init.data.toList.drop 94 = dktX2_init_4 := dk_seg dksX2_init_3 24 rfl rfl
theorem dksX2_init_5 : cX2_init.data.toList.drop 118 = dktX2_init_5 := dk_seg dksX2_init_4 24 rfl rfl
theorem dksX2_init_6 : cX2_init.data.toList.drop 142 = dktX2_init_6 := dk_seg dksX2_init_5 24 rfl rfl
theorem dksX2_init_7 : cX2_init.data.toList.drop 165 = dktX2_init_7 := dk_seg dksX2_init_6 23 rfl rfl
theorem dksX2_init_8 : cX2_init.data.toList.drop 188 = dktX2_init_8 := dk_seg dksX2_init_7 23 rfl rfl
theorem dksX2_init_9 : cX2_init.data.toList.drop 212 = dktX2_init_9 := dk_seg dksX2_init_8 24 rfl rfl
theorem dksX2_init_10 : cX2_init.data.toList.drop 236 = dktX2_init_10 := dk_seg dksX2_init_9 24 rfl rfl
theorem dksX2_init_11 : cX2_init.data.toList.drop 260 = dktX2_init_11 := dk_seg dksX2_init_10 24 rfl rfl
theorem dX2_init_0 : decode cX2_init 0 = .ok (.aload_n 0, 1) := dk_42 (dk_at dksX2_init_0 0 rfl rfl)
theorem dX2_init_1 : decode cX2_init 1 = .ok (.invokespecial 1, 3) := dk_183 0 1 (dk_at dksX2_init_0 1 rfl rfl)
theorem dX2_init_4 : decode cX2_init 4 = .ok (.aload_n 0, 1) := dk_42 (dk_at dksX2_init_0 4 rfl rfl)
theorem dX2_init_5 : decode cX2_init 5 = .ok (.bipush 24, 2) := dk_16 24 (dk_at dksX2_init_0 5 rfl rfl)
theorem dX2_init_7 : decode cX2_init 7 = .ok (.newarray .int, 2) := dk_188_10 (dk_at dksX2_init_0 7 rfl rfl)
theorem dX2_init_9 : decode cX2_init 9 = .ok (.putfield 7, 3) := dk_181 0 7 (dk_at dksX2_init_0 9 rfl rfl)
theorem dX2_init_12 : decode cX2_init 12 = .ok (.aload_n 0, 1) := dk_42 (dk_at dksX2_init_0 12 rfl rfl)
theorem dX2_init_13 : decode cX2_init 13 = .ok (.bipush 8, 2) := dk_16 8 (dk_at dksX2_init_0 13 rfl rfl)
theorem dX2_init_15 : decode cX2_init 15 = .ok (.newarray .int, 2) := dk_188_10 (dk_at dksX2_init_0 15 rfl rfl)
theorem dX2_init_17 : decode cX2_init 17 = .ok (.putfield 13, 3) := dk_181 0 13 (dk_at dksX2_init_0 17 rfl rfl)
theorem dX2_init_20 : decode cX2_init 20 = .ok (.aload_n 0, 1) := dk_42 (dk_at dksX2_init_0 20 rfl rfl)
theorem dX2_init_21 : decode cX2_init 21 = .ok (.bipush 8, 2) := dk_16 8 (dk_at dksX2_init_0 21 rfl rfl)
theorem dX2_init_23 : decode cX2_init 23 = .ok (.newarray .int, 2) := dk_188_10 (dk_at dksX2_init_1 0 rfl rfl)
theorem dX2_init_25 : decode cX2_init 25 = .ok (.putfield 16, 3) := dk_181 0 16 (dk_at dksX2_init_1 2 rfl rfl)
theorem dX2_init_28 : decode cX2_init 28 = .ok (.aload_n 0, 1) := dk_42 (dk_at dksX2_init_1 5 rfl rfl)
theorem dX2_init_29 : decode cX2_init 29 = .ok (.bipush 8, 2) := dk_16 8 (dk_at dksX2_init_1 6 rfl rfl)
theorem dX2_init_31 : decode cX2_init 31 = .ok (.newarray .int, 2) := dk_188_10 (dk_at dksX2_init_1 8 rfl rfl)
theorem dX2_init_33 : decode cX2_init 33 = .ok (.putfield 19, 3) := dk_181 0 19 (dk_at dksX2_init_1 10 rfl rfl)
theorem dX2_init_36 : decode cX2_init 36 = .ok (.aload_n 0, 1) := dk_42 (dk_at dksX2_init_1 13 rfl rfl)
theorem dX2_init_37 : decode cX2_init 37 = .ok (.iconst 4, 1) := dk_7 (dk_at dksX2_init_1 14 rfl rfl)
theorem dX2_init_38 : decode cX2_init 38 = .ok (.newarray .int, 2) := dk_188_10 (dk_at dksX2_init_1 15 rfl rfl)
theorem dX2_init_40 : decode cX2_init 40 = .ok (.putfield 22, 3) := dk_181 0 22 (dk_at dksX2_init_1 17 rfl rfl)
theorem dX2_init_43 : decode cX2_init 43 = .ok (.aload_n 0, 1) := dk_42 (dk_at dksX2_init_1 20 rfl rfl)
theorem dX2_init_44 : decode cX2_init 44 = .ok (.bipush 50, 2) := dk_16 50 (dk_at dksX2_init_1 21 rfl rfl)
theorem dX2_init_46 : decode cX2_init 46 = .ok (.putfield 25, 3) := dk_181 0 25 (dk_at dksX2_init_2 0 rfl rfl)
theorem dX2_init_49 : decode cX2_init 49 = .ok (.aload_n 0, 1) := dk_42 (dk_at dksX2_init_2 3 rfl rfl)
theorem dX2_init_50 : decode cX2_init 50 = .ok (.bipush 30, 2) := dk_16 30 (dk_at dksX2_init_2 4 rfl rfl)
theorem dX2_init_52 : decode cX2_init 52 = .ok (.newarray .int, 2) := dk_188_10 (dk_at dksX2_init_2 6 rfl rfl)
theorem dX2_init_54 : decode cX2_init 54 = .ok (.putfield 29, 3) := dk_181 0 29 (dk_at dksX2_init_2 8 rfl rfl)
theorem dX2_init_57 : decode cX2_init 57 = .ok (.aload_n 0, 1) := dk_42 (dk_at dksX2_init_2 11 rfl rfl)
theorem dX2_init_58 : decode cX2_init 58 = .ok (.bipush 30, 2) := dk_16 30 (dk_at dksX2_init_2 12 rfl rfl)
theorem dX2_init_60 : decode cX2_init 60 = .ok (.newarray .int, 2) := dk_188_10 (dk_at dksX2_init_2 14 rfl rfl)
theorem dX2_init_62 : decode cX2_init 62 = .ok (.putfield 32, 3) := dk_181 0 32 (dk_at dksX2_init_2 16 rfl rfl)
theorem dX2_init_65 : decode cX2_init 65 = .ok (.aload_n 0, 1) := dk_42 (dk_at dksX2_init_2 19 rfl rfl)
theorem dX2_init_66 : decode cX2_init 66 = .ok (.bipush 30, 2) := dk_16 30 (dk_at dksX2_init_2 20 rfl rfl)
theorem dX2_init_68 : decode cX2_init 68 = .ok (.newarray .int, 2) := dk_188_10 (dk_at dksX2_init_2 22 rfl rfl)
theorem dX2_init_70 : decode cX2_init 70 = .ok (.putfield 35, 3) := dk_181 0 35 (dk_at dksX2_init_3 0 rfl rfl)
theorem dX2_init_73 : decode cX2_init 73 = .ok (.aload_n 0, 1) := dk_42 (dk_at dksX2_init_3 3 rfl rfl)
theorem dX2_init_74 : decode cX2_init 74 = .ok (.bipush 30, 2) := dk_16 30 (dk_at dksX2_init_3 4 rfl rfl)
theorem dX2_init_76 : decode cX2_init 76 = .ok (.newarray .int, 2) := dk_188_10 (dk_at dksX2_init_3 6 rfl rfl)
theorem dX2_init_78 : decode cX2_init 78 = .ok (.putfield 38, 3) := dk_181 0 38 (dk_at dksX2_init_3 8 rfl rfl)
theorem dX2_init_81 : decode cX2_init 81 = .ok (.aload_n 0, 1) := dk_42 (dk_at dksX2_init_3 11 rfl rfl)
theorem dX2_init_82 : decode cX2_init 82 = .ok (.bipush 30, 2) := dk_16 30 (dk_at dksX2_init_3 12 rfl rfl)
theorem dX2_init_84 : decode cX2_init 84 = .ok (.newarray .int, 2) := dk_188_10 (dk_at dksX2_init_3 14 rfl rfl)
theorem dX2_init_86 : decode cX2_init 86 = .ok (.putfield 41, 3) := dk_181 0 41 (dk_at dksX2_init_3 16 rfl rfl)
theorem dX2_init_89 : decode cX2_init 89 = .ok (.aload_n 0, 1) := dk_42 (dk_at dksX2_init_3 19 rfl rfl)
theorem dX2_init_90 : decode cX2_init 90 = .ok (.bipush 30, 2) := dk_16 30 (dk_at dksX2_init_3 20 rfl rfl)
theorem dX2_init_92 : decode cX2_init 92 = .ok (.newarray .int, 2) := dk_188_10 (dk_at dksX2_init_3 22 rfl rfl)
theorem dX2_init_94 : decode cX2_init 94 = .ok (.putfield 44, 3) := dk_181 0 44 (dk_at dksX2_init_4 0 rfl rfl)
theorem dX2_init_97 : decode cX2_init 97 = .ok (.aload_n 0, 1) := dk_42 (dk_at dksX2_init_4 3 rfl rfl)
theorem dX2_init_98 : decode cX2_init 98 = .ok (.bipush 30, 2) := dk_16 30 (dk_at dksX2_init_4 4 rfl rfl)
theorem dX2_init_100 : decode cX2_init 100 = .ok (.newarray .int, 2) := dk_188_10 (dk_at dksX2_init_4 6 rfl rfl)
theorem dX2_init_102 : decode cX2_init 102 = .ok (.putfield 47, 3) := dk_181 0 47 (dk_at dksX2_init_4 8 rfl rfl)
theorem dX2_init_105 : decode cX2_init 105 = .ok (.aload_n 0, 1) := dk_42 (dk_at dksX2_init_4 11 rfl rfl)
theorem dX2_init_106 : decode cX2_init 106 = .ok (.bipush 30, 2) := dk_16 30 (dk_at dksX2_init_4 12 rfl rfl)
theorem dX2_init_108 : decode cX2_init 108 = .ok (.newarray .int, 2) := dk_188_10 (dk_at dksX2_init_4 14 rfl rfl)
theorem dX2_init_110 : decode cX2_init 110 = .ok (.putfield 50, 3) := dk_181 0 50 (dk_at dksX2_init_4 16 rfl rfl)
theorem dX2_init_113 : decode cX2_init 113 = .ok (.aload_n 0, 1) := dk_42 (dk_at dksX2_init_4 19 rfl rfl)
theorem dX2_init_114 : decode cX2_init 114 = .ok (.bipush 30, 2) := dk_16 30 (dk_at dksX2_init_4 20 rfl rfl)
theorem dX2_init_116 : decode cX2_init 116 = .ok (.newarray .int, 2) := dk_188_10 (dk_at dksX2_init_4 22 rfl rfl)
theorem dX2_init_118 : decode cX2_init 118 = .ok (.putfield 53, 3) := dk_181 0 53 (dk_at dksX2_init_5 0 rfl rfl)
theorem dX2_init_121 : decode cX2_init 121 = .ok (.aload_n 0, 1) := dk_42 (dk_at dksX2_init_5 3 rfl rfl)
theorem dX2_init_122 : decode cX2_init 122 = .ok (.bipush 30, 2) := dk_16 30 (dk_at dksX2_init_5 4 rfl rfl)
theorem dX2_init_124 : decode cX2_init 124 = .ok (.newarray .int, 2) := dk_188_10 (dk_at dksX2_init_5 6 rfl rfl)
theorem dX2_init_126 : decode cX2_init 126 = .ok (.putfield 56, 3) := dk_181 0 56 (dk_at dksX2_init_5 8 rfl rfl)
theorem dX2_init_129 : decode cX2_init 129 = .ok (.aload_n 0, 1) := dk_42 (dk_at dksX2_init_5 11 rfl rfl)
theorem dX2_init_130 : decode cX2_init 130 = .ok (.bipush 30, 2) := dk_16 30 (dk_at dksX2_init_5 12 rfl rfl)
theorem dX2_init_132 : decode cX2_init 132 = .ok (.newarray .boolean, 2) := dk_188_4 (dk_at dksX2_init_5 14 rfl rfl)
theorem dX2_init_134 : decode cX2_init 134 = .ok (.putfield 59, 3) := dk_181 0 59 (dk_at dksX2_init_5 16 rfl rfl)
theorem dX2_init_137 : decode cX2_init 137 = .ok (.aload_n 0, 1) := dk_42 (dk_at dksX2_init_5 19 rfl rfl)
theorem dX2_init_138 : decode cX2_init 138 = .ok (.bipush 30, 2) := dk_16 30 (dk_at dksX2_init_5 20 rfl rfl)
theorem dX2_init_140 : decode cX2_init 140 = .ok (.newarray .int, 2) := dk_188_10 (dk_at dksX2_init_5 22 rfl rfl)
theorem dX2_init_142 : decode cX2_init 142 = .ok (.putfield 63, 3) := dk_181 0 63 (dk_at dksX2_init_6 0 rfl rfl)
theorem dX2_init_145 : decode cX2_init 145 = .ok (.aload_n 0, 1) := dk_42 (dk_at dksX2_init_6 3 rfl rfl)
theorem dX2_init_146 : decode cX2_init 146 = .ok (.bipush 30, 2) := dk_16 30 (dk_at dksX2_init_6 4 rfl rfl)
theorem dX2_init_148 : decode cX2_init 148 = .ok (.newarray .int, 2) := dk_188_10 (dk_at dksX2_init_6 6 rfl rfl)
theorem dX2_init_150 : decode cX2_init 150 = .ok (.putfield 66, 3) := dk_181 0 66 (dk_at dksX2_init_6 8 rfl rfl)
theorem dX2_init_153 : decode cX2_init 153 = .ok (.aload_n 0, 1) := dk_42 (dk_at dksX2_init_6 11 rfl rfl)
theorem dX2_init_154 : decode cX2_init 154 = .ok (.bipush 30, 2) := dk_16 30 (dk_at dksX2_init_6 12 rfl rfl)
theorem dX2_init_156 : decode cX2_init 156 = .ok (.newarray .int, 2) := dk_188_10 (dk_at dksX2_init_6 14 rfl rfl)
theorem dX2_init_158 : decode cX2_init 158 = .ok (.putfield 69, 3) := dk_181 0 69 (dk_at dksX2_init_6 16 rfl rfl)
theorem dX2_init_161 : decode cX2_init 161 = .ok (.aload_n 0, 1) := dk_42 (dk_at dksX2_init_6 19 rfl rfl)
theorem dX2_init_162 : decode cX2_init 162 = .ok (.sipush 360, 3) := dk_17 1 104 (dk_at dksX2_init_6 20 rfl rfl)
theorem dX2_init_165 : decode cX2_init 165 = .ok (.newarray .int, 2) := dk_188_10 (dk_at dksX2_init_7 0 rfl rfl)
theorem dX2_init_167 : decode cX2_init 167 = .ok (.putfield 72, 3) := dk_181 0 72 (dk_at dksX2_init_7 2 rfl rfl)
theorem dX2_init_170 : decode cX2_init 170 = .ok (.aload_n 0, 1) := dk_42 (dk_at dksX2_init_7 5 rfl rfl)
theorem dX2_init_171 : decode cX2_init 171 = .ok (.sipush 360, 3) := dk_17 1 104 (dk_at dksX2_init_7 6 rfl rfl)
theorem dX2_init_174 : decode cX2_init 174 = .ok (.newarray .int, 2) := dk_188_10 (dk_at dksX2_init_7 9 rfl rfl)
theorem dX2_init_176 : decode cX2_init 176 = .ok (.putfield 75, 3) := dk_181 0 75 (dk_at dksX2_init_7 11 rfl rfl)
theorem dX2_init_179 : decode cX2_init 179 = .ok (.aload_n 0, 1) := dk_42 (dk_at dksX2_init_7 14 rfl rfl)
theorem dX2_init_180 : decode cX2_init 180 = .ok (.bipush 20, 2) := dk_16 20 (dk_at dksX2_init_7 15 rfl rfl)
theorem dX2_init_182 : decode cX2_init 182 = .ok (.newarray .int, 2) := dk_188_10 (dk_at dksX2_init_7 17 rfl rfl)
theorem dX2_init_184 : decode cX2_init 184 = .ok (.putfield 78, 3) := dk_181 0 78 (dk_at dksX2_init_7 19 rfl rfl)
theorem dX2_init_187 : decode cX2_init 187 = .ok (.aload_n 0, 1) := dk_42 (dk_at dksX2_init_7 22 rfl rfl)
theorem dX2_init_188 : decode cX2_init 188 = .ok (.bipush 20, 2) := dk_16 20 (dk_at dksX2_init_8 0 rfl rfl)
theorem dX2_init_190 : decode cX2_init 190 = .ok (.newarray .int, 2) := dk_188_10 (dk_at dksX2_init_8 2 rfl rfl)
theorem dX2_init_192 : decode cX2_init 192 = .ok (.putfield 81, 3) := dk_181 0 81 (dk_at dksX2_init_8 4 rfl rfl)
theorem dX2_init_195 : decode cX2_init 195 = .ok (.aload_n 0, 1) := dk_42 (dk_at dksX2_init_8 7 rfl rfl)
theorem dX2_init_196 : decode cX2_init 196 = .ok (.bipush 20, 2) := dk_16 20 (dk_at dksX2_init_8 8 rfl rfl)
theorem dX2_init_198 : decode cX2_init 198 = .ok (.newarray .int, 2) := dk_188_10 (dk_at dksX2_init_8 10 rfl rfl)
theorem dX2_init_200 : decode cX2_init 200 = .ok (.putfield 84, 3) := dk_181 0 84 (dk_at dksX2_init_8 12 rfl rfl)
theorem dX2_init_203 : decode cX2_init 203 = .ok (.aload_n 0, 1) := dk_42 (dk_at dksX2_init_8 15 rfl rfl)
theorem dX2_init_204 : decode cX2_init 204 = .ok (.bipush 20, 2) := dk_16 20 (dk_at dksX2_init_8 16 rfl rfl)
theorem dX2_init_206 : decode cX2_init 206 = .ok (.newarray .int, 2) := dk_188_10 (dk_at dksX2_init_8 18 rfl rfl)
theorem dX2_init_208 : decode cX2_init 208 = .ok (.putfield 87, 3) := dk_181 0 87 (dk_at dksX2_init_8 20 rfl rfl)
theorem dX2_init_211 : decode cX2_init 211 = .ok (.aload_n 0, 1) := dk_42 (dk_at dksX2_init_8 23 rfl rfl)
theorem dX2_init_212 : decode cX2_init 212 = .ok (.bipush 20, 2) := dk_16 20 (dk_at dksX2_init_9 0 rfl rfl)
theorem dX2_init_214 : decode cX2_init 214 = .ok (.newarray .int, 2) := dk_188_10 (dk_at dksX2_init_9 2 rfl rfl)
theorem dX2_init_216 : decode cX2_init 216 = .ok (.putfield 90, 3) := dk_181 0 90 (dk_at dksX2_init_9 4 rfl rfl)
theorem dX2_init_219 : decode cX2_init 219 = .ok (.aload_n 0, 1) := dk_42 (dk_at dksX2_init_9 7 rfl rfl)
theorem dX2_init_220 : decode cX2_init 220 = .ok (.bipush 20, 2) := dk_16 20 (dk_at dksX2_init_9 8 rfl rfl)
theorem dX2_init_222 : decode cX2_init 222 = .ok (.newarray .int, 2) := dk_188_10 (dk_at dksX2_init_9 10 rfl rfl)
theorem dX2_init_224 : decode cX2_init 224 = .ok (.putfield 93, 3) := dk_181 0 93 (dk_at dksX2_init_9 12 rfl rfl)
theorem dX2_init_227 : decode cX2_init 227 = .ok (.aload_n 0, 1) := dk_42 (dk_at dksX2_init_9 15 rfl rfl)
theorem dX2_init_228 : decode cX2_init 228 = .ok (.bipush 20, 2) := dk_16 20 (dk_at dksX2_init_9 16 rfl rfl)
theorem dX2_init_230 : decode cX2_init 230 = .ok (.newarray .int, 2) := dk_188_10 (dk_at dksX2_init_9 18 rfl rfl)
theorem dX2_init_232 : decode cX2_init 232 = .ok (.putfield 96, 3) := dk_181 0 96 (dk_at dksX2_init_9 20 rfl rfl)
theorem dX2_init_235 : decode cX2_init 235 = .ok (.aload_n 0, 1) := dk_42 (dk_at dksX2_init_9 23 rfl rfl)
theorem dX2_init_236 : decode cX2_init 236 = .ok (.bipush 20, 2) := dk_16 20 (dk_at dksX2_init_10 0 rfl rfl)
theorem dX2_init_238 : decode cX2_init 238 = .ok (.newarray .int, 2) := dk_188_10 (dk_at dksX2_init_10 2 rfl rfl)
theorem dX2_init_240 : decode cX2_init 240 = .ok (.putfield 99, 3) := dk_181 0 99 (dk_at dksX2_init_10 4 rfl rfl)
theorem dX2_init_243 : decode cX2_init 243 = .ok (.aload_n 0, 1) := dk_42 (dk_at dksX2_init_10 7 rfl rfl)
theorem dX2_init_244 : decode cX2_init 244 = .ok (.bipush 20, 2) := dk_16 20 (dk_at dksX2_init_10 8 rfl rfl)
theorem dX2_init_246 : decode cX2_init 246 = .ok (.newarray .int, 2) := dk_188_10 (dk_at dksX2_init_10 10 rfl rfl)
theorem dX2_init_248 : decode cX2_init 248 = .ok (.putfield 102, 3) := dk_181 0 102 (dk_at dksX2_init_10 12 rfl rfl)
theorem dX2_init_251 : decode cX2_init 251 = .ok (.iconst 0, 1) := dk_3 (dk_at dksX2_init_10 15 rfl rfl)
theorem dX2_init_252 : decode cX2_init 252 = .ok (.istore_n 1, 1) := dk_60 (dk_at dksX2_init_10 16 rfl rfl)
theorem dX2_init_253 : decode cX2_init 253 = .ok (.iload_n 1, 1) := dk_27 (dk_at dksX2_init_10 17 rfl rfl)
theorem dX2_init_254 : decode cX2_init 254 = .ok (.bipush 8, 2) := dk_16 8 (dk_at dksX2_init_10 18 rfl rfl)
theorem dX2_init_256 : decode cX2_init 256 = .ok (.if_icmp .ge 17, 3) := dk_162 0 17 (dk_at dksX2_init_10 20 rfl rfl)
theorem dX2_init_259 : decode cX2_init 259 = .ok (.aload_n 0, 1) := dk_42 (dk_at dksX2_init_10 23 rfl rfl)
theorem dX2_init_260 : decode cX2_init 260 = .ok (.getfield 16, 3) := dk_180 0 16 (dk_at dksX2_init_11 0 rfl rfl)
theorem dX2_init_263 : decode cX2_init 263 = .ok (.iload_n 1, 1) := dk_27 (dk_at dksX2_init_11 3 rfl rfl)
theorem dX2_init_264 : decode cX2_init 264 = .ok (.bipush 60, 2) := dk_16 60 (dk_at dksX2_init_11 4 rfl rfl)
theorem dX2_init_266 : decode cX2_init 266 = .ok (.iastore, 1) := dk_79 (dk_at dksX2_init_11 6 rfl rfl)
theorem dX2_init_267 : decode cX2_init 267 = .ok (.iinc 1 1, 3) := dk_132 1 1 (dk_at dksX2_init_11 7 rfl rfl)
theorem dX2_init_270 : decode cX2_init 270 = .ok (.goto (-17), 3) := dk_167 255 239 (dk_at dksX2_init_11 10 rfl rfl)
theorem dX2_init_273 : decode cX2_init 273 = .ok (.return_, 1) := dk_177 (dk_at dksX2_init_11 13 rfl rfl)
abbrev cX2_thrown : ByteArray := prog_6_method_2_code
def yX2_thrown : MethodName := ⟨RX2, "thrown", "()I"⟩
theorem dX2_thrown_0 : decode cX2_thrown 0 = .ok (.aload_n 0, 1) := by decide +kernel
theorem dX2_thrown_1 : decode cX2_thrown 1 = .ok (.getfield 105, 3) := by decide +kernel
theorem dX2_thrown_4 : decode cX2_thrown 4 = .ok (.ireturn, 1) := by decide +kernel
abbrev cX2_near : ByteArray := prog_6_method_13_code
def yX2_near : MethodName := ⟨RX2, "near", "(II)Z"⟩
def dkwX2_near_3 : List UInt8 := [79, 42, 180, 0, 7, 27, 46, 28, 122, 4, 126, 4, 160, 0, 7, 4, 167, 0, 4, 3, 172]
abbrev dktX2_near_3 : List UInt8 := dkwX2_near_3 ++ []
def dkwX2_near_2 : List UInt8 := [172, 42, 180, 0, 7, 27, 92, 46, 4, 28, 120, 130, 79, 42, 180, 0, 7, 28, 92, 46, 4, 27, 120, 130]
abbrev dktX2_near_2 : List UInt8 := dkwX2_near_2 ++ dktX2_near_3
def dkwX2_near_1 : List UInt8 := [154, 0, 7, 4, 167, 0, 13, 27, 28, 160, 0, 7, 5, 167, 0, 4, 3, 182, 0, 123, 154, 0, 5, 3]
abbrev dktX2_near_1 : List UInt8 := dkwX2_near_1 ++ dktX2_near_2
def dkwX2_near_0 : List UInt8 := [27, 184, 0, 119, 153, 0, 14, 28, 184, 0, 119, 153, 0, 7, 4, 167, 0, 4, 3, 62, 42, 29]
abbrev dktX2_near_0 : List UInt8 := dkwX2_near_0 ++ dktX2_near_1
theorem dksX2_near_0 : cX2_near.data.toList.drop 0 = dktX2_near_0 := by decide +kernel
theorem dksX2_near_1 : cX2_near.data.toList.drop 22 = dktX2_near_1 := dk_seg dksX2_near_0 22 rfl rfl
theorem dksX2_near_2 : cX2_near.data.toList.drop 46 = dktX2_near_2 := dk_seg dksX2_near_1 24 rfl rfl
theorem dksX2_near_3 : cX2_near.data.toList.drop 70 = dktX2_near_3 := dk_seg dksX2_near_2 24 rfl rfl
theorem dX2_near_0 : decode cX2_near 0 = .ok (.iload_n 1, 1) := dk_27 (dk_at dksX2_near_0 0 rfl rfl)
theorem dX2_near_1 : decode cX2_near 1 = .ok (.invokestatic 119, 3) := dk_184 0 119 (dk_at dksX2_near_0 1 rfl rfl)
theorem dX2_near_4 : decode cX2_near 4 = .ok (.ifCond .eq 14, 3) := dk_153 0 14 (dk_at dksX2_near_0 4 rfl rfl)
theorem dX2_near_7 : decode cX2_near 7 = .ok (.iload_n 2, 1) := dk_28 (dk_at dksX2_near_0 7 rfl rfl)
theorem dX2_near_8 : decode cX2_near 8 = .ok (.invokestatic 119, 3) := dk_184 0 119 (dk_at dksX2_near_0 8 rfl rfl)
theorem dX2_near_11 : decode cX2_near 11 = .ok (.ifCond .eq 7, 3) := dk_153 0 7 (dk_at dksX2_near_0 11 rfl rfl)
theorem dX2_near_14 : decode cX2_near 14 = .ok (.iconst 1, 1) := dk_4 (dk_at dksX2_near_0 14 rfl rfl)
theorem dX2_near_15 : decode cX2_near 15 = .ok (.goto 4, 3) := dk_167 0 4 (dk_at dksX2_near_0 15 rfl rfl)
theorem dX2_near_18 : decode cX2_near 18 = .ok (.iconst 0, 1) := dk_3 (dk_at dksX2_near_0 18 rfl rfl)
theorem dX2_near_19 : decode cX2_near 19 = .ok (.istore_n 3, 1) := dk_62 (dk_at dksX2_near_0 19 rfl rfl)
theorem dX2_near_20 : decode cX2_near 20 = .ok (.aload_n 0, 1) := dk_42 (dk_at dksX2_near_0 20 rfl rfl)
theorem dX2_near_21 : decode cX2_near 21 = .ok (.iload_n 3, 1) := dk_29 (dk_at dksX2_near_0 21 rfl rfl)
theorem dX2_near_22 : decode cX2_near 22 = .ok (.ifCond .ne 7, 3) := dk_154 0 7 (dk_at dksX2_near_1 0 rfl rfl)
theorem dX2_near_25 : decode cX2_near 25 = .ok (.iconst 1, 1) := dk_4 (dk_at dksX2_near_1 3 rfl rfl)
theorem dX2_near_26 : decode cX2_near 26 = .ok (.goto 13, 3) := dk_167 0 13 (dk_at dksX2_near_1 4 rfl rfl)
theorem dX2_near_29 : decode cX2_near 29 = .ok (.iload_n 1, 1) := dk_27 (dk_at dksX2_near_1 7 rfl rfl)
theorem dX2_near_30 : decode cX2_near 30 = .ok (.iload_n 2, 1) := dk_28 (dk_at dksX2_near_1 8 rfl rfl)
theorem dX2_near_31 : decode cX2_near 31 = .ok (.if_icmp .ne 7, 3) := dk_160 0 7 (dk_at dksX2_near_1 9 rfl rfl)
theorem dX2_near_34 : decode cX2_near 34 = .ok (.iconst 2, 1) := dk_5 (dk_at dksX2_near_1 12 rfl rfl)
theorem dX2_near_35 : decode cX2_near 35 = .ok (.goto 4, 3) := dk_167 0 4 (dk_at dksX2_near_1 13 rfl rfl)
theorem dX2_near_38 : decode cX2_near 38 = .ok (.iconst 0, 1) := dk_3 (dk_at dksX2_near_1 16 rfl rfl)
theorem dX2_near_39 : decode cX2_near 39 = .ok (.invokevirtual 123, 3) := dk_182 0 123 (dk_at dksX2_near_1 17 rfl rfl)
theorem dX2_near_42 : decode cX2_near 42 = .ok (.ifCond .ne 5, 3) := dk_154 0 5 (dk_at dksX2_near_1 20 rfl rfl)
theorem dX2_near_45 : decode cX2_near 45 = .ok (.iconst 0, 1) := dk_3 (dk_at dksX2_near_1 23 rfl rfl)
theorem dX2_near_46 : decode cX2_near 46 = .ok (.ireturn, 1) := dk_172 (dk_at dksX2_near_2 0 rfl rfl)
theorem dX2_near_47 : decode cX2_near 47 = .ok (.aload_n 0, 1) := dk_42 (dk_at dksX2_near_2 1 rfl rfl)
theorem dX2_near_48 : decode cX2_near 48 = .ok (.getfield 7, 3) := dk_180 0 7 (dk_at dksX2_near_2 2 rfl rfl)
theorem dX2_near_51 : decode cX2_near 51 = .ok (.iload_n 1, 1) := dk_27 (dk_at dksX2_near_2 5 rfl rfl)
theorem dX2_near_52 : decode cX2_near 52 = .ok (.dup2, 1) := dk_92 (dk_at dksX2_near_2 6 rfl rfl)
theorem dX2_near_53 : decode cX2_near 53 = .ok (.iaload, 1) := dk_46 (dk_at dksX2_near_2 7 rfl rfl)
theorem dX2_near_54 : decode cX2_near 54 = .ok (.iconst 1, 1) := dk_4 (dk_at dksX2_near_2 8 rfl rfl)
theorem dX2_near_55 : decode cX2_near 55 = .ok (.iload_n 2, 1) := dk_28 (dk_at dksX2_near_2 9 rfl rfl)
theorem dX2_near_56 : decode cX2_near 56 = .ok (.ishl, 1) := dk_120 (dk_at dksX2_near_2 10 rfl rfl)
theorem dX2_near_57 : decode cX2_near 57 = .ok (.ixor, 1) := dk_130 (dk_at dksX2_near_2 11 rfl rfl)
theorem dX2_near_58 : decode cX2_near 58 = .ok (.iastore, 1) := dk_79 (dk_at dksX2_near_2 12 rfl rfl)
theorem dX2_near_59 : decode cX2_near 59 = .ok (.aload_n 0, 1) := dk_42 (dk_at dksX2_near_2 13 rfl rfl)
theorem dX2_near_60 : decode cX2_near 60 = .ok (.getfield 7, 3) := dk_180 0 7 (dk_at dksX2_near_2 14 rfl rfl)
theorem dX2_near_63 : decode cX2_near 63 = .ok (.iload_n 2, 1) := dk_28 (dk_at dksX2_near_2 17 rfl rfl)
theorem dX2_near_64 : decode cX2_near 64 = .ok (.dup2, 1) := dk_92 (dk_at dksX2_near_2 18 rfl rfl)
theorem dX2_near_65 : decode cX2_near 65 = .ok (.iaload, 1) := dk_46 (dk_at dksX2_near_2 19 rfl rfl)
theorem dX2_near_66 : decode cX2_near 66 = .ok (.iconst 1, 1) := dk_4 (dk_at dksX2_near_2 20 rfl rfl)
theorem dX2_near_67 : decode cX2_near 67 = .ok (.iload_n 1, 1) := dk_27 (dk_at dksX2_near_2 21 rfl rfl)
theorem dX2_near_68 : decode cX2_near 68 = .ok (.ishl, 1) := dk_120 (dk_at dksX2_near_2 22 rfl rfl)
theorem dX2_near_69 : decode cX2_near 69 = .ok (.ixor, 1) := dk_130 (dk_at dksX2_near_2 23 rfl rfl)
theorem dX2_near_70 : decode cX2_near 70 = .ok (.iastore, 1) := dk_79 (dk_at dksX2_near_3 0 rfl rfl)
theorem dX2_near_71 : decode cX2_near 71 = .ok (.aload_n 0, 1) := dk_42 (dk_at dksX2_near_3 1 rfl rfl)
theorem dX2_near_72 : decode cX2_near 72 = .ok (.getfield 7, 3) := dk_180 0 7 (dk_at dksX2_near_3 2 rfl rfl)
theorem dX2_near_75 : decode cX2_near 75 = .ok (.iload_n 1, 1) := dk_27 (dk_at dksX2_near_3 5 rfl rfl)
theorem dX2_near_76 : decode cX2_near 76 = .ok (.iaload, 1) := dk_46 (dk_at dksX2_near_3 6 rfl rfl)
theorem dX2_near_77 : decode cX2_near 77 = .ok (.iload_n 2, 1) := dk_28 (dk_at dksX2_near_3 7 rfl rfl)
theorem dX2_near_78 : decode cX2_near 78 = .ok (.ishr, 1) := dk_122 (dk_at dksX2_near_3 8 rfl rfl)
theorem dX2_near_79 : decode cX2_near 79 = .ok (.iconst 1, 1) := dk_4 (dk_at dksX2_near_3 9 rfl rfl)
theorem dX2_near_80 : decode cX2_near 80 = .ok (.iand, 1) := dk_126 (dk_at dksX2_near_3 10 rfl rfl)
theorem dX2_near_81 : decode cX2_near 81 = .ok (.iconst 1, 1) := dk_4 (dk_at dksX2_near_3 11 rfl rfl)
theorem dX2_near_82 : decode cX2_near 82 = .ok (.if_icmp .ne 7, 3) := dk_160 0 7 (dk_at dksX2_near_3 12 rfl rfl)
theorem dX2_near_85 : decode cX2_near 85 = .ok (.iconst 1, 1) := dk_4 (dk_at dksX2_near_3 15 rfl rfl)
theorem dX2_near_86 : decode cX2_near 86 = .ok (.goto 4, 3) := dk_167 0 4 (dk_at dksX2_near_3 16 rfl rfl)
theorem dX2_near_89 : decode cX2_near 89 = .ok (.iconst 0, 1) := dk_3 (dk_at dksX2_near_3 19 rfl rfl)
theorem dX2_near_90 : decode cX2_near 90 = .ok (.ireturn, 1) := dk_172 (dk_at dksX2_near_3 20 rfl rfl)
abbrev cX2_isWord : ByteArray := prog_6_method_5_code
def yX2_isWord : MethodName := ⟨RX2, "isWord", "(I)Z"⟩
def dkwX2_isWord_0 : List UInt8 := [26, 3, 16, 23, 184, 0, 108, 172]
abbrev dktX2_isWord_0 : List UInt8 := dkwX2_isWord_0 ++ []
theorem dksX2_isWord_0 : cX2_isWord.data.toList.drop 0 = dktX2_isWord_0 := by decide +kernel
theorem dX2_isWord_0 : decode cX2_isWord 0 = .ok (.iload_n 0, 1) := dk_26 (dk_at dksX2_isWord_0 0 rfl rfl)
theorem dX2_isWord_1 : decode cX2_isWord 1 = .ok (.iconst 0, 1) := dk_3 (dk_at dksX2_isWord_0 1 rfl rfl)
theorem dX2_isWord_2 : decode cX2_isWord 2 = .ok (.bipush 23, 2) := dk_16 23 (dk_at dksX2_isWord_0 2 rfl rfl)
theorem dX2_isWord_4 : decode cX2_isWord 4 = .ok (.invokestatic 108, 3) := dk_184 0 108 (dk_at dksX2_isWord_0 4 rfl rfl)
theorem dX2_isWord_7 : decode cX2_isWord 7 = .ok (.ireturn, 1) := dk_172 (dk_at dksX2_isWord_0 7 rfl rfl)
abbrev cX2_in : ByteArray := prog_6_method_4_code
def yX2_in : MethodName := ⟨RX2, "in", "(III)Z"⟩
def dkwX2_in_0 : List UInt8 := [26, 27, 161, 0, 12, 26, 28, 163, 0, 7, 4, 167, 0, 4, 3, 172]
abbrev dktX2_in_0 : List UInt8 := dkwX2_in_0 ++ []
theorem dksX2_in_0 : cX2_in.data.toList.drop 0 = dktX2_in_0 := by decide +kernel
theorem dX2_in_0 : decode cX2_in 0 = .ok (.iload_n 0, 1) := dk_26 (dk_at dksX2_in_0 0 rfl rfl)
theorem dX2_in_1 : decode cX2_in 1 = .ok (.iload_n 1, 1) := dk_27 (dk_at dksX2_in_0 1 rfl rfl)
theorem dX2_in_2 : decode cX2_in 2 = .ok (.if_icmp .lt 12, 3) := dk_161 0 12 (dk_at dksX2_in_0 2 rfl rfl)
theorem dX2_in_5 : decode cX2_in 5 = .ok (.iload_n 0, 1) := dk_26 (dk_at dksX2_in_0 5 rfl rfl)
theorem dX2_in_6 : decode cX2_in 6 = .ok (.iload_n 2, 1) := dk_28 (dk_at dksX2_in_0 6 rfl rfl)
theorem dX2_in_7 : decode cX2_in 7 = .ok (.if_icmp .gt 7, 3) := dk_163 0 7 (dk_at dksX2_in_0 7 rfl rfl)
theorem dX2_in_10 : decode cX2_in 10 = .ok (.iconst 1, 1) := dk_4 (dk_at dksX2_in_0 10 rfl rfl)
theorem dX2_in_11 : decode cX2_in 11 = .ok (.goto 4, 3) := dk_167 0 4 (dk_at dksX2_in_0 11 rfl rfl)
theorem dX2_in_14 : decode cX2_in 14 = .ok (.iconst 0, 1) := dk_3 (dk_at dksX2_in_0 14 rfl rfl)
theorem dX2_in_15 : decode cX2_in 15 = .ok (.ireturn, 1) := dk_172 (dk_at dksX2_in_0 15 rfl rfl)
abbrev cX2_holds : ByteArray := prog_6_method_3_code
def yX2_holds : MethodName := ⟨RX2, "holds", "(I)Z"⟩
def dkwX2_holds_0 : List UInt8 := [42, 27, 181, 0, 105, 27, 154, 0, 7, 4, 167, 0, 4, 3, 172]
abbrev dktX2_holds_0 : List UInt8 := dkwX2_holds_0 ++ []
theorem dksX2_holds_0 : cX2_holds.data.toList.drop 0 = dktX2_holds_0 := by decide +kernel
theorem dX2_holds_0 : decode cX2_holds 0 = .ok (.aload_n 0, 1) := dk_42 (dk_at dksX2_holds_0 0 rfl rfl)
theorem dX2_holds_1 : decode cX2_holds 1 = .ok (.iload_n 1, 1) := dk_27 (dk_at dksX2_holds_0 1 rfl rfl)
theorem dX2_holds_2 : decode cX2_holds 2 = .ok (.putfield 105, 3) := dk_181 0 105 (dk_at dksX2_holds_0 2 rfl rfl)
theorem dX2_holds_5 : decode cX2_holds 5 = .ok (.iload_n 1, 1) := dk_27 (dk_at dksX2_holds_0 5 rfl rfl)
theorem dX2_holds_6 : decode cX2_holds 6 = .ok (.ifCond .ne 7, 3) := dk_154 0 7 (dk_at dksX2_holds_0 6 rfl rfl)
theorem dX2_holds_9 : decode cX2_holds 9 = .ok (.iconst 1, 1) := dk_4 (dk_at dksX2_holds_0 9 rfl rfl)
theorem dX2_holds_10 : decode cX2_holds 10 = .ok (.goto 4, 3) := dk_167 0 4 (dk_at dksX2_holds_0 10 rfl rfl)
theorem dX2_holds_13 : decode cX2_holds 13 = .ok (.iconst 0, 1) := dk_3 (dk_at dksX2_holds_0 13 rfl rfl)
theorem dX2_holds_14 : decode cX2_holds 14 = .ok (.ireturn, 1) := dk_172 (dk_at dksX2_holds_0 14 rfl rfl)
abbrev cX2_alike : ByteArray := prog_6_method_14_code
def yX2_alike : MethodName := ⟨RX2, "alike", "(II)Z"⟩
def dkwX2_alike_3 : List UInt8 := [79, 42, 180, 0, 13, 27, 46, 28, 122, 4, 126, 4, 160, 0, 7, 4, 167, 0, 4, 3, 172]
abbrev dktX2_alike_3 : List UInt8 := dkwX2_alike_3 ++ []
def dkwX2_alike_2 : List UInt8 := [172, 42, 180, 0, 13, 27, 92, 46, 4, 28, 120, 130, 79, 42, 180, 0, 13, 28, 92, 46, 4, 27, 120, 130]
abbrev dktX2_alike_2 : List UInt8 := dkwX2_alike_2 ++ dktX2_alike_3
def dkwX2_alike_1 : List UInt8 := [154, 0, 7, 4, 167, 0, 13, 27, 28, 160, 0, 7, 5, 167, 0, 4, 3, 182, 0, 123, 154, 0, 5, 3]
abbrev dktX2_alike_1 : List UInt8 := dkwX2_alike_1 ++ dktX2_alike_2
def dkwX2_alike_0 : List UInt8 := [27, 184, 0, 126, 153, 0, 14, 28, 184, 0, 126, 153, 0, 7, 4, 167, 0, 4, 3, 62, 42, 29]
abbrev dktX2_alike_0 : List UInt8 := dkwX2_alike_0 ++ dktX2_alike_1
theorem dksX2_alike_0 : cX2_alike.data.toList.drop 0 = dktX2_alike_0 := by decide +kernel
theorem dksX2_alike_1 : cX2_alike.data.toList.drop 22 = dktX2_alike_1 := dk_seg dksX2_alike_0 22 rfl rfl
theorem dksX2_alike_2 : cX2_alike.data.toList.drop 46 = dktX2_alike_2 := dk_seg dksX2_alike_1 24 rfl rfl
theorem dksX2_alike_3 : cX2_alike.data.toList.drop 70 = dktX2_alike_3 := dk_seg dksX2_alike_2 24 rfl rfl
theorem dX2_alike_0 : decode cX2_alike 0 = .ok (.iload_n 1, 1) := dk_27 (dk_at dksX2_alike_0 0 rfl rfl)
theorem dX2_alike_1 : decode cX2_alike 1 = .ok (.invokestatic 126, 3) := dk_184 0 126 (dk_at dksX2_alike_0 1 rfl rfl)
theorem dX2_alike_4 : decode cX2_alike 4 = .ok (.ifCond .eq 14, 3) := dk_153 0 14 (dk_at dksX2_alike_0 4 rfl rfl)
theorem dX2_alike_7 : decode cX2_alike 7 = .ok (.iload_n 2, 1) := dk_28 (dk_at dksX2_alike_0 7 rfl rfl)
theorem dX2_alike_8 : decode cX2_alike 8 = .ok (.invokestatic 126, 3) := dk_184 0 126 (dk_at dksX2_alike_0 8 rfl rfl)
theorem dX2_alike_11 : decode cX2_alike 11 = .ok (.ifCond .eq 7, 3) := dk_153 0 7 (dk_at dksX2_alike_0 11 rfl rfl)
theorem dX2_alike_14 : decode cX2_alike 14 = .ok (.iconst 1, 1) := dk_4 (dk_at dksX2_alike_0 14 rfl rfl)
theorem dX2_alike_15 : decode cX2_alike 15 = .ok (.goto 4, 3) := dk_167 0 4 (dk_at dksX2_alike_0 15 rfl rfl)
theorem dX2_alike_18 : decode cX2_alike 18 = .ok (.iconst 0, 1) := dk_3 (dk_at dksX2_alike_0 18 rfl rfl)
theorem dX2_alike_19 : decode cX2_alike 19 = .ok (.istore_n 3, 1) := dk_62 (dk_at dksX2_alike_0 19 rfl rfl)
theorem dX2_alike_20 : decode cX2_alike 20 = .ok (.aload_n 0, 1) := dk_42 (dk_at dksX2_alike_0 20 rfl rfl)
theorem dX2_alike_21 : decode cX2_alike 21 = .ok (.iload_n 3, 1) := dk_29 (dk_at dksX2_alike_0 21 rfl rfl)
theorem dX2_alike_22 : decode cX2_alike 22 = .ok (.ifCond .ne 7, 3) := dk_154 0 7 (dk_at dksX2_alike_1 0 rfl rfl)
theorem dX2_alike_25 : decode cX2_alike 25 = .ok (.iconst 1, 1) := dk_4 (dk_at dksX2_alike_1 3 rfl rfl)
theorem dX2_alike_26 : decode cX2_alike 26 = .ok (.goto 13, 3) := dk_167 0 13 (dk_at dksX2_alike_1 4 rfl rfl)
theorem dX2_alike_29 : decode cX2_alike 29 = .ok (.iload_n 1, 1) := dk_27 (dk_at dksX2_alike_1 7 rfl rfl)
theorem dX2_alike_30 : decode cX2_alike 30 = .ok (.iload_n 2, 1) := dk_28 (dk_at dksX2_alike_1 8 rfl rfl)
theorem dX2_alike_31 : decode cX2_alike 31 = .ok (.if_icmp .ne 7, 3) := dk_160 0 7 (dk_at dksX2_alike_1 9 rfl rfl)
theorem dX2_alike_34 : decode cX2_alike 34 = .ok (.iconst 2, 1) := dk_5 (dk_at dksX2_alike_1 12 rfl rfl)
theorem dX2_alike_35 : decode cX2_alike 35 = .ok (.goto 4, 3) := dk_167 0 4 (dk_at dksX2_alike_1 13 rfl rfl)
theorem dX2_alike_38 : decode cX2_alike 38 = .ok (.iconst 0, 1) := dk_3 (dk_at dksX2_alike_1 16 rfl rfl)
theorem dX2_alike_39 : decode cX2_alike 39 = .ok (.invokevirtual 123, 3) := dk_182 0 123 (dk_at dksX2_alike_1 17 rfl rfl)
theorem dX2_alike_42 : decode cX2_alike 42 = .ok (.ifCond .ne 5, 3) := dk_154 0 5 (dk_at dksX2_alike_1 20 rfl rfl)
theorem dX2_alike_45 : decode cX2_alike 45 = .ok (.iconst 0, 1) := dk_3 (dk_at dksX2_alike_1 23 rfl rfl)
theorem dX2_alike_46 : decode cX2_alike 46 = .ok (.ireturn, 1) := dk_172 (dk_at dksX2_alike_2 0 rfl rfl)
theorem dX2_alike_47 : decode cX2_alike 47 = .ok (.aload_n 0, 1) := dk_42 (dk_at dksX2_alike_2 1 rfl rfl)
theorem dX2_alike_48 : decode cX2_alike 48 = .ok (.getfield 13, 3) := dk_180 0 13 (dk_at dksX2_alike_2 2 rfl rfl)
theorem dX2_alike_51 : decode cX2_alike 51 = .ok (.iload_n 1, 1) := dk_27 (dk_at dksX2_alike_2 5 rfl rfl)
theorem dX2_alike_52 : decode cX2_alike 52 = .ok (.dup2, 1) := dk_92 (dk_at dksX2_alike_2 6 rfl rfl)
theorem dX2_alike_53 : decode cX2_alike 53 = .ok (.iaload, 1) := dk_46 (dk_at dksX2_alike_2 7 rfl rfl)
theorem dX2_alike_54 : decode cX2_alike 54 = .ok (.iconst 1, 1) := dk_4 (dk_at dksX2_alike_2 8 rfl rfl)
theorem dX2_alike_55 : decode cX2_alike 55 = .ok (.iload_n 2, 1) := dk_28 (dk_at dksX2_alike_2 9 rfl rfl)
theorem dX2_alike_56 : decode cX2_alike 56 = .ok (.ishl, 1) := dk_120 (dk_at dksX2_alike_2 10 rfl rfl)
theorem dX2_alike_57 : decode cX2_alike 57 = .ok (.ixor, 1) := dk_130 (dk_at dksX2_alike_2 11 rfl rfl)
theorem dX2_alike_58 : decode cX2_alike 58 = .ok (.iastore, 1) := dk_79 (dk_at dksX2_alike_2 12 rfl rfl)
theorem dX2_alike_59 : decode cX2_alike 59 = .ok (.aload_n 0, 1) := dk_42 (dk_at dksX2_alike_2 13 rfl rfl)
theorem dX2_alike_60 : decode cX2_alike 60 = .ok (.getfield 13, 3) := dk_180 0 13 (dk_at dksX2_alike_2 14 rfl rfl)
theorem dX2_alike_63 : decode cX2_alike 63 = .ok (.iload_n 2, 1) := dk_28 (dk_at dksX2_alike_2 17 rfl rfl)
theorem dX2_alike_64 : decode cX2_alike 64 = .ok (.dup2, 1) := dk_92 (dk_at dksX2_alike_2 18 rfl rfl)
theorem dX2_alike_65 : decode cX2_alike 65 = .ok (.iaload, 1) := dk_46 (dk_at dksX2_alike_2 19 rfl rfl)
theorem dX2_alike_66 : decode cX2_alike 66 = .ok (.iconst 1, 1) := dk_4 (dk_at dksX2_alike_2 20 rfl rfl)
theorem dX2_alike_67 : decode cX2_alike 67 = .ok (.iload_n 1, 1) := dk_27 (dk_at dksX2_alike_2 21 rfl rfl)
theorem dX2_alike_68 : decode cX2_alike 68 = .ok (.ishl, 1) := dk_120 (dk_at dksX2_alike_2 22 rfl rfl)
theorem dX2_alike_69 : decode cX2_alike 69 = .ok (.ixor, 1) := dk_130 (dk_at dksX2_alike_2 23 rfl rfl)
theorem dX2_alike_70 : decode cX2_alike 70 = .ok (.iastore, 1) := dk_79 (dk_at dksX2_alike_3 0 rfl rfl)
theorem dX2_alike_71 : decode cX2_alike 71 = .ok (.aload_n 0, 1) := dk_42 (dk_at dksX2_alike_3 1 rfl rfl)
theorem dX2_alike_72 : decode cX2_alike 72 = .ok (.getfield 13, 3) := dk_180 0 13 (dk_at dksX2_alike_3 2 rfl rfl)
theorem dX2_alike_75 : decode cX2_alike 75 = .ok (.iload_n 1, 1) := dk_27 (dk_at dksX2_alike_3 5 rfl rfl)
theorem dX2_alike_76 : decode cX2_alike 76 = .ok (.iaload, 1) := dk_46 (dk_at dksX2_alike_3 6 rfl rfl)
theorem dX2_alike_77 : decode cX2_alike 77 = .ok (.iload_n 2, 1) := dk_28 (dk_at dksX2_alike_3 7 rfl rfl)
theorem dX2_alike_78 : decode cX2_alike 78 = .ok (.ishr, 1) := dk_122 (dk_at dksX2_alike_3 8 rfl rfl)
theorem dX2_alike_79 : decode cX2_alike 79 = .ok (.iconst 1, 1) := dk_4 (dk_at dksX2_alike_3 9 rfl rfl)
theorem dX2_alike_80 : decode cX2_alike 80 = .ok (.iand, 1) := dk_126 (dk_at dksX2_alike_3 10 rfl rfl)
theorem dX2_alike_81 : decode cX2_alike 81 = .ok (.iconst 1, 1) := dk_4 (dk_at dksX2_alike_3 11 rfl rfl)
theorem dX2_alike_82 : decode cX2_alike 82 = .ok (.if_icmp .ne 7, 3) := dk_160 0 7 (dk_at dksX2_alike_3 12 rfl rfl)
theorem dX2_alike_85 : decode cX2_alike 85 = .ok (.iconst 1, 1) := dk_4 (dk_at dksX2_alike_3 15 rfl rfl)
theorem dX2_alike_86 : decode cX2_alike 86 = .ok (.goto 4, 3) := dk_167 0 4 (dk_at dksX2_alike_3 16 rfl rfl)
theorem dX2_alike_89 : decode cX2_alike 89 = .ok (.iconst 0, 1) := dk_3 (dk_at dksX2_alike_3 19 rfl rfl)
theorem dX2_alike_90 : decode cX2_alike 90 = .ok (.ireturn, 1) := dk_172 (dk_at dksX2_alike_3 20 rfl rfl)
abbrev cX2_isKind : ByteArray := prog_6_method_6_code
def yX2_isKind : MethodName := ⟨RX2, "isKind", "(I)Z"⟩
def dkwX2_isKind_0 : List UInt8 := [26, 3, 16, 7, 184, 0, 108, 172]
abbrev dktX2_isKind_0 : List UInt8 := dkwX2_isKind_0 ++ []
theorem dksX2_isKind_0 : cX2_isKind.data.toList.drop 0 = dktX2_isKind_0 := by decide +kernel
theorem dX2_isKind_0 : decode cX2_isKind 0 = .ok (.iload_n 0, 1) := dk_26 (dk_at dksX2_isKind_0 0 rfl rfl)
theorem dX2_isKind_1 : decode cX2_isKind 1 = .ok (.iconst 0, 1) := dk_3 (dk_at dksX2_isKind_0 1 rfl rfl)
theorem dX2_isKind_2 : decode cX2_isKind 2 = .ok (.bipush 7, 2) := dk_16 7 (dk_at dksX2_isKind_0 2 rfl rfl)
theorem dX2_isKind_4 : decode cX2_isKind 4 = .ok (.invokestatic 108, 3) := dk_184 0 108 (dk_at dksX2_isKind_0 4 rfl rfl)
theorem dX2_isKind_7 : decode cX2_isKind 7 = .ok (.ireturn, 1) := dk_172 (dk_at dksX2_isKind_0 7 rfl rfl)
abbrev cX2_rule : ByteArray := prog_6_method_15_code
def yX2_rule : MethodName := ⟨RX2, "rule", "(III)I"⟩
def dkwX2_rule_2 : List UInt8 := [180, 0, 16, 27, 46, 54, 4, 42, 180, 0, 16, 27, 28, 79, 42, 180, 0, 19, 27, 29, 79, 21, 4, 172]
abbrev dktX2_rule_2 : List UInt8 := dkwX2_rule_2 ++ []
def dkwX2_rule_1 : List UInt8 := [3, 16, 50, 184, 0, 108, 153, 0, 7, 3, 167, 0, 4, 5, 182, 0, 123, 154, 0, 5, 3, 172, 42]
abbrev dktX2_rule_1 : List UInt8 := dkwX2_rule_1 ++ dktX2_rule_2
def dkwX2_rule_0 : List UInt8 := [42, 27, 184, 0, 126, 154, 0, 7, 4, 167, 0, 29, 28, 4, 17, 1, 144, 184, 0, 108, 153, 0, 17, 29]
abbrev dktX2_rule_0 : List UInt8 := dkwX2_rule_0 ++ dktX2_rule_1
theorem dksX2_rule_0 : cX2_rule.data.toList.drop 0 = dktX2_rule_0 := by decide +kernel
theorem dksX2_rule_1 : cX2_rule.data.toList.drop 24 = dktX2_rule_1 := dk_seg dksX2_rule_0 24 rfl rfl
theorem dksX2_rule_2 : cX2_rule.data.toList.drop 47 = dktX2_rule_2 := dk_seg dksX2_rule_1 23 rfl rfl
theorem dX2_rule_0 : decode cX2_rule 0 = .ok (.aload_n 0, 1) := dk_42 (dk_at dksX2_rule_0 0 rfl rfl)
theorem dX2_rule_1 : decode cX2_rule 1 = .ok (.iload_n 1, 1) := dk_27 (dk_at dksX2_rule_0 1 rfl rfl)
theorem dX2_rule_2 : decode cX2_rule 2 = .ok (.invokestatic 126, 3) := dk_184 0 126 (dk_at dksX2_rule_0 2 rfl rfl)
theorem dX2_rule_5 : decode cX2_rule 5 = .ok (.ifCond .ne 7, 3) := dk_154 0 7 (dk_at dksX2_rule_0 5 rfl rfl)
theorem dX2_rule_8 : decode cX2_rule 8 = .ok (.iconst 1, 1) := dk_4 (dk_at dksX2_rule_0 8 rfl rfl)
theorem dX2_rule_9 : decode cX2_rule 9 = .ok (.goto 29, 3) := dk_167 0 29 (dk_at dksX2_rule_0 9 rfl rfl)
theorem dX2_rule_12 : decode cX2_rule 12 = .ok (.iload_n 2, 1) := dk_28 (dk_at dksX2_rule_0 12 rfl rfl)
theorem dX2_rule_13 : decode cX2_rule 13 = .ok (.iconst 1, 1) := dk_4 (dk_at dksX2_rule_0 13 rfl rfl)
theorem dX2_rule_14 : decode cX2_rule 14 = .ok (.sipush 400, 3) := dk_17 1 144 (dk_at dksX2_rule_0 14 rfl rfl)
theorem dX2_rule_17 : decode cX2_rule 17 = .ok (.invokestatic 108, 3) := dk_184 0 108 (dk_at dksX2_rule_0 17 rfl rfl)
theorem dX2_rule_20 : decode cX2_rule 20 = .ok (.ifCond .eq 17, 3) := dk_153 0 17 (dk_at dksX2_rule_0 20 rfl rfl)
theorem dX2_rule_23 : decode cX2_rule 23 = .ok (.iload_n 3, 1) := dk_29 (dk_at dksX2_rule_0 23 rfl rfl)
theorem dX2_rule_24 : decode cX2_rule 24 = .ok (.iconst 0, 1) := dk_3 (dk_at dksX2_rule_1 0 rfl rfl)
theorem dX2_rule_25 : decode cX2_rule 25 = .ok (.bipush 50, 2) := dk_16 50 (dk_at dksX2_rule_1 1 rfl rfl)
theorem dX2_rule_27 : decode cX2_rule 27 = .ok (.invokestatic 108, 3) := dk_184 0 108 (dk_at dksX2_rule_1 3 rfl rfl)
theorem dX2_rule_30 : decode cX2_rule 30 = .ok (.ifCond .eq 7, 3) := dk_153 0 7 (dk_at dksX2_rule_1 6 rfl rfl)
theorem dX2_rule_33 : decode cX2_rule 33 = .ok (.iconst 0, 1) := dk_3 (dk_at dksX2_rule_1 9 rfl rfl)
theorem dX2_rule_34 : decode cX2_rule 34 = .ok (.goto 4, 3) := dk_167 0 4 (dk_at dksX2_rule_1 10 rfl rfl)
theorem dX2_rule_37 : decode cX2_rule 37 = .ok (.iconst 2, 1) := dk_5 (dk_at dksX2_rule_1 13 rfl rfl)
theorem dX2_rule_38 : decode cX2_rule 38 = .ok (.invokevirtual 123, 3) := dk_182 0 123 (dk_at dksX2_rule_1 14 rfl rfl)
theorem dX2_rule_41 : decode cX2_rule 41 = .ok (.ifCond .ne 5, 3) := dk_154 0 5 (dk_at dksX2_rule_1 17 rfl rfl)
theorem dX2_rule_44 : decode cX2_rule 44 = .ok (.iconst 0, 1) := dk_3 (dk_at dksX2_rule_1 20 rfl rfl)
theorem dX2_rule_45 : decode cX2_rule 45 = .ok (.ireturn, 1) := dk_172 (dk_at dksX2_rule_1 21 rfl rfl)
theorem dX2_rule_46 : decode cX2_rule 46 = .ok (.aload_n 0, 1) := dk_42 (dk_at dksX2_rule_1 22 rfl rfl)
theorem dX2_rule_47 : decode cX2_rule 47 = .ok (.getfield 16, 3) := dk_180 0 16 (dk_at dksX2_rule_2 0 rfl rfl)
theorem dX2_rule_50 : decode cX2_rule 50 = .ok (.iload_n 1, 1) := dk_27 (dk_at dksX2_rule_2 3 rfl rfl)
theorem dX2_rule_51 : decode cX2_rule 51 = .ok (.iaload, 1) := dk_46 (dk_at dksX2_rule_2 4 rfl rfl)
theorem dX2_rule_52 : decode cX2_rule 52 = .ok (.istore 4, 2) := dk_54 4 (dk_at dksX2_rule_2 5 rfl rfl)
theorem dX2_rule_54 : decode cX2_rule 54 = .ok (.aload_n 0, 1) := dk_42 (dk_at dksX2_rule_2 7 rfl rfl)
theorem dX2_rule_55 : decode cX2_rule 55 = .ok (.getfield 16, 3) := dk_180 0 16 (dk_at dksX2_rule_2 8 rfl rfl)
theorem dX2_rule_58 : decode cX2_rule 58 = .ok (.iload_n 1, 1) := dk_27 (dk_at dksX2_rule_2 11 rfl rfl)
theorem dX2_rule_59 : decode cX2_rule 59 = .ok (.iload_n 2, 1) := dk_28 (dk_at dksX2_rule_2 12 rfl rfl)
theorem dX2_rule_60 : decode cX2_rule 60 = .ok (.iastore, 1) := dk_79 (dk_at dksX2_rule_2 13 rfl rfl)
theorem dX2_rule_61 : decode cX2_rule 61 = .ok (.aload_n 0, 1) := dk_42 (dk_at dksX2_rule_2 14 rfl rfl)
theorem dX2_rule_62 : decode cX2_rule 62 = .ok (.getfield 19, 3) := dk_180 0 19 (dk_at dksX2_rule_2 15 rfl rfl)
theorem dX2_rule_65 : decode cX2_rule 65 = .ok (.iload_n 1, 1) := dk_27 (dk_at dksX2_rule_2 18 rfl rfl)
theorem dX2_rule_66 : decode cX2_rule 66 = .ok (.iload_n 3, 1) := dk_29 (dk_at dksX2_rule_2 19 rfl rfl)
theorem dX2_rule_67 : decode cX2_rule 67 = .ok (.iastore, 1) := dk_79 (dk_at dksX2_rule_2 20 rfl rfl)
theorem dX2_rule_68 : decode cX2_rule 68 = .ok (.iload 4, 2) := dk_21 4 (dk_at dksX2_rule_2 21 rfl rfl)
theorem dX2_rule_70 : decode cX2_rule 70 = .ok (.ireturn, 1) := dk_172 (dk_at dksX2_rule_2 23 rfl rfl)
abbrev cX2_stop : ByteArray := prog_6_method_16_code
def yX2_stop : MethodName := ⟨RX2, "stop", "(II)I"⟩
def dkwX2_stop_3 : List UInt8 := [42, 180, 0, 22, 27, 46, 184, 0, 132, 172]
abbrev dktX2_stop_3 : List UInt8 := dkwX2_stop_3 ++ []
def dkwX2_stop_2 : List UInt8 := [167, 0, 4, 3, 182, 0, 123, 154, 0, 5, 3, 172, 42, 180, 0, 22, 27, 92, 46, 4, 28, 120, 128, 79]
abbrev dktX2_stop_2 : List UInt8 := dkwX2_stop_2 ++ dktX2_stop_3
def dkwX2_stop_1 : List UInt8 := [154, 0, 7, 4, 167, 0, 22, 42, 180, 0, 22, 27, 46, 28, 122, 4, 126, 4, 160, 0, 7, 5]
abbrev dktX2_stop_1 : List UInt8 := dkwX2_stop_1 ++ dktX2_stop_2
def dkwX2_stop_0 : List UInt8 := [27, 3, 6, 184, 0, 108, 153, 0, 14, 28, 184, 0, 129, 153, 0, 7, 4, 167, 0, 4, 3, 62, 42, 29]
abbrev dktX2_stop_0 : List UInt8 := dkwX2_stop_0 ++ dktX2_stop_1
theorem dksX2_stop_0 : cX2_stop.data.toList.drop 0 = dktX2_stop_0 := by decide +kernel
theorem dksX2_stop_1 : cX2_stop.data.toList.drop 24 = dktX2_stop_1 := dk_seg dksX2_stop_0 24 rfl rfl
theorem dksX2_stop_2 : cX2_stop.data.toList.drop 46 = dktX2_stop_2 := dk_seg dksX2_stop_1 22 rfl rfl
theorem dksX2_stop_3 : cX2_stop.data.toList.drop 70 = dktX2_stop_3 := dk_seg dksX2_stop_2 24 rfl rfl
theorem dX2_stop_0 : decode cX2_stop 0 = .ok (.iload_n 1, 1) := dk_27 (dk_at dksX2_stop_0 0 rfl rfl)
theorem dX2_stop_1 : decode cX2_stop 1 = .ok (.iconst 0, 1) := dk_3 (dk_at dksX2_stop_0 1 rfl rfl)
theorem dX2_stop_2 : decode cX2_stop 2 = .ok (.iconst 3, 1) := dk_6 (dk_at dksX2_stop_0 2 rfl rfl)
theorem dX2_stop_3 : decode cX2_stop 3 = .ok (.invokestatic 108, 3) := dk_184 0 108 (dk_at dksX2_stop_0 3 rfl rfl)
theorem dX2_stop_6 : decode cX2_stop 6 = .ok (.ifCond .eq 14, 3) := dk_153 0 14 (dk_at dksX2_stop_0 6 rfl rfl)
theorem dX2_stop_9 : decode cX2_stop 9 = .ok (.iload_n 2, 1) := dk_28 (dk_at dksX2_stop_0 9 rfl rfl)
theorem dX2_stop_10 : decode cX2_stop 10 = .ok (.invokestatic 129, 3) := dk_184 0 129 (dk_at dksX2_stop_0 10 rfl rfl)
theorem dX2_stop_13 : decode cX2_stop 13 = .ok (.ifCond .eq 7, 3) := dk_153 0 7 (dk_at dksX2_stop_0 13 rfl rfl)
theorem dX2_stop_16 : decode cX2_stop 16 = .ok (.iconst 1, 1) := dk_4 (dk_at dksX2_stop_0 16 rfl rfl)
theorem dX2_stop_17 : decode cX2_stop 17 = .ok (.goto 4, 3) := dk_167 0 4 (dk_at dksX2_stop_0 17 rfl rfl)
theorem dX2_stop_20 : decode cX2_stop 20 = .ok (.iconst 0, 1) := dk_3 (dk_at dksX2_stop_0 20 rfl rfl)
theorem dX2_stop_21 : decode cX2_stop 21 = .ok (.istore_n 3, 1) := dk_62 (dk_at dksX2_stop_0 21 rfl rfl)
theorem dX2_stop_22 : decode cX2_stop 22 = .ok (.aload_n 0, 1) := dk_42 (dk_at dksX2_stop_0 22 rfl rfl)
theorem dX2_stop_23 : decode cX2_stop 23 = .ok (.iload_n 3, 1) := dk_29 (dk_at dksX2_stop_0 23 rfl rfl)
theorem dX2_stop_24 : decode cX2_stop 24 = .ok (.ifCond .ne 7, 3) := dk_154 0 7 (dk_at dksX2_stop_1 0 rfl rfl)
theorem dX2_stop_27 : decode cX2_stop 27 = .ok (.iconst 1, 1) := dk_4 (dk_at dksX2_stop_1 3 rfl rfl)
theorem dX2_stop_28 : decode cX2_stop 28 = .ok (.goto 22, 3) := dk_167 0 22 (dk_at dksX2_stop_1 4 rfl rfl)
theorem dX2_stop_31 : decode cX2_stop 31 = .ok (.aload_n 0, 1) := dk_42 (dk_at dksX2_stop_1 7 rfl rfl)
theorem dX2_stop_32 : decode cX2_stop 32 = .ok (.getfield 22, 3) := dk_180 0 22 (dk_at dksX2_stop_1 8 rfl rfl)
theorem dX2_stop_35 : decode cX2_stop 35 = .ok (.iload_n 1, 1) := dk_27 (dk_at dksX2_stop_1 11 rfl rfl)
theorem dX2_stop_36 : decode cX2_stop 36 = .ok (.iaload, 1) := dk_46 (dk_at dksX2_stop_1 12 rfl rfl)
theorem dX2_stop_37 : decode cX2_stop 37 = .ok (.iload_n 2, 1) := dk_28 (dk_at dksX2_stop_1 13 rfl rfl)
theorem dX2_stop_38 : decode cX2_stop 38 = .ok (.ishr, 1) := dk_122 (dk_at dksX2_stop_1 14 rfl rfl)
theorem dX2_stop_39 : decode cX2_stop 39 = .ok (.iconst 1, 1) := dk_4 (dk_at dksX2_stop_1 15 rfl rfl)
theorem dX2_stop_40 : decode cX2_stop 40 = .ok (.iand, 1) := dk_126 (dk_at dksX2_stop_1 16 rfl rfl)
theorem dX2_stop_41 : decode cX2_stop 41 = .ok (.iconst 1, 1) := dk_4 (dk_at dksX2_stop_1 17 rfl rfl)
theorem dX2_stop_42 : decode cX2_stop 42 = .ok (.if_icmp .ne 7, 3) := dk_160 0 7 (dk_at dksX2_stop_1 18 rfl rfl)
theorem dX2_stop_45 : decode cX2_stop 45 = .ok (.iconst 2, 1) := dk_5 (dk_at dksX2_stop_1 21 rfl rfl)
theorem dX2_stop_46 : decode cX2_stop 46 = .ok (.goto 4, 3) := dk_167 0 4 (dk_at dksX2_stop_2 0 rfl rfl)
theorem dX2_stop_49 : decode cX2_stop 49 = .ok (.iconst 0, 1) := dk_3 (dk_at dksX2_stop_2 3 rfl rfl)
theorem dX2_stop_50 : decode cX2_stop 50 = .ok (.invokevirtual 123, 3) := dk_182 0 123 (dk_at dksX2_stop_2 4 rfl rfl)
theorem dX2_stop_53 : decode cX2_stop 53 = .ok (.ifCond .ne 5, 3) := dk_154 0 5 (dk_at dksX2_stop_2 7 rfl rfl)
theorem dX2_stop_56 : decode cX2_stop 56 = .ok (.iconst 0, 1) := dk_3 (dk_at dksX2_stop_2 10 rfl rfl)
theorem dX2_stop_57 : decode cX2_stop 57 = .ok (.ireturn, 1) := dk_172 (dk_at dksX2_stop_2 11 rfl rfl)
theorem dX2_stop_58 : decode cX2_stop 58 = .ok (.aload_n 0, 1) := dk_42 (dk_at dksX2_stop_2 12 rfl rfl)
theorem dX2_stop_59 : decode cX2_stop 59 = .ok (.getfield 22, 3) := dk_180 0 22 (dk_at dksX2_stop_2 13 rfl rfl)
theorem dX2_stop_62 : decode cX2_stop 62 = .ok (.iload_n 1, 1) := dk_27 (dk_at dksX2_stop_2 16 rfl rfl)
theorem dX2_stop_63 : decode cX2_stop 63 = .ok (.dup2, 1) := dk_92 (dk_at dksX2_stop_2 17 rfl rfl)
theorem dX2_stop_64 : decode cX2_stop 64 = .ok (.iaload, 1) := dk_46 (dk_at dksX2_stop_2 18 rfl rfl)
theorem dX2_stop_65 : decode cX2_stop 65 = .ok (.iconst 1, 1) := dk_4 (dk_at dksX2_stop_2 19 rfl rfl)
theorem dX2_stop_66 : decode cX2_stop 66 = .ok (.iload_n 2, 1) := dk_28 (dk_at dksX2_stop_2 20 rfl rfl)
theorem dX2_stop_67 : decode cX2_stop 67 = .ok (.ishl, 1) := dk_120 (dk_at dksX2_stop_2 21 rfl rfl)
theorem dX2_stop_68 : decode cX2_stop 68 = .ok (.ior, 1) := dk_128 (dk_at dksX2_stop_2 22 rfl rfl)
theorem dX2_stop_69 : decode cX2_stop 69 = .ok (.iastore, 1) := dk_79 (dk_at dksX2_stop_2 23 rfl rfl)
theorem dX2_stop_70 : decode cX2_stop 70 = .ok (.aload_n 0, 1) := dk_42 (dk_at dksX2_stop_3 0 rfl rfl)
theorem dX2_stop_71 : decode cX2_stop 71 = .ok (.getfield 22, 3) := dk_180 0 22 (dk_at dksX2_stop_3 1 rfl rfl)
theorem dX2_stop_74 : decode cX2_stop 74 = .ok (.iload_n 1, 1) := dk_27 (dk_at dksX2_stop_3 4 rfl rfl)
theorem dX2_stop_75 : decode cX2_stop 75 = .ok (.iaload, 1) := dk_46 (dk_at dksX2_stop_3 5 rfl rfl)
theorem dX2_stop_76 : decode cX2_stop 76 = .ok (.invokestatic 132, 3) := dk_184 0 132 (dk_at dksX2_stop_3 6 rfl rfl)
theorem dX2_stop_79 : decode cX2_stop 79 = .ok (.ireturn, 1) := dk_172 (dk_at dksX2_stop_3 9 rfl rfl)
abbrev cX2_isRoom : ByteArray := prog_6_method_7_code
def yX2_isRoom : MethodName := ⟨RX2, "isRoom", "(I)Z"⟩
def dkwX2_isRoom_0 : List UInt8 := [26, 3, 8, 184, 0, 108, 172]
abbrev dktX2_isRoom_0 : List UInt8 := dkwX2_isRoom_0 ++ []
theorem dksX2_isRoom_0 : cX2_isRoom.data.toList.drop 0 = dktX2_isRoom_0 := by decide +kernel
theorem dX2_isRoom_0 : decode cX2_isRoom 0 = .ok (.iload_n 0, 1) := dk_26 (dk_at dksX2_isRoom_0 0 rfl rfl)
theorem dX2_isRoom_1 : decode cX2_isRoom 1 = .ok (.iconst 0, 1) := dk_3 (dk_at dksX2_isRoom_0 1 rfl rfl)
theorem dX2_isRoom_2 : decode cX2_isRoom 2 = .ok (.iconst 5, 1) := dk_8 (dk_at dksX2_isRoom_0 2 rfl rfl)
theorem dX2_isRoom_3 : decode cX2_isRoom 3 = .ok (.invokestatic 108, 3) := dk_184 0 108 (dk_at dksX2_isRoom_0 3 rfl rfl)
theorem dX2_isRoom_6 : decode cX2_isRoom 6 = .ok (.ireturn, 1) := dk_172 (dk_at dksX2_isRoom_0 6 rfl rfl)
abbrev cX2_bits : ByteArray := prog_6_method_12_code
def yX2_bits : MethodName := ⟨RX2, "bits", "(I)I"⟩
def dkwX2_bits_1 : List UInt8 := [27, 172]
abbrev dktX2_bits_1 : List UInt8 := dkwX2_bits_1 ++ []
def dkwX2_bits_0 : List UInt8 := [3, 60, 3, 61, 28, 16, 24, 162, 0, 17, 27, 26, 28, 122, 4, 126, 96, 60, 132, 2, 1, 167, 255, 239]
abbrev dktX2_bits_0 : List UInt8 := dkwX2_bits_0 ++ dktX2_bits_1
theorem dksX2_bits_0 : cX2_bits.data.toList.drop 0 = dktX2_bits_0 := by decide +kernel
theorem dksX2_bits_1 : cX2_bits.data.toList.drop 24 = dktX2_bits_1 := dk_seg dksX2_bits_0 24 rfl rfl
theorem dX2_bits_0 : decode cX2_bits 0 = .ok (.iconst 0, 1) := dk_3 (dk_at dksX2_bits_0 0 rfl rfl)
theorem dX2_bits_1 : decode cX2_bits 1 = .ok (.istore_n 1, 1) := dk_60 (dk_at dksX2_bits_0 1 rfl rfl)
theorem dX2_bits_2 : decode cX2_bits 2 = .ok (.iconst 0, 1) := dk_3 (dk_at dksX2_bits_0 2 rfl rfl)
theorem dX2_bits_3 : decode cX2_bits 3 = .ok (.istore_n 2, 1) := dk_61 (dk_at dksX2_bits_0 3 rfl rfl)
theorem dX2_bits_4 : decode cX2_bits 4 = .ok (.iload_n 2, 1) := dk_28 (dk_at dksX2_bits_0 4 rfl rfl)
theorem dX2_bits_5 : decode cX2_bits 5 = .ok (.bipush 24, 2) := dk_16 24 (dk_at dksX2_bits_0 5 rfl rfl)
theorem dX2_bits_7 : decode cX2_bits 7 = .ok (.if_icmp .ge 17, 3) := dk_162 0 17 (dk_at dksX2_bits_0 7 rfl rfl)
theorem dX2_bits_10 : decode cX2_bits 10 = .ok (.iload_n 1, 1) := dk_27 (dk_at dksX2_bits_0 10 rfl rfl)
theorem dX2_bits_11 : decode cX2_bits 11 = .ok (.iload_n 0, 1) := dk_26 (dk_at dksX2_bits_0 11 rfl rfl)
theorem dX2_bits_12 : decode cX2_bits 12 = .ok (.iload_n 2, 1) := dk_28 (dk_at dksX2_bits_0 12 rfl rfl)
theorem dX2_bits_13 : decode cX2_bits 13 = .ok (.ishr, 1) := dk_122 (dk_at dksX2_bits_0 13 rfl rfl)
theorem dX2_bits_14 : decode cX2_bits 14 = .ok (.iconst 1, 1) := dk_4 (dk_at dksX2_bits_0 14 rfl rfl)
theorem dX2_bits_15 : decode cX2_bits 15 = .ok (.iand, 1) := dk_126 (dk_at dksX2_bits_0 15 rfl rfl)
theorem dX2_bits_16 : decode cX2_bits 16 = .ok (.iadd, 1) := dk_96 (dk_at dksX2_bits_0 16 rfl rfl)
theorem dX2_bits_17 : decode cX2_bits 17 = .ok (.istore_n 1, 1) := dk_60 (dk_at dksX2_bits_0 17 rfl rfl)
theorem dX2_bits_18 : decode cX2_bits 18 = .ok (.iinc 2 1, 3) := dk_132 2 1 (dk_at dksX2_bits_0 18 rfl rfl)
theorem dX2_bits_21 : decode cX2_bits 21 = .ok (.goto (-17), 3) := dk_167 255 239 (dk_at dksX2_bits_0 21 rfl rfl)
theorem dX2_bits_24 : decode cX2_bits 24 = .ok (.iload_n 1, 1) := dk_27 (dk_at dksX2_bits_1 0 rfl rfl)
theorem dX2_bits_25 : decode cX2_bits 25 = .ok (.ireturn, 1) := dk_172 (dk_at dksX2_bits_1 1 rfl rfl)
abbrev cX2_threshold : ByteArray := prog_6_method_17_code
def yX2_threshold : MethodName := ⟨RX2, "threshold", "(I)I"⟩
def dkwX2_threshold_1 : List UInt8 := [172, 42, 180, 0, 25, 61, 42, 27, 181, 0, 25, 28, 172]
abbrev dktX2_threshold_1 : List UInt8 := dkwX2_threshold_1 ++ []
def dkwX2_threshold_0 : List UInt8 := [42, 27, 4, 17, 0, 200, 184, 0, 108, 153, 0, 7, 3, 167, 0, 4, 4, 182, 0, 123, 154, 0, 5, 3]
abbrev dktX2_threshold_0 : List UInt8 := dkwX2_threshold_0 ++ dktX2_threshold_1
theorem dksX2_threshold_0 : cX2_threshold.data.toList.drop 0 = dktX2_threshold_0 := by decide +kernel
theorem dksX2_threshold_1 : cX2_threshold.data.toList.drop 24 = dktX2_threshold_1 := dk_seg dksX2_threshold_0 24 rfl rfl
theorem dX2_threshold_0 : decode cX2_threshold 0 = .ok (.aload_n 0, 1) := dk_42 (dk_at dksX2_threshold_0 0 rfl rfl)
theorem dX2_threshold_1 : decode cX2_threshold 1 = .ok (.iload_n 1, 1) := dk_27 (dk_at dksX2_threshold_0 1 rfl rfl)
theorem dX2_threshold_2 : decode cX2_threshold 2 = .ok (.iconst 1, 1) := dk_4 (dk_at dksX2_threshold_0 2 rfl rfl)
theorem dX2_threshold_3 : decode cX2_threshold 3 = .ok (.sipush 200, 3) := dk_17 0 200 (dk_at dksX2_threshold_0 3 rfl rfl)
theorem dX2_threshold_6 : decode cX2_threshold 6 = .ok (.invokestatic 108, 3) := dk_184 0 108 (dk_at dksX2_threshold_0 6 rfl rfl)
theorem dX2_threshold_9 : decode cX2_threshold 9 = .ok (.ifCond .eq 7, 3) := dk_153 0 7 (dk_at dksX2_threshold_0 9 rfl rfl)
theorem dX2_threshold_12 : decode cX2_threshold 12 = .ok (.iconst 0, 1) := dk_3 (dk_at dksX2_threshold_0 12 rfl rfl)
theorem dX2_threshold_13 : decode cX2_threshold 13 = .ok (.goto 4, 3) := dk_167 0 4 (dk_at dksX2_threshold_0 13 rfl rfl)
theorem dX2_threshold_16 : decode cX2_threshold 16 = .ok (.iconst 1, 1) := dk_4 (dk_at dksX2_threshold_0 16 rfl rfl)
theorem dX2_threshold_17 : decode cX2_threshold 17 = .ok (.invokevirtual 123, 3) := dk_182 0 123 (dk_at dksX2_threshold_0 17 rfl rfl)
theorem dX2_threshold_20 : decode cX2_threshold 20 = .ok (.ifCond .ne 5, 3) := dk_154 0 5 (dk_at dksX2_threshold_0 20 rfl rfl)
theorem dX2_threshold_23 : decode cX2_threshold 23 = .ok (.iconst 0, 1) := dk_3 (dk_at dksX2_threshold_0 23 rfl rfl)
theorem dX2_threshold_24 : decode cX2_threshold 24 = .ok (.ireturn, 1) := dk_172 (dk_at dksX2_threshold_1 0 rfl rfl)
theorem dX2_threshold_25 : decode cX2_threshold 25 = .ok (.aload_n 0, 1) := dk_42 (dk_at dksX2_threshold_1 1 rfl rfl)
theorem dX2_threshold_26 : decode cX2_threshold 26 = .ok (.getfield 25, 3) := dk_180 0 25 (dk_at dksX2_threshold_1 2 rfl rfl)
theorem dX2_threshold_29 : decode cX2_threshold 29 = .ok (.istore_n 2, 1) := dk_61 (dk_at dksX2_threshold_1 5 rfl rfl)
theorem dX2_threshold_30 : decode cX2_threshold 30 = .ok (.aload_n 0, 1) := dk_42 (dk_at dksX2_threshold_1 6 rfl rfl)
theorem dX2_threshold_31 : decode cX2_threshold 31 = .ok (.iload_n 1, 1) := dk_27 (dk_at dksX2_threshold_1 7 rfl rfl)
theorem dX2_threshold_32 : decode cX2_threshold 32 = .ok (.putfield 25, 3) := dk_181 0 25 (dk_at dksX2_threshold_1 8 rfl rfl)
theorem dX2_threshold_35 : decode cX2_threshold 35 = .ok (.iload_n 2, 1) := dk_28 (dk_at dksX2_threshold_1 11 rfl rfl)
theorem dX2_threshold_36 : decode cX2_threshold 36 = .ok (.ireturn, 1) := dk_172 (dk_at dksX2_threshold_1 12 rfl rfl)
abbrev cX2_find : ByteArray := prog_6_method_19_code
def yX2_find : MethodName := ⟨RX2, "find", "(IIIIIII)I"⟩
def dkwX2_find_10 : List UInt8 := [180, 0, 113, 4, 96, 181, 0, 113, 42, 180, 0, 113, 4, 100, 172]
abbrev dktX2_find_10 : List UInt8 := dkwX2_find_10 ++ []
def dkwX2_find_9 : List UInt8 := [4, 167, 0, 9, 42, 180, 0, 16, 27, 46, 96, 79, 42, 42, 180, 0, 113, 21, 7, 182, 0, 145, 42, 89]
abbrev dktX2_find_9 : List UInt8 := dkwX2_find_9 ++ dktX2_find_10
def dkwX2_find_8 : List UInt8 := [180, 0, 113, 21, 6, 79, 42, 180, 0, 56, 42, 180, 0, 113, 42, 180, 0, 136, 27, 16, 7, 160, 0, 7]
abbrev dktX2_find_8 : List UInt8 := dkwX2_find_8 ++ dktX2_find_9
def dkwX2_find_7 : List UInt8 := [42, 180, 0, 113, 21, 4, 79, 42, 180, 0, 41, 42, 180, 0, 113, 21, 5, 79, 42, 180, 0, 44, 42]
abbrev dktX2_find_7 : List UInt8 := dkwX2_find_7 ++ dktX2_find_8
def dkwX2_find_6 : List UInt8 := [180, 0, 113, 28, 79, 42, 180, 0, 35, 42, 180, 0, 113, 42, 180, 0, 136, 29, 100, 79, 42, 180, 0, 38]
abbrev dktX2_find_6 : List UInt8 := dkwX2_find_6 ++ dktX2_find_7
def dkwX2_find_5 : List UInt8 := [182, 0, 123, 154, 0, 5, 3, 172, 42, 180, 0, 29, 42, 180, 0, 113, 27, 79, 42, 180, 0, 32, 42]
abbrev dktX2_find_5 : List UInt8 := dkwX2_find_5 ++ dktX2_find_6
def dkwX2_find_4 : List UInt8 := [21, 9, 154, 0, 7, 5, 167, 0, 17, 42, 180, 0, 113, 16, 30, 160, 0, 7, 6, 167, 0, 4, 3]
abbrev dktX2_find_4 : List UInt8 := dkwX2_find_4 ++ dktX2_find_5
def dkwX2_find_3 : List UInt8 := [21, 5, 126, 154, 0, 7, 4, 167, 0, 4, 3, 54, 9, 42, 21, 8, 154, 0, 7, 4, 167, 0, 26]
abbrev dktX2_find_3 : List UInt8 := dkwX2_find_3 ++ dktX2_find_4
def dkwX2_find_2 : List UInt8 := [184, 0, 108, 153, 0, 31, 21, 4, 184, 0, 142, 153, 0, 23, 21, 5, 184, 0, 142, 153, 0, 15, 21, 4]
abbrev dktX2_find_2 : List UInt8 := dkwX2_find_2 ++ dktX2_find_3
def dkwX2_find_1 : List UInt8 := [167, 0, 4, 3, 54, 8, 29, 3, 42, 180, 0, 136, 184, 0, 108, 153, 0, 43, 21, 6, 3, 17, 39, 15]
abbrev dktX2_find_1 : List UInt8 := dkwX2_find_1 ++ dktX2_find_2
def dkwX2_find_0 : List UInt8 := [27, 184, 0, 126, 153, 0, 22, 28, 184, 0, 139, 153, 0, 15, 21, 7, 184, 0, 129, 153, 0, 7, 4]
abbrev dktX2_find_0 : List UInt8 := dkwX2_find_0 ++ dktX2_find_1
theorem dksX2_find_0 : cX2_find.data.toList.drop 0 = dktX2_find_0 := by decide +kernel
theorem dksX2_find_1 : cX2_find.data.toList.drop 23 = dktX2_find_1 := dk_seg dksX2_find_0 23 rfl rfl
theorem dksX2_find_2 : cX2_find.data.toList.drop 47 = dktX2_find_2 := dk_seg dksX2_find_1 24 rfl rfl
theorem dksX2_find_3 : cX2_find.data.toList.drop 71 = dktX2_find_3 := dk_seg dksX2_find_2 24 rfl rfl
theorem dksX2_find_4 : cX2_find.data.toList.drop 94 = dktX2_find_4 := dk_seg dksX2_find_3 23 rfl rfl
theorem dksX2_find_5 : cX2_find.data.toList.drop 117 = dktX2_find_5 := dk_seg dksX2_find_4 23 rfl rfl
theorem dksX2_find_6 : cX2_find.data.toList.drop 140 = dktX2_find_6 := dk_seg dksX2_find_5 23 rfl rfl
theorem dksX2_find_7 : cX2_find.data.toList.drop 164 = dktX2_find_7 := dk_seg dksX2_find_6 24 rfl rfl
theorem dksX2_find_8 : cX2_find.data.toList.drop 187 = dktX2_find_8 := dk_seg dksX2_find_7 23 rfl rfl
theorem dksX2_find_9 : cX2_find.data.toList.drop 211 = dktX2_find_9 := dk_seg dksX2_find_8 24 rfl rfl
theorem dksX2_find_10 : cX2_find.data.toList.drop 235 = dktX2_find_10 := dk_seg dksX2_find_9 24 rfl rfl
theorem dX2_find_0 : decode cX2_find 0 = .ok (.iload_n 1, 1) := dk_27 (dk_at dksX2_find_0 0 rfl rfl)
theorem dX2_find_1 : decode cX2_find 1 = .ok (.invokestatic 126, 3) := dk_184 0 126 (dk_at dksX2_find_0 1 rfl rfl)
theorem dX2_find_4 : decode cX2_find 4 = .ok (.ifCond .eq 22, 3) := dk_153 0 22 (dk_at dksX2_find_0 4 rfl rfl)
theorem dX2_find_7 : decode cX2_find 7 = .ok (.iload_n 2, 1) := dk_28 (dk_at dksX2_find_0 7 rfl rfl)
theorem dX2_find_8 : decode cX2_find 8 = .ok (.invokestatic 139, 3) := dk_184 0 139 (dk_at dksX2_find_0 8 rfl rfl)
theorem dX2_find_11 : decode cX2_find 11 = .ok (.ifCond .eq 15, 3) := dk_153 0 15 (dk_at dksX2_find_0 11 rfl rfl)
theorem dX2_find_14 : decode cX2_find 14 = .ok (.iload 7, 2) := dk_21 7 (dk_at dksX2_find_0 14 rfl rfl)
theorem dX2_find_16 : decode cX2_find 16 = .ok (.invokestatic 129, 3) := dk_184 0 129 (dk_at dksX2_find_0 16 rfl rfl)
theorem dX2_find_19 : decode cX2_find 19 = .ok (.ifCond .eq 7, 3) := dk_153 0 7 (dk_at dksX2_find_0 19 rfl rfl)
theorem dX2_find_22 : decode cX2_find 22 = .ok (.iconst 1, 1) := dk_4 (dk_at dksX2_find_0 22 rfl rfl)
theorem dX2_find_23 : decode cX2_find 23 = .ok (.goto 4, 3) := dk_167 0 4 (dk_at dksX2_find_1 0 rfl rfl)
theorem dX2_find_26 : decode cX2_find 26 = .ok (.iconst 0, 1) := dk_3 (dk_at dksX2_find_1 3 rfl rfl)
theorem dX2_find_27 : decode cX2_find 27 = .ok (.istore 8, 2) := dk_54 8 (dk_at dksX2_find_1 4 rfl rfl)
theorem dX2_find_29 : decode cX2_find 29 = .ok (.iload_n 3, 1) := dk_29 (dk_at dksX2_find_1 6 rfl rfl)
theorem dX2_find_30 : decode cX2_find 30 = .ok (.iconst 0, 1) := dk_3 (dk_at dksX2_find_1 7 rfl rfl)
theorem dX2_find_31 : decode cX2_find 31 = .ok (.aload_n 0, 1) := dk_42 (dk_at dksX2_find_1 8 rfl rfl)
theorem dX2_find_32 : decode cX2_find 32 = .ok (.getfield 136, 3) := dk_180 0 136 (dk_at dksX2_find_1 9 rfl rfl)
theorem dX2_find_35 : decode cX2_find 35 = .ok (.invokestatic 108, 3) := dk_184 0 108 (dk_at dksX2_find_1 12 rfl rfl)
theorem dX2_find_38 : decode cX2_find 38 = .ok (.ifCond .eq 43, 3) := dk_153 0 43 (dk_at dksX2_find_1 15 rfl rfl)
theorem dX2_find_41 : decode cX2_find 41 = .ok (.iload 6, 2) := dk_21 6 (dk_at dksX2_find_1 18 rfl rfl)
theorem dX2_find_43 : decode cX2_find 43 = .ok (.iconst 0, 1) := dk_3 (dk_at dksX2_find_1 20 rfl rfl)
theorem dX2_find_44 : decode cX2_find 44 = .ok (.sipush 9999, 3) := dk_17 39 15 (dk_at dksX2_find_1 21 rfl rfl)
theorem dX2_find_47 : decode cX2_find 47 = .ok (.invokestatic 108, 3) := dk_184 0 108 (dk_at dksX2_find_2 0 rfl rfl)
theorem dX2_find_50 : decode cX2_find 50 = .ok (.ifCond .eq 31, 3) := dk_153 0 31 (dk_at dksX2_find_2 3 rfl rfl)
theorem dX2_find_53 : decode cX2_find 53 = .ok (.iload 4, 2) := dk_21 4 (dk_at dksX2_find_2 6 rfl rfl)
theorem dX2_find_55 : decode cX2_find 55 = .ok (.invokestatic 142, 3) := dk_184 0 142 (dk_at dksX2_find_2 8 rfl rfl)
theorem dX2_find_58 : decode cX2_find 58 = .ok (.ifCond .eq 23, 3) := dk_153 0 23 (dk_at dksX2_find_2 11 rfl rfl)
theorem dX2_find_61 : decode cX2_find 61 = .ok (.iload 5, 2) := dk_21 5 (dk_at dksX2_find_2 14 rfl rfl)
theorem dX2_find_63 : decode cX2_find 63 = .ok (.invokestatic 142, 3) := dk_184 0 142 (dk_at dksX2_find_2 16 rfl rfl)
theorem dX2_find_66 : decode cX2_find 66 = .ok (.ifCond .eq 15, 3) := dk_153 0 15 (dk_at dksX2_find_2 19 rfl rfl)
theorem dX2_find_69 : decode cX2_find 69 = .ok (.iload 4, 2) := dk_21 4 (dk_at dksX2_find_2 22 rfl rfl)
theorem dX2_find_71 : decode cX2_find 71 = .ok (.iload 5, 2) := dk_21 5 (dk_at dksX2_find_3 0 rfl rfl)
theorem dX2_find_73 : decode cX2_find 73 = .ok (.iand, 1) := dk_126 (dk_at dksX2_find_3 2 rfl rfl)
theorem dX2_find_74 : decode cX2_find 74 = .ok (.ifCond .ne 7, 3) := dk_154 0 7 (dk_at dksX2_find_3 3 rfl rfl)
theorem dX2_find_77 : decode cX2_find 77 = .ok (.iconst 1, 1) := dk_4 (dk_at dksX2_find_3 6 rfl rfl)
theorem dX2_find_78 : decode cX2_find 78 = .ok (.goto 4, 3) := dk_167 0 4 (dk_at dksX2_find_3 7 rfl rfl)
theorem dX2_find_81 : decode cX2_find 81 = .ok (.iconst 0, 1) := dk_3 (dk_at dksX2_find_3 10 rfl rfl)
theorem dX2_find_82 : decode cX2_find 82 = .ok (.istore 9, 2) := dk_54 9 (dk_at dksX2_find_3 11 rfl rfl)
theorem dX2_find_84 : decode cX2_find 84 = .ok (.aload_n 0, 1) := dk_42 (dk_at dksX2_find_3 13 rfl rfl)
theorem dX2_find_85 : decode cX2_find 85 = .ok (.iload 8, 2) := dk_21 8 (dk_at dksX2_find_3 14 rfl rfl)
theorem dX2_find_87 : decode cX2_find 87 = .ok (.ifCond .ne 7, 3) := dk_154 0 7 (dk_at dksX2_find_3 16 rfl rfl)
theorem dX2_find_90 : decode cX2_find 90 = .ok (.iconst 1, 1) := dk_4 (dk_at dksX2_find_3 19 rfl rfl)
theorem dX2_find_91 : decode cX2_find 91 = .ok (.goto 26, 3) := dk_167 0 26 (dk_at dksX2_find_3 20 rfl rfl)
theorem dX2_find_94 : decode cX2_find 94 = .ok (.iload 9, 2) := dk_21 9 (dk_at dksX2_find_4 0 rfl rfl)
theorem dX2_find_96 : decode cX2_find 96 = .ok (.ifCond .ne 7, 3) := dk_154 0 7 (dk_at dksX2_find_4 2 rfl rfl)
theorem dX2_find_99 : decode cX2_find 99 = .ok (.iconst 2, 1) := dk_5 (dk_at dksX2_find_4 5 rfl rfl)
theorem dX2_find_100 : decode cX2_find 100 = .ok (.goto 17, 3) := dk_167 0 17 (dk_at dksX2_find_4 6 rfl rfl)
theorem dX2_find_103 : decode cX2_find 103 = .ok (.aload_n 0, 1) := dk_42 (dk_at dksX2_find_4 9 rfl rfl)
theorem dX2_find_104 : decode cX2_find 104 = .ok (.getfield 113, 3) := dk_180 0 113 (dk_at dksX2_find_4 10 rfl rfl)
theorem dX2_find_107 : decode cX2_find 107 = .ok (.bipush 30, 2) := dk_16 30 (dk_at dksX2_find_4 13 rfl rfl)
theorem dX2_find_109 : decode cX2_find 109 = .ok (.if_icmp .ne 7, 3) := dk_160 0 7 (dk_at dksX2_find_4 15 rfl rfl)
theorem dX2_find_112 : decode cX2_find 112 = .ok (.iconst 3, 1) := dk_6 (dk_at dksX2_find_4 18 rfl rfl)
theorem dX2_find_113 : decode cX2_find 113 = .ok (.goto 4, 3) := dk_167 0 4 (dk_at dksX2_find_4 19 rfl rfl)
theorem dX2_find_116 : decode cX2_find 116 = .ok (.iconst 0, 1) := dk_3 (dk_at dksX2_find_4 22 rfl rfl)
theorem dX2_find_117 : decode cX2_find 117 = .ok (.invokevirtual 123, 3) := dk_182 0 123 (dk_at dksX2_find_5 0 rfl rfl)
theorem dX2_find_120 : decode cX2_find 120 = .ok (.ifCond .ne 5, 3) := dk_154 0 5 (dk_at dksX2_find_5 3 rfl rfl)
theorem dX2_find_123 : decode cX2_find 123 = .ok (.iconst 0, 1) := dk_3 (dk_at dksX2_find_5 6 rfl rfl)
theorem dX2_find_124 : decode cX2_find 124 = .ok (.ireturn, 1) := dk_172 (dk_at dksX2_find_5 7 rfl rfl)
theorem dX2_find_125 : decode cX2_find 125 = .ok (.aload_n 0, 1) := dk_42 (dk_at dksX2_find_5 8 rfl rfl)
theorem dX2_find_126 : decode cX2_find 126 = .ok (.getfield 29, 3) := dk_180 0 29 (dk_at dksX2_find_5 9 rfl rfl)
theorem dX2_find_129 : decode cX2_find 129 = .ok (.aload_n 0, 1) := dk_42 (dk_at dksX2_find_5 12 rfl rfl)
theorem dX2_find_130 : decode cX2_find 130 = .ok (.getfield 113, 3) := dk_180 0 113 (dk_at dksX2_find_5 13 rfl rfl)
theorem dX2_find_133 : decode cX2_find 133 = .ok (.iload_n 1, 1) := dk_27 (dk_at dksX2_find_5 16 rfl rfl)
theorem dX2_find_134 : decode cX2_find 134 = .ok (.iastore, 1) := dk_79 (dk_at dksX2_find_5 17 rfl rfl)
theorem dX2_find_135 : decode cX2_find 135 = .ok (.aload_n 0, 1) := dk_42 (dk_at dksX2_find_5 18 rfl rfl)
theorem dX2_find_136 : decode cX2_find 136 = .ok (.getfield 32, 3) := dk_180 0 32 (dk_at dksX2_find_5 19 rfl rfl)
theorem dX2_find_139 : decode cX2_find 139 = .ok (.aload_n 0, 1) := dk_42 (dk_at dksX2_find_5 22 rfl rfl)
theorem dX2_find_140 : decode cX2_find 140 = .ok (.getfield 113, 3) := dk_180 0 113 (dk_at dksX2_find_6 0 rfl rfl)
theorem dX2_find_143 : decode cX2_find 143 = .ok (.iload_n 2, 1) := dk_28 (dk_at dksX2_find_6 3 rfl rfl)
theorem dX2_find_144 : decode cX2_find 144 = .ok (.iastore, 1) := dk_79 (dk_at dksX2_find_6 4 rfl rfl)
theorem dX2_find_145 : decode cX2_find 145 = .ok (.aload_n 0, 1) := dk_42 (dk_at dksX2_find_6 5 rfl rfl)
theorem dX2_find_146 : decode cX2_find 146 = .ok (.getfield 35, 3) := dk_180 0 35 (dk_at dksX2_find_6 6 rfl rfl)
theorem dX2_find_149 : decode cX2_find 149 = .ok (.aload_n 0, 1) := dk_42 (dk_at dksX2_find_6 9 rfl rfl)
theorem dX2_find_150 : decode cX2_find 150 = .ok (.getfield 113, 3) := dk_180 0 113 (dk_at dksX2_find_6 10 rfl rfl)
theorem dX2_find_153 : decode cX2_find 153 = .ok (.aload_n 0, 1) := dk_42 (dk_at dksX2_find_6 13 rfl rfl)
theorem dX2_find_154 : decode cX2_find 154 = .ok (.getfield 136, 3) := dk_180 0 136 (dk_at dksX2_find_6 14 rfl rfl)
theorem dX2_find_157 : decode cX2_find 157 = .ok (.iload_n 3, 1) := dk_29 (dk_at dksX2_find_6 17 rfl rfl)
theorem dX2_find_158 : decode cX2_find 158 = .ok (.isub, 1) := dk_100 (dk_at dksX2_find_6 18 rfl rfl)
theorem dX2_find_159 : decode cX2_find 159 = .ok (.iastore, 1) := dk_79 (dk_at dksX2_find_6 19 rfl rfl)
theorem dX2_find_160 : decode cX2_find 160 = .ok (.aload_n 0, 1) := dk_42 (dk_at dksX2_find_6 20 rfl rfl)
theorem dX2_find_161 : decode cX2_find 161 = .ok (.getfield 38, 3) := dk_180 0 38 (dk_at dksX2_find_6 21 rfl rfl)
theorem dX2_find_164 : decode cX2_find 164 = .ok (.aload_n 0, 1) := dk_42 (dk_at dksX2_find_7 0 rfl rfl)
theorem dX2_find_165 : decode cX2_find 165 = .ok (.getfield 113, 3) := dk_180 0 113 (dk_at dksX2_find_7 1 rfl rfl)
theorem dX2_find_168 : decode cX2_find 168 = .ok (.iload 4, 2) := dk_21 4 (dk_at dksX2_find_7 4 rfl rfl)
theorem dX2_find_170 : decode cX2_find 170 = .ok (.iastore, 1) := dk_79 (dk_at dksX2_find_7 6 rfl rfl)
theorem dX2_find_171 : decode cX2_find 171 = .ok (.aload_n 0, 1) := dk_42 (dk_at dksX2_find_7 7 rfl rfl)
theorem dX2_find_172 : decode cX2_find 172 = .ok (.getfield 41, 3) := dk_180 0 41 (dk_at dksX2_find_7 8 rfl rfl)
theorem dX2_find_175 : decode cX2_find 175 = .ok (.aload_n 0, 1) := dk_42 (dk_at dksX2_find_7 11 rfl rfl)
theorem dX2_find_176 : decode cX2_find 176 = .ok (.getfield 113, 3) := dk_180 0 113 (dk_at dksX2_find_7 12 rfl rfl)
theorem dX2_find_179 : decode cX2_find 179 = .ok (.iload 5, 2) := dk_21 5 (dk_at dksX2_find_7 15 rfl rfl)
theorem dX2_find_181 : decode cX2_find 181 = .ok (.iastore, 1) := dk_79 (dk_at dksX2_find_7 17 rfl rfl)
theorem dX2_find_182 : decode cX2_find 182 = .ok (.aload_n 0, 1) := dk_42 (dk_at dksX2_find_7 18 rfl rfl)
theorem dX2_find_183 : decode cX2_find 183 = .ok (.getfield 44, 3) := dk_180 0 44 (dk_at dksX2_find_7 19 rfl rfl)
theorem dX2_find_186 : decode cX2_find 186 = .ok (.aload_n 0, 1) := dk_42 (dk_at dksX2_find_7 22 rfl rfl)
theorem dX2_find_187 : decode cX2_find 187 = .ok (.getfield 113, 3) := dk_180 0 113 (dk_at dksX2_find_8 0 rfl rfl)
theorem dX2_find_190 : decode cX2_find 190 = .ok (.iload 6, 2) := dk_21 6 (dk_at dksX2_find_8 3 rfl rfl)
theorem dX2_find_192 : decode cX2_find 192 = .ok (.iastore, 1) := dk_79 (dk_at dksX2_find_8 5 rfl rfl)
theorem dX2_find_193 : decode cX2_find 193 = .ok (.aload_n 0, 1) := dk_42 (dk_at dksX2_find_8 6 rfl rfl)
theorem dX2_find_194 : decode cX2_find 194 = .ok (.getfield 56, 3) := dk_180 0 56 (dk_at dksX2_find_8 7 rfl rfl)
theorem dX2_find_197 : decode cX2_find 197 = .ok (.aload_n 0, 1) := dk_42 (dk_at dksX2_find_8 10 rfl rfl)
theorem dX2_find_198 : decode cX2_find 198 = .ok (.getfield 113, 3) := dk_180 0 113 (dk_at dksX2_find_8 11 rfl rfl)
theorem dX2_find_201 : decode cX2_find 201 = .ok (.aload_n 0, 1) := dk_42 (dk_at dksX2_find_8 14 rfl rfl)
theorem dX2_find_202 : decode cX2_find 202 = .ok (.getfield 136, 3) := dk_180 0 136 (dk_at dksX2_find_8 15 rfl rfl)
theorem dX2_find_205 : decode cX2_find 205 = .ok (.iload_n 1, 1) := dk_27 (dk_at dksX2_find_8 18 rfl rfl)
theorem dX2_find_206 : decode cX2_find 206 = .ok (.bipush 7, 2) := dk_16 7 (dk_at dksX2_find_8 19 rfl rfl)
theorem dX2_find_208 : decode cX2_find 208 = .ok (.if_icmp .ne 7, 3) := dk_160 0 7 (dk_at dksX2_find_8 21 rfl rfl)
theorem dX2_find_211 : decode cX2_find 211 = .ok (.iconst 1, 1) := dk_4 (dk_at dksX2_find_9 0 rfl rfl)
theorem dX2_find_212 : decode cX2_find 212 = .ok (.goto 9, 3) := dk_167 0 9 (dk_at dksX2_find_9 1 rfl rfl)
theorem dX2_find_215 : decode cX2_find 215 = .ok (.aload_n 0, 1) := dk_42 (dk_at dksX2_find_9 4 rfl rfl)
theorem dX2_find_216 : decode cX2_find 216 = .ok (.getfield 16, 3) := dk_180 0 16 (dk_at dksX2_find_9 5 rfl rfl)
theorem dX2_find_219 : decode cX2_find 219 = .ok (.iload_n 1, 1) := dk_27 (dk_at dksX2_find_9 8 rfl rfl)
theorem dX2_find_220 : decode cX2_find 220 = .ok (.iaload, 1) := dk_46 (dk_at dksX2_find_9 9 rfl rfl)
theorem dX2_find_221 : decode cX2_find 221 = .ok (.iadd, 1) := dk_96 (dk_at dksX2_find_9 10 rfl rfl)
theorem dX2_find_222 : decode cX2_find 222 = .ok (.iastore, 1) := dk_79 (dk_at dksX2_find_9 11 rfl rfl)
theorem dX2_find_223 : decode cX2_find 223 = .ok (.aload_n 0, 1) := dk_42 (dk_at dksX2_find_9 12 rfl rfl)
theorem dX2_find_224 : decode cX2_find 224 = .ok (.aload_n 0, 1) := dk_42 (dk_at dksX2_find_9 13 rfl rfl)
theorem dX2_find_225 : decode cX2_find 225 = .ok (.getfield 113, 3) := dk_180 0 113 (dk_at dksX2_find_9 14 rfl rfl)
theorem dX2_find_228 : decode cX2_find 228 = .ok (.iload 7, 2) := dk_21 7 (dk_at dksX2_find_9 17 rfl rfl)
theorem dX2_find_230 : decode cX2_find 230 = .ok (.invokevirtual 145, 3) := dk_182 0 145 (dk_at dksX2_find_9 19 rfl rfl)
theorem dX2_find_233 : decode cX2_find 233 = .ok (.aload_n 0, 1) := dk_42 (dk_at dksX2_find_9 22 rfl rfl)
theorem dX2_find_234 : decode cX2_find 234 = .ok (.dup, 1) := dk_89 (dk_at dksX2_find_9 23 rfl rfl)
theorem dX2_find_235 : decode cX2_find 235 = .ok (.getfield 113, 3) := dk_180 0 113 (dk_at dksX2_find_10 0 rfl rfl)
theorem dX2_find_238 : decode cX2_find 238 = .ok (.iconst 1, 1) := dk_4 (dk_at dksX2_find_10 3 rfl rfl)
theorem dX2_find_239 : decode cX2_find 239 = .ok (.iadd, 1) := dk_96 (dk_at dksX2_find_10 4 rfl rfl)
theorem dX2_find_240 : decode cX2_find 240 = .ok (.putfield 113, 3) := dk_181 0 113 (dk_at dksX2_find_10 5 rfl rfl)
theorem dX2_find_243 : decode cX2_find 243 = .ok (.aload_n 0, 1) := dk_42 (dk_at dksX2_find_10 8 rfl rfl)
theorem dX2_find_244 : decode cX2_find 244 = .ok (.getfield 113, 3) := dk_180 0 113 (dk_at dksX2_find_10 9 rfl rfl)
theorem dX2_find_247 : decode cX2_find 247 = .ok (.iconst 1, 1) := dk_4 (dk_at dksX2_find_10 12 rfl rfl)
theorem dX2_find_248 : decode cX2_find 248 = .ok (.isub, 1) := dk_100 (dk_at dksX2_find_10 13 rfl rfl)
theorem dX2_find_249 : decode cX2_find 249 = .ok (.ireturn, 1) := dk_172 (dk_at dksX2_find_10 14 rfl rfl)
abbrev cX2_isPlace : ByteArray := prog_6_method_8_code
def yX2_isPlace : MethodName := ⟨RX2, "isPlace", "(I)Z"⟩
def dkwX2_isPlace_0 : List UInt8 := [26, 3, 16, 9, 184, 0, 108, 172]
abbrev dktX2_isPlace_0 : List UInt8 := dkwX2_isPlace_0 ++ []
theorem dksX2_isPlace_0 : cX2_isPlace.data.toList.drop 0 = dktX2_isPlace_0 := by decide +kernel
theorem dX2_isPlace_0 : decode cX2_isPlace 0 = .ok (.iload_n 0, 1) := dk_26 (dk_at dksX2_isPlace_0 0 rfl rfl)
theorem dX2_isPlace_1 : decode cX2_isPlace 1 = .ok (.iconst 0, 1) := dk_3 (dk_at dksX2_isPlace_0 1 rfl rfl)
theorem dX2_isPlace_2 : decode cX2_isPlace 2 = .ok (.bipush 9, 2) := dk_16 9 (dk_at dksX2_isPlace_0 2 rfl rfl)
theorem dX2_isPlace_4 : decode cX2_isPlace 4 = .ok (.invokestatic 108, 3) := dk_184 0 108 (dk_at dksX2_isPlace_0 4 rfl rfl)
theorem dX2_isPlace_7 : decode cX2_isPlace 7 = .ok (.ireturn, 1) := dk_172 (dk_at dksX2_isPlace_0 7 rfl rfl)
abbrev cX2_isSet : ByteArray := prog_6_method_9_code
def yX2_isSet : MethodName := ⟨RX2, "isSet", "(I)Z"⟩
def dkwX2_isSet_0 : List UInt8 := [26, 3, 18, 112, 184, 0, 108, 172]
abbrev dktX2_isSet_0 : List UInt8 := dkwX2_isSet_0 ++ []
theorem dksX2_isSet_0 : cX2_isSet.data.toList.drop 0 = dktX2_isSet_0 := by decide +kernel
theorem dX2_isSet_0 : decode cX2_isSet 0 = .ok (.iload_n 0, 1) := dk_26 (dk_at dksX2_isSet_0 0 rfl rfl)
theorem dX2_isSet_1 : decode cX2_isSet 1 = .ok (.iconst 0, 1) := dk_3 (dk_at dksX2_isSet_0 1 rfl rfl)
theorem dX2_isSet_2 : decode cX2_isSet 2 = .ok (.ldc 112, 2) := dk_18 112 (dk_at dksX2_isSet_0 2 rfl rfl)
theorem dX2_isSet_4 : decode cX2_isSet 4 = .ok (.invokestatic 108, 3) := dk_184 0 108 (dk_at dksX2_isSet_0 4 rfl rfl)
theorem dX2_isSet_7 : decode cX2_isSet 7 = .ok (.ireturn, 1) := dk_172 (dk_at dksX2_isSet_0 7 rfl rfl)
abbrev cX2_comes : ByteArray := prog_6_method_18_code
def yX2_comes : MethodName := ⟨RX2, "comes", "(II)V"⟩
def dkwX2_comes_5 : List UInt8 := [27, 46, 96, 42, 180, 0, 136, 79, 42, 180, 0, 69, 27, 92, 46, 4, 96, 79, 177]
abbrev dktX2_comes_5 : List UInt8 := dkwX2_comes_5 ++ []
def dkwX2_comes_4 : List UInt8 := [79, 42, 180, 0, 72, 29, 42, 180, 0, 69, 27, 46, 96, 28, 79, 42, 180, 0, 75, 29, 42, 180, 0, 69]
abbrev dktX2_comes_4 : List UInt8 := dkwX2_comes_4 ++ dktX2_comes_5
def dkwX2_comes_3 : List UInt8 := [180, 0, 75, 21, 4, 4, 96, 46, 79, 132, 4, 1, 167, 255, 210, 42, 180, 0, 69, 27, 92, 46, 4, 100]
abbrev dktX2_comes_3 : List UInt8 := dkwX2_comes_3 ++ dktX2_comes_4
def dkwX2_comes_2 : List UInt8 := [180, 0, 72, 21, 4, 42, 180, 0, 72, 21, 4, 4, 96, 46, 79, 42, 180, 0, 75, 21, 4, 42]
abbrev dktX2_comes_2 : List UInt8 := dkwX2_comes_2 ++ dktX2_comes_3
def dkwX2_comes_1 : List UInt8 := [46, 16, 12, 160, 0, 67, 29, 4, 96, 54, 4, 21, 4, 29, 16, 12, 96, 4, 100, 162, 0, 41, 42]
abbrev dktX2_comes_1 : List UInt8 := dkwX2_comes_1 ++ dktX2_comes_2
def dkwX2_comes_0 : List UInt8 := [42, 180, 0, 47, 27, 3, 79, 42, 180, 0, 50, 27, 28, 79, 16, 12, 27, 104, 62, 42, 180, 0, 69, 27]
abbrev dktX2_comes_0 : List UInt8 := dkwX2_comes_0 ++ dktX2_comes_1
theorem dksX2_comes_0 : cX2_comes.data.toList.drop 0 = dktX2_comes_0 := by decide +kernel
theorem dksX2_comes_1 : cX2_comes.data.toList.drop 24 = dktX2_comes_1 := dk_seg dksX2_comes_0 24 rfl rfl
theorem dksX2_comes_2 : cX2_comes.data.toList.drop 47 = dktX2_comes_2 := dk_seg dksX2_comes_1 23 rfl rfl
theorem dksX2_comes_3 : cX2_comes.data.toList.drop 69 = dktX2_comes_3 := dk_seg dksX2_comes_2 22 rfl rfl
theorem dksX2_comes_4 : cX2_comes.data.toList.drop 93 = dktX2_comes_4 := dk_seg dksX2_comes_3 24 rfl rfl
theorem dksX2_comes_5 : cX2_comes.data.toList.drop 117 = dktX2_comes_5 := dk_seg dksX2_comes_4 24 rfl rfl
theorem dX2_comes_0 : decode cX2_comes 0 = .ok (.aload_n 0, 1) := dk_42 (dk_at dksX2_comes_0 0 rfl rfl)
theorem dX2_comes_1 : decode cX2_comes 1 = .ok (.getfield 47, 3) := dk_180 0 47 (dk_at dksX2_comes_0 1 rfl rfl)
theorem dX2_comes_4 : decode cX2_comes 4 = .ok (.iload_n 1, 1) := dk_27 (dk_at dksX2_comes_0 4 rfl rfl)
theorem dX2_comes_5 : decode cX2_comes 5 = .ok (.iconst 0, 1) := dk_3 (dk_at dksX2_comes_0 5 rfl rfl)
theorem dX2_comes_6 : decode cX2_comes 6 = .ok (.iastore, 1) := dk_79 (dk_at dksX2_comes_0 6 rfl rfl)
theorem dX2_comes_7 : decode cX2_comes 7 = .ok (.aload_n 0, 1) := dk_42 (dk_at dksX2_comes_0 7 rfl rfl)
theorem dX2_comes_8 : decode cX2_comes 8 = .ok (.getfield 50, 3) := dk_180 0 50 (dk_at dksX2_comes_0 8 rfl rfl)
theorem dX2_comes_11 : decode cX2_comes 11 = .ok (.iload_n 1, 1) := dk_27 (dk_at dksX2_comes_0 11 rfl rfl)
theorem dX2_comes_12 : decode cX2_comes 12 = .ok (.iload_n 2, 1) := dk_28 (dk_at dksX2_comes_0 12 rfl rfl)
theorem dX2_comes_13 : decode cX2_comes 13 = .ok (.iastore, 1) := dk_79 (dk_at dksX2_comes_0 13 rfl rfl)
theorem dX2_comes_14 : decode cX2_comes 14 = .ok (.bipush 12, 2) := dk_16 12 (dk_at dksX2_comes_0 14 rfl rfl)
theorem dX2_comes_16 : decode cX2_comes 16 = .ok (.iload_n 1, 1) := dk_27 (dk_at dksX2_comes_0 16 rfl rfl)
theorem dX2_comes_17 : decode cX2_comes 17 = .ok (.imul, 1) := dk_104 (dk_at dksX2_comes_0 17 rfl rfl)
theorem dX2_comes_18 : decode cX2_comes 18 = .ok (.istore_n 3, 1) := dk_62 (dk_at dksX2_comes_0 18 rfl rfl)
theorem dX2_comes_19 : decode cX2_comes 19 = .ok (.aload_n 0, 1) := dk_42 (dk_at dksX2_comes_0 19 rfl rfl)
theorem dX2_comes_20 : decode cX2_comes 20 = .ok (.getfield 69, 3) := dk_180 0 69 (dk_at dksX2_comes_0 20 rfl rfl)
theorem dX2_comes_23 : decode cX2_comes 23 = .ok (.iload_n 1, 1) := dk_27 (dk_at dksX2_comes_0 23 rfl rfl)
theorem dX2_comes_24 : decode cX2_comes 24 = .ok (.iaload, 1) := dk_46 (dk_at dksX2_comes_1 0 rfl rfl)
theorem dX2_comes_25 : decode cX2_comes 25 = .ok (.bipush 12, 2) := dk_16 12 (dk_at dksX2_comes_1 1 rfl rfl)
theorem dX2_comes_27 : decode cX2_comes 27 = .ok (.if_icmp .ne 67, 3) := dk_160 0 67 (dk_at dksX2_comes_1 3 rfl rfl)
theorem dX2_comes_30 : decode cX2_comes 30 = .ok (.iload_n 3, 1) := dk_29 (dk_at dksX2_comes_1 6 rfl rfl)
theorem dX2_comes_31 : decode cX2_comes 31 = .ok (.iconst 1, 1) := dk_4 (dk_at dksX2_comes_1 7 rfl rfl)
theorem dX2_comes_32 : decode cX2_comes 32 = .ok (.iadd, 1) := dk_96 (dk_at dksX2_comes_1 8 rfl rfl)
theorem dX2_comes_33 : decode cX2_comes 33 = .ok (.istore 4, 2) := dk_54 4 (dk_at dksX2_comes_1 9 rfl rfl)
theorem dX2_comes_35 : decode cX2_comes 35 = .ok (.iload 4, 2) := dk_21 4 (dk_at dksX2_comes_1 11 rfl rfl)
theorem dX2_comes_37 : decode cX2_comes 37 = .ok (.iload_n 3, 1) := dk_29 (dk_at dksX2_comes_1 13 rfl rfl)
theorem dX2_comes_38 : decode cX2_comes 38 = .ok (.bipush 12, 2) := dk_16 12 (dk_at dksX2_comes_1 14 rfl rfl)
theorem dX2_comes_40 : decode cX2_comes 40 = .ok (.iadd, 1) := dk_96 (dk_at dksX2_comes_1 16 rfl rfl)
theorem dX2_comes_41 : decode cX2_comes 41 = .ok (.iconst 1, 1) := dk_4 (dk_at dksX2_comes_1 17 rfl rfl)
theorem dX2_comes_42 : decode cX2_comes 42 = .ok (.isub, 1) := dk_100 (dk_at dksX2_comes_1 18 rfl rfl)
theorem dX2_comes_43 : decode cX2_comes 43 = .ok (.if_icmp .ge 41, 3) := dk_162 0 41 (dk_at dksX2_comes_1 19 rfl rfl)
theorem dX2_comes_46 : decode cX2_comes 46 = .ok (.aload_n 0, 1) := dk_42 (dk_at dksX2_comes_1 22 rfl rfl)
theorem dX2_comes_47 : decode cX2_comes 47 = .ok (.getfield 72, 3) := dk_180 0 72 (dk_at dksX2_comes_2 0 rfl rfl)
theorem dX2_comes_50 : decode cX2_comes 50 = .ok (.iload 4, 2) := dk_21 4 (dk_at dksX2_comes_2 3 rfl rfl)
theorem dX2_comes_52 : decode cX2_comes 52 = .ok (.aload_n 0, 1) := dk_42 (dk_at dksX2_comes_2 5 rfl rfl)
theorem dX2_comes_53 : decode cX2_comes 53 = .ok (.getfield 72, 3) := dk_180 0 72 (dk_at dksX2_comes_2 6 rfl rfl)
theorem dX2_comes_56 : decode cX2_comes 56 = .ok (.iload 4, 2) := dk_21 4 (dk_at dksX2_comes_2 9 rfl rfl)
theorem dX2_comes_58 : decode cX2_comes 58 = .ok (.iconst 1, 1) := dk_4 (dk_at dksX2_comes_2 11 rfl rfl)
theorem dX2_comes_59 : decode cX2_comes 59 = .ok (.iadd, 1) := dk_96 (dk_at dksX2_comes_2 12 rfl rfl)
theorem dX2_comes_60 : decode cX2_comes 60 = .ok (.iaload, 1) := dk_46 (dk_at dksX2_comes_2 13 rfl rfl)
theorem dX2_comes_61 : decode cX2_comes 61 = .ok (.iastore, 1) := dk_79 (dk_at dksX2_comes_2 14 rfl rfl)
theorem dX2_comes_62 : decode cX2_comes 62 = .ok (.aload_n 0, 1) := dk_42 (dk_at dksX2_comes_2 15 rfl rfl)
theorem dX2_comes_63 : decode cX2_comes 63 = .ok (.getfield 75, 3) := dk_180 0 75 (dk_at dksX2_comes_2 16 rfl rfl)
theorem dX2_comes_66 : decode cX2_comes 66 = .ok (.iload 4, 2) := dk_21 4 (dk_at dksX2_comes_2 19 rfl rfl)
theorem dX2_comes_68 : decode cX2_comes 68 = .ok (.aload_n 0, 1) := dk_42 (dk_at dksX2_comes_2 21 rfl rfl)
theorem dX2_comes_69 : decode cX2_comes 69 = .ok (.getfield 75, 3) := dk_180 0 75 (dk_at dksX2_comes_3 0 rfl rfl)
theorem dX2_comes_72 : decode cX2_comes 72 = .ok (.iload 4, 2) := dk_21 4 (dk_at dksX2_comes_3 3 rfl rfl)
theorem dX2_comes_74 : decode cX2_comes 74 = .ok (.iconst 1, 1) := dk_4 (dk_at dksX2_comes_3 5 rfl rfl)
theorem dX2_comes_75 : decode cX2_comes 75 = .ok (.iadd, 1) := dk_96 (dk_at dksX2_comes_3 6 rfl rfl)
theorem dX2_comes_76 : decode cX2_comes 76 = .ok (.iaload, 1) := dk_46 (dk_at dksX2_comes_3 7 rfl rfl)
theorem dX2_comes_77 : decode cX2_comes 77 = .ok (.iastore, 1) := dk_79 (dk_at dksX2_comes_3 8 rfl rfl)
theorem dX2_comes_78 : decode cX2_comes 78 = .ok (.iinc 4 1, 3) := dk_132 4 1 (dk_at dksX2_comes_3 9 rfl rfl)
theorem dX2_comes_81 : decode cX2_comes 81 = .ok (.goto (-46), 3) := dk_167 255 210 (dk_at dksX2_comes_3 12 rfl rfl)
theorem dX2_comes_84 : decode cX2_comes 84 = .ok (.aload_n 0, 1) := dk_42 (dk_at dksX2_comes_3 15 rfl rfl)
theorem dX2_comes_85 : decode cX2_comes 85 = .ok (.getfield 69, 3) := dk_180 0 69 (dk_at dksX2_comes_3 16 rfl rfl)
theorem dX2_comes_88 : decode cX2_comes 88 = .ok (.iload_n 1, 1) := dk_27 (dk_at dksX2_comes_3 19 rfl rfl)
theorem dX2_comes_89 : decode cX2_comes 89 = .ok (.dup2, 1) := dk_92 (dk_at dksX2_comes_3 20 rfl rfl)
theorem dX2_comes_90 : decode cX2_comes 90 = .ok (.iaload, 1) := dk_46 (dk_at dksX2_comes_3 21 rfl rfl)
theorem dX2_comes_91 : decode cX2_comes 91 = .ok (.iconst 1, 1) := dk_4 (dk_at dksX2_comes_3 22 rfl rfl)
theorem dX2_comes_92 : decode cX2_comes 92 = .ok (.isub, 1) := dk_100 (dk_at dksX2_comes_3 23 rfl rfl)
theorem dX2_comes_93 : decode cX2_comes 93 = .ok (.iastore, 1) := dk_79 (dk_at dksX2_comes_4 0 rfl rfl)
theorem dX2_comes_94 : decode cX2_comes 94 = .ok (.aload_n 0, 1) := dk_42 (dk_at dksX2_comes_4 1 rfl rfl)
theorem dX2_comes_95 : decode cX2_comes 95 = .ok (.getfield 72, 3) := dk_180 0 72 (dk_at dksX2_comes_4 2 rfl rfl)
theorem dX2_comes_98 : decode cX2_comes 98 = .ok (.iload_n 3, 1) := dk_29 (dk_at dksX2_comes_4 5 rfl rfl)
theorem dX2_comes_99 : decode cX2_comes 99 = .ok (.aload_n 0, 1) := dk_42 (dk_at dksX2_comes_4 6 rfl rfl)
theorem dX2_comes_100 : decode cX2_comes 100 = .ok (.getfield 69, 3) := dk_180 0 69 (dk_at dksX2_comes_4 7 rfl rfl)
theorem dX2_comes_103 : decode cX2_comes 103 = .ok (.iload_n 1, 1) := dk_27 (dk_at dksX2_comes_4 10 rfl rfl)
theorem dX2_comes_104 : decode cX2_comes 104 = .ok (.iaload, 1) := dk_46 (dk_at dksX2_comes_4 11 rfl rfl)
theorem dX2_comes_105 : decode cX2_comes 105 = .ok (.iadd, 1) := dk_96 (dk_at dksX2_comes_4 12 rfl rfl)
theorem dX2_comes_106 : decode cX2_comes 106 = .ok (.iload_n 2, 1) := dk_28 (dk_at dksX2_comes_4 13 rfl rfl)
theorem dX2_comes_107 : decode cX2_comes 107 = .ok (.iastore, 1) := dk_79 (dk_at dksX2_comes_4 14 rfl rfl)
theorem dX2_comes_108 : decode cX2_comes 108 = .ok (.aload_n 0, 1) := dk_42 (dk_at dksX2_comes_4 15 rfl rfl)
theorem dX2_comes_109 : decode cX2_comes 109 = .ok (.getfield 75, 3) := dk_180 0 75 (dk_at dksX2_comes_4 16 rfl rfl)
theorem dX2_comes_112 : decode cX2_comes 112 = .ok (.iload_n 3, 1) := dk_29 (dk_at dksX2_comes_4 19 rfl rfl)
theorem dX2_comes_113 : decode cX2_comes 113 = .ok (.aload_n 0, 1) := dk_42 (dk_at dksX2_comes_4 20 rfl rfl)
theorem dX2_comes_114 : decode cX2_comes 114 = .ok (.getfield 69, 3) := dk_180 0 69 (dk_at dksX2_comes_4 21 rfl rfl)
theorem dX2_comes_117 : decode cX2_comes 117 = .ok (.iload_n 1, 1) := dk_27 (dk_at dksX2_comes_5 0 rfl rfl)
theorem dX2_comes_118 : decode cX2_comes 118 = .ok (.iaload, 1) := dk_46 (dk_at dksX2_comes_5 1 rfl rfl)
theorem dX2_comes_119 : decode cX2_comes 119 = .ok (.iadd, 1) := dk_96 (dk_at dksX2_comes_5 2 rfl rfl)
theorem dX2_comes_120 : decode cX2_comes 120 = .ok (.aload_n 0, 1) := dk_42 (dk_at dksX2_comes_5 3 rfl rfl)
theorem dX2_comes_121 : decode cX2_comes 121 = .ok (.getfield 136, 3) := dk_180 0 136 (dk_at dksX2_comes_5 4 rfl rfl)
theorem dX2_comes_124 : decode cX2_comes 124 = .ok (.iastore, 1) := dk_79 (dk_at dksX2_comes_5 7 rfl rfl)
theorem dX2_comes_125 : decode cX2_comes 125 = .ok (.aload_n 0, 1) := dk_42 (dk_at dksX2_comes_5 8 rfl rfl)
theorem dX2_comes_126 : decode cX2_comes 126 = .ok (.getfield 69, 3) := dk_180 0 69 (dk_at dksX2_comes_5 9 rfl rfl)
theorem dX2_comes_129 : decode cX2_comes 129 = .ok (.iload_n 1, 1) := dk_27 (dk_at dksX2_comes_5 12 rfl rfl)
theorem dX2_comes_130 : decode cX2_comes 130 = .ok (.dup2, 1) := dk_92 (dk_at dksX2_comes_5 13 rfl rfl)
theorem dX2_comes_131 : decode cX2_comes 131 = .ok (.iaload, 1) := dk_46 (dk_at dksX2_comes_5 14 rfl rfl)
theorem dX2_comes_132 : decode cX2_comes 132 = .ok (.iconst 1, 1) := dk_4 (dk_at dksX2_comes_5 15 rfl rfl)
theorem dX2_comes_133 : decode cX2_comes 133 = .ok (.iadd, 1) := dk_96 (dk_at dksX2_comes_5 16 rfl rfl)
theorem dX2_comes_134 : decode cX2_comes 134 = .ok (.iastore, 1) := dk_79 (dk_at dksX2_comes_5 17 rfl rfl)
theorem dX2_comes_135 : decode cX2_comes 135 = .ok (.return_, 1) := dk_177 (dk_at dksX2_comes_5 18 rfl rfl)
abbrev cX2_see : ByteArray := prog_6_method_20_code
def yX2_see : MethodName := ⟨RX2, "see", "(II)I"⟩
def dkwX2_see_3 : List UInt8 := [180, 0, 38, 27, 46, 184, 0, 132, 172]
abbrev dktX2_see_3 : List UInt8 := dkwX2_see_3 ++ []
def dkwX2_see_2 : List UInt8 := [167, 0, 4, 3, 182, 0, 123, 154, 0, 5, 3, 172, 42, 180, 0, 38, 27, 92, 46, 28, 128, 79, 42]
abbrev dktX2_see_2 : List UInt8 := dkwX2_see_2 ++ dktX2_see_3
def dkwX2_see_1 : List UInt8 := [180, 0, 41, 27, 46, 126, 153, 0, 7, 5, 167, 0, 17, 42, 180, 0, 47, 27, 46, 153, 0, 7, 6]
abbrev dktX2_see_1 : List UInt8 := dkwX2_see_1 ++ dktX2_see_2
def dkwX2_see_0 : List UInt8 := [42, 27, 182, 0, 149, 62, 42, 29, 154, 0, 7, 4, 167, 0, 39, 28, 184, 0, 142, 153, 0, 14, 28, 42]
abbrev dktX2_see_0 : List UInt8 := dkwX2_see_0 ++ dktX2_see_1
theorem dksX2_see_0 : cX2_see.data.toList.drop 0 = dktX2_see_0 := by decide +kernel
theorem dksX2_see_1 : cX2_see.data.toList.drop 24 = dktX2_see_1 := dk_seg dksX2_see_0 24 rfl rfl
theorem dksX2_see_2 : cX2_see.data.toList.drop 47 = dktX2_see_2 := dk_seg dksX2_see_1 23 rfl rfl
theorem dksX2_see_3 : cX2_see.data.toList.drop 70 = dktX2_see_3 := dk_seg dksX2_see_2 23 rfl rfl
theorem dX2_see_0 : decode cX2_see 0 = .ok (.aload_n 0, 1) := dk_42 (dk_at dksX2_see_0 0 rfl rfl)
theorem dX2_see_1 : decode cX2_see 1 = .ok (.iload_n 1, 1) := dk_27 (dk_at dksX2_see_0 1 rfl rfl)
theorem dX2_see_2 : decode cX2_see 2 = .ok (.invokevirtual 149, 3) := dk_182 0 149 (dk_at dksX2_see_0 2 rfl rfl)
theorem dX2_see_5 : decode cX2_see 5 = .ok (.istore_n 3, 1) := dk_62 (dk_at dksX2_see_0 5 rfl rfl)
theorem dX2_see_6 : decode cX2_see 6 = .ok (.aload_n 0, 1) := dk_42 (dk_at dksX2_see_0 6 rfl rfl)
theorem dX2_see_7 : decode cX2_see 7 = .ok (.iload_n 3, 1) := dk_29 (dk_at dksX2_see_0 7 rfl rfl)
theorem dX2_see_8 : decode cX2_see 8 = .ok (.ifCond .ne 7, 3) := dk_154 0 7 (dk_at dksX2_see_0 8 rfl rfl)
theorem dX2_see_11 : decode cX2_see 11 = .ok (.iconst 1, 1) := dk_4 (dk_at dksX2_see_0 11 rfl rfl)
theorem dX2_see_12 : decode cX2_see 12 = .ok (.goto 39, 3) := dk_167 0 39 (dk_at dksX2_see_0 12 rfl rfl)
theorem dX2_see_15 : decode cX2_see 15 = .ok (.iload_n 2, 1) := dk_28 (dk_at dksX2_see_0 15 rfl rfl)
theorem dX2_see_16 : decode cX2_see 16 = .ok (.invokestatic 142, 3) := dk_184 0 142 (dk_at dksX2_see_0 16 rfl rfl)
theorem dX2_see_19 : decode cX2_see 19 = .ok (.ifCond .eq 14, 3) := dk_153 0 14 (dk_at dksX2_see_0 19 rfl rfl)
theorem dX2_see_22 : decode cX2_see 22 = .ok (.iload_n 2, 1) := dk_28 (dk_at dksX2_see_0 22 rfl rfl)
theorem dX2_see_23 : decode cX2_see 23 = .ok (.aload_n 0, 1) := dk_42 (dk_at dksX2_see_0 23 rfl rfl)
theorem dX2_see_24 : decode cX2_see 24 = .ok (.getfield 41, 3) := dk_180 0 41 (dk_at dksX2_see_1 0 rfl rfl)
theorem dX2_see_27 : decode cX2_see 27 = .ok (.iload_n 1, 1) := dk_27 (dk_at dksX2_see_1 3 rfl rfl)
theorem dX2_see_28 : decode cX2_see 28 = .ok (.iaload, 1) := dk_46 (dk_at dksX2_see_1 4 rfl rfl)
theorem dX2_see_29 : decode cX2_see 29 = .ok (.iand, 1) := dk_126 (dk_at dksX2_see_1 5 rfl rfl)
theorem dX2_see_30 : decode cX2_see 30 = .ok (.ifCond .eq 7, 3) := dk_153 0 7 (dk_at dksX2_see_1 6 rfl rfl)
theorem dX2_see_33 : decode cX2_see 33 = .ok (.iconst 2, 1) := dk_5 (dk_at dksX2_see_1 9 rfl rfl)
theorem dX2_see_34 : decode cX2_see 34 = .ok (.goto 17, 3) := dk_167 0 17 (dk_at dksX2_see_1 10 rfl rfl)
theorem dX2_see_37 : decode cX2_see 37 = .ok (.aload_n 0, 1) := dk_42 (dk_at dksX2_see_1 13 rfl rfl)
theorem dX2_see_38 : decode cX2_see 38 = .ok (.getfield 47, 3) := dk_180 0 47 (dk_at dksX2_see_1 14 rfl rfl)
theorem dX2_see_41 : decode cX2_see 41 = .ok (.iload_n 1, 1) := dk_27 (dk_at dksX2_see_1 17 rfl rfl)
theorem dX2_see_42 : decode cX2_see 42 = .ok (.iaload, 1) := dk_46 (dk_at dksX2_see_1 18 rfl rfl)
theorem dX2_see_43 : decode cX2_see 43 = .ok (.ifCond .eq 7, 3) := dk_153 0 7 (dk_at dksX2_see_1 19 rfl rfl)
theorem dX2_see_46 : decode cX2_see 46 = .ok (.iconst 3, 1) := dk_6 (dk_at dksX2_see_1 22 rfl rfl)
theorem dX2_see_47 : decode cX2_see 47 = .ok (.goto 4, 3) := dk_167 0 4 (dk_at dksX2_see_2 0 rfl rfl)
theorem dX2_see_50 : decode cX2_see 50 = .ok (.iconst 0, 1) := dk_3 (dk_at dksX2_see_2 3 rfl rfl)
theorem dX2_see_51 : decode cX2_see 51 = .ok (.invokevirtual 123, 3) := dk_182 0 123 (dk_at dksX2_see_2 4 rfl rfl)
theorem dX2_see_54 : decode cX2_see 54 = .ok (.ifCond .ne 5, 3) := dk_154 0 5 (dk_at dksX2_see_2 7 rfl rfl)
theorem dX2_see_57 : decode cX2_see 57 = .ok (.iconst 0, 1) := dk_3 (dk_at dksX2_see_2 10 rfl rfl)
theorem dX2_see_58 : decode cX2_see 58 = .ok (.ireturn, 1) := dk_172 (dk_at dksX2_see_2 11 rfl rfl)
theorem dX2_see_59 : decode cX2_see 59 = .ok (.aload_n 0, 1) := dk_42 (dk_at dksX2_see_2 12 rfl rfl)
theorem dX2_see_60 : decode cX2_see 60 = .ok (.getfield 38, 3) := dk_180 0 38 (dk_at dksX2_see_2 13 rfl rfl)
theorem dX2_see_63 : decode cX2_see 63 = .ok (.iload_n 1, 1) := dk_27 (dk_at dksX2_see_2 16 rfl rfl)
theorem dX2_see_64 : decode cX2_see 64 = .ok (.dup2, 1) := dk_92 (dk_at dksX2_see_2 17 rfl rfl)
theorem dX2_see_65 : decode cX2_see 65 = .ok (.iaload, 1) := dk_46 (dk_at dksX2_see_2 18 rfl rfl)
theorem dX2_see_66 : decode cX2_see 66 = .ok (.iload_n 2, 1) := dk_28 (dk_at dksX2_see_2 19 rfl rfl)
theorem dX2_see_67 : decode cX2_see 67 = .ok (.ior, 1) := dk_128 (dk_at dksX2_see_2 20 rfl rfl)
theorem dX2_see_68 : decode cX2_see 68 = .ok (.iastore, 1) := dk_79 (dk_at dksX2_see_2 21 rfl rfl)
theorem dX2_see_69 : decode cX2_see 69 = .ok (.aload_n 0, 1) := dk_42 (dk_at dksX2_see_2 22 rfl rfl)
theorem dX2_see_70 : decode cX2_see 70 = .ok (.getfield 38, 3) := dk_180 0 38 (dk_at dksX2_see_3 0 rfl rfl)
theorem dX2_see_73 : decode cX2_see 73 = .ok (.iload_n 1, 1) := dk_27 (dk_at dksX2_see_3 3 rfl rfl)
theorem dX2_see_74 : decode cX2_see 74 = .ok (.iaload, 1) := dk_46 (dk_at dksX2_see_3 4 rfl rfl)
theorem dX2_see_75 : decode cX2_see 75 = .ok (.invokestatic 132, 3) := dk_184 0 132 (dk_at dksX2_see_3 5 rfl rfl)
theorem dX2_see_78 : decode cX2_see 78 = .ok (.ireturn, 1) := dk_172 (dk_at dksX2_see_3 8 rfl rfl)
abbrev cX2_isFind : ByteArray := prog_6_method_10_code
def yX2_isFind : MethodName := ⟨RX2, "isFind", "(I)Z"⟩
def dkwX2_isFind_0 : List UInt8 := [27, 3, 42, 180, 0, 113, 4, 100, 184, 0, 108, 172]
abbrev dktX2_isFind_0 : List UInt8 := dkwX2_isFind_0 ++ []
theorem dksX2_isFind_0 : cX2_isFind.data.toList.drop 0 = dktX2_isFind_0 := by decide +kernel
theorem dX2_isFind_0 : decode cX2_isFind 0 = .ok (.iload_n 1, 1) := dk_27 (dk_at dksX2_isFind_0 0 rfl rfl)
theorem dX2_isFind_1 : decode cX2_isFind 1 = .ok (.iconst 0, 1) := dk_3 (dk_at dksX2_isFind_0 1 rfl rfl)
theorem dX2_isFind_2 : decode cX2_isFind 2 = .ok (.aload_n 0, 1) := dk_42 (dk_at dksX2_isFind_0 2 rfl rfl)
theorem dX2_isFind_3 : decode cX2_isFind 3 = .ok (.getfield 113, 3) := dk_180 0 113 (dk_at dksX2_isFind_0 3 rfl rfl)
theorem dX2_isFind_6 : decode cX2_isFind 6 = .ok (.iconst 1, 1) := dk_4 (dk_at dksX2_isFind_0 6 rfl rfl)
theorem dX2_isFind_7 : decode cX2_isFind 7 = .ok (.isub, 1) := dk_100 (dk_at dksX2_isFind_0 7 rfl rfl)
theorem dX2_isFind_8 : decode cX2_isFind 8 = .ok (.invokestatic 108, 3) := dk_184 0 108 (dk_at dksX2_isFind_0 8 rfl rfl)
theorem dX2_isFind_11 : decode cX2_isFind 11 = .ok (.ireturn, 1) := dk_172 (dk_at dksX2_isFind_0 11 rfl rfl)
abbrev cX2_send : ByteArray := prog_6_method_21_code
def yX2_send : MethodName := ⟨RX2, "send", "(II)I"⟩
def dkwX2_send_3 : List UInt8 := [180, 0, 53, 27, 28, 79, 42, 180, 0, 50, 27, 46, 172]
abbrev dktX2_send_3 : List UInt8 := dkwX2_send_3 ++ []
def dkwX2_send_2 : List UInt8 := [160, 0, 7, 5, 167, 0, 4, 3, 182, 0, 123, 154, 0, 5, 3, 172, 42, 180, 0, 47, 27, 4, 79, 42]
abbrev dktX2_send_2 : List UInt8 := dkwX2_send_2 ++ dktX2_send_3
def dkwX2_send_1 : List UInt8 := [154, 0, 7, 4, 167, 0, 27, 42, 180, 0, 47, 27, 46, 154, 0, 13, 42, 180, 0, 50, 27, 46, 28]
abbrev dktX2_send_1 : List UInt8 := dkwX2_send_1 ++ dktX2_send_2
def dkwX2_send_0 : List UInt8 := [42, 27, 182, 0, 149, 153, 0, 14, 28, 184, 0, 129, 153, 0, 7, 4, 167, 0, 4, 3, 62, 42, 29]
abbrev dktX2_send_0 : List UInt8 := dkwX2_send_0 ++ dktX2_send_1
theorem dksX2_send_0 : cX2_send.data.toList.drop 0 = dktX2_send_0 := by decide +kernel
theorem dksX2_send_1 : cX2_send.data.toList.drop 23 = dktX2_send_1 := dk_seg dksX2_send_0 23 rfl rfl
theorem dksX2_send_2 : cX2_send.data.toList.drop 46 = dktX2_send_2 := dk_seg dksX2_send_1 23 rfl rfl
theorem dksX2_send_3 : cX2_send.data.toList.drop 70 = dktX2_send_3 := dk_seg dksX2_send_2 24 rfl rfl
theorem dX2_send_0 : decode cX2_send 0 = .ok (.aload_n 0, 1) := dk_42 (dk_at dksX2_send_0 0 rfl rfl)
theorem dX2_send_1 : decode cX2_send 1 = .ok (.iload_n 1, 1) := dk_27 (dk_at dksX2_send_0 1 rfl rfl)
theorem dX2_send_2 : decode cX2_send 2 = .ok (.invokevirtual 149, 3) := dk_182 0 149 (dk_at dksX2_send_0 2 rfl rfl)
theorem dX2_send_5 : decode cX2_send 5 = .ok (.ifCond .eq 14, 3) := dk_153 0 14 (dk_at dksX2_send_0 5 rfl rfl)
theorem dX2_send_8 : decode cX2_send 8 = .ok (.iload_n 2, 1) := dk_28 (dk_at dksX2_send_0 8 rfl rfl)
theorem dX2_send_9 : decode cX2_send 9 = .ok (.invokestatic 129, 3) := dk_184 0 129 (dk_at dksX2_send_0 9 rfl rfl)
theorem dX2_send_12 : decode cX2_send 12 = .ok (.ifCond .eq 7, 3) := dk_153 0 7 (dk_at dksX2_send_0 12 rfl rfl)
theorem dX2_send_15 : decode cX2_send 15 = .ok (.iconst 1, 1) := dk_4 (dk_at dksX2_send_0 15 rfl rfl)
theorem dX2_send_16 : decode cX2_send 16 = .ok (.goto 4, 3) := dk_167 0 4 (dk_at dksX2_send_0 16 rfl rfl)
theorem dX2_send_19 : decode cX2_send 19 = .ok (.iconst 0, 1) := dk_3 (dk_at dksX2_send_0 19 rfl rfl)
theorem dX2_send_20 : decode cX2_send 20 = .ok (.istore_n 3, 1) := dk_62 (dk_at dksX2_send_0 20 rfl rfl)
theorem dX2_send_21 : decode cX2_send 21 = .ok (.aload_n 0, 1) := dk_42 (dk_at dksX2_send_0 21 rfl rfl)
theorem dX2_send_22 : decode cX2_send 22 = .ok (.iload_n 3, 1) := dk_29 (dk_at dksX2_send_0 22 rfl rfl)
theorem dX2_send_23 : decode cX2_send 23 = .ok (.ifCond .ne 7, 3) := dk_154 0 7 (dk_at dksX2_send_1 0 rfl rfl)
theorem dX2_send_26 : decode cX2_send 26 = .ok (.iconst 1, 1) := dk_4 (dk_at dksX2_send_1 3 rfl rfl)
theorem dX2_send_27 : decode cX2_send 27 = .ok (.goto 27, 3) := dk_167 0 27 (dk_at dksX2_send_1 4 rfl rfl)
theorem dX2_send_30 : decode cX2_send 30 = .ok (.aload_n 0, 1) := dk_42 (dk_at dksX2_send_1 7 rfl rfl)
theorem dX2_send_31 : decode cX2_send 31 = .ok (.getfield 47, 3) := dk_180 0 47 (dk_at dksX2_send_1 8 rfl rfl)
theorem dX2_send_34 : decode cX2_send 34 = .ok (.iload_n 1, 1) := dk_27 (dk_at dksX2_send_1 11 rfl rfl)
theorem dX2_send_35 : decode cX2_send 35 = .ok (.iaload, 1) := dk_46 (dk_at dksX2_send_1 12 rfl rfl)
theorem dX2_send_36 : decode cX2_send 36 = .ok (.ifCond .ne 13, 3) := dk_154 0 13 (dk_at dksX2_send_1 13 rfl rfl)
theorem dX2_send_39 : decode cX2_send 39 = .ok (.aload_n 0, 1) := dk_42 (dk_at dksX2_send_1 16 rfl rfl)
theorem dX2_send_40 : decode cX2_send 40 = .ok (.getfield 50, 3) := dk_180 0 50 (dk_at dksX2_send_1 17 rfl rfl)
theorem dX2_send_43 : decode cX2_send 43 = .ok (.iload_n 1, 1) := dk_27 (dk_at dksX2_send_1 20 rfl rfl)
theorem dX2_send_44 : decode cX2_send 44 = .ok (.iaload, 1) := dk_46 (dk_at dksX2_send_1 21 rfl rfl)
theorem dX2_send_45 : decode cX2_send 45 = .ok (.iload_n 2, 1) := dk_28 (dk_at dksX2_send_1 22 rfl rfl)
theorem dX2_send_46 : decode cX2_send 46 = .ok (.if_icmp .ne 7, 3) := dk_160 0 7 (dk_at dksX2_send_2 0 rfl rfl)
theorem dX2_send_49 : decode cX2_send 49 = .ok (.iconst 2, 1) := dk_5 (dk_at dksX2_send_2 3 rfl rfl)
theorem dX2_send_50 : decode cX2_send 50 = .ok (.goto 4, 3) := dk_167 0 4 (dk_at dksX2_send_2 4 rfl rfl)
theorem dX2_send_53 : decode cX2_send 53 = .ok (.iconst 0, 1) := dk_3 (dk_at dksX2_send_2 7 rfl rfl)
theorem dX2_send_54 : decode cX2_send 54 = .ok (.invokevirtual 123, 3) := dk_182 0 123 (dk_at dksX2_send_2 8 rfl rfl)
theorem dX2_send_57 : decode cX2_send 57 = .ok (.ifCond .ne 5, 3) := dk_154 0 5 (dk_at dksX2_send_2 11 rfl rfl)
theorem dX2_send_60 : decode cX2_send 60 = .ok (.iconst 0, 1) := dk_3 (dk_at dksX2_send_2 14 rfl rfl)
theorem dX2_send_61 : decode cX2_send 61 = .ok (.ireturn, 1) := dk_172 (dk_at dksX2_send_2 15 rfl rfl)
theorem dX2_send_62 : decode cX2_send 62 = .ok (.aload_n 0, 1) := dk_42 (dk_at dksX2_send_2 16 rfl rfl)
theorem dX2_send_63 : decode cX2_send 63 = .ok (.getfield 47, 3) := dk_180 0 47 (dk_at dksX2_send_2 17 rfl rfl)
theorem dX2_send_66 : decode cX2_send 66 = .ok (.iload_n 1, 1) := dk_27 (dk_at dksX2_send_2 20 rfl rfl)
theorem dX2_send_67 : decode cX2_send 67 = .ok (.iconst 1, 1) := dk_4 (dk_at dksX2_send_2 21 rfl rfl)
theorem dX2_send_68 : decode cX2_send 68 = .ok (.iastore, 1) := dk_79 (dk_at dksX2_send_2 22 rfl rfl)
theorem dX2_send_69 : decode cX2_send 69 = .ok (.aload_n 0, 1) := dk_42 (dk_at dksX2_send_2 23 rfl rfl)
theorem dX2_send_70 : decode cX2_send 70 = .ok (.getfield 53, 3) := dk_180 0 53 (dk_at dksX2_send_3 0 rfl rfl)
theorem dX2_send_73 : decode cX2_send 73 = .ok (.iload_n 1, 1) := dk_27 (dk_at dksX2_send_3 3 rfl rfl)
theorem dX2_send_74 : decode cX2_send 74 = .ok (.iload_n 2, 1) := dk_28 (dk_at dksX2_send_3 4 rfl rfl)
theorem dX2_send_75 : decode cX2_send 75 = .ok (.iastore, 1) := dk_79 (dk_at dksX2_send_3 5 rfl rfl)
theorem dX2_send_76 : decode cX2_send 76 = .ok (.aload_n 0, 1) := dk_42 (dk_at dksX2_send_3 6 rfl rfl)
theorem dX2_send_77 : decode cX2_send 77 = .ok (.getfield 50, 3) := dk_180 0 50 (dk_at dksX2_send_3 7 rfl rfl)
theorem dX2_send_80 : decode cX2_send 80 = .ok (.iload_n 1, 1) := dk_27 (dk_at dksX2_send_3 10 rfl rfl)
theorem dX2_send_81 : decode cX2_send 81 = .ok (.iaload, 1) := dk_46 (dk_at dksX2_send_3 11 rfl rfl)
theorem dX2_send_82 : decode cX2_send 82 = .ok (.ireturn, 1) := dk_172 (dk_at dksX2_send_3 12 rfl rfl)
abbrev cX2_lose : ByteArray := prog_6_method_22_code
def yX2_lose : MethodName := ⟨RX2, "lose", "(I)I"⟩
def dkwX2_lose_4 : List UInt8 := [132, 3, 1, 167, 255, 184, 28, 172]
abbrev dktX2_lose_4 : List UInt8 := dkwX2_lose_4 ++ []
def dkwX2_lose_3 : List UInt8 := [167, 0, 9, 42, 180, 0, 47, 29, 46, 79, 28, 21, 4, 153, 0, 7, 4, 167, 0, 4, 3, 96, 61]
abbrev dktX2_lose_3 : List UInt8 := dkwX2_lose_3 ++ dktX2_lose_4
def dkwX2_lose_2 : List UInt8 := [46, 27, 160, 0, 7, 4, 167, 0, 4, 3, 54, 4, 42, 180, 0, 47, 29, 21, 4, 153, 0, 7, 5]
abbrev dktX2_lose_2 : List UInt8 := dkwX2_lose_2 ++ dktX2_lose_3
def dkwX2_lose_1 : List UInt8 := [62, 29, 42, 180, 0, 113, 162, 0, 70, 42, 180, 0, 47, 29, 46, 4, 160, 0, 17, 42, 180, 0, 53, 29]
abbrev dktX2_lose_1 : List UInt8 := dkwX2_lose_1 ++ dktX2_lose_2
def dkwX2_lose_0 : List UInt8 := [42, 27, 184, 0, 129, 153, 0, 7, 3, 167, 0, 4, 4, 182, 0, 123, 154, 0, 5, 3, 172, 3, 61, 3]
abbrev dktX2_lose_0 : List UInt8 := dkwX2_lose_0 ++ dktX2_lose_1
theorem dksX2_lose_0 : cX2_lose.data.toList.drop 0 = dktX2_lose_0 := by decide +kernel
theorem dksX2_lose_1 : cX2_lose.data.toList.drop 24 = dktX2_lose_1 := dk_seg dksX2_lose_0 24 rfl rfl
theorem dksX2_lose_2 : cX2_lose.data.toList.drop 48 = dktX2_lose_2 := dk_seg dksX2_lose_1 24 rfl rfl
theorem dksX2_lose_3 : cX2_lose.data.toList.drop 71 = dktX2_lose_3 := dk_seg dksX2_lose_2 23 rfl rfl
theorem dksX2_lose_4 : cX2_lose.data.toList.drop 94 = dktX2_lose_4 := dk_seg dksX2_lose_3 23 rfl rfl
theorem dX2_lose_0 : decode cX2_lose 0 = .ok (.aload_n 0, 1) := dk_42 (dk_at dksX2_lose_0 0 rfl rfl)
theorem dX2_lose_1 : decode cX2_lose 1 = .ok (.iload_n 1, 1) := dk_27 (dk_at dksX2_lose_0 1 rfl rfl)
theorem dX2_lose_2 : decode cX2_lose 2 = .ok (.invokestatic 129, 3) := dk_184 0 129 (dk_at dksX2_lose_0 2 rfl rfl)
theorem dX2_lose_5 : decode cX2_lose 5 = .ok (.ifCond .eq 7, 3) := dk_153 0 7 (dk_at dksX2_lose_0 5 rfl rfl)
theorem dX2_lose_8 : decode cX2_lose 8 = .ok (.iconst 0, 1) := dk_3 (dk_at dksX2_lose_0 8 rfl rfl)
theorem dX2_lose_9 : decode cX2_lose 9 = .ok (.goto 4, 3) := dk_167 0 4 (dk_at dksX2_lose_0 9 rfl rfl)
theorem dX2_lose_12 : decode cX2_lose 12 = .ok (.iconst 1, 1) := dk_4 (dk_at dksX2_lose_0 12 rfl rfl)
theorem dX2_lose_13 : decode cX2_lose 13 = .ok (.invokevirtual 123, 3) := dk_182 0 123 (dk_at dksX2_lose_0 13 rfl rfl)
theorem dX2_lose_16 : decode cX2_lose 16 = .ok (.ifCond .ne 5, 3) := dk_154 0 5 (dk_at dksX2_lose_0 16 rfl rfl)
theorem dX2_lose_19 : decode cX2_lose 19 = .ok (.iconst 0, 1) := dk_3 (dk_at dksX2_lose_0 19 rfl rfl)
theorem dX2_lose_20 : decode cX2_lose 20 = .ok (.ireturn, 1) := dk_172 (dk_at dksX2_lose_0 20 rfl rfl)
theorem dX2_lose_21 : decode cX2_lose 21 = .ok (.iconst 0, 1) := dk_3 (dk_at dksX2_lose_0 21 rfl rfl)
theorem dX2_lose_22 : decode cX2_lose 22 = .ok (.istore_n 2, 1) := dk_61 (dk_at dksX2_lose_0 22 rfl rfl)
theorem dX2_lose_23 : decode cX2_lose 23 = .ok (.iconst 0, 1) := dk_3 (dk_at dksX2_lose_0 23 rfl rfl)
theorem dX2_lose_24 : decode cX2_lose 24 = .ok (.istore_n 3, 1) := dk_62 (dk_at dksX2_lose_1 0 rfl rfl)
theorem dX2_lose_25 : decode cX2_lose 25 = .ok (.iload_n 3, 1) := dk_29 (dk_at dksX2_lose_1 1 rfl rfl)
theorem dX2_lose_26 : decode cX2_lose 26 = .ok (.aload_n 0, 1) := dk_42 (dk_at dksX2_lose_1 2 rfl rfl)
theorem dX2_lose_27 : decode cX2_lose 27 = .ok (.getfield 113, 3) := dk_180 0 113 (dk_at dksX2_lose_1 3 rfl rfl)
theorem dX2_lose_30 : decode cX2_lose 30 = .ok (.if_icmp .ge 70, 3) := dk_162 0 70 (dk_at dksX2_lose_1 6 rfl rfl)
theorem dX2_lose_33 : decode cX2_lose 33 = .ok (.aload_n 0, 1) := dk_42 (dk_at dksX2_lose_1 9 rfl rfl)
theorem dX2_lose_34 : decode cX2_lose 34 = .ok (.getfield 47, 3) := dk_180 0 47 (dk_at dksX2_lose_1 10 rfl rfl)
theorem dX2_lose_37 : decode cX2_lose 37 = .ok (.iload_n 3, 1) := dk_29 (dk_at dksX2_lose_1 13 rfl rfl)
theorem dX2_lose_38 : decode cX2_lose 38 = .ok (.iaload, 1) := dk_46 (dk_at dksX2_lose_1 14 rfl rfl)
theorem dX2_lose_39 : decode cX2_lose 39 = .ok (.iconst 1, 1) := dk_4 (dk_at dksX2_lose_1 15 rfl rfl)
theorem dX2_lose_40 : decode cX2_lose 40 = .ok (.if_icmp .ne 17, 3) := dk_160 0 17 (dk_at dksX2_lose_1 16 rfl rfl)
theorem dX2_lose_43 : decode cX2_lose 43 = .ok (.aload_n 0, 1) := dk_42 (dk_at dksX2_lose_1 19 rfl rfl)
theorem dX2_lose_44 : decode cX2_lose 44 = .ok (.getfield 53, 3) := dk_180 0 53 (dk_at dksX2_lose_1 20 rfl rfl)
theorem dX2_lose_47 : decode cX2_lose 47 = .ok (.iload_n 3, 1) := dk_29 (dk_at dksX2_lose_1 23 rfl rfl)
theorem dX2_lose_48 : decode cX2_lose 48 = .ok (.iaload, 1) := dk_46 (dk_at dksX2_lose_2 0 rfl rfl)
theorem dX2_lose_49 : decode cX2_lose 49 = .ok (.iload_n 1, 1) := dk_27 (dk_at dksX2_lose_2 1 rfl rfl)
theorem dX2_lose_50 : decode cX2_lose 50 = .ok (.if_icmp .ne 7, 3) := dk_160 0 7 (dk_at dksX2_lose_2 2 rfl rfl)
theorem dX2_lose_53 : decode cX2_lose 53 = .ok (.iconst 1, 1) := dk_4 (dk_at dksX2_lose_2 5 rfl rfl)
theorem dX2_lose_54 : decode cX2_lose 54 = .ok (.goto 4, 3) := dk_167 0 4 (dk_at dksX2_lose_2 6 rfl rfl)
theorem dX2_lose_57 : decode cX2_lose 57 = .ok (.iconst 0, 1) := dk_3 (dk_at dksX2_lose_2 9 rfl rfl)
theorem dX2_lose_58 : decode cX2_lose 58 = .ok (.istore 4, 2) := dk_54 4 (dk_at dksX2_lose_2 10 rfl rfl)
theorem dX2_lose_60 : decode cX2_lose 60 = .ok (.aload_n 0, 1) := dk_42 (dk_at dksX2_lose_2 12 rfl rfl)
theorem dX2_lose_61 : decode cX2_lose 61 = .ok (.getfield 47, 3) := dk_180 0 47 (dk_at dksX2_lose_2 13 rfl rfl)
theorem dX2_lose_64 : decode cX2_lose 64 = .ok (.iload_n 3, 1) := dk_29 (dk_at dksX2_lose_2 16 rfl rfl)
theorem dX2_lose_65 : decode cX2_lose 65 = .ok (.iload 4, 2) := dk_21 4 (dk_at dksX2_lose_2 17 rfl rfl)
theorem dX2_lose_67 : decode cX2_lose 67 = .ok (.ifCond .eq 7, 3) := dk_153 0 7 (dk_at dksX2_lose_2 19 rfl rfl)
theorem dX2_lose_70 : decode cX2_lose 70 = .ok (.iconst 2, 1) := dk_5 (dk_at dksX2_lose_2 22 rfl rfl)
theorem dX2_lose_71 : decode cX2_lose 71 = .ok (.goto 9, 3) := dk_167 0 9 (dk_at dksX2_lose_3 0 rfl rfl)
theorem dX2_lose_74 : decode cX2_lose 74 = .ok (.aload_n 0, 1) := dk_42 (dk_at dksX2_lose_3 3 rfl rfl)
theorem dX2_lose_75 : decode cX2_lose 75 = .ok (.getfield 47, 3) := dk_180 0 47 (dk_at dksX2_lose_3 4 rfl rfl)
theorem dX2_lose_78 : decode cX2_lose 78 = .ok (.iload_n 3, 1) := dk_29 (dk_at dksX2_lose_3 7 rfl rfl)
theorem dX2_lose_79 : decode cX2_lose 79 = .ok (.iaload, 1) := dk_46 (dk_at dksX2_lose_3 8 rfl rfl)
theorem dX2_lose_80 : decode cX2_lose 80 = .ok (.iastore, 1) := dk_79 (dk_at dksX2_lose_3 9 rfl rfl)
theorem dX2_lose_81 : decode cX2_lose 81 = .ok (.iload_n 2, 1) := dk_28 (dk_at dksX2_lose_3 10 rfl rfl)
theorem dX2_lose_82 : decode cX2_lose 82 = .ok (.iload 4, 2) := dk_21 4 (dk_at dksX2_lose_3 11 rfl rfl)
theorem dX2_lose_84 : decode cX2_lose 84 = .ok (.ifCond .eq 7, 3) := dk_153 0 7 (dk_at dksX2_lose_3 13 rfl rfl)
theorem dX2_lose_87 : decode cX2_lose 87 = .ok (.iconst 1, 1) := dk_4 (dk_at dksX2_lose_3 16 rfl rfl)
theorem dX2_lose_88 : decode cX2_lose 88 = .ok (.goto 4, 3) := dk_167 0 4 (dk_at dksX2_lose_3 17 rfl rfl)
theorem dX2_lose_91 : decode cX2_lose 91 = .ok (.iconst 0, 1) := dk_3 (dk_at dksX2_lose_3 20 rfl rfl)
theorem dX2_lose_92 : decode cX2_lose 92 = .ok (.iadd, 1) := dk_96 (dk_at dksX2_lose_3 21 rfl rfl)
theorem dX2_lose_93 : decode cX2_lose 93 = .ok (.istore_n 2, 1) := dk_61 (dk_at dksX2_lose_3 22 rfl rfl)
theorem dX2_lose_94 : decode cX2_lose 94 = .ok (.iinc 3 1, 3) := dk_132 3 1 (dk_at dksX2_lose_4 0 rfl rfl)
theorem dX2_lose_97 : decode cX2_lose 97 = .ok (.goto (-72), 3) := dk_167 255 184 (dk_at dksX2_lose_4 3 rfl rfl)
theorem dX2_lose_100 : decode cX2_lose 100 = .ok (.iload_n 2, 1) := dk_28 (dk_at dksX2_lose_4 6 rfl rfl)
theorem dX2_lose_101 : decode cX2_lose 101 = .ok (.ireturn, 1) := dk_172 (dk_at dksX2_lose_4 7 rfl rfl)
abbrev cX2_turnUp : ByteArray := prog_6_method_23_code
def yX2_turnUp : MethodName := ⟨RX2, "turnUp", "(II)I"⟩
def dkwX2_turnUp_2 : List UInt8 := [182, 0, 123, 154, 0, 5, 3, 172, 42, 27, 28, 182, 0, 145, 42, 180, 0, 69, 27, 46, 172]
abbrev dktX2_turnUp_2 : List UInt8 := dkwX2_turnUp_2 ++ []
def dkwX2_turnUp_1 : List UInt8 := [154, 0, 7, 4, 167, 0, 18, 42, 180, 0, 47, 27, 46, 5, 159, 0, 7, 5, 167, 0, 4, 3]
abbrev dktX2_turnUp_1 : List UInt8 := dkwX2_turnUp_1 ++ dktX2_turnUp_2
def dkwX2_turnUp_0 : List UInt8 := [42, 27, 182, 0, 149, 153, 0, 14, 28, 184, 0, 129, 153, 0, 7, 4, 167, 0, 4, 3, 62, 42, 29]
abbrev dktX2_turnUp_0 : List UInt8 := dkwX2_turnUp_0 ++ dktX2_turnUp_1
theorem dksX2_turnUp_0 : cX2_turnUp.data.toList.drop 0 = dktX2_turnUp_0 := by decide +kernel
theorem dksX2_turnUp_1 : cX2_turnUp.data.toList.drop 23 = dktX2_turnUp_1 := dk_seg dksX2_turnUp_0 23 rfl rfl
theorem dksX2_turnUp_2 : cX2_turnUp.data.toList.drop 45 = dktX2_turnUp_2 := dk_seg dksX2_turnUp_1 22 rfl rfl
theorem dX2_turnUp_0 : decode cX2_turnUp 0 = .ok (.aload_n 0, 1) := dk_42 (dk_at dksX2_turnUp_0 0 rfl rfl)
theorem dX2_turnUp_1 : decode cX2_turnUp 1 = .ok (.iload_n 1, 1) := dk_27 (dk_at dksX2_turnUp_0 1 rfl rfl)
theorem dX2_turnUp_2 : decode cX2_turnUp 2 = .ok (.invokevirtual 149, 3) := dk_182 0 149 (dk_at dksX2_turnUp_0 2 rfl rfl)
theorem dX2_turnUp_5 : decode cX2_turnUp 5 = .ok (.ifCond .eq 14, 3) := dk_153 0 14 (dk_at dksX2_turnUp_0 5 rfl rfl)
theorem dX2_turnUp_8 : decode cX2_turnUp 8 = .ok (.iload_n 2, 1) := dk_28 (dk_at dksX2_turnUp_0 8 rfl rfl)
theorem dX2_turnUp_9 : decode cX2_turnUp 9 = .ok (.invokestatic 129, 3) := dk_184 0 129 (dk_at dksX2_turnUp_0 9 rfl rfl)
theorem dX2_turnUp_12 : decode cX2_turnUp 12 = .ok (.ifCond .eq 7, 3) := dk_153 0 7 (dk_at dksX2_turnUp_0 12 rfl rfl)
theorem dX2_turnUp_15 : decode cX2_turnUp 15 = .ok (.iconst 1, 1) := dk_4 (dk_at dksX2_turnUp_0 15 rfl rfl)
theorem dX2_turnUp_16 : decode cX2_turnUp 16 = .ok (.goto 4, 3) := dk_167 0 4 (dk_at dksX2_turnUp_0 16 rfl rfl)
theorem dX2_turnUp_19 : decode cX2_turnUp 19 = .ok (.iconst 0, 1) := dk_3 (dk_at dksX2_turnUp_0 19 rfl rfl)
theorem dX2_turnUp_20 : decode cX2_turnUp 20 = .ok (.istore_n 3, 1) := dk_62 (dk_at dksX2_turnUp_0 20 rfl rfl)
theorem dX2_turnUp_21 : decode cX2_turnUp 21 = .ok (.aload_n 0, 1) := dk_42 (dk_at dksX2_turnUp_0 21 rfl rfl)
theorem dX2_turnUp_22 : decode cX2_turnUp 22 = .ok (.iload_n 3, 1) := dk_29 (dk_at dksX2_turnUp_0 22 rfl rfl)
theorem dX2_turnUp_23 : decode cX2_turnUp 23 = .ok (.ifCond .ne 7, 3) := dk_154 0 7 (dk_at dksX2_turnUp_1 0 rfl rfl)
theorem dX2_turnUp_26 : decode cX2_turnUp 26 = .ok (.iconst 1, 1) := dk_4 (dk_at dksX2_turnUp_1 3 rfl rfl)
theorem dX2_turnUp_27 : decode cX2_turnUp 27 = .ok (.goto 18, 3) := dk_167 0 18 (dk_at dksX2_turnUp_1 4 rfl rfl)
theorem dX2_turnUp_30 : decode cX2_turnUp 30 = .ok (.aload_n 0, 1) := dk_42 (dk_at dksX2_turnUp_1 7 rfl rfl)
theorem dX2_turnUp_31 : decode cX2_turnUp 31 = .ok (.getfield 47, 3) := dk_180 0 47 (dk_at dksX2_turnUp_1 8 rfl rfl)
theorem dX2_turnUp_34 : decode cX2_turnUp 34 = .ok (.iload_n 1, 1) := dk_27 (dk_at dksX2_turnUp_1 11 rfl rfl)
theorem dX2_turnUp_35 : decode cX2_turnUp 35 = .ok (.iaload, 1) := dk_46 (dk_at dksX2_turnUp_1 12 rfl rfl)
theorem dX2_turnUp_36 : decode cX2_turnUp 36 = .ok (.iconst 2, 1) := dk_5 (dk_at dksX2_turnUp_1 13 rfl rfl)
theorem dX2_turnUp_37 : decode cX2_turnUp 37 = .ok (.if_icmp .eq 7, 3) := dk_159 0 7 (dk_at dksX2_turnUp_1 14 rfl rfl)
theorem dX2_turnUp_40 : decode cX2_turnUp 40 = .ok (.iconst 2, 1) := dk_5 (dk_at dksX2_turnUp_1 17 rfl rfl)
theorem dX2_turnUp_41 : decode cX2_turnUp 41 = .ok (.goto 4, 3) := dk_167 0 4 (dk_at dksX2_turnUp_1 18 rfl rfl)
theorem dX2_turnUp_44 : decode cX2_turnUp 44 = .ok (.iconst 0, 1) := dk_3 (dk_at dksX2_turnUp_1 21 rfl rfl)
theorem dX2_turnUp_45 : decode cX2_turnUp 45 = .ok (.invokevirtual 123, 3) := dk_182 0 123 (dk_at dksX2_turnUp_2 0 rfl rfl)
theorem dX2_turnUp_48 : decode cX2_turnUp 48 = .ok (.ifCond .ne 5, 3) := dk_154 0 5 (dk_at dksX2_turnUp_2 3 rfl rfl)
theorem dX2_turnUp_51 : decode cX2_turnUp 51 = .ok (.iconst 0, 1) := dk_3 (dk_at dksX2_turnUp_2 6 rfl rfl)
theorem dX2_turnUp_52 : decode cX2_turnUp 52 = .ok (.ireturn, 1) := dk_172 (dk_at dksX2_turnUp_2 7 rfl rfl)
theorem dX2_turnUp_53 : decode cX2_turnUp 53 = .ok (.aload_n 0, 1) := dk_42 (dk_at dksX2_turnUp_2 8 rfl rfl)
theorem dX2_turnUp_54 : decode cX2_turnUp 54 = .ok (.iload_n 1, 1) := dk_27 (dk_at dksX2_turnUp_2 9 rfl rfl)
theorem dX2_turnUp_55 : decode cX2_turnUp 55 = .ok (.iload_n 2, 1) := dk_28 (dk_at dksX2_turnUp_2 10 rfl rfl)
theorem dX2_turnUp_56 : decode cX2_turnUp 56 = .ok (.invokevirtual 145, 3) := dk_182 0 145 (dk_at dksX2_turnUp_2 11 rfl rfl)
theorem dX2_turnUp_59 : decode cX2_turnUp 59 = .ok (.aload_n 0, 1) := dk_42 (dk_at dksX2_turnUp_2 14 rfl rfl)
theorem dX2_turnUp_60 : decode cX2_turnUp 60 = .ok (.getfield 69, 3) := dk_180 0 69 (dk_at dksX2_turnUp_2 15 rfl rfl)
theorem dX2_turnUp_63 : decode cX2_turnUp 63 = .ok (.iload_n 1, 1) := dk_27 (dk_at dksX2_turnUp_2 18 rfl rfl)
theorem dX2_turnUp_64 : decode cX2_turnUp 64 = .ok (.iaload, 1) := dk_46 (dk_at dksX2_turnUp_2 19 rfl rfl)
theorem dX2_turnUp_65 : decode cX2_turnUp 65 = .ok (.ireturn, 1) := dk_172 (dk_at dksX2_turnUp_2 20 rfl rfl)
abbrev cX2_hold : ByteArray := prog_6_method_25_code
def yX2_hold : MethodName := ⟨RX2, "hold", "(IZ)Z"⟩
def dkwX2_hold_2 : List UInt8 := [27, 28, 84, 21, 4, 172]
abbrev dktX2_hold_2 : List UInt8 := dkwX2_hold_2 ++ []
def dkwX2_hold_1 : List UInt8 := [167, 0, 4, 5, 182, 0, 123, 154, 0, 5, 3, 172, 42, 180, 0, 59, 27, 51, 54, 4, 42, 180, 0, 59]
abbrev dktX2_hold_1 : List UInt8 := dkwX2_hold_1 ++ dktX2_hold_2
def dkwX2_hold_0 : List UInt8 := [42, 27, 182, 0, 149, 62, 42, 29, 154, 0, 7, 4, 167, 0, 16, 42, 27, 182, 0, 152, 153, 0, 7, 3]
abbrev dktX2_hold_0 : List UInt8 := dkwX2_hold_0 ++ dktX2_hold_1
theorem dksX2_hold_0 : cX2_hold.data.toList.drop 0 = dktX2_hold_0 := by decide +kernel
theorem dksX2_hold_1 : cX2_hold.data.toList.drop 24 = dktX2_hold_1 := dk_seg dksX2_hold_0 24 rfl rfl
theorem dksX2_hold_2 : cX2_hold.data.toList.drop 48 = dktX2_hold_2 := dk_seg dksX2_hold_1 24 rfl rfl
theorem dX2_hold_0 : decode cX2_hold 0 = .ok (.aload_n 0, 1) := dk_42 (dk_at dksX2_hold_0 0 rfl rfl)
theorem dX2_hold_1 : decode cX2_hold 1 = .ok (.iload_n 1, 1) := dk_27 (dk_at dksX2_hold_0 1 rfl rfl)
theorem dX2_hold_2 : decode cX2_hold 2 = .ok (.invokevirtual 149, 3) := dk_182 0 149 (dk_at dksX2_hold_0 2 rfl rfl)
theorem dX2_hold_5 : decode cX2_hold 5 = .ok (.istore_n 3, 1) := dk_62 (dk_at dksX2_hold_0 5 rfl rfl)
theorem dX2_hold_6 : decode cX2_hold 6 = .ok (.aload_n 0, 1) := dk_42 (dk_at dksX2_hold_0 6 rfl rfl)
theorem dX2_hold_7 : decode cX2_hold 7 = .ok (.iload_n 3, 1) := dk_29 (dk_at dksX2_hold_0 7 rfl rfl)
theorem dX2_hold_8 : decode cX2_hold 8 = .ok (.ifCond .ne 7, 3) := dk_154 0 7 (dk_at dksX2_hold_0 8 rfl rfl)
theorem dX2_hold_11 : decode cX2_hold 11 = .ok (.iconst 1, 1) := dk_4 (dk_at dksX2_hold_0 11 rfl rfl)
theorem dX2_hold_12 : decode cX2_hold 12 = .ok (.goto 16, 3) := dk_167 0 16 (dk_at dksX2_hold_0 12 rfl rfl)
theorem dX2_hold_15 : decode cX2_hold 15 = .ok (.aload_n 0, 1) := dk_42 (dk_at dksX2_hold_0 15 rfl rfl)
theorem dX2_hold_16 : decode cX2_hold 16 = .ok (.iload_n 1, 1) := dk_27 (dk_at dksX2_hold_0 16 rfl rfl)
theorem dX2_hold_17 : decode cX2_hold 17 = .ok (.invokevirtual 152, 3) := dk_182 0 152 (dk_at dksX2_hold_0 17 rfl rfl)
theorem dX2_hold_20 : decode cX2_hold 20 = .ok (.ifCond .eq 7, 3) := dk_153 0 7 (dk_at dksX2_hold_0 20 rfl rfl)
theorem dX2_hold_23 : decode cX2_hold 23 = .ok (.iconst 0, 1) := dk_3 (dk_at dksX2_hold_0 23 rfl rfl)
theorem dX2_hold_24 : decode cX2_hold 24 = .ok (.goto 4, 3) := dk_167 0 4 (dk_at dksX2_hold_1 0 rfl rfl)
theorem dX2_hold_27 : decode cX2_hold 27 = .ok (.iconst 2, 1) := dk_5 (dk_at dksX2_hold_1 3 rfl rfl)
theorem dX2_hold_28 : decode cX2_hold 28 = .ok (.invokevirtual 123, 3) := dk_182 0 123 (dk_at dksX2_hold_1 4 rfl rfl)
theorem dX2_hold_31 : decode cX2_hold 31 = .ok (.ifCond .ne 5, 3) := dk_154 0 5 (dk_at dksX2_hold_1 7 rfl rfl)
theorem dX2_hold_34 : decode cX2_hold 34 = .ok (.iconst 0, 1) := dk_3 (dk_at dksX2_hold_1 10 rfl rfl)
theorem dX2_hold_35 : decode cX2_hold 35 = .ok (.ireturn, 1) := dk_172 (dk_at dksX2_hold_1 11 rfl rfl)
theorem dX2_hold_36 : decode cX2_hold 36 = .ok (.aload_n 0, 1) := dk_42 (dk_at dksX2_hold_1 12 rfl rfl)
theorem dX2_hold_37 : decode cX2_hold 37 = .ok (.getfield 59, 3) := dk_180 0 59 (dk_at dksX2_hold_1 13 rfl rfl)
theorem dX2_hold_40 : decode cX2_hold 40 = .ok (.iload_n 1, 1) := dk_27 (dk_at dksX2_hold_1 16 rfl rfl)
theorem dX2_hold_41 : decode cX2_hold 41 = .ok (.baload, 1) := dk_51 (dk_at dksX2_hold_1 17 rfl rfl)
theorem dX2_hold_42 : decode cX2_hold 42 = .ok (.istore 4, 2) := dk_54 4 (dk_at dksX2_hold_1 18 rfl rfl)
theorem dX2_hold_44 : decode cX2_hold 44 = .ok (.aload_n 0, 1) := dk_42 (dk_at dksX2_hold_1 20 rfl rfl)
theorem dX2_hold_45 : decode cX2_hold 45 = .ok (.getfield 59, 3) := dk_180 0 59 (dk_at dksX2_hold_1 21 rfl rfl)
theorem dX2_hold_48 : decode cX2_hold 48 = .ok (.iload_n 1, 1) := dk_27 (dk_at dksX2_hold_2 0 rfl rfl)
theorem dX2_hold_49 : decode cX2_hold 49 = .ok (.iload_n 2, 1) := dk_28 (dk_at dksX2_hold_2 1 rfl rfl)
theorem dX2_hold_50 : decode cX2_hold 50 = .ok (.bastore, 1) := dk_84 (dk_at dksX2_hold_2 2 rfl rfl)
theorem dX2_hold_51 : decode cX2_hold 51 = .ok (.iload 4, 2) := dk_21 4 (dk_at dksX2_hold_2 3 rfl rfl)
theorem dX2_hold_53 : decode cX2_hold 53 = .ok (.ireturn, 1) := dk_172 (dk_at dksX2_hold_2 5 rfl rfl)
abbrev cX2_isHere : ByteArray := prog_6_method_24_code
def yX2_isHere : MethodName := ⟨RX2, "isHere", "(I)Z"⟩
def dkwX2_isHere_0 : List UInt8 := [42, 180, 0, 47, 27, 46, 5, 163, 0, 7, 4, 167, 0, 4, 3, 172]
abbrev dktX2_isHere_0 : List UInt8 := dkwX2_isHere_0 ++ []
theorem dksX2_isHere_0 : cX2_isHere.data.toList.drop 0 = dktX2_isHere_0 := by decide +kernel
theorem dX2_isHere_0 : decode cX2_isHere 0 = .ok (.aload_n 0, 1) := dk_42 (dk_at dksX2_isHere_0 0 rfl rfl)
theorem dX2_isHere_1 : decode cX2_isHere 1 = .ok (.getfield 47, 3) := dk_180 0 47 (dk_at dksX2_isHere_0 1 rfl rfl)
theorem dX2_isHere_4 : decode cX2_isHere 4 = .ok (.iload_n 1, 1) := dk_27 (dk_at dksX2_isHere_0 4 rfl rfl)
theorem dX2_isHere_5 : decode cX2_isHere 5 = .ok (.iaload, 1) := dk_46 (dk_at dksX2_isHere_0 5 rfl rfl)
theorem dX2_isHere_6 : decode cX2_isHere 6 = .ok (.iconst 2, 1) := dk_5 (dk_at dksX2_isHere_0 6 rfl rfl)
theorem dX2_isHere_7 : decode cX2_isHere 7 = .ok (.if_icmp .gt 7, 3) := dk_163 0 7 (dk_at dksX2_isHere_0 7 rfl rfl)
theorem dX2_isHere_10 : decode cX2_isHere 10 = .ok (.iconst 1, 1) := dk_4 (dk_at dksX2_isHere_0 10 rfl rfl)
theorem dX2_isHere_11 : decode cX2_isHere 11 = .ok (.goto 4, 3) := dk_167 0 4 (dk_at dksX2_isHere_0 11 rfl rfl)
theorem dX2_isHere_14 : decode cX2_isHere 14 = .ok (.iconst 0, 1) := dk_3 (dk_at dksX2_isHere_0 14 rfl rfl)
theorem dX2_isHere_15 : decode cX2_isHere 15 = .ok (.ireturn, 1) := dk_172 (dk_at dksX2_isHere_0 15 rfl rfl)
abbrev cX2_claim : ByteArray := prog_6_method_26_code
def yX2_claim : MethodName := ⟨RX2, "claim", "(IIIII)I"⟩
def dkwX2_claim_8 : List UInt8 := [180, 0, 116, 4, 96, 181, 0, 116, 42, 180, 0, 116, 4, 100, 172]
abbrev dktX2_claim_8 : List UInt8 := dkwX2_claim_8 ++ []
def dkwX2_claim_7 : List UInt8 := [42, 180, 0, 96, 42, 180, 0, 116, 3, 79, 42, 180, 0, 102, 42, 180, 0, 116, 2, 79, 42, 89]
abbrev dktX2_claim_7 : List UInt8 := dkwX2_claim_7 ++ dktX2_claim_8
def dkwX2_claim_6 : List UInt8 := [21, 4, 79, 42, 180, 0, 90, 42, 180, 0, 116, 21, 5, 79, 42, 180, 0, 93, 42, 180, 0, 116, 3, 79]
abbrev dktX2_claim_6 : List UInt8 := dkwX2_claim_6 ++ dktX2_claim_7
def dkwX2_claim_5 : List UInt8 := [180, 0, 116, 28, 79, 42, 180, 0, 84, 42, 180, 0, 116, 29, 79, 42, 180, 0, 87, 42, 180, 0, 116]
abbrev dktX2_claim_5 : List UInt8 := dkwX2_claim_5 ++ dktX2_claim_6
def dkwX2_claim_4 : List UInt8 := [182, 0, 123, 154, 0, 5, 3, 172, 42, 180, 0, 78, 42, 180, 0, 116, 27, 79, 42, 180, 0, 81, 42]
abbrev dktX2_claim_4 : List UInt8 := dkwX2_claim_4 ++ dktX2_claim_5
def dkwX2_claim_3 : List UInt8 := [21, 7, 154, 0, 7, 5, 167, 0, 17, 42, 180, 0, 116, 16, 20, 160, 0, 7, 6, 167, 0, 4, 3]
abbrev dktX2_claim_3 : List UInt8 := dkwX2_claim_3 ++ dktX2_claim_4
def dkwX2_claim_2 : List UInt8 := [184, 0, 142, 153, 0, 7, 4, 167, 0, 4, 3, 54, 7, 42, 21, 6, 154, 0, 7, 4, 167, 0, 26]
abbrev dktX2_claim_2 : List UInt8 := dkwX2_claim_2 ++ dktX2_claim_3
def dkwX2_claim_1 : List UInt8 := [180, 0, 136, 184, 0, 108, 153, 0, 28, 21, 4, 29, 42, 180, 0, 136, 184, 0, 108, 153, 0, 15, 21, 5]
abbrev dktX2_claim_1 : List UInt8 := dkwX2_claim_1 ++ dktX2_claim_2
def dkwX2_claim_0 : List UInt8 := [27, 184, 0, 126, 153, 0, 14, 28, 184, 0, 139, 153, 0, 7, 4, 167, 0, 4, 3, 54, 6, 29, 3, 42]
abbrev dktX2_claim_0 : List UInt8 := dkwX2_claim_0 ++ dktX2_claim_1
theorem dksX2_claim_0 : cX2_claim.data.toList.drop 0 = dktX2_claim_0 := by decide +kernel
theorem dksX2_claim_1 : cX2_claim.data.toList.drop 24 = dktX2_claim_1 := dk_seg dksX2_claim_0 24 rfl rfl
theorem dksX2_claim_2 : cX2_claim.data.toList.drop 48 = dktX2_claim_2 := dk_seg dksX2_claim_1 24 rfl rfl
theorem dksX2_claim_3 : cX2_claim.data.toList.drop 71 = dktX2_claim_3 := dk_seg dksX2_claim_2 23 rfl rfl
theorem dksX2_claim_4 : cX2_claim.data.toList.drop 94 = dktX2_claim_4 := dk_seg dksX2_claim_3 23 rfl rfl
theorem dksX2_claim_5 : cX2_claim.data.toList.drop 117 = dktX2_claim_5 := dk_seg dksX2_claim_4 23 rfl rfl
theorem dksX2_claim_6 : cX2_claim.data.toList.drop 140 = dktX2_claim_6 := dk_seg dksX2_claim_5 23 rfl rfl
theorem dksX2_claim_7 : cX2_claim.data.toList.drop 164 = dktX2_claim_7 := dk_seg dksX2_claim_6 24 rfl rfl
theorem dksX2_claim_8 : cX2_claim.data.toList.drop 186 = dktX2_claim_8 := dk_seg dksX2_claim_7 22 rfl rfl
theorem dX2_claim_0 : decode cX2_claim 0 = .ok (.iload_n 1, 1) := dk_27 (dk_at dksX2_claim_0 0 rfl rfl)
theorem dX2_claim_1 : decode cX2_claim 1 = .ok (.invokestatic 126, 3) := dk_184 0 126 (dk_at dksX2_claim_0 1 rfl rfl)
theorem dX2_claim_4 : decode cX2_claim 4 = .ok (.ifCond .eq 14, 3) := dk_153 0 14 (dk_at dksX2_claim_0 4 rfl rfl)
theorem dX2_claim_7 : decode cX2_claim 7 = .ok (.iload_n 2, 1) := dk_28 (dk_at dksX2_claim_0 7 rfl rfl)
theorem dX2_claim_8 : decode cX2_claim 8 = .ok (.invokestatic 139, 3) := dk_184 0 139 (dk_at dksX2_claim_0 8 rfl rfl)
theorem dX2_claim_11 : decode cX2_claim 11 = .ok (.ifCond .eq 7, 3) := dk_153 0 7 (dk_at dksX2_claim_0 11 rfl rfl)
theorem dX2_claim_14 : decode cX2_claim 14 = .ok (.iconst 1, 1) := dk_4 (dk_at dksX2_claim_0 14 rfl rfl)
theorem dX2_claim_15 : decode cX2_claim 15 = .ok (.goto 4, 3) := dk_167 0 4 (dk_at dksX2_claim_0 15 rfl rfl)
theorem dX2_claim_18 : decode cX2_claim 18 = .ok (.iconst 0, 1) := dk_3 (dk_at dksX2_claim_0 18 rfl rfl)
theorem dX2_claim_19 : decode cX2_claim 19 = .ok (.istore 6, 2) := dk_54 6 (dk_at dksX2_claim_0 19 rfl rfl)
theorem dX2_claim_21 : decode cX2_claim 21 = .ok (.iload_n 3, 1) := dk_29 (dk_at dksX2_claim_0 21 rfl rfl)
theorem dX2_claim_22 : decode cX2_claim 22 = .ok (.iconst 0, 1) := dk_3 (dk_at dksX2_claim_0 22 rfl rfl)
theorem dX2_claim_23 : decode cX2_claim 23 = .ok (.aload_n 0, 1) := dk_42 (dk_at dksX2_claim_0 23 rfl rfl)
theorem dX2_claim_24 : decode cX2_claim 24 = .ok (.getfield 136, 3) := dk_180 0 136 (dk_at dksX2_claim_1 0 rfl rfl)
theorem dX2_claim_27 : decode cX2_claim 27 = .ok (.invokestatic 108, 3) := dk_184 0 108 (dk_at dksX2_claim_1 3 rfl rfl)
theorem dX2_claim_30 : decode cX2_claim 30 = .ok (.ifCond .eq 28, 3) := dk_153 0 28 (dk_at dksX2_claim_1 6 rfl rfl)
theorem dX2_claim_33 : decode cX2_claim 33 = .ok (.iload 4, 2) := dk_21 4 (dk_at dksX2_claim_1 9 rfl rfl)
theorem dX2_claim_35 : decode cX2_claim 35 = .ok (.iload_n 3, 1) := dk_29 (dk_at dksX2_claim_1 11 rfl rfl)
theorem dX2_claim_36 : decode cX2_claim 36 = .ok (.aload_n 0, 1) := dk_42 (dk_at dksX2_claim_1 12 rfl rfl)
theorem dX2_claim_37 : decode cX2_claim 37 = .ok (.getfield 136, 3) := dk_180 0 136 (dk_at dksX2_claim_1 13 rfl rfl)
theorem dX2_claim_40 : decode cX2_claim 40 = .ok (.invokestatic 108, 3) := dk_184 0 108 (dk_at dksX2_claim_1 16 rfl rfl)
theorem dX2_claim_43 : decode cX2_claim 43 = .ok (.ifCond .eq 15, 3) := dk_153 0 15 (dk_at dksX2_claim_1 19 rfl rfl)
theorem dX2_claim_46 : decode cX2_claim 46 = .ok (.iload 5, 2) := dk_21 5 (dk_at dksX2_claim_1 22 rfl rfl)
theorem dX2_claim_48 : decode cX2_claim 48 = .ok (.invokestatic 142, 3) := dk_184 0 142 (dk_at dksX2_claim_2 0 rfl rfl)
theorem dX2_claim_51 : decode cX2_claim 51 = .ok (.ifCond .eq 7, 3) := dk_153 0 7 (dk_at dksX2_claim_2 3 rfl rfl)
theorem dX2_claim_54 : decode cX2_claim 54 = .ok (.iconst 1, 1) := dk_4 (dk_at dksX2_claim_2 6 rfl rfl)
theorem dX2_claim_55 : decode cX2_claim 55 = .ok (.goto 4, 3) := dk_167 0 4 (dk_at dksX2_claim_2 7 rfl rfl)
theorem dX2_claim_58 : decode cX2_claim 58 = .ok (.iconst 0, 1) := dk_3 (dk_at dksX2_claim_2 10 rfl rfl)
theorem dX2_claim_59 : decode cX2_claim 59 = .ok (.istore 7, 2) := dk_54 7 (dk_at dksX2_claim_2 11 rfl rfl)
theorem dX2_claim_61 : decode cX2_claim 61 = .ok (.aload_n 0, 1) := dk_42 (dk_at dksX2_claim_2 13 rfl rfl)
theorem dX2_claim_62 : decode cX2_claim 62 = .ok (.iload 6, 2) := dk_21 6 (dk_at dksX2_claim_2 14 rfl rfl)
theorem dX2_claim_64 : decode cX2_claim 64 = .ok (.ifCond .ne 7, 3) := dk_154 0 7 (dk_at dksX2_claim_2 16 rfl rfl)
theorem dX2_claim_67 : decode cX2_claim 67 = .ok (.iconst 1, 1) := dk_4 (dk_at dksX2_claim_2 19 rfl rfl)
theorem dX2_claim_68 : decode cX2_claim 68 = .ok (.goto 26, 3) := dk_167 0 26 (dk_at dksX2_claim_2 20 rfl rfl)
theorem dX2_claim_71 : decode cX2_claim 71 = .ok (.iload 7, 2) := dk_21 7 (dk_at dksX2_claim_3 0 rfl rfl)
theorem dX2_claim_73 : decode cX2_claim 73 = .ok (.ifCond .ne 7, 3) := dk_154 0 7 (dk_at dksX2_claim_3 2 rfl rfl)
theorem dX2_claim_76 : decode cX2_claim 76 = .ok (.iconst 2, 1) := dk_5 (dk_at dksX2_claim_3 5 rfl rfl)
theorem dX2_claim_77 : decode cX2_claim 77 = .ok (.goto 17, 3) := dk_167 0 17 (dk_at dksX2_claim_3 6 rfl rfl)
theorem dX2_claim_80 : decode cX2_claim 80 = .ok (.aload_n 0, 1) := dk_42 (dk_at dksX2_claim_3 9 rfl rfl)
theorem dX2_claim_81 : decode cX2_claim 81 = .ok (.getfield 116, 3) := dk_180 0 116 (dk_at dksX2_claim_3 10 rfl rfl)
theorem dX2_claim_84 : decode cX2_claim 84 = .ok (.bipush 20, 2) := dk_16 20 (dk_at dksX2_claim_3 13 rfl rfl)
theorem dX2_claim_86 : decode cX2_claim 86 = .ok (.if_icmp .ne 7, 3) := dk_160 0 7 (dk_at dksX2_claim_3 15 rfl rfl)
theorem dX2_claim_89 : decode cX2_claim 89 = .ok (.iconst 3, 1) := dk_6 (dk_at dksX2_claim_3 18 rfl rfl)
theorem dX2_claim_90 : decode cX2_claim 90 = .ok (.goto 4, 3) := dk_167 0 4 (dk_at dksX2_claim_3 19 rfl rfl)
theorem dX2_claim_93 : decode cX2_claim 93 = .ok (.iconst 0, 1) := dk_3 (dk_at dksX2_claim_3 22 rfl rfl)
theorem dX2_claim_94 : decode cX2_claim 94 = .ok (.invokevirtual 123, 3) := dk_182 0 123 (dk_at dksX2_claim_4 0 rfl rfl)
theorem dX2_claim_97 : decode cX2_claim 97 = .ok (.ifCond .ne 5, 3) := dk_154 0 5 (dk_at dksX2_claim_4 3 rfl rfl)
theorem dX2_claim_100 : decode cX2_claim 100 = .ok (.iconst 0, 1) := dk_3 (dk_at dksX2_claim_4 6 rfl rfl)
theorem dX2_claim_101 : decode cX2_claim 101 = .ok (.ireturn, 1) := dk_172 (dk_at dksX2_claim_4 7 rfl rfl)
theorem dX2_claim_102 : decode cX2_claim 102 = .ok (.aload_n 0, 1) := dk_42 (dk_at dksX2_claim_4 8 rfl rfl)
theorem dX2_claim_103 : decode cX2_claim 103 = .ok (.getfield 78, 3) := dk_180 0 78 (dk_at dksX2_claim_4 9 rfl rfl)
theorem dX2_claim_106 : decode cX2_claim 106 = .ok (.aload_n 0, 1) := dk_42 (dk_at dksX2_claim_4 12 rfl rfl)
theorem dX2_claim_107 : decode cX2_claim 107 = .ok (.getfield 116, 3) := dk_180 0 116 (dk_at dksX2_claim_4 13 rfl rfl)
theorem dX2_claim_110 : decode cX2_claim 110 = .ok (.iload_n 1, 1) := dk_27 (dk_at dksX2_claim_4 16 rfl rfl)
theorem dX2_claim_111 : decode cX2_claim 111 = .ok (.iastore, 1) := dk_79 (dk_at dksX2_claim_4 17 rfl rfl)
theorem dX2_claim_112 : decode cX2_claim 112 = .ok (.aload_n 0, 1) := dk_42 (dk_at dksX2_claim_4 18 rfl rfl)
theorem dX2_claim_113 : decode cX2_claim 113 = .ok (.getfield 81, 3) := dk_180 0 81 (dk_at dksX2_claim_4 19 rfl rfl)
theorem dX2_claim_116 : decode cX2_claim 116 = .ok (.aload_n 0, 1) := dk_42 (dk_at dksX2_claim_4 22 rfl rfl)
theorem dX2_claim_117 : decode cX2_claim 117 = .ok (.getfield 116, 3) := dk_180 0 116 (dk_at dksX2_claim_5 0 rfl rfl)
theorem dX2_claim_120 : decode cX2_claim 120 = .ok (.iload_n 2, 1) := dk_28 (dk_at dksX2_claim_5 3 rfl rfl)
theorem dX2_claim_121 : decode cX2_claim 121 = .ok (.iastore, 1) := dk_79 (dk_at dksX2_claim_5 4 rfl rfl)
theorem dX2_claim_122 : decode cX2_claim 122 = .ok (.aload_n 0, 1) := dk_42 (dk_at dksX2_claim_5 5 rfl rfl)
theorem dX2_claim_123 : decode cX2_claim 123 = .ok (.getfield 84, 3) := dk_180 0 84 (dk_at dksX2_claim_5 6 rfl rfl)
theorem dX2_claim_126 : decode cX2_claim 126 = .ok (.aload_n 0, 1) := dk_42 (dk_at dksX2_claim_5 9 rfl rfl)
theorem dX2_claim_127 : decode cX2_claim 127 = .ok (.getfield 116, 3) := dk_180 0 116 (dk_at dksX2_claim_5 10 rfl rfl)
theorem dX2_claim_130 : decode cX2_claim 130 = .ok (.iload_n 3, 1) := dk_29 (dk_at dksX2_claim_5 13 rfl rfl)
theorem dX2_claim_131 : decode cX2_claim 131 = .ok (.iastore, 1) := dk_79 (dk_at dksX2_claim_5 14 rfl rfl)
theorem dX2_claim_132 : decode cX2_claim 132 = .ok (.aload_n 0, 1) := dk_42 (dk_at dksX2_claim_5 15 rfl rfl)
theorem dX2_claim_133 : decode cX2_claim 133 = .ok (.getfield 87, 3) := dk_180 0 87 (dk_at dksX2_claim_5 16 rfl rfl)
theorem dX2_claim_136 : decode cX2_claim 136 = .ok (.aload_n 0, 1) := dk_42 (dk_at dksX2_claim_5 19 rfl rfl)
theorem dX2_claim_137 : decode cX2_claim 137 = .ok (.getfield 116, 3) := dk_180 0 116 (dk_at dksX2_claim_5 20 rfl rfl)
theorem dX2_claim_140 : decode cX2_claim 140 = .ok (.iload 4, 2) := dk_21 4 (dk_at dksX2_claim_6 0 rfl rfl)
theorem dX2_claim_142 : decode cX2_claim 142 = .ok (.iastore, 1) := dk_79 (dk_at dksX2_claim_6 2 rfl rfl)
theorem dX2_claim_143 : decode cX2_claim 143 = .ok (.aload_n 0, 1) := dk_42 (dk_at dksX2_claim_6 3 rfl rfl)
theorem dX2_claim_144 : decode cX2_claim 144 = .ok (.getfield 90, 3) := dk_180 0 90 (dk_at dksX2_claim_6 4 rfl rfl)
theorem dX2_claim_147 : decode cX2_claim 147 = .ok (.aload_n 0, 1) := dk_42 (dk_at dksX2_claim_6 7 rfl rfl)
theorem dX2_claim_148 : decode cX2_claim 148 = .ok (.getfield 116, 3) := dk_180 0 116 (dk_at dksX2_claim_6 8 rfl rfl)
theorem dX2_claim_151 : decode cX2_claim 151 = .ok (.iload 5, 2) := dk_21 5 (dk_at dksX2_claim_6 11 rfl rfl)
theorem dX2_claim_153 : decode cX2_claim 153 = .ok (.iastore, 1) := dk_79 (dk_at dksX2_claim_6 13 rfl rfl)
theorem dX2_claim_154 : decode cX2_claim 154 = .ok (.aload_n 0, 1) := dk_42 (dk_at dksX2_claim_6 14 rfl rfl)
theorem dX2_claim_155 : decode cX2_claim 155 = .ok (.getfield 93, 3) := dk_180 0 93 (dk_at dksX2_claim_6 15 rfl rfl)
theorem dX2_claim_158 : decode cX2_claim 158 = .ok (.aload_n 0, 1) := dk_42 (dk_at dksX2_claim_6 18 rfl rfl)
theorem dX2_claim_159 : decode cX2_claim 159 = .ok (.getfield 116, 3) := dk_180 0 116 (dk_at dksX2_claim_6 19 rfl rfl)
theorem dX2_claim_162 : decode cX2_claim 162 = .ok (.iconst 0, 1) := dk_3 (dk_at dksX2_claim_6 22 rfl rfl)
theorem dX2_claim_163 : decode cX2_claim 163 = .ok (.iastore, 1) := dk_79 (dk_at dksX2_claim_6 23 rfl rfl)
theorem dX2_claim_164 : decode cX2_claim 164 = .ok (.aload_n 0, 1) := dk_42 (dk_at dksX2_claim_7 0 rfl rfl)
theorem dX2_claim_165 : decode cX2_claim 165 = .ok (.getfield 96, 3) := dk_180 0 96 (dk_at dksX2_claim_7 1 rfl rfl)
theorem dX2_claim_168 : decode cX2_claim 168 = .ok (.aload_n 0, 1) := dk_42 (dk_at dksX2_claim_7 4 rfl rfl)
theorem dX2_claim_169 : decode cX2_claim 169 = .ok (.getfield 116, 3) := dk_180 0 116 (dk_at dksX2_claim_7 5 rfl rfl)
theorem dX2_claim_172 : decode cX2_claim 172 = .ok (.iconst 0, 1) := dk_3 (dk_at dksX2_claim_7 8 rfl rfl)
theorem dX2_claim_173 : decode cX2_claim 173 = .ok (.iastore, 1) := dk_79 (dk_at dksX2_claim_7 9 rfl rfl)
theorem dX2_claim_174 : decode cX2_claim 174 = .ok (.aload_n 0, 1) := dk_42 (dk_at dksX2_claim_7 10 rfl rfl)
theorem dX2_claim_175 : decode cX2_claim 175 = .ok (.getfield 102, 3) := dk_180 0 102 (dk_at dksX2_claim_7 11 rfl rfl)
theorem dX2_claim_178 : decode cX2_claim 178 = .ok (.aload_n 0, 1) := dk_42 (dk_at dksX2_claim_7 14 rfl rfl)
theorem dX2_claim_179 : decode cX2_claim 179 = .ok (.getfield 116, 3) := dk_180 0 116 (dk_at dksX2_claim_7 15 rfl rfl)
theorem dX2_claim_182 : decode cX2_claim 182 = .ok (.iconst (-1), 1) := dk_2 (dk_at dksX2_claim_7 18 rfl rfl)
theorem dX2_claim_183 : decode cX2_claim 183 = .ok (.iastore, 1) := dk_79 (dk_at dksX2_claim_7 19 rfl rfl)
theorem dX2_claim_184 : decode cX2_claim 184 = .ok (.aload_n 0, 1) := dk_42 (dk_at dksX2_claim_7 20 rfl rfl)
theorem dX2_claim_185 : decode cX2_claim 185 = .ok (.dup, 1) := dk_89 (dk_at dksX2_claim_7 21 rfl rfl)
theorem dX2_claim_186 : decode cX2_claim 186 = .ok (.getfield 116, 3) := dk_180 0 116 (dk_at dksX2_claim_8 0 rfl rfl)
theorem dX2_claim_189 : decode cX2_claim 189 = .ok (.iconst 1, 1) := dk_4 (dk_at dksX2_claim_8 3 rfl rfl)
theorem dX2_claim_190 : decode cX2_claim 190 = .ok (.iadd, 1) := dk_96 (dk_at dksX2_claim_8 4 rfl rfl)
theorem dX2_claim_191 : decode cX2_claim 191 = .ok (.putfield 116, 3) := dk_181 0 116 (dk_at dksX2_claim_8 5 rfl rfl)
theorem dX2_claim_194 : decode cX2_claim 194 = .ok (.aload_n 0, 1) := dk_42 (dk_at dksX2_claim_8 8 rfl rfl)
theorem dX2_claim_195 : decode cX2_claim 195 = .ok (.getfield 116, 3) := dk_180 0 116 (dk_at dksX2_claim_8 9 rfl rfl)
theorem dX2_claim_198 : decode cX2_claim 198 = .ok (.iconst 1, 1) := dk_4 (dk_at dksX2_claim_8 12 rfl rfl)
theorem dX2_claim_199 : decode cX2_claim 199 = .ok (.isub, 1) := dk_100 (dk_at dksX2_claim_8 13 rfl rfl)
theorem dX2_claim_200 : decode cX2_claim 200 = .ok (.ireturn, 1) := dk_172 (dk_at dksX2_claim_8 14 rfl rfl)
abbrev cX2_say : ByteArray := prog_6_method_28_code
def yX2_say : MethodName := ⟨RX2, "say", "(II)I"⟩
def dkwX2_say_1 : List UInt8 := [79, 42, 180, 0, 90, 27, 46, 184, 0, 132, 172]
abbrev dktX2_say_1 : List UInt8 := dkwX2_say_1 ++ []
def dkwX2_say_0 : List UInt8 := [42, 42, 27, 28, 182, 0, 158, 182, 0, 123, 154, 0, 5, 3, 172, 42, 180, 0, 90, 27, 92, 46, 28, 128]
abbrev dktX2_say_0 : List UInt8 := dkwX2_say_0 ++ dktX2_say_1
theorem dksX2_say_0 : cX2_say.data.toList.drop 0 = dktX2_say_0 := by decide +kernel
theorem dksX2_say_1 : cX2_say.data.toList.drop 24 = dktX2_say_1 := dk_seg dksX2_say_0 24 rfl rfl
theorem dX2_say_0 : decode cX2_say 0 = .ok (.aload_n 0, 1) := dk_42 (dk_at dksX2_say_0 0 rfl rfl)
theorem dX2_say_1 : decode cX2_say 1 = .ok (.aload_n 0, 1) := dk_42 (dk_at dksX2_say_0 1 rfl rfl)
theorem dX2_say_2 : decode cX2_say 2 = .ok (.iload_n 1, 1) := dk_27 (dk_at dksX2_say_0 2 rfl rfl)
theorem dX2_say_3 : decode cX2_say 3 = .ok (.iload_n 2, 1) := dk_28 (dk_at dksX2_say_0 3 rfl rfl)
theorem dX2_say_4 : decode cX2_say 4 = .ok (.invokevirtual 158, 3) := dk_182 0 158 (dk_at dksX2_say_0 4 rfl rfl)
theorem dX2_say_7 : decode cX2_say 7 = .ok (.invokevirtual 123, 3) := dk_182 0 123 (dk_at dksX2_say_0 7 rfl rfl)
theorem dX2_say_10 : decode cX2_say 10 = .ok (.ifCond .ne 5, 3) := dk_154 0 5 (dk_at dksX2_say_0 10 rfl rfl)
theorem dX2_say_13 : decode cX2_say 13 = .ok (.iconst 0, 1) := dk_3 (dk_at dksX2_say_0 13 rfl rfl)
theorem dX2_say_14 : decode cX2_say 14 = .ok (.ireturn, 1) := dk_172 (dk_at dksX2_say_0 14 rfl rfl)
theorem dX2_say_15 : decode cX2_say 15 = .ok (.aload_n 0, 1) := dk_42 (dk_at dksX2_say_0 15 rfl rfl)
theorem dX2_say_16 : decode cX2_say 16 = .ok (.getfield 90, 3) := dk_180 0 90 (dk_at dksX2_say_0 16 rfl rfl)
theorem dX2_say_19 : decode cX2_say 19 = .ok (.iload_n 1, 1) := dk_27 (dk_at dksX2_say_0 19 rfl rfl)
theorem dX2_say_20 : decode cX2_say 20 = .ok (.dup2, 1) := dk_92 (dk_at dksX2_say_0 20 rfl rfl)
theorem dX2_say_21 : decode cX2_say 21 = .ok (.iaload, 1) := dk_46 (dk_at dksX2_say_0 21 rfl rfl)
theorem dX2_say_22 : decode cX2_say 22 = .ok (.iload_n 2, 1) := dk_28 (dk_at dksX2_say_0 22 rfl rfl)
theorem dX2_say_23 : decode cX2_say 23 = .ok (.ior, 1) := dk_128 (dk_at dksX2_say_0 23 rfl rfl)
theorem dX2_say_24 : decode cX2_say 24 = .ok (.iastore, 1) := dk_79 (dk_at dksX2_say_1 0 rfl rfl)
theorem dX2_say_25 : decode cX2_say 25 = .ok (.aload_n 0, 1) := dk_42 (dk_at dksX2_say_1 1 rfl rfl)
theorem dX2_say_26 : decode cX2_say 26 = .ok (.getfield 90, 3) := dk_180 0 90 (dk_at dksX2_say_1 2 rfl rfl)
theorem dX2_say_29 : decode cX2_say 29 = .ok (.iload_n 1, 1) := dk_27 (dk_at dksX2_say_1 5 rfl rfl)
theorem dX2_say_30 : decode cX2_say 30 = .ok (.iaload, 1) := dk_46 (dk_at dksX2_say_1 6 rfl rfl)
theorem dX2_say_31 : decode cX2_say 31 = .ok (.invokestatic 132, 3) := dk_184 0 132 (dk_at dksX2_say_1 7 rfl rfl)
theorem dX2_say_34 : decode cX2_say 34 = .ok (.ireturn, 1) := dk_172 (dk_at dksX2_say_1 10 rfl rfl)
abbrev cX2_errorOfWords : ByteArray := prog_6_method_27_code
def yX2_errorOfWords : MethodName := ⟨RX2, "errorOfWords", "(II)I"⟩
def dkwX2_errorOfWords_1 : List UInt8 := [180, 0, 96, 27, 46, 153, 0, 7, 6, 167, 0, 4, 3, 172]
abbrev dktX2_errorOfWords_1 : List UInt8 := dkwX2_errorOfWords_1 ++ []
def dkwX2_errorOfWords_0 : List UInt8 := [42, 27, 182, 0, 155, 154, 0, 5, 4, 172, 28, 184, 0, 142, 154, 0, 7, 5, 167, 0, 17, 42]
abbrev dktX2_errorOfWords_0 : List UInt8 := dkwX2_errorOfWords_0 ++ dktX2_errorOfWords_1
theorem dksX2_errorOfWords_0 : cX2_errorOfWords.data.toList.drop 0 = dktX2_errorOfWords_0 := by decide +kernel
theorem dksX2_errorOfWords_1 : cX2_errorOfWords.data.toList.drop 22 = dktX2_errorOfWords_1 := dk_seg dksX2_errorOfWords_0 22 rfl rfl
theorem dX2_errorOfWords_0 : decode cX2_errorOfWords 0 = .ok (.aload_n 0, 1) := dk_42 (dk_at dksX2_errorOfWords_0 0 rfl rfl)
theorem dX2_errorOfWords_1 : decode cX2_errorOfWords 1 = .ok (.iload_n 1, 1) := dk_27 (dk_at dksX2_errorOfWords_0 1 rfl rfl)
theorem dX2_errorOfWords_2 : decode cX2_errorOfWords 2 = .ok (.invokevirtual 155, 3) := dk_182 0 155 (dk_at dksX2_errorOfWords_0 2 rfl rfl)
theorem dX2_errorOfWords_5 : decode cX2_errorOfWords 5 = .ok (.ifCond .ne 5, 3) := dk_154 0 5 (dk_at dksX2_errorOfWords_0 5 rfl rfl)
theorem dX2_errorOfWords_8 : decode cX2_errorOfWords 8 = .ok (.iconst 1, 1) := dk_4 (dk_at dksX2_errorOfWords_0 8 rfl rfl)
theorem dX2_errorOfWords_9 : decode cX2_errorOfWords 9 = .ok (.ireturn, 1) := dk_172 (dk_at dksX2_errorOfWords_0 9 rfl rfl)
theorem dX2_errorOfWords_10 : decode cX2_errorOfWords 10 = .ok (.iload_n 2, 1) := dk_28 (dk_at dksX2_errorOfWords_0 10 rfl rfl)
theorem dX2_errorOfWords_11 : decode cX2_errorOfWords 11 = .ok (.invokestatic 142, 3) := dk_184 0 142 (dk_at dksX2_errorOfWords_0 11 rfl rfl)
theorem dX2_errorOfWords_14 : decode cX2_errorOfWords 14 = .ok (.ifCond .ne 7, 3) := dk_154 0 7 (dk_at dksX2_errorOfWords_0 14 rfl rfl)
theorem dX2_errorOfWords_17 : decode cX2_errorOfWords 17 = .ok (.iconst 2, 1) := dk_5 (dk_at dksX2_errorOfWords_0 17 rfl rfl)
theorem dX2_errorOfWords_18 : decode cX2_errorOfWords 18 = .ok (.goto 17, 3) := dk_167 0 17 (dk_at dksX2_errorOfWords_0 18 rfl rfl)
theorem dX2_errorOfWords_21 : decode cX2_errorOfWords 21 = .ok (.aload_n 0, 1) := dk_42 (dk_at dksX2_errorOfWords_0 21 rfl rfl)
theorem dX2_errorOfWords_22 : decode cX2_errorOfWords 22 = .ok (.getfield 96, 3) := dk_180 0 96 (dk_at dksX2_errorOfWords_1 0 rfl rfl)
theorem dX2_errorOfWords_25 : decode cX2_errorOfWords 25 = .ok (.iload_n 1, 1) := dk_27 (dk_at dksX2_errorOfWords_1 3 rfl rfl)
theorem dX2_errorOfWords_26 : decode cX2_errorOfWords 26 = .ok (.iaload, 1) := dk_46 (dk_at dksX2_errorOfWords_1 4 rfl rfl)
theorem dX2_errorOfWords_27 : decode cX2_errorOfWords 27 = .ok (.ifCond .eq 7, 3) := dk_153 0 7 (dk_at dksX2_errorOfWords_1 5 rfl rfl)
theorem dX2_errorOfWords_30 : decode cX2_errorOfWords 30 = .ok (.iconst 3, 1) := dk_6 (dk_at dksX2_errorOfWords_1 8 rfl rfl)
theorem dX2_errorOfWords_31 : decode cX2_errorOfWords 31 = .ok (.goto 4, 3) := dk_167 0 4 (dk_at dksX2_errorOfWords_1 9 rfl rfl)
theorem dX2_errorOfWords_34 : decode cX2_errorOfWords 34 = .ok (.iconst 0, 1) := dk_3 (dk_at dksX2_errorOfWords_1 12 rfl rfl)
theorem dX2_errorOfWords_35 : decode cX2_errorOfWords 35 = .ok (.ireturn, 1) := dk_172 (dk_at dksX2_errorOfWords_1 13 rfl rfl)
abbrev cX2_isClaim : ByteArray := prog_6_method_11_code
def yX2_isClaim : MethodName := ⟨RX2, "isClaim", "(I)Z"⟩
def dkwX2_isClaim_0 : List UInt8 := [27, 3, 42, 180, 0, 116, 4, 100, 184, 0, 108, 172]
abbrev dktX2_isClaim_0 : List UInt8 := dkwX2_isClaim_0 ++ []
theorem dksX2_isClaim_0 : cX2_isClaim.data.toList.drop 0 = dktX2_isClaim_0 := by decide +kernel
theorem dX2_isClaim_0 : decode cX2_isClaim 0 = .ok (.iload_n 1, 1) := dk_27 (dk_at dksX2_isClaim_0 0 rfl rfl)
theorem dX2_isClaim_1 : decode cX2_isClaim 1 = .ok (.iconst 0, 1) := dk_3 (dk_at dksX2_isClaim_0 1 rfl rfl)
theorem dX2_isClaim_2 : decode cX2_isClaim 2 = .ok (.aload_n 0, 1) := dk_42 (dk_at dksX2_isClaim_0 2 rfl rfl)
theorem dX2_isClaim_3 : decode cX2_isClaim 3 = .ok (.getfield 116, 3) := dk_180 0 116 (dk_at dksX2_isClaim_0 3 rfl rfl)
theorem dX2_isClaim_6 : decode cX2_isClaim 6 = .ok (.iconst 1, 1) := dk_4 (dk_at dksX2_isClaim_0 6 rfl rfl)
theorem dX2_isClaim_7 : decode cX2_isClaim 7 = .ok (.isub, 1) := dk_100 (dk_at dksX2_isClaim_0 7 rfl rfl)
theorem dX2_isClaim_8 : decode cX2_isClaim 8 = .ok (.invokestatic 108, 3) := dk_184 0 108 (dk_at dksX2_isClaim_0 8 rfl rfl)
theorem dX2_isClaim_11 : decode cX2_isClaim 11 = .ok (.ireturn, 1) := dk_172 (dk_at dksX2_isClaim_0 11 rfl rfl)
abbrev cX2_tell : ByteArray := prog_6_method_29_code
def yX2_tell : MethodName := ⟨RX2, "tell", "(II)I"⟩
def dkwX2_tell_1 : List UInt8 := [79, 42, 180, 0, 93, 27, 92, 46, 28, 128, 79, 42, 180, 0, 93, 27, 46, 184, 0, 132, 172]
abbrev dktX2_tell_1 : List UInt8 := dkwX2_tell_1 ++ []
def dkwX2_tell_0 : List UInt8 := [42, 42, 27, 28, 182, 0, 158, 182, 0, 123, 154, 0, 5, 3, 172, 42, 180, 0, 90, 27, 92, 46, 28, 128]
abbrev dktX2_tell_0 : List UInt8 := dkwX2_tell_0 ++ dktX2_tell_1
theorem dksX2_tell_0 : cX2_tell.data.toList.drop 0 = dktX2_tell_0 := by decide +kernel
theorem dksX2_tell_1 : cX2_tell.data.toList.drop 24 = dktX2_tell_1 := dk_seg dksX2_tell_0 24 rfl rfl
theorem dX2_tell_0 : decode cX2_tell 0 = .ok (.aload_n 0, 1) := dk_42 (dk_at dksX2_tell_0 0 rfl rfl)
theorem dX2_tell_1 : decode cX2_tell 1 = .ok (.aload_n 0, 1) := dk_42 (dk_at dksX2_tell_0 1 rfl rfl)
theorem dX2_tell_2 : decode cX2_tell 2 = .ok (.iload_n 1, 1) := dk_27 (dk_at dksX2_tell_0 2 rfl rfl)
theorem dX2_tell_3 : decode cX2_tell 3 = .ok (.iload_n 2, 1) := dk_28 (dk_at dksX2_tell_0 3 rfl rfl)
theorem dX2_tell_4 : decode cX2_tell 4 = .ok (.invokevirtual 158, 3) := dk_182 0 158 (dk_at dksX2_tell_0 4 rfl rfl)
theorem dX2_tell_7 : decode cX2_tell 7 = .ok (.invokevirtual 123, 3) := dk_182 0 123 (dk_at dksX2_tell_0 7 rfl rfl)
theorem dX2_tell_10 : decode cX2_tell 10 = .ok (.ifCond .ne 5, 3) := dk_154 0 5 (dk_at dksX2_tell_0 10 rfl rfl)
theorem dX2_tell_13 : decode cX2_tell 13 = .ok (.iconst 0, 1) := dk_3 (dk_at dksX2_tell_0 13 rfl rfl)
theorem dX2_tell_14 : decode cX2_tell 14 = .ok (.ireturn, 1) := dk_172 (dk_at dksX2_tell_0 14 rfl rfl)
theorem dX2_tell_15 : decode cX2_tell 15 = .ok (.aload_n 0, 1) := dk_42 (dk_at dksX2_tell_0 15 rfl rfl)
theorem dX2_tell_16 : decode cX2_tell 16 = .ok (.getfield 90, 3) := dk_180 0 90 (dk_at dksX2_tell_0 16 rfl rfl)
theorem dX2_tell_19 : decode cX2_tell 19 = .ok (.iload_n 1, 1) := dk_27 (dk_at dksX2_tell_0 19 rfl rfl)
theorem dX2_tell_20 : decode cX2_tell 20 = .ok (.dup2, 1) := dk_92 (dk_at dksX2_tell_0 20 rfl rfl)
theorem dX2_tell_21 : decode cX2_tell 21 = .ok (.iaload, 1) := dk_46 (dk_at dksX2_tell_0 21 rfl rfl)
theorem dX2_tell_22 : decode cX2_tell 22 = .ok (.iload_n 2, 1) := dk_28 (dk_at dksX2_tell_0 22 rfl rfl)
theorem dX2_tell_23 : decode cX2_tell 23 = .ok (.ior, 1) := dk_128 (dk_at dksX2_tell_0 23 rfl rfl)
theorem dX2_tell_24 : decode cX2_tell 24 = .ok (.iastore, 1) := dk_79 (dk_at dksX2_tell_1 0 rfl rfl)
theorem dX2_tell_25 : decode cX2_tell 25 = .ok (.aload_n 0, 1) := dk_42 (dk_at dksX2_tell_1 1 rfl rfl)
theorem dX2_tell_26 : decode cX2_tell 26 = .ok (.getfield 93, 3) := dk_180 0 93 (dk_at dksX2_tell_1 2 rfl rfl)
theorem dX2_tell_29 : decode cX2_tell 29 = .ok (.iload_n 1, 1) := dk_27 (dk_at dksX2_tell_1 5 rfl rfl)
theorem dX2_tell_30 : decode cX2_tell 30 = .ok (.dup2, 1) := dk_92 (dk_at dksX2_tell_1 6 rfl rfl)
theorem dX2_tell_31 : decode cX2_tell 31 = .ok (.iaload, 1) := dk_46 (dk_at dksX2_tell_1 7 rfl rfl)
theorem dX2_tell_32 : decode cX2_tell 32 = .ok (.iload_n 2, 1) := dk_28 (dk_at dksX2_tell_1 8 rfl rfl)
theorem dX2_tell_33 : decode cX2_tell 33 = .ok (.ior, 1) := dk_128 (dk_at dksX2_tell_1 9 rfl rfl)
theorem dX2_tell_34 : decode cX2_tell 34 = .ok (.iastore, 1) := dk_79 (dk_at dksX2_tell_1 10 rfl rfl)
theorem dX2_tell_35 : decode cX2_tell 35 = .ok (.aload_n 0, 1) := dk_42 (dk_at dksX2_tell_1 11 rfl rfl)
theorem dX2_tell_36 : decode cX2_tell 36 = .ok (.getfield 93, 3) := dk_180 0 93 (dk_at dksX2_tell_1 12 rfl rfl)
theorem dX2_tell_39 : decode cX2_tell 39 = .ok (.iload_n 1, 1) := dk_27 (dk_at dksX2_tell_1 15 rfl rfl)
theorem dX2_tell_40 : decode cX2_tell 40 = .ok (.iaload, 1) := dk_46 (dk_at dksX2_tell_1 16 rfl rfl)
theorem dX2_tell_41 : decode cX2_tell 41 = .ok (.invokestatic 132, 3) := dk_184 0 132 (dk_at dksX2_tell_1 17 rfl rfl)
theorem dX2_tell_44 : decode cX2_tell 44 = .ok (.ireturn, 1) := dk_172 (dk_at dksX2_tell_1 20 rfl rfl)
abbrev cX2_withdraw : ByteArray := prog_6_method_31_code
def yX2_withdraw : MethodName := ⟨RX2, "withdraw", "(I)I"⟩
def dkwX2_withdraw_2 : List UInt8 := [172]
abbrev dktX2_withdraw_2 : List UInt8 := dkwX2_withdraw_2 ++ []
def dkwX2_withdraw_1 : List UInt8 := [5, 167, 0, 4, 3, 182, 0, 123, 154, 0, 5, 3, 172, 42, 27, 5, 2, 182, 0, 162, 42, 180, 0, 136]
abbrev dktX2_withdraw_1 : List UInt8 := dkwX2_withdraw_1 ++ dktX2_withdraw_2
def dkwX2_withdraw_0 : List UInt8 := [42, 27, 182, 0, 155, 61, 42, 28, 154, 0, 7, 4, 167, 0, 17, 42, 180, 0, 96, 27, 46, 153, 0, 7]
abbrev dktX2_withdraw_0 : List UInt8 := dkwX2_withdraw_0 ++ dktX2_withdraw_1
theorem dksX2_withdraw_0 : cX2_withdraw.data.toList.drop 0 = dktX2_withdraw_0 := by decide +kernel
theorem dksX2_withdraw_1 : cX2_withdraw.data.toList.drop 24 = dktX2_withdraw_1 := dk_seg dksX2_withdraw_0 24 rfl rfl
theorem dksX2_withdraw_2 : cX2_withdraw.data.toList.drop 48 = dktX2_withdraw_2 := dk_seg dksX2_withdraw_1 24 rfl rfl
theorem dX2_withdraw_0 : decode cX2_withdraw 0 = .ok (.aload_n 0, 1) := dk_42 (dk_at dksX2_withdraw_0 0 rfl rfl)
theorem dX2_withdraw_1 : decode cX2_withdraw 1 = .ok (.iload_n 1, 1) := dk_27 (dk_at dksX2_withdraw_0 1 rfl rfl)
theorem dX2_withdraw_2 : decode cX2_withdraw 2 = .ok (.invokevirtual 155, 3) := dk_182 0 155 (dk_at dksX2_withdraw_0 2 rfl rfl)
theorem dX2_withdraw_5 : decode cX2_withdraw 5 = .ok (.istore_n 2, 1) := dk_61 (dk_at dksX2_withdraw_0 5 rfl rfl)
theorem dX2_withdraw_6 : decode cX2_withdraw 6 = .ok (.aload_n 0, 1) := dk_42 (dk_at dksX2_withdraw_0 6 rfl rfl)
theorem dX2_withdraw_7 : decode cX2_withdraw 7 = .ok (.iload_n 2, 1) := dk_28 (dk_at dksX2_withdraw_0 7 rfl rfl)
theorem dX2_withdraw_8 : decode cX2_withdraw 8 = .ok (.ifCond .ne 7, 3) := dk_154 0 7 (dk_at dksX2_withdraw_0 8 rfl rfl)
theorem dX2_withdraw_11 : decode cX2_withdraw 11 = .ok (.iconst 1, 1) := dk_4 (dk_at dksX2_withdraw_0 11 rfl rfl)
theorem dX2_withdraw_12 : decode cX2_withdraw 12 = .ok (.goto 17, 3) := dk_167 0 17 (dk_at dksX2_withdraw_0 12 rfl rfl)
theorem dX2_withdraw_15 : decode cX2_withdraw 15 = .ok (.aload_n 0, 1) := dk_42 (dk_at dksX2_withdraw_0 15 rfl rfl)
theorem dX2_withdraw_16 : decode cX2_withdraw 16 = .ok (.getfield 96, 3) := dk_180 0 96 (dk_at dksX2_withdraw_0 16 rfl rfl)
theorem dX2_withdraw_19 : decode cX2_withdraw 19 = .ok (.iload_n 1, 1) := dk_27 (dk_at dksX2_withdraw_0 19 rfl rfl)
theorem dX2_withdraw_20 : decode cX2_withdraw 20 = .ok (.iaload, 1) := dk_46 (dk_at dksX2_withdraw_0 20 rfl rfl)
theorem dX2_withdraw_21 : decode cX2_withdraw 21 = .ok (.ifCond .eq 7, 3) := dk_153 0 7 (dk_at dksX2_withdraw_0 21 rfl rfl)
theorem dX2_withdraw_24 : decode cX2_withdraw 24 = .ok (.iconst 2, 1) := dk_5 (dk_at dksX2_withdraw_1 0 rfl rfl)
theorem dX2_withdraw_25 : decode cX2_withdraw 25 = .ok (.goto 4, 3) := dk_167 0 4 (dk_at dksX2_withdraw_1 1 rfl rfl)
theorem dX2_withdraw_28 : decode cX2_withdraw 28 = .ok (.iconst 0, 1) := dk_3 (dk_at dksX2_withdraw_1 4 rfl rfl)
theorem dX2_withdraw_29 : decode cX2_withdraw 29 = .ok (.invokevirtual 123, 3) := dk_182 0 123 (dk_at dksX2_withdraw_1 5 rfl rfl)
theorem dX2_withdraw_32 : decode cX2_withdraw 32 = .ok (.ifCond .ne 5, 3) := dk_154 0 5 (dk_at dksX2_withdraw_1 8 rfl rfl)
theorem dX2_withdraw_35 : decode cX2_withdraw 35 = .ok (.iconst 0, 1) := dk_3 (dk_at dksX2_withdraw_1 11 rfl rfl)
theorem dX2_withdraw_36 : decode cX2_withdraw 36 = .ok (.ireturn, 1) := dk_172 (dk_at dksX2_withdraw_1 12 rfl rfl)
theorem dX2_withdraw_37 : decode cX2_withdraw 37 = .ok (.aload_n 0, 1) := dk_42 (dk_at dksX2_withdraw_1 13 rfl rfl)
theorem dX2_withdraw_38 : decode cX2_withdraw 38 = .ok (.iload_n 1, 1) := dk_27 (dk_at dksX2_withdraw_1 14 rfl rfl)
theorem dX2_withdraw_39 : decode cX2_withdraw 39 = .ok (.iconst 2, 1) := dk_5 (dk_at dksX2_withdraw_1 15 rfl rfl)
theorem dX2_withdraw_40 : decode cX2_withdraw 40 = .ok (.iconst (-1), 1) := dk_2 (dk_at dksX2_withdraw_1 16 rfl rfl)
theorem dX2_withdraw_41 : decode cX2_withdraw 41 = .ok (.invokevirtual 162, 3) := dk_182 0 162 (dk_at dksX2_withdraw_1 17 rfl rfl)
theorem dX2_withdraw_44 : decode cX2_withdraw 44 = .ok (.aload_n 0, 1) := dk_42 (dk_at dksX2_withdraw_1 20 rfl rfl)
theorem dX2_withdraw_45 : decode cX2_withdraw 45 = .ok (.getfield 136, 3) := dk_180 0 136 (dk_at dksX2_withdraw_1 21 rfl rfl)
theorem dX2_withdraw_48 : decode cX2_withdraw 48 = .ok (.ireturn, 1) := dk_172 (dk_at dksX2_withdraw_2 0 rfl rfl)
abbrev cX2_ends : ByteArray := prog_6_method_30_code
def yX2_ends : MethodName := ⟨RX2, "ends", "(III)V"⟩
def dkwX2_ends_1 : List UInt8 := [177]
abbrev dktX2_ends_1 : List UInt8 := dkwX2_ends_1 ++ []
def dkwX2_ends_0 : List UInt8 := [42, 180, 0, 96, 27, 28, 79, 42, 180, 0, 99, 27, 42, 180, 0, 136, 79, 42, 180, 0, 102, 27, 29, 79]
abbrev dktX2_ends_0 : List UInt8 := dkwX2_ends_0 ++ dktX2_ends_1
theorem dksX2_ends_0 : cX2_ends.data.toList.drop 0 = dktX2_ends_0 := by decide +kernel
theorem dksX2_ends_1 : cX2_ends.data.toList.drop 24 = dktX2_ends_1 := dk_seg dksX2_ends_0 24 rfl rfl
theorem dX2_ends_0 : decode cX2_ends 0 = .ok (.aload_n 0, 1) := dk_42 (dk_at dksX2_ends_0 0 rfl rfl)
theorem dX2_ends_1 : decode cX2_ends 1 = .ok (.getfield 96, 3) := dk_180 0 96 (dk_at dksX2_ends_0 1 rfl rfl)
theorem dX2_ends_4 : decode cX2_ends 4 = .ok (.iload_n 1, 1) := dk_27 (dk_at dksX2_ends_0 4 rfl rfl)
theorem dX2_ends_5 : decode cX2_ends 5 = .ok (.iload_n 2, 1) := dk_28 (dk_at dksX2_ends_0 5 rfl rfl)
theorem dX2_ends_6 : decode cX2_ends 6 = .ok (.iastore, 1) := dk_79 (dk_at dksX2_ends_0 6 rfl rfl)
theorem dX2_ends_7 : decode cX2_ends 7 = .ok (.aload_n 0, 1) := dk_42 (dk_at dksX2_ends_0 7 rfl rfl)
theorem dX2_ends_8 : decode cX2_ends 8 = .ok (.getfield 99, 3) := dk_180 0 99 (dk_at dksX2_ends_0 8 rfl rfl)
theorem dX2_ends_11 : decode cX2_ends 11 = .ok (.iload_n 1, 1) := dk_27 (dk_at dksX2_ends_0 11 rfl rfl)
theorem dX2_ends_12 : decode cX2_ends 12 = .ok (.aload_n 0, 1) := dk_42 (dk_at dksX2_ends_0 12 rfl rfl)
theorem dX2_ends_13 : decode cX2_ends 13 = .ok (.getfield 136, 3) := dk_180 0 136 (dk_at dksX2_ends_0 13 rfl rfl)
theorem dX2_ends_16 : decode cX2_ends 16 = .ok (.iastore, 1) := dk_79 (dk_at dksX2_ends_0 16 rfl rfl)
theorem dX2_ends_17 : decode cX2_ends 17 = .ok (.aload_n 0, 1) := dk_42 (dk_at dksX2_ends_0 17 rfl rfl)
theorem dX2_ends_18 : decode cX2_ends 18 = .ok (.getfield 102, 3) := dk_180 0 102 (dk_at dksX2_ends_0 18 rfl rfl)
theorem dX2_ends_21 : decode cX2_ends 21 = .ok (.iload_n 1, 1) := dk_27 (dk_at dksX2_ends_0 21 rfl rfl)
theorem dX2_ends_22 : decode cX2_ends 22 = .ok (.iload_n 3, 1) := dk_29 (dk_at dksX2_ends_0 22 rfl rfl)
theorem dX2_ends_23 : decode cX2_ends 23 = .ok (.iastore, 1) := dk_79 (dk_at dksX2_ends_0 23 rfl rfl)
theorem dX2_ends_24 : decode cX2_ends 24 = .ok (.return_, 1) := dk_177 (dk_at dksX2_ends_1 0 rfl rfl)
abbrev cX2_release : ByteArray := prog_6_method_38_code
def yX2_release : MethodName := ⟨RX2, "release", "(II)I"⟩
def dkwX2_release_5 : List UInt8 := [180, 0, 47, 27, 6, 79, 42, 28, 4, 27, 182, 0, 162, 8, 21, 4, 96, 172]
abbrev dktX2_release_5 : List UInt8 := dkwX2_release_5 ++ []
def dkwX2_release_4 : List UInt8 := [42, 89, 180, 0, 185, 8, 96, 181, 0, 185, 42, 89, 180, 0, 188, 21, 4, 96, 181, 0, 188, 42]
abbrev dktX2_release_4 : List UInt8 := dkwX2_release_4 ++ dktX2_release_5
def dkwX2_release_3 : List UInt8 := [172, 42, 180, 0, 44, 27, 46, 42, 180, 0, 19, 42, 180, 0, 29, 27, 46, 46, 104, 16, 100, 108, 54, 4]
abbrev dktX2_release_3 : List UInt8 := dkwX2_release_3 ++ dktX2_release_4
def dkwX2_release_2 : List UInt8 := [154, 0, 12, 42, 27, 28, 182, 0, 182, 154, 0, 7, 5, 167, 0, 4, 3, 182, 0, 123, 154, 0, 5, 3]
abbrev dktX2_release_2 : List UInt8 := dkwX2_release_2 ++ dktX2_release_3
def dkwX2_release_1 : List UInt8 := [154, 0, 7, 4, 167, 0, 35, 42, 180, 0, 47, 27, 46, 154, 0, 21, 42, 180, 0, 59, 27, 51]
abbrev dktX2_release_1 : List UInt8 := dkwX2_release_1 ++ dktX2_release_2
def dkwX2_release_0 : List UInt8 := [42, 27, 182, 0, 149, 153, 0, 15, 42, 28, 182, 0, 155, 153, 0, 7, 4, 167, 0, 4, 3, 62, 42, 29]
abbrev dktX2_release_0 : List UInt8 := dkwX2_release_0 ++ dktX2_release_1
theorem dksX2_release_0 : cX2_release.data.toList.drop 0 = dktX2_release_0 := by decide +kernel
theorem dksX2_release_1 : cX2_release.data.toList.drop 24 = dktX2_release_1 := dk_seg dksX2_release_0 24 rfl rfl
theorem dksX2_release_2 : cX2_release.data.toList.drop 46 = dktX2_release_2 := dk_seg dksX2_release_1 22 rfl rfl
theorem dksX2_release_3 : cX2_release.data.toList.drop 70 = dktX2_release_3 := dk_seg dksX2_release_2 24 rfl rfl
theorem dksX2_release_4 : cX2_release.data.toList.drop 94 = dktX2_release_4 := dk_seg dksX2_release_3 24 rfl rfl
theorem dksX2_release_5 : cX2_release.data.toList.drop 116 = dktX2_release_5 := dk_seg dksX2_release_4 22 rfl rfl
theorem dX2_release_0 : decode cX2_release 0 = .ok (.aload_n 0, 1) := dk_42 (dk_at dksX2_release_0 0 rfl rfl)
theorem dX2_release_1 : decode cX2_release 1 = .ok (.iload_n 1, 1) := dk_27 (dk_at dksX2_release_0 1 rfl rfl)
theorem dX2_release_2 : decode cX2_release 2 = .ok (.invokevirtual 149, 3) := dk_182 0 149 (dk_at dksX2_release_0 2 rfl rfl)
theorem dX2_release_5 : decode cX2_release 5 = .ok (.ifCond .eq 15, 3) := dk_153 0 15 (dk_at dksX2_release_0 5 rfl rfl)
theorem dX2_release_8 : decode cX2_release 8 = .ok (.aload_n 0, 1) := dk_42 (dk_at dksX2_release_0 8 rfl rfl)
theorem dX2_release_9 : decode cX2_release 9 = .ok (.iload_n 2, 1) := dk_28 (dk_at dksX2_release_0 9 rfl rfl)
theorem dX2_release_10 : decode cX2_release 10 = .ok (.invokevirtual 155, 3) := dk_182 0 155 (dk_at dksX2_release_0 10 rfl rfl)
theorem dX2_release_13 : decode cX2_release 13 = .ok (.ifCond .eq 7, 3) := dk_153 0 7 (dk_at dksX2_release_0 13 rfl rfl)
theorem dX2_release_16 : decode cX2_release 16 = .ok (.iconst 1, 1) := dk_4 (dk_at dksX2_release_0 16 rfl rfl)
theorem dX2_release_17 : decode cX2_release 17 = .ok (.goto 4, 3) := dk_167 0 4 (dk_at dksX2_release_0 17 rfl rfl)
theorem dX2_release_20 : decode cX2_release 20 = .ok (.iconst 0, 1) := dk_3 (dk_at dksX2_release_0 20 rfl rfl)
theorem dX2_release_21 : decode cX2_release 21 = .ok (.istore_n 3, 1) := dk_62 (dk_at dksX2_release_0 21 rfl rfl)
theorem dX2_release_22 : decode cX2_release 22 = .ok (.aload_n 0, 1) := dk_42 (dk_at dksX2_release_0 22 rfl rfl)
theorem dX2_release_23 : decode cX2_release 23 = .ok (.iload_n 3, 1) := dk_29 (dk_at dksX2_release_0 23 rfl rfl)
theorem dX2_release_24 : decode cX2_release 24 = .ok (.ifCond .ne 7, 3) := dk_154 0 7 (dk_at dksX2_release_1 0 rfl rfl)
theorem dX2_release_27 : decode cX2_release 27 = .ok (.iconst 1, 1) := dk_4 (dk_at dksX2_release_1 3 rfl rfl)
theorem dX2_release_28 : decode cX2_release 28 = .ok (.goto 35, 3) := dk_167 0 35 (dk_at dksX2_release_1 4 rfl rfl)
theorem dX2_release_31 : decode cX2_release 31 = .ok (.aload_n 0, 1) := dk_42 (dk_at dksX2_release_1 7 rfl rfl)
theorem dX2_release_32 : decode cX2_release 32 = .ok (.getfield 47, 3) := dk_180 0 47 (dk_at dksX2_release_1 8 rfl rfl)
theorem dX2_release_35 : decode cX2_release 35 = .ok (.iload_n 1, 1) := dk_27 (dk_at dksX2_release_1 11 rfl rfl)
theorem dX2_release_36 : decode cX2_release 36 = .ok (.iaload, 1) := dk_46 (dk_at dksX2_release_1 12 rfl rfl)
theorem dX2_release_37 : decode cX2_release 37 = .ok (.ifCond .ne 21, 3) := dk_154 0 21 (dk_at dksX2_release_1 13 rfl rfl)
theorem dX2_release_40 : decode cX2_release 40 = .ok (.aload_n 0, 1) := dk_42 (dk_at dksX2_release_1 16 rfl rfl)
theorem dX2_release_41 : decode cX2_release 41 = .ok (.getfield 59, 3) := dk_180 0 59 (dk_at dksX2_release_1 17 rfl rfl)
theorem dX2_release_44 : decode cX2_release 44 = .ok (.iload_n 1, 1) := dk_27 (dk_at dksX2_release_1 20 rfl rfl)
theorem dX2_release_45 : decode cX2_release 45 = .ok (.baload, 1) := dk_51 (dk_at dksX2_release_1 21 rfl rfl)
theorem dX2_release_46 : decode cX2_release 46 = .ok (.ifCond .ne 12, 3) := dk_154 0 12 (dk_at dksX2_release_2 0 rfl rfl)
theorem dX2_release_49 : decode cX2_release 49 = .ok (.aload_n 0, 1) := dk_42 (dk_at dksX2_release_2 3 rfl rfl)
theorem dX2_release_50 : decode cX2_release 50 = .ok (.iload_n 1, 1) := dk_27 (dk_at dksX2_release_2 4 rfl rfl)
theorem dX2_release_51 : decode cX2_release 51 = .ok (.iload_n 2, 1) := dk_28 (dk_at dksX2_release_2 5 rfl rfl)
theorem dX2_release_52 : decode cX2_release 52 = .ok (.invokevirtual 182, 3) := dk_182 0 182 (dk_at dksX2_release_2 6 rfl rfl)
theorem dX2_release_55 : decode cX2_release 55 = .ok (.ifCond .ne 7, 3) := dk_154 0 7 (dk_at dksX2_release_2 9 rfl rfl)
theorem dX2_release_58 : decode cX2_release 58 = .ok (.iconst 2, 1) := dk_5 (dk_at dksX2_release_2 12 rfl rfl)
theorem dX2_release_59 : decode cX2_release 59 = .ok (.goto 4, 3) := dk_167 0 4 (dk_at dksX2_release_2 13 rfl rfl)
theorem dX2_release_62 : decode cX2_release 62 = .ok (.iconst 0, 1) := dk_3 (dk_at dksX2_release_2 16 rfl rfl)
theorem dX2_release_63 : decode cX2_release 63 = .ok (.invokevirtual 123, 3) := dk_182 0 123 (dk_at dksX2_release_2 17 rfl rfl)
theorem dX2_release_66 : decode cX2_release 66 = .ok (.ifCond .ne 5, 3) := dk_154 0 5 (dk_at dksX2_release_2 20 rfl rfl)
theorem dX2_release_69 : decode cX2_release 69 = .ok (.iconst 0, 1) := dk_3 (dk_at dksX2_release_2 23 rfl rfl)
theorem dX2_release_70 : decode cX2_release 70 = .ok (.ireturn, 1) := dk_172 (dk_at dksX2_release_3 0 rfl rfl)
theorem dX2_release_71 : decode cX2_release 71 = .ok (.aload_n 0, 1) := dk_42 (dk_at dksX2_release_3 1 rfl rfl)
theorem dX2_release_72 : decode cX2_release 72 = .ok (.getfield 44, 3) := dk_180 0 44 (dk_at dksX2_release_3 2 rfl rfl)
theorem dX2_release_75 : decode cX2_release 75 = .ok (.iload_n 1, 1) := dk_27 (dk_at dksX2_release_3 5 rfl rfl)
theorem dX2_release_76 : decode cX2_release 76 = .ok (.iaload, 1) := dk_46 (dk_at dksX2_release_3 6 rfl rfl)
theorem dX2_release_77 : decode cX2_release 77 = .ok (.aload_n 0, 1) := dk_42 (dk_at dksX2_release_3 7 rfl rfl)
theorem dX2_release_78 : decode cX2_release 78 = .ok (.getfield 19, 3) := dk_180 0 19 (dk_at dksX2_release_3 8 rfl rfl)
theorem dX2_release_81 : decode cX2_release 81 = .ok (.aload_n 0, 1) := dk_42 (dk_at dksX2_release_3 11 rfl rfl)
theorem dX2_release_82 : decode cX2_release 82 = .ok (.getfield 29, 3) := dk_180 0 29 (dk_at dksX2_release_3 12 rfl rfl)
theorem dX2_release_85 : decode cX2_release 85 = .ok (.iload_n 1, 1) := dk_27 (dk_at dksX2_release_3 15 rfl rfl)
theorem dX2_release_86 : decode cX2_release 86 = .ok (.iaload, 1) := dk_46 (dk_at dksX2_release_3 16 rfl rfl)
theorem dX2_release_87 : decode cX2_release 87 = .ok (.iaload, 1) := dk_46 (dk_at dksX2_release_3 17 rfl rfl)
theorem dX2_release_88 : decode cX2_release 88 = .ok (.imul, 1) := dk_104 (dk_at dksX2_release_3 18 rfl rfl)
theorem dX2_release_89 : decode cX2_release 89 = .ok (.bipush 100, 2) := dk_16 100 (dk_at dksX2_release_3 19 rfl rfl)
theorem dX2_release_91 : decode cX2_release 91 = .ok (.idiv, 1) := dk_108 (dk_at dksX2_release_3 21 rfl rfl)
theorem dX2_release_92 : decode cX2_release 92 = .ok (.istore 4, 2) := dk_54 4 (dk_at dksX2_release_3 22 rfl rfl)
theorem dX2_release_94 : decode cX2_release 94 = .ok (.aload_n 0, 1) := dk_42 (dk_at dksX2_release_4 0 rfl rfl)
theorem dX2_release_95 : decode cX2_release 95 = .ok (.dup, 1) := dk_89 (dk_at dksX2_release_4 1 rfl rfl)
theorem dX2_release_96 : decode cX2_release 96 = .ok (.getfield 185, 3) := dk_180 0 185 (dk_at dksX2_release_4 2 rfl rfl)
theorem dX2_release_99 : decode cX2_release 99 = .ok (.iconst 5, 1) := dk_8 (dk_at dksX2_release_4 5 rfl rfl)
theorem dX2_release_100 : decode cX2_release 100 = .ok (.iadd, 1) := dk_96 (dk_at dksX2_release_4 6 rfl rfl)
theorem dX2_release_101 : decode cX2_release 101 = .ok (.putfield 185, 3) := dk_181 0 185 (dk_at dksX2_release_4 7 rfl rfl)
theorem dX2_release_104 : decode cX2_release 104 = .ok (.aload_n 0, 1) := dk_42 (dk_at dksX2_release_4 10 rfl rfl)
theorem dX2_release_105 : decode cX2_release 105 = .ok (.dup, 1) := dk_89 (dk_at dksX2_release_4 11 rfl rfl)
theorem dX2_release_106 : decode cX2_release 106 = .ok (.getfield 188, 3) := dk_180 0 188 (dk_at dksX2_release_4 12 rfl rfl)
theorem dX2_release_109 : decode cX2_release 109 = .ok (.iload 4, 2) := dk_21 4 (dk_at dksX2_release_4 15 rfl rfl)
theorem dX2_release_111 : decode cX2_release 111 = .ok (.iadd, 1) := dk_96 (dk_at dksX2_release_4 17 rfl rfl)
theorem dX2_release_112 : decode cX2_release 112 = .ok (.putfield 188, 3) := dk_181 0 188 (dk_at dksX2_release_4 18 rfl rfl)
theorem dX2_release_115 : decode cX2_release 115 = .ok (.aload_n 0, 1) := dk_42 (dk_at dksX2_release_4 21 rfl rfl)
theorem dX2_release_116 : decode cX2_release 116 = .ok (.getfield 47, 3) := dk_180 0 47 (dk_at dksX2_release_5 0 rfl rfl)
theorem dX2_release_119 : decode cX2_release 119 = .ok (.iload_n 1, 1) := dk_27 (dk_at dksX2_release_5 3 rfl rfl)
theorem dX2_release_120 : decode cX2_release 120 = .ok (.iconst 3, 1) := dk_6 (dk_at dksX2_release_5 4 rfl rfl)
theorem dX2_release_121 : decode cX2_release 121 = .ok (.iastore, 1) := dk_79 (dk_at dksX2_release_5 5 rfl rfl)
theorem dX2_release_122 : decode cX2_release 122 = .ok (.aload_n 0, 1) := dk_42 (dk_at dksX2_release_5 6 rfl rfl)
theorem dX2_release_123 : decode cX2_release 123 = .ok (.iload_n 2, 1) := dk_28 (dk_at dksX2_release_5 7 rfl rfl)
theorem dX2_release_124 : decode cX2_release 124 = .ok (.iconst 1, 1) := dk_4 (dk_at dksX2_release_5 8 rfl rfl)
theorem dX2_release_125 : decode cX2_release 125 = .ok (.iload_n 1, 1) := dk_27 (dk_at dksX2_release_5 9 rfl rfl)
theorem dX2_release_126 : decode cX2_release 126 = .ok (.invokevirtual 162, 3) := dk_182 0 162 (dk_at dksX2_release_5 10 rfl rfl)
theorem dX2_release_129 : decode cX2_release 129 = .ok (.iconst 5, 1) := dk_8 (dk_at dksX2_release_5 13 rfl rfl)
theorem dX2_release_130 : decode cX2_release 130 = .ok (.iload 4, 2) := dk_21 4 (dk_at dksX2_release_5 14 rfl rfl)
theorem dX2_release_132 : decode cX2_release 132 = .ok (.iadd, 1) := dk_96 (dk_at dksX2_release_5 16 rfl rfl)
theorem dX2_release_133 : decode cX2_release 133 = .ok (.ireturn, 1) := dk_172 (dk_at dksX2_release_5 17 rfl rfl)
abbrev cX2_canServe : ByteArray := prog_6_method_37_code
def yX2_canServe : MethodName := ⟨RX2, "canServe", "(II)Z"⟩
def dkwX2_canServe_1 : List UInt8 := [154, 0, 7, 4, 167, 0, 4, 3, 172]
abbrev dktX2_canServe_1 : List UInt8 := dkwX2_canServe_1 ++ []
def dkwX2_canServe_0 : List UInt8 := [42, 27, 28, 182, 0, 176, 153, 0, 25, 42, 27, 28, 182, 0, 172, 153, 0, 16, 42, 27, 28, 182, 0, 179]
abbrev dktX2_canServe_0 : List UInt8 := dkwX2_canServe_0 ++ dktX2_canServe_1
theorem dksX2_canServe_0 : cX2_canServe.data.toList.drop 0 = dktX2_canServe_0 := by decide +kernel
theorem dksX2_canServe_1 : cX2_canServe.data.toList.drop 24 = dktX2_canServe_1 := dk_seg dksX2_canServe_0 24 rfl rfl
theorem dX2_canServe_0 : decode cX2_canServe 0 = .ok (.aload_n 0, 1) := dk_42 (dk_at dksX2_canServe_0 0 rfl rfl)
theorem dX2_canServe_1 : decode cX2_canServe 1 = .ok (.iload_n 1, 1) := dk_27 (dk_at dksX2_canServe_0 1 rfl rfl)
theorem dX2_canServe_2 : decode cX2_canServe 2 = .ok (.iload_n 2, 1) := dk_28 (dk_at dksX2_canServe_0 2 rfl rfl)
theorem dX2_canServe_3 : decode cX2_canServe 3 = .ok (.invokevirtual 176, 3) := dk_182 0 176 (dk_at dksX2_canServe_0 3 rfl rfl)
theorem dX2_canServe_6 : decode cX2_canServe 6 = .ok (.ifCond .eq 25, 3) := dk_153 0 25 (dk_at dksX2_canServe_0 6 rfl rfl)
theorem dX2_canServe_9 : decode cX2_canServe 9 = .ok (.aload_n 0, 1) := dk_42 (dk_at dksX2_canServe_0 9 rfl rfl)
theorem dX2_canServe_10 : decode cX2_canServe 10 = .ok (.iload_n 1, 1) := dk_27 (dk_at dksX2_canServe_0 10 rfl rfl)
theorem dX2_canServe_11 : decode cX2_canServe 11 = .ok (.iload_n 2, 1) := dk_28 (dk_at dksX2_canServe_0 11 rfl rfl)
theorem dX2_canServe_12 : decode cX2_canServe 12 = .ok (.invokevirtual 172, 3) := dk_182 0 172 (dk_at dksX2_canServe_0 12 rfl rfl)
theorem dX2_canServe_15 : decode cX2_canServe 15 = .ok (.ifCond .eq 16, 3) := dk_153 0 16 (dk_at dksX2_canServe_0 15 rfl rfl)
theorem dX2_canServe_18 : decode cX2_canServe 18 = .ok (.aload_n 0, 1) := dk_42 (dk_at dksX2_canServe_0 18 rfl rfl)
theorem dX2_canServe_19 : decode cX2_canServe 19 = .ok (.iload_n 1, 1) := dk_27 (dk_at dksX2_canServe_0 19 rfl rfl)
theorem dX2_canServe_20 : decode cX2_canServe 20 = .ok (.iload_n 2, 1) := dk_28 (dk_at dksX2_canServe_0 20 rfl rfl)
theorem dX2_canServe_21 : decode cX2_canServe 21 = .ok (.invokevirtual 179, 3) := dk_182 0 179 (dk_at dksX2_canServe_0 21 rfl rfl)
theorem dX2_canServe_24 : decode cX2_canServe 24 = .ok (.ifCond .ne 7, 3) := dk_154 0 7 (dk_at dksX2_canServe_1 0 rfl rfl)
theorem dX2_canServe_27 : decode cX2_canServe 27 = .ok (.iconst 1, 1) := dk_4 (dk_at dksX2_canServe_1 3 rfl rfl)
theorem dX2_canServe_28 : decode cX2_canServe 28 = .ok (.goto 4, 3) := dk_167 0 4 (dk_at dksX2_canServe_1 4 rfl rfl)
theorem dX2_canServe_31 : decode cX2_canServe 31 = .ok (.iconst 0, 1) := dk_3 (dk_at dksX2_canServe_1 7 rfl rfl)
theorem dX2_canServe_32 : decode cX2_canServe 32 = .ok (.ireturn, 1) := dk_172 (dk_at dksX2_canServe_1 8 rfl rfl)
abbrev cX2_isCandidate : ByteArray := prog_6_method_34_code
def yX2_isCandidate : MethodName := ⟨RX2, "isCandidate", "(II)Z"⟩
def dkwX2_isCandidate_1 : List UInt8 := [167, 0, 4, 3, 172]
abbrev dktX2_isCandidate_1 : List UInt8 := dkwX2_isCandidate_1 ++ []
def dkwX2_isCandidate_0 : List UInt8 := [42, 180, 0, 96, 28, 46, 154, 0, 20, 42, 27, 28, 182, 0, 169, 42, 180, 0, 25, 161, 0, 7, 4]
abbrev dktX2_isCandidate_0 : List UInt8 := dkwX2_isCandidate_0 ++ dktX2_isCandidate_1
theorem dksX2_isCandidate_0 : cX2_isCandidate.data.toList.drop 0 = dktX2_isCandidate_0 := by decide +kernel
theorem dksX2_isCandidate_1 : cX2_isCandidate.data.toList.drop 23 = dktX2_isCandidate_1 := dk_seg dksX2_isCandidate_0 23 rfl rfl
theorem dX2_isCandidate_0 : decode cX2_isCandidate 0 = .ok (.aload_n 0, 1) := dk_42 (dk_at dksX2_isCandidate_0 0 rfl rfl)
theorem dX2_isCandidate_1 : decode cX2_isCandidate 1 = .ok (.getfield 96, 3) := dk_180 0 96 (dk_at dksX2_isCandidate_0 1 rfl rfl)
theorem dX2_isCandidate_4 : decode cX2_isCandidate 4 = .ok (.iload_n 2, 1) := dk_28 (dk_at dksX2_isCandidate_0 4 rfl rfl)
theorem dX2_isCandidate_5 : decode cX2_isCandidate 5 = .ok (.iaload, 1) := dk_46 (dk_at dksX2_isCandidate_0 5 rfl rfl)
theorem dX2_isCandidate_6 : decode cX2_isCandidate 6 = .ok (.ifCond .ne 20, 3) := dk_154 0 20 (dk_at dksX2_isCandidate_0 6 rfl rfl)
theorem dX2_isCandidate_9 : decode cX2_isCandidate 9 = .ok (.aload_n 0, 1) := dk_42 (dk_at dksX2_isCandidate_0 9 rfl rfl)
theorem dX2_isCandidate_10 : decode cX2_isCandidate 10 = .ok (.iload_n 1, 1) := dk_27 (dk_at dksX2_isCandidate_0 10 rfl rfl)
theorem dX2_isCandidate_11 : decode cX2_isCandidate 11 = .ok (.iload_n 2, 1) := dk_28 (dk_at dksX2_isCandidate_0 11 rfl rfl)
theorem dX2_isCandidate_12 : decode cX2_isCandidate 12 = .ok (.invokevirtual 169, 3) := dk_182 0 169 (dk_at dksX2_isCandidate_0 12 rfl rfl)
theorem dX2_isCandidate_15 : decode cX2_isCandidate 15 = .ok (.aload_n 0, 1) := dk_42 (dk_at dksX2_isCandidate_0 15 rfl rfl)
theorem dX2_isCandidate_16 : decode cX2_isCandidate 16 = .ok (.getfield 25, 3) := dk_180 0 25 (dk_at dksX2_isCandidate_0 16 rfl rfl)
theorem dX2_isCandidate_19 : decode cX2_isCandidate 19 = .ok (.if_icmp .lt 7, 3) := dk_161 0 7 (dk_at dksX2_isCandidate_0 19 rfl rfl)
theorem dX2_isCandidate_22 : decode cX2_isCandidate 22 = .ok (.iconst 1, 1) := dk_4 (dk_at dksX2_isCandidate_0 22 rfl rfl)
theorem dX2_isCandidate_23 : decode cX2_isCandidate 23 = .ok (.goto 4, 3) := dk_167 0 4 (dk_at dksX2_isCandidate_1 0 rfl rfl)
theorem dX2_isCandidate_26 : decode cX2_isCandidate 26 = .ok (.iconst 0, 1) := dk_3 (dk_at dksX2_isCandidate_1 3 rfl rfl)
theorem dX2_isCandidate_27 : decode cX2_isCandidate 27 = .ok (.ireturn, 1) := dk_172 (dk_at dksX2_isCandidate_1 4 rfl rfl)
abbrev cX2_scoreOf : ByteArray := prog_6_method_33_code
def yX2_scoreOf : MethodName := ⟨RX2, "scoreOf", "(II)I"⟩
def dkwX2_scoreOf_13 : List UInt8 := [156, 0, 7, 3, 167, 0, 5, 21, 5, 172]
abbrev dktX2_scoreOf_13 : List UInt8 := dkwX2_scoreOf_13 ++ []
def dkwX2_scoreOf_12 : List UInt8 := [21, 5, 21, 9, 153, 0, 8, 21, 10, 167, 0, 4, 3, 96, 54, 5, 132, 8, 1, 167, 255, 172, 21, 5]
abbrev dktX2_scoreOf_12 : List UInt8 := dkwX2_scoreOf_12 ++ dktX2_scoreOf_13
def dkwX2_scoreOf_11 : List UInt8 := [167, 0, 21, 21, 7, 42, 180, 0, 7, 21, 8, 46, 126, 153, 0, 7, 6, 167, 0, 4, 2, 54, 10]
abbrev dktX2_scoreOf_11 : List UInt8 := dkwX2_scoreOf_11 ++ dktX2_scoreOf_12
def dkwX2_scoreOf_10 : List UInt8 := [160, 0, 7, 4, 167, 0, 4, 3, 54, 9, 21, 7, 21, 8, 122, 4, 126, 4, 160, 0, 8, 16, 6]
abbrev dktX2_scoreOf_10 : List UInt8 := dkwX2_scoreOf_10 ++ dktX2_scoreOf_11
def dkwX2_scoreOf_9 : List UInt8 := [3, 54, 8, 21, 8, 16, 24, 162, 0, 83, 42, 180, 0, 90, 28, 46, 21, 8, 122, 4, 126, 4]
abbrev dktX2_scoreOf_9 : List UInt8 := dkwX2_scoreOf_9 ++ dktX2_scoreOf_10
def dkwX2_scoreOf_8 : List UInt8 := [54, 5, 42, 180, 0, 38, 27, 46, 42, 180, 0, 41, 27, 46, 42, 180, 0, 93, 28, 46, 126, 128, 54, 7]
abbrev dktX2_scoreOf_8 : List UInt8 := dkwX2_scoreOf_8 ++ dktX2_scoreOf_9
def dkwX2_scoreOf_7 : List UInt8 := [16, 20, 167, 0, 21, 21, 6, 16, 10, 162, 0, 13, 16, 20, 5, 21, 6, 104, 100, 167, 0, 4, 3, 96]
abbrev dktX2_scoreOf_7 : List UInt8 := dkwX2_scoreOf_7 ++ dktX2_scoreOf_8
def dkwX2_scoreOf_6 : List UInt8 := [42, 180, 0, 35, 27, 46, 42, 180, 0, 84, 28, 46, 162, 0, 7, 3, 167, 0, 31, 21, 6, 157, 0, 8]
abbrev dktX2_scoreOf_6 : List UInt8 := dkwX2_scoreOf_6 ++ dktX2_scoreOf_7
def dkwX2_scoreOf_5 : List UInt8 := [167, 0, 4, 3, 96, 54, 5, 42, 180, 0, 35, 27, 46, 42, 180, 0, 87, 28, 46, 100, 54, 6, 21, 5]
abbrev dktX2_scoreOf_5 : List UInt8 := dkwX2_scoreOf_5 ++ dktX2_scoreOf_6
def dkwX2_scoreOf_4 : List UInt8 := [180, 0, 32, 27, 46, 182, 0, 166, 42, 42, 180, 0, 81, 28, 46, 182, 0, 166, 126, 153, 0, 8, 16, 10]
abbrev dktX2_scoreOf_4 : List UInt8 := dkwX2_scoreOf_4 ++ dktX2_scoreOf_5
def dkwX2_scoreOf_3 : List UInt8 := [21, 5, 42, 180, 0, 32, 27, 46, 42, 180, 0, 81, 28, 46, 160, 0, 8, 16, 20, 167, 0, 33, 42, 42]
abbrev dktX2_scoreOf_3 : List UInt8 := dkwX2_scoreOf_3 ++ dktX2_scoreOf_4
def dkwX2_scoreOf_2 : List UInt8 := [154, 0, 5, 2, 172, 29, 42, 180, 0, 78, 28, 46, 160, 0, 8, 16, 40, 167, 0, 5, 16, 15, 54, 5]
abbrev dktX2_scoreOf_2 : List UInt8 := dkwX2_scoreOf_2 ++ dktX2_scoreOf_3
def dkwX2_scoreOf_1 : List UInt8 := [160, 0, 7, 4, 167, 0, 4, 3, 54, 4, 29, 42, 180, 0, 78, 28, 46, 159, 0, 10, 21, 4]
abbrev dktX2_scoreOf_1 : List UInt8 := dkwX2_scoreOf_1 ++ dktX2_scoreOf_2
def dkwX2_scoreOf_0 : List UInt8 := [42, 180, 0, 29, 27, 46, 62, 42, 180, 0, 13, 29, 46, 42, 180, 0, 78, 28, 46, 122, 4, 126, 4]
abbrev dktX2_scoreOf_0 : List UInt8 := dkwX2_scoreOf_0 ++ dktX2_scoreOf_1
theorem dksX2_scoreOf_0 : cX2_scoreOf.data.toList.drop 0 = dktX2_scoreOf_0 := by decide +kernel
theorem dksX2_scoreOf_1 : cX2_scoreOf.data.toList.drop 23 = dktX2_scoreOf_1 := dk_seg dksX2_scoreOf_0 23 rfl rfl
theorem dksX2_scoreOf_2 : cX2_scoreOf.data.toList.drop 45 = dktX2_scoreOf_2 := dk_seg dksX2_scoreOf_1 22 rfl rfl
theorem dksX2_scoreOf_3 : cX2_scoreOf.data.toList.drop 69 = dktX2_scoreOf_3 := dk_seg dksX2_scoreOf_2 24 rfl rfl
theorem dksX2_scoreOf_4 : cX2_scoreOf.data.toList.drop 93 = dktX2_scoreOf_4 := dk_seg dksX2_scoreOf_3 24 rfl rfl
theorem dksX2_scoreOf_5 : cX2_scoreOf.data.toList.drop 117 = dktX2_scoreOf_5 := dk_seg dksX2_scoreOf_4 24 rfl rfl
theorem dksX2_scoreOf_6 : cX2_scoreOf.data.toList.drop 141 = dktX2_scoreOf_6 := dk_seg dksX2_scoreOf_5 24 rfl rfl
theorem dksX2_scoreOf_7 : cX2_scoreOf.data.toList.drop 165 = dktX2_scoreOf_7 := dk_seg dksX2_scoreOf_6 24 rfl rfl
theorem dksX2_scoreOf_8 : cX2_scoreOf.data.toList.drop 189 = dktX2_scoreOf_8 := dk_seg dksX2_scoreOf_7 24 rfl rfl
theorem dksX2_scoreOf_9 : cX2_scoreOf.data.toList.drop 213 = dktX2_scoreOf_9 := dk_seg dksX2_scoreOf_8 24 rfl rfl
theorem dksX2_scoreOf_10 : cX2_scoreOf.data.toList.drop 235 = dktX2_scoreOf_10 := dk_seg dksX2_scoreOf_9 22 rfl rfl
theorem dksX2_scoreOf_11 : cX2_scoreOf.data.toList.drop 258 = dktX2_scoreOf_11 := dk_seg dksX2_scoreOf_10 23 rfl rfl
theorem dksX2_scoreOf_12 : cX2_scoreOf.data.toList.drop 281 = dktX2_scoreOf_12 := dk_seg dksX2_scoreOf_11 23 rfl rfl
theorem dksX2_scoreOf_13 : cX2_scoreOf.data.toList.drop 305 = dktX2_scoreOf_13 := dk_seg dksX2_scoreOf_12 24 rfl rfl
theorem dX2_scoreOf_0 : decode cX2_scoreOf 0 = .ok (.aload_n 0, 1) := dk_42 (dk_at dksX2_scoreOf_0 0 rfl rfl)
theorem dX2_scoreOf_1 : decode cX2_scoreOf 1 = .ok (.getfield 29, 3) := dk_180 0 29 (dk_at dksX2_scoreOf_0 1 rfl rfl)
theorem dX2_scoreOf_4 : decode cX2_scoreOf 4 = .ok (.iload_n 1, 1) := dk_27 (dk_at dksX2_scoreOf_0 4 rfl rfl)
theorem dX2_scoreOf_5 : decode cX2_scoreOf 5 = .ok (.iaload, 1) := dk_46 (dk_at dksX2_scoreOf_0 5 rfl rfl)
theorem dX2_scoreOf_6 : decode cX2_scoreOf 6 = .ok (.istore_n 3, 1) := dk_62 (dk_at dksX2_scoreOf_0 6 rfl rfl)
theorem dX2_scoreOf_7 : decode cX2_scoreOf 7 = .ok (.aload_n 0, 1) := dk_42 (dk_at dksX2_scoreOf_0 7 rfl rfl)
theorem dX2_scoreOf_8 : decode cX2_scoreOf 8 = .ok (.getfield 13, 3) := dk_180 0 13 (dk_at dksX2_scoreOf_0 8 rfl rfl)
theorem dX2_scoreOf_11 : decode cX2_scoreOf 11 = .ok (.iload_n 3, 1) := dk_29 (dk_at dksX2_scoreOf_0 11 rfl rfl)
theorem dX2_scoreOf_12 : decode cX2_scoreOf 12 = .ok (.iaload, 1) := dk_46 (dk_at dksX2_scoreOf_0 12 rfl rfl)
theorem dX2_scoreOf_13 : decode cX2_scoreOf 13 = .ok (.aload_n 0, 1) := dk_42 (dk_at dksX2_scoreOf_0 13 rfl rfl)
theorem dX2_scoreOf_14 : decode cX2_scoreOf 14 = .ok (.getfield 78, 3) := dk_180 0 78 (dk_at dksX2_scoreOf_0 14 rfl rfl)
theorem dX2_scoreOf_17 : decode cX2_scoreOf 17 = .ok (.iload_n 2, 1) := dk_28 (dk_at dksX2_scoreOf_0 17 rfl rfl)
theorem dX2_scoreOf_18 : decode cX2_scoreOf 18 = .ok (.iaload, 1) := dk_46 (dk_at dksX2_scoreOf_0 18 rfl rfl)
theorem dX2_scoreOf_19 : decode cX2_scoreOf 19 = .ok (.ishr, 1) := dk_122 (dk_at dksX2_scoreOf_0 19 rfl rfl)
theorem dX2_scoreOf_20 : decode cX2_scoreOf 20 = .ok (.iconst 1, 1) := dk_4 (dk_at dksX2_scoreOf_0 20 rfl rfl)
theorem dX2_scoreOf_21 : decode cX2_scoreOf 21 = .ok (.iand, 1) := dk_126 (dk_at dksX2_scoreOf_0 21 rfl rfl)
theorem dX2_scoreOf_22 : decode cX2_scoreOf 22 = .ok (.iconst 1, 1) := dk_4 (dk_at dksX2_scoreOf_0 22 rfl rfl)
theorem dX2_scoreOf_23 : decode cX2_scoreOf 23 = .ok (.if_icmp .ne 7, 3) := dk_160 0 7 (dk_at dksX2_scoreOf_1 0 rfl rfl)
theorem dX2_scoreOf_26 : decode cX2_scoreOf 26 = .ok (.iconst 1, 1) := dk_4 (dk_at dksX2_scoreOf_1 3 rfl rfl)
theorem dX2_scoreOf_27 : decode cX2_scoreOf 27 = .ok (.goto 4, 3) := dk_167 0 4 (dk_at dksX2_scoreOf_1 4 rfl rfl)
theorem dX2_scoreOf_30 : decode cX2_scoreOf 30 = .ok (.iconst 0, 1) := dk_3 (dk_at dksX2_scoreOf_1 7 rfl rfl)
theorem dX2_scoreOf_31 : decode cX2_scoreOf 31 = .ok (.istore 4, 2) := dk_54 4 (dk_at dksX2_scoreOf_1 8 rfl rfl)
theorem dX2_scoreOf_33 : decode cX2_scoreOf 33 = .ok (.iload_n 3, 1) := dk_29 (dk_at dksX2_scoreOf_1 10 rfl rfl)
theorem dX2_scoreOf_34 : decode cX2_scoreOf 34 = .ok (.aload_n 0, 1) := dk_42 (dk_at dksX2_scoreOf_1 11 rfl rfl)
theorem dX2_scoreOf_35 : decode cX2_scoreOf 35 = .ok (.getfield 78, 3) := dk_180 0 78 (dk_at dksX2_scoreOf_1 12 rfl rfl)
theorem dX2_scoreOf_38 : decode cX2_scoreOf 38 = .ok (.iload_n 2, 1) := dk_28 (dk_at dksX2_scoreOf_1 15 rfl rfl)
theorem dX2_scoreOf_39 : decode cX2_scoreOf 39 = .ok (.iaload, 1) := dk_46 (dk_at dksX2_scoreOf_1 16 rfl rfl)
theorem dX2_scoreOf_40 : decode cX2_scoreOf 40 = .ok (.if_icmp .eq 10, 3) := dk_159 0 10 (dk_at dksX2_scoreOf_1 17 rfl rfl)
theorem dX2_scoreOf_43 : decode cX2_scoreOf 43 = .ok (.iload 4, 2) := dk_21 4 (dk_at dksX2_scoreOf_1 20 rfl rfl)
theorem dX2_scoreOf_45 : decode cX2_scoreOf 45 = .ok (.ifCond .ne 5, 3) := dk_154 0 5 (dk_at dksX2_scoreOf_2 0 rfl rfl)
theorem dX2_scoreOf_48 : decode cX2_scoreOf 48 = .ok (.iconst (-1), 1) := dk_2 (dk_at dksX2_scoreOf_2 3 rfl rfl)
theorem dX2_scoreOf_49 : decode cX2_scoreOf 49 = .ok (.ireturn, 1) := dk_172 (dk_at dksX2_scoreOf_2 4 rfl rfl)
theorem dX2_scoreOf_50 : decode cX2_scoreOf 50 = .ok (.iload_n 3, 1) := dk_29 (dk_at dksX2_scoreOf_2 5 rfl rfl)
theorem dX2_scoreOf_51 : decode cX2_scoreOf 51 = .ok (.aload_n 0, 1) := dk_42 (dk_at dksX2_scoreOf_2 6 rfl rfl)
theorem dX2_scoreOf_52 : decode cX2_scoreOf 52 = .ok (.getfield 78, 3) := dk_180 0 78 (dk_at dksX2_scoreOf_2 7 rfl rfl)
theorem dX2_scoreOf_55 : decode cX2_scoreOf 55 = .ok (.iload_n 2, 1) := dk_28 (dk_at dksX2_scoreOf_2 10 rfl rfl)
theorem dX2_scoreOf_56 : decode cX2_scoreOf 56 = .ok (.iaload, 1) := dk_46 (dk_at dksX2_scoreOf_2 11 rfl rfl)
theorem dX2_scoreOf_57 : decode cX2_scoreOf 57 = .ok (.if_icmp .ne 8, 3) := dk_160 0 8 (dk_at dksX2_scoreOf_2 12 rfl rfl)
theorem dX2_scoreOf_60 : decode cX2_scoreOf 60 = .ok (.bipush 40, 2) := dk_16 40 (dk_at dksX2_scoreOf_2 15 rfl rfl)
theorem dX2_scoreOf_62 : decode cX2_scoreOf 62 = .ok (.goto 5, 3) := dk_167 0 5 (dk_at dksX2_scoreOf_2 17 rfl rfl)
theorem dX2_scoreOf_65 : decode cX2_scoreOf 65 = .ok (.bipush 15, 2) := dk_16 15 (dk_at dksX2_scoreOf_2 20 rfl rfl)
theorem dX2_scoreOf_67 : decode cX2_scoreOf 67 = .ok (.istore 5, 2) := dk_54 5 (dk_at dksX2_scoreOf_2 22 rfl rfl)
theorem dX2_scoreOf_69 : decode cX2_scoreOf 69 = .ok (.iload 5, 2) := dk_21 5 (dk_at dksX2_scoreOf_3 0 rfl rfl)
theorem dX2_scoreOf_71 : decode cX2_scoreOf 71 = .ok (.aload_n 0, 1) := dk_42 (dk_at dksX2_scoreOf_3 2 rfl rfl)
theorem dX2_scoreOf_72 : decode cX2_scoreOf 72 = .ok (.getfield 32, 3) := dk_180 0 32 (dk_at dksX2_scoreOf_3 3 rfl rfl)
theorem dX2_scoreOf_75 : decode cX2_scoreOf 75 = .ok (.iload_n 1, 1) := dk_27 (dk_at dksX2_scoreOf_3 6 rfl rfl)
theorem dX2_scoreOf_76 : decode cX2_scoreOf 76 = .ok (.iaload, 1) := dk_46 (dk_at dksX2_scoreOf_3 7 rfl rfl)
theorem dX2_scoreOf_77 : decode cX2_scoreOf 77 = .ok (.aload_n 0, 1) := dk_42 (dk_at dksX2_scoreOf_3 8 rfl rfl)
theorem dX2_scoreOf_78 : decode cX2_scoreOf 78 = .ok (.getfield 81, 3) := dk_180 0 81 (dk_at dksX2_scoreOf_3 9 rfl rfl)
theorem dX2_scoreOf_81 : decode cX2_scoreOf 81 = .ok (.iload_n 2, 1) := dk_28 (dk_at dksX2_scoreOf_3 12 rfl rfl)
theorem dX2_scoreOf_82 : decode cX2_scoreOf 82 = .ok (.iaload, 1) := dk_46 (dk_at dksX2_scoreOf_3 13 rfl rfl)
theorem dX2_scoreOf_83 : decode cX2_scoreOf 83 = .ok (.if_icmp .ne 8, 3) := dk_160 0 8 (dk_at dksX2_scoreOf_3 14 rfl rfl)
theorem dX2_scoreOf_86 : decode cX2_scoreOf 86 = .ok (.bipush 20, 2) := dk_16 20 (dk_at dksX2_scoreOf_3 17 rfl rfl)
theorem dX2_scoreOf_88 : decode cX2_scoreOf 88 = .ok (.goto 33, 3) := dk_167 0 33 (dk_at dksX2_scoreOf_3 19 rfl rfl)
theorem dX2_scoreOf_91 : decode cX2_scoreOf 91 = .ok (.aload_n 0, 1) := dk_42 (dk_at dksX2_scoreOf_3 22 rfl rfl)
theorem dX2_scoreOf_92 : decode cX2_scoreOf 92 = .ok (.aload_n 0, 1) := dk_42 (dk_at dksX2_scoreOf_3 23 rfl rfl)
theorem dX2_scoreOf_93 : decode cX2_scoreOf 93 = .ok (.getfield 32, 3) := dk_180 0 32 (dk_at dksX2_scoreOf_4 0 rfl rfl)
theorem dX2_scoreOf_96 : decode cX2_scoreOf 96 = .ok (.iload_n 1, 1) := dk_27 (dk_at dksX2_scoreOf_4 3 rfl rfl)
theorem dX2_scoreOf_97 : decode cX2_scoreOf 97 = .ok (.iaload, 1) := dk_46 (dk_at dksX2_scoreOf_4 4 rfl rfl)
theorem dX2_scoreOf_98 : decode cX2_scoreOf 98 = .ok (.invokevirtual 166, 3) := dk_182 0 166 (dk_at dksX2_scoreOf_4 5 rfl rfl)
theorem dX2_scoreOf_101 : decode cX2_scoreOf 101 = .ok (.aload_n 0, 1) := dk_42 (dk_at dksX2_scoreOf_4 8 rfl rfl)
theorem dX2_scoreOf_102 : decode cX2_scoreOf 102 = .ok (.aload_n 0, 1) := dk_42 (dk_at dksX2_scoreOf_4 9 rfl rfl)
theorem dX2_scoreOf_103 : decode cX2_scoreOf 103 = .ok (.getfield 81, 3) := dk_180 0 81 (dk_at dksX2_scoreOf_4 10 rfl rfl)
theorem dX2_scoreOf_106 : decode cX2_scoreOf 106 = .ok (.iload_n 2, 1) := dk_28 (dk_at dksX2_scoreOf_4 13 rfl rfl)
theorem dX2_scoreOf_107 : decode cX2_scoreOf 107 = .ok (.iaload, 1) := dk_46 (dk_at dksX2_scoreOf_4 14 rfl rfl)
theorem dX2_scoreOf_108 : decode cX2_scoreOf 108 = .ok (.invokevirtual 166, 3) := dk_182 0 166 (dk_at dksX2_scoreOf_4 15 rfl rfl)
theorem dX2_scoreOf_111 : decode cX2_scoreOf 111 = .ok (.iand, 1) := dk_126 (dk_at dksX2_scoreOf_4 18 rfl rfl)
theorem dX2_scoreOf_112 : decode cX2_scoreOf 112 = .ok (.ifCond .eq 8, 3) := dk_153 0 8 (dk_at dksX2_scoreOf_4 19 rfl rfl)
theorem dX2_scoreOf_115 : decode cX2_scoreOf 115 = .ok (.bipush 10, 2) := dk_16 10 (dk_at dksX2_scoreOf_4 22 rfl rfl)
theorem dX2_scoreOf_117 : decode cX2_scoreOf 117 = .ok (.goto 4, 3) := dk_167 0 4 (dk_at dksX2_scoreOf_5 0 rfl rfl)
theorem dX2_scoreOf_120 : decode cX2_scoreOf 120 = .ok (.iconst 0, 1) := dk_3 (dk_at dksX2_scoreOf_5 3 rfl rfl)
theorem dX2_scoreOf_121 : decode cX2_scoreOf 121 = .ok (.iadd, 1) := dk_96 (dk_at dksX2_scoreOf_5 4 rfl rfl)
theorem dX2_scoreOf_122 : decode cX2_scoreOf 122 = .ok (.istore 5, 2) := dk_54 5 (dk_at dksX2_scoreOf_5 5 rfl rfl)
theorem dX2_scoreOf_124 : decode cX2_scoreOf 124 = .ok (.aload_n 0, 1) := dk_42 (dk_at dksX2_scoreOf_5 7 rfl rfl)
theorem dX2_scoreOf_125 : decode cX2_scoreOf 125 = .ok (.getfield 35, 3) := dk_180 0 35 (dk_at dksX2_scoreOf_5 8 rfl rfl)
theorem dX2_scoreOf_128 : decode cX2_scoreOf 128 = .ok (.iload_n 1, 1) := dk_27 (dk_at dksX2_scoreOf_5 11 rfl rfl)
theorem dX2_scoreOf_129 : decode cX2_scoreOf 129 = .ok (.iaload, 1) := dk_46 (dk_at dksX2_scoreOf_5 12 rfl rfl)
theorem dX2_scoreOf_130 : decode cX2_scoreOf 130 = .ok (.aload_n 0, 1) := dk_42 (dk_at dksX2_scoreOf_5 13 rfl rfl)
theorem dX2_scoreOf_131 : decode cX2_scoreOf 131 = .ok (.getfield 87, 3) := dk_180 0 87 (dk_at dksX2_scoreOf_5 14 rfl rfl)
theorem dX2_scoreOf_134 : decode cX2_scoreOf 134 = .ok (.iload_n 2, 1) := dk_28 (dk_at dksX2_scoreOf_5 17 rfl rfl)
theorem dX2_scoreOf_135 : decode cX2_scoreOf 135 = .ok (.iaload, 1) := dk_46 (dk_at dksX2_scoreOf_5 18 rfl rfl)
theorem dX2_scoreOf_136 : decode cX2_scoreOf 136 = .ok (.isub, 1) := dk_100 (dk_at dksX2_scoreOf_5 19 rfl rfl)
theorem dX2_scoreOf_137 : decode cX2_scoreOf 137 = .ok (.istore 6, 2) := dk_54 6 (dk_at dksX2_scoreOf_5 20 rfl rfl)
theorem dX2_scoreOf_139 : decode cX2_scoreOf 139 = .ok (.iload 5, 2) := dk_21 5 (dk_at dksX2_scoreOf_5 22 rfl rfl)
theorem dX2_scoreOf_141 : decode cX2_scoreOf 141 = .ok (.aload_n 0, 1) := dk_42 (dk_at dksX2_scoreOf_6 0 rfl rfl)
theorem dX2_scoreOf_142 : decode cX2_scoreOf 142 = .ok (.getfield 35, 3) := dk_180 0 35 (dk_at dksX2_scoreOf_6 1 rfl rfl)
theorem dX2_scoreOf_145 : decode cX2_scoreOf 145 = .ok (.iload_n 1, 1) := dk_27 (dk_at dksX2_scoreOf_6 4 rfl rfl)
theorem dX2_scoreOf_146 : decode cX2_scoreOf 146 = .ok (.iaload, 1) := dk_46 (dk_at dksX2_scoreOf_6 5 rfl rfl)
theorem dX2_scoreOf_147 : decode cX2_scoreOf 147 = .ok (.aload_n 0, 1) := dk_42 (dk_at dksX2_scoreOf_6 6 rfl rfl)
theorem dX2_scoreOf_148 : decode cX2_scoreOf 148 = .ok (.getfield 84, 3) := dk_180 0 84 (dk_at dksX2_scoreOf_6 7 rfl rfl)
theorem dX2_scoreOf_151 : decode cX2_scoreOf 151 = .ok (.iload_n 2, 1) := dk_28 (dk_at dksX2_scoreOf_6 10 rfl rfl)
theorem dX2_scoreOf_152 : decode cX2_scoreOf 152 = .ok (.iaload, 1) := dk_46 (dk_at dksX2_scoreOf_6 11 rfl rfl)
theorem dX2_scoreOf_153 : decode cX2_scoreOf 153 = .ok (.if_icmp .ge 7, 3) := dk_162 0 7 (dk_at dksX2_scoreOf_6 12 rfl rfl)
theorem dX2_scoreOf_156 : decode cX2_scoreOf 156 = .ok (.iconst 0, 1) := dk_3 (dk_at dksX2_scoreOf_6 15 rfl rfl)
theorem dX2_scoreOf_157 : decode cX2_scoreOf 157 = .ok (.goto 31, 3) := dk_167 0 31 (dk_at dksX2_scoreOf_6 16 rfl rfl)
theorem dX2_scoreOf_160 : decode cX2_scoreOf 160 = .ok (.iload 6, 2) := dk_21 6 (dk_at dksX2_scoreOf_6 19 rfl rfl)
theorem dX2_scoreOf_162 : decode cX2_scoreOf 162 = .ok (.ifCond .gt 8, 3) := dk_157 0 8 (dk_at dksX2_scoreOf_6 21 rfl rfl)
theorem dX2_scoreOf_165 : decode cX2_scoreOf 165 = .ok (.bipush 20, 2) := dk_16 20 (dk_at dksX2_scoreOf_7 0 rfl rfl)
theorem dX2_scoreOf_167 : decode cX2_scoreOf 167 = .ok (.goto 21, 3) := dk_167 0 21 (dk_at dksX2_scoreOf_7 2 rfl rfl)
theorem dX2_scoreOf_170 : decode cX2_scoreOf 170 = .ok (.iload 6, 2) := dk_21 6 (dk_at dksX2_scoreOf_7 5 rfl rfl)
theorem dX2_scoreOf_172 : decode cX2_scoreOf 172 = .ok (.bipush 10, 2) := dk_16 10 (dk_at dksX2_scoreOf_7 7 rfl rfl)
theorem dX2_scoreOf_174 : decode cX2_scoreOf 174 = .ok (.if_icmp .ge 13, 3) := dk_162 0 13 (dk_at dksX2_scoreOf_7 9 rfl rfl)
theorem dX2_scoreOf_177 : decode cX2_scoreOf 177 = .ok (.bipush 20, 2) := dk_16 20 (dk_at dksX2_scoreOf_7 12 rfl rfl)
theorem dX2_scoreOf_179 : decode cX2_scoreOf 179 = .ok (.iconst 2, 1) := dk_5 (dk_at dksX2_scoreOf_7 14 rfl rfl)
theorem dX2_scoreOf_180 : decode cX2_scoreOf 180 = .ok (.iload 6, 2) := dk_21 6 (dk_at dksX2_scoreOf_7 15 rfl rfl)
theorem dX2_scoreOf_182 : decode cX2_scoreOf 182 = .ok (.imul, 1) := dk_104 (dk_at dksX2_scoreOf_7 17 rfl rfl)
theorem dX2_scoreOf_183 : decode cX2_scoreOf 183 = .ok (.isub, 1) := dk_100 (dk_at dksX2_scoreOf_7 18 rfl rfl)
theorem dX2_scoreOf_184 : decode cX2_scoreOf 184 = .ok (.goto 4, 3) := dk_167 0 4 (dk_at dksX2_scoreOf_7 19 rfl rfl)
theorem dX2_scoreOf_187 : decode cX2_scoreOf 187 = .ok (.iconst 0, 1) := dk_3 (dk_at dksX2_scoreOf_7 22 rfl rfl)
theorem dX2_scoreOf_188 : decode cX2_scoreOf 188 = .ok (.iadd, 1) := dk_96 (dk_at dksX2_scoreOf_7 23 rfl rfl)
theorem dX2_scoreOf_189 : decode cX2_scoreOf 189 = .ok (.istore 5, 2) := dk_54 5 (dk_at dksX2_scoreOf_8 0 rfl rfl)
theorem dX2_scoreOf_191 : decode cX2_scoreOf 191 = .ok (.aload_n 0, 1) := dk_42 (dk_at dksX2_scoreOf_8 2 rfl rfl)
theorem dX2_scoreOf_192 : decode cX2_scoreOf 192 = .ok (.getfield 38, 3) := dk_180 0 38 (dk_at dksX2_scoreOf_8 3 rfl rfl)
theorem dX2_scoreOf_195 : decode cX2_scoreOf 195 = .ok (.iload_n 1, 1) := dk_27 (dk_at dksX2_scoreOf_8 6 rfl rfl)
theorem dX2_scoreOf_196 : decode cX2_scoreOf 196 = .ok (.iaload, 1) := dk_46 (dk_at dksX2_scoreOf_8 7 rfl rfl)
theorem dX2_scoreOf_197 : decode cX2_scoreOf 197 = .ok (.aload_n 0, 1) := dk_42 (dk_at dksX2_scoreOf_8 8 rfl rfl)
theorem dX2_scoreOf_198 : decode cX2_scoreOf 198 = .ok (.getfield 41, 3) := dk_180 0 41 (dk_at dksX2_scoreOf_8 9 rfl rfl)
theorem dX2_scoreOf_201 : decode cX2_scoreOf 201 = .ok (.iload_n 1, 1) := dk_27 (dk_at dksX2_scoreOf_8 12 rfl rfl)
theorem dX2_scoreOf_202 : decode cX2_scoreOf 202 = .ok (.iaload, 1) := dk_46 (dk_at dksX2_scoreOf_8 13 rfl rfl)
theorem dX2_scoreOf_203 : decode cX2_scoreOf 203 = .ok (.aload_n 0, 1) := dk_42 (dk_at dksX2_scoreOf_8 14 rfl rfl)
theorem dX2_scoreOf_204 : decode cX2_scoreOf 204 = .ok (.getfield 93, 3) := dk_180 0 93 (dk_at dksX2_scoreOf_8 15 rfl rfl)
theorem dX2_scoreOf_207 : decode cX2_scoreOf 207 = .ok (.iload_n 2, 1) := dk_28 (dk_at dksX2_scoreOf_8 18 rfl rfl)
theorem dX2_scoreOf_208 : decode cX2_scoreOf 208 = .ok (.iaload, 1) := dk_46 (dk_at dksX2_scoreOf_8 19 rfl rfl)
theorem dX2_scoreOf_209 : decode cX2_scoreOf 209 = .ok (.iand, 1) := dk_126 (dk_at dksX2_scoreOf_8 20 rfl rfl)
theorem dX2_scoreOf_210 : decode cX2_scoreOf 210 = .ok (.ior, 1) := dk_128 (dk_at dksX2_scoreOf_8 21 rfl rfl)
theorem dX2_scoreOf_211 : decode cX2_scoreOf 211 = .ok (.istore 7, 2) := dk_54 7 (dk_at dksX2_scoreOf_8 22 rfl rfl)
theorem dX2_scoreOf_213 : decode cX2_scoreOf 213 = .ok (.iconst 0, 1) := dk_3 (dk_at dksX2_scoreOf_9 0 rfl rfl)
theorem dX2_scoreOf_214 : decode cX2_scoreOf 214 = .ok (.istore 8, 2) := dk_54 8 (dk_at dksX2_scoreOf_9 1 rfl rfl)
theorem dX2_scoreOf_216 : decode cX2_scoreOf 216 = .ok (.iload 8, 2) := dk_21 8 (dk_at dksX2_scoreOf_9 3 rfl rfl)
theorem dX2_scoreOf_218 : decode cX2_scoreOf 218 = .ok (.bipush 24, 2) := dk_16 24 (dk_at dksX2_scoreOf_9 5 rfl rfl)
theorem dX2_scoreOf_220 : decode cX2_scoreOf 220 = .ok (.if_icmp .ge 83, 3) := dk_162 0 83 (dk_at dksX2_scoreOf_9 7 rfl rfl)
theorem dX2_scoreOf_223 : decode cX2_scoreOf 223 = .ok (.aload_n 0, 1) := dk_42 (dk_at dksX2_scoreOf_9 10 rfl rfl)
theorem dX2_scoreOf_224 : decode cX2_scoreOf 224 = .ok (.getfield 90, 3) := dk_180 0 90 (dk_at dksX2_scoreOf_9 11 rfl rfl)
theorem dX2_scoreOf_227 : decode cX2_scoreOf 227 = .ok (.iload_n 2, 1) := dk_28 (dk_at dksX2_scoreOf_9 14 rfl rfl)
theorem dX2_scoreOf_228 : decode cX2_scoreOf 228 = .ok (.iaload, 1) := dk_46 (dk_at dksX2_scoreOf_9 15 rfl rfl)
theorem dX2_scoreOf_229 : decode cX2_scoreOf 229 = .ok (.iload 8, 2) := dk_21 8 (dk_at dksX2_scoreOf_9 16 rfl rfl)
theorem dX2_scoreOf_231 : decode cX2_scoreOf 231 = .ok (.ishr, 1) := dk_122 (dk_at dksX2_scoreOf_9 18 rfl rfl)
theorem dX2_scoreOf_232 : decode cX2_scoreOf 232 = .ok (.iconst 1, 1) := dk_4 (dk_at dksX2_scoreOf_9 19 rfl rfl)
theorem dX2_scoreOf_233 : decode cX2_scoreOf 233 = .ok (.iand, 1) := dk_126 (dk_at dksX2_scoreOf_9 20 rfl rfl)
theorem dX2_scoreOf_234 : decode cX2_scoreOf 234 = .ok (.iconst 1, 1) := dk_4 (dk_at dksX2_scoreOf_9 21 rfl rfl)
theorem dX2_scoreOf_235 : decode cX2_scoreOf 235 = .ok (.if_icmp .ne 7, 3) := dk_160 0 7 (dk_at dksX2_scoreOf_10 0 rfl rfl)
theorem dX2_scoreOf_238 : decode cX2_scoreOf 238 = .ok (.iconst 1, 1) := dk_4 (dk_at dksX2_scoreOf_10 3 rfl rfl)
theorem dX2_scoreOf_239 : decode cX2_scoreOf 239 = .ok (.goto 4, 3) := dk_167 0 4 (dk_at dksX2_scoreOf_10 4 rfl rfl)
theorem dX2_scoreOf_242 : decode cX2_scoreOf 242 = .ok (.iconst 0, 1) := dk_3 (dk_at dksX2_scoreOf_10 7 rfl rfl)
theorem dX2_scoreOf_243 : decode cX2_scoreOf 243 = .ok (.istore 9, 2) := dk_54 9 (dk_at dksX2_scoreOf_10 8 rfl rfl)
theorem dX2_scoreOf_245 : decode cX2_scoreOf 245 = .ok (.iload 7, 2) := dk_21 7 (dk_at dksX2_scoreOf_10 10 rfl rfl)
theorem dX2_scoreOf_247 : decode cX2_scoreOf 247 = .ok (.iload 8, 2) := dk_21 8 (dk_at dksX2_scoreOf_10 12 rfl rfl)
theorem dX2_scoreOf_249 : decode cX2_scoreOf 249 = .ok (.ishr, 1) := dk_122 (dk_at dksX2_scoreOf_10 14 rfl rfl)
theorem dX2_scoreOf_250 : decode cX2_scoreOf 250 = .ok (.iconst 1, 1) := dk_4 (dk_at dksX2_scoreOf_10 15 rfl rfl)
theorem dX2_scoreOf_251 : decode cX2_scoreOf 251 = .ok (.iand, 1) := dk_126 (dk_at dksX2_scoreOf_10 16 rfl rfl)
theorem dX2_scoreOf_252 : decode cX2_scoreOf 252 = .ok (.iconst 1, 1) := dk_4 (dk_at dksX2_scoreOf_10 17 rfl rfl)
theorem dX2_scoreOf_253 : decode cX2_scoreOf 253 = .ok (.if_icmp .ne 8, 3) := dk_160 0 8 (dk_at dksX2_scoreOf_10 18 rfl rfl)
theorem dX2_scoreOf_256 : decode cX2_scoreOf 256 = .ok (.bipush 6, 2) := dk_16 6 (dk_at dksX2_scoreOf_10 21 rfl rfl)
theorem dX2_scoreOf_258 : decode cX2_scoreOf 258 = .ok (.goto 21, 3) := dk_167 0 21 (dk_at dksX2_scoreOf_11 0 rfl rfl)
theorem dX2_scoreOf_261 : decode cX2_scoreOf 261 = .ok (.iload 7, 2) := dk_21 7 (dk_at dksX2_scoreOf_11 3 rfl rfl)
theorem dX2_scoreOf_263 : decode cX2_scoreOf 263 = .ok (.aload_n 0, 1) := dk_42 (dk_at dksX2_scoreOf_11 5 rfl rfl)
theorem dX2_scoreOf_264 : decode cX2_scoreOf 264 = .ok (.getfield 7, 3) := dk_180 0 7 (dk_at dksX2_scoreOf_11 6 rfl rfl)
theorem dX2_scoreOf_267 : decode cX2_scoreOf 267 = .ok (.iload 8, 2) := dk_21 8 (dk_at dksX2_scoreOf_11 9 rfl rfl)
theorem dX2_scoreOf_269 : decode cX2_scoreOf 269 = .ok (.iaload, 1) := dk_46 (dk_at dksX2_scoreOf_11 11 rfl rfl)
theorem dX2_scoreOf_270 : decode cX2_scoreOf 270 = .ok (.iand, 1) := dk_126 (dk_at dksX2_scoreOf_11 12 rfl rfl)
theorem dX2_scoreOf_271 : decode cX2_scoreOf 271 = .ok (.ifCond .eq 7, 3) := dk_153 0 7 (dk_at dksX2_scoreOf_11 13 rfl rfl)
theorem dX2_scoreOf_274 : decode cX2_scoreOf 274 = .ok (.iconst 3, 1) := dk_6 (dk_at dksX2_scoreOf_11 16 rfl rfl)
theorem dX2_scoreOf_275 : decode cX2_scoreOf 275 = .ok (.goto 4, 3) := dk_167 0 4 (dk_at dksX2_scoreOf_11 17 rfl rfl)
theorem dX2_scoreOf_278 : decode cX2_scoreOf 278 = .ok (.iconst (-1), 1) := dk_2 (dk_at dksX2_scoreOf_11 20 rfl rfl)
theorem dX2_scoreOf_279 : decode cX2_scoreOf 279 = .ok (.istore 10, 2) := dk_54 10 (dk_at dksX2_scoreOf_11 21 rfl rfl)
theorem dX2_scoreOf_281 : decode cX2_scoreOf 281 = .ok (.iload 5, 2) := dk_21 5 (dk_at dksX2_scoreOf_12 0 rfl rfl)
theorem dX2_scoreOf_283 : decode cX2_scoreOf 283 = .ok (.iload 9, 2) := dk_21 9 (dk_at dksX2_scoreOf_12 2 rfl rfl)
theorem dX2_scoreOf_285 : decode cX2_scoreOf 285 = .ok (.ifCond .eq 8, 3) := dk_153 0 8 (dk_at dksX2_scoreOf_12 4 rfl rfl)
theorem dX2_scoreOf_288 : decode cX2_scoreOf 288 = .ok (.iload 10, 2) := dk_21 10 (dk_at dksX2_scoreOf_12 7 rfl rfl)
theorem dX2_scoreOf_290 : decode cX2_scoreOf 290 = .ok (.goto 4, 3) := dk_167 0 4 (dk_at dksX2_scoreOf_12 9 rfl rfl)
theorem dX2_scoreOf_293 : decode cX2_scoreOf 293 = .ok (.iconst 0, 1) := dk_3 (dk_at dksX2_scoreOf_12 12 rfl rfl)
theorem dX2_scoreOf_294 : decode cX2_scoreOf 294 = .ok (.iadd, 1) := dk_96 (dk_at dksX2_scoreOf_12 13 rfl rfl)
theorem dX2_scoreOf_295 : decode cX2_scoreOf 295 = .ok (.istore 5, 2) := dk_54 5 (dk_at dksX2_scoreOf_12 14 rfl rfl)
theorem dX2_scoreOf_297 : decode cX2_scoreOf 297 = .ok (.iinc 8 1, 3) := dk_132 8 1 (dk_at dksX2_scoreOf_12 16 rfl rfl)
theorem dX2_scoreOf_300 : decode cX2_scoreOf 300 = .ok (.goto (-84), 3) := dk_167 255 172 (dk_at dksX2_scoreOf_12 19 rfl rfl)
theorem dX2_scoreOf_303 : decode cX2_scoreOf 303 = .ok (.iload 5, 2) := dk_21 5 (dk_at dksX2_scoreOf_12 22 rfl rfl)
theorem dX2_scoreOf_305 : decode cX2_scoreOf 305 = .ok (.ifCond .ge 7, 3) := dk_156 0 7 (dk_at dksX2_scoreOf_13 0 rfl rfl)
theorem dX2_scoreOf_308 : decode cX2_scoreOf 308 = .ok (.iconst 0, 1) := dk_3 (dk_at dksX2_scoreOf_13 3 rfl rfl)
theorem dX2_scoreOf_309 : decode cX2_scoreOf 309 = .ok (.goto 5, 3) := dk_167 0 5 (dk_at dksX2_scoreOf_13 4 rfl rfl)
theorem dX2_scoreOf_312 : decode cX2_scoreOf 312 = .ok (.iload 5, 2) := dk_21 5 (dk_at dksX2_scoreOf_13 7 rfl rfl)
theorem dX2_scoreOf_314 : decode cX2_scoreOf 314 = .ok (.ireturn, 1) := dk_172 (dk_at dksX2_scoreOf_13 9 rfl rfl)
abbrev cX2_roomsOf : ByteArray := prog_6_method_32_code
def yX2_roomsOf : MethodName := ⟨RX2, "roomsOf", "(I)I"⟩
def dkwX2_roomsOf_0 : List UInt8 := [27, 16, 6, 162, 0, 9, 4, 27, 120, 167, 0, 12, 42, 180, 0, 22, 27, 16, 6, 100, 46, 172]
abbrev dktX2_roomsOf_0 : List UInt8 := dkwX2_roomsOf_0 ++ []
theorem dksX2_roomsOf_0 : cX2_roomsOf.data.toList.drop 0 = dktX2_roomsOf_0 := by decide +kernel
theorem dX2_roomsOf_0 : decode cX2_roomsOf 0 = .ok (.iload_n 1, 1) := dk_27 (dk_at dksX2_roomsOf_0 0 rfl rfl)
theorem dX2_roomsOf_1 : decode cX2_roomsOf 1 = .ok (.bipush 6, 2) := dk_16 6 (dk_at dksX2_roomsOf_0 1 rfl rfl)
theorem dX2_roomsOf_3 : decode cX2_roomsOf 3 = .ok (.if_icmp .ge 9, 3) := dk_162 0 9 (dk_at dksX2_roomsOf_0 3 rfl rfl)
theorem dX2_roomsOf_6 : decode cX2_roomsOf 6 = .ok (.iconst 1, 1) := dk_4 (dk_at dksX2_roomsOf_0 6 rfl rfl)
theorem dX2_roomsOf_7 : decode cX2_roomsOf 7 = .ok (.iload_n 1, 1) := dk_27 (dk_at dksX2_roomsOf_0 7 rfl rfl)
theorem dX2_roomsOf_8 : decode cX2_roomsOf 8 = .ok (.ishl, 1) := dk_120 (dk_at dksX2_roomsOf_0 8 rfl rfl)
theorem dX2_roomsOf_9 : decode cX2_roomsOf 9 = .ok (.goto 12, 3) := dk_167 0 12 (dk_at dksX2_roomsOf_0 9 rfl rfl)
theorem dX2_roomsOf_12 : decode cX2_roomsOf 12 = .ok (.aload_n 0, 1) := dk_42 (dk_at dksX2_roomsOf_0 12 rfl rfl)
theorem dX2_roomsOf_13 : decode cX2_roomsOf 13 = .ok (.getfield 22, 3) := dk_180 0 22 (dk_at dksX2_roomsOf_0 13 rfl rfl)
theorem dX2_roomsOf_16 : decode cX2_roomsOf 16 = .ok (.iload_n 1, 1) := dk_27 (dk_at dksX2_roomsOf_0 16 rfl rfl)
theorem dX2_roomsOf_17 : decode cX2_roomsOf 17 = .ok (.bipush 6, 2) := dk_16 6 (dk_at dksX2_roomsOf_0 17 rfl rfl)
theorem dX2_roomsOf_19 : decode cX2_roomsOf 19 = .ok (.isub, 1) := dk_100 (dk_at dksX2_roomsOf_0 19 rfl rfl)
theorem dX2_roomsOf_20 : decode cX2_roomsOf 20 = .ok (.iaload, 1) := dk_46 (dk_at dksX2_roomsOf_0 20 rfl rfl)
theorem dX2_roomsOf_21 : decode cX2_roomsOf 21 = .ok (.ireturn, 1) := dk_172 (dk_at dksX2_roomsOf_0 21 rfl rfl)
abbrev cX2_proves : ByteArray := prog_6_method_35_code
def yX2_proves : MethodName := ⟨RX2, "proves", "(II)Z"⟩
def dkwX2_proves_2 : List UInt8 := [28, 46, 42, 180, 0, 41, 27, 46, 2, 130, 126, 184, 0, 132, 4, 163, 0, 7, 4, 167, 0, 4, 3, 172]
abbrev dktX2_proves_2 : List UInt8 := dkwX2_proves_2 ++ []
def dkwX2_proves_1 : List UInt8 := [184, 0, 132, 54, 4, 21, 4, 29, 5, 162, 0, 7, 29, 167, 0, 4, 5, 161, 0, 29, 42, 180, 0, 93]
abbrev dktX2_proves_1 : List UInt8 := dkwX2_proves_1 ++ dktX2_proves_2
def dkwX2_proves_0 : List UInt8 := [42, 180, 0, 41, 27, 46, 184, 0, 132, 62, 42, 180, 0, 41, 27, 46, 42, 180, 0, 93, 28, 46, 126]
abbrev dktX2_proves_0 : List UInt8 := dkwX2_proves_0 ++ dktX2_proves_1
theorem dksX2_proves_0 : cX2_proves.data.toList.drop 0 = dktX2_proves_0 := by decide +kernel
theorem dksX2_proves_1 : cX2_proves.data.toList.drop 23 = dktX2_proves_1 := dk_seg dksX2_proves_0 23 rfl rfl
theorem dksX2_proves_2 : cX2_proves.data.toList.drop 47 = dktX2_proves_2 := dk_seg dksX2_proves_1 24 rfl rfl
theorem dX2_proves_0 : decode cX2_proves 0 = .ok (.aload_n 0, 1) := dk_42 (dk_at dksX2_proves_0 0 rfl rfl)
theorem dX2_proves_1 : decode cX2_proves 1 = .ok (.getfield 41, 3) := dk_180 0 41 (dk_at dksX2_proves_0 1 rfl rfl)
theorem dX2_proves_4 : decode cX2_proves 4 = .ok (.iload_n 1, 1) := dk_27 (dk_at dksX2_proves_0 4 rfl rfl)
theorem dX2_proves_5 : decode cX2_proves 5 = .ok (.iaload, 1) := dk_46 (dk_at dksX2_proves_0 5 rfl rfl)
theorem dX2_proves_6 : decode cX2_proves 6 = .ok (.invokestatic 132, 3) := dk_184 0 132 (dk_at dksX2_proves_0 6 rfl rfl)
theorem dX2_proves_9 : decode cX2_proves 9 = .ok (.istore_n 3, 1) := dk_62 (dk_at dksX2_proves_0 9 rfl rfl)
theorem dX2_proves_10 : decode cX2_proves 10 = .ok (.aload_n 0, 1) := dk_42 (dk_at dksX2_proves_0 10 rfl rfl)
theorem dX2_proves_11 : decode cX2_proves 11 = .ok (.getfield 41, 3) := dk_180 0 41 (dk_at dksX2_proves_0 11 rfl rfl)
theorem dX2_proves_14 : decode cX2_proves 14 = .ok (.iload_n 1, 1) := dk_27 (dk_at dksX2_proves_0 14 rfl rfl)
theorem dX2_proves_15 : decode cX2_proves 15 = .ok (.iaload, 1) := dk_46 (dk_at dksX2_proves_0 15 rfl rfl)
theorem dX2_proves_16 : decode cX2_proves 16 = .ok (.aload_n 0, 1) := dk_42 (dk_at dksX2_proves_0 16 rfl rfl)
theorem dX2_proves_17 : decode cX2_proves 17 = .ok (.getfield 93, 3) := dk_180 0 93 (dk_at dksX2_proves_0 17 rfl rfl)
theorem dX2_proves_20 : decode cX2_proves 20 = .ok (.iload_n 2, 1) := dk_28 (dk_at dksX2_proves_0 20 rfl rfl)
theorem dX2_proves_21 : decode cX2_proves 21 = .ok (.iaload, 1) := dk_46 (dk_at dksX2_proves_0 21 rfl rfl)
theorem dX2_proves_22 : decode cX2_proves 22 = .ok (.iand, 1) := dk_126 (dk_at dksX2_proves_0 22 rfl rfl)
theorem dX2_proves_23 : decode cX2_proves 23 = .ok (.invokestatic 132, 3) := dk_184 0 132 (dk_at dksX2_proves_1 0 rfl rfl)
theorem dX2_proves_26 : decode cX2_proves 26 = .ok (.istore 4, 2) := dk_54 4 (dk_at dksX2_proves_1 3 rfl rfl)
theorem dX2_proves_28 : decode cX2_proves 28 = .ok (.iload 4, 2) := dk_21 4 (dk_at dksX2_proves_1 5 rfl rfl)
theorem dX2_proves_30 : decode cX2_proves 30 = .ok (.iload_n 3, 1) := dk_29 (dk_at dksX2_proves_1 7 rfl rfl)
theorem dX2_proves_31 : decode cX2_proves 31 = .ok (.iconst 2, 1) := dk_5 (dk_at dksX2_proves_1 8 rfl rfl)
theorem dX2_proves_32 : decode cX2_proves 32 = .ok (.if_icmp .ge 7, 3) := dk_162 0 7 (dk_at dksX2_proves_1 9 rfl rfl)
theorem dX2_proves_35 : decode cX2_proves 35 = .ok (.iload_n 3, 1) := dk_29 (dk_at dksX2_proves_1 12 rfl rfl)
theorem dX2_proves_36 : decode cX2_proves 36 = .ok (.goto 4, 3) := dk_167 0 4 (dk_at dksX2_proves_1 13 rfl rfl)
theorem dX2_proves_39 : decode cX2_proves 39 = .ok (.iconst 2, 1) := dk_5 (dk_at dksX2_proves_1 16 rfl rfl)
theorem dX2_proves_40 : decode cX2_proves 40 = .ok (.if_icmp .lt 29, 3) := dk_161 0 29 (dk_at dksX2_proves_1 17 rfl rfl)
theorem dX2_proves_43 : decode cX2_proves 43 = .ok (.aload_n 0, 1) := dk_42 (dk_at dksX2_proves_1 20 rfl rfl)
theorem dX2_proves_44 : decode cX2_proves 44 = .ok (.getfield 93, 3) := dk_180 0 93 (dk_at dksX2_proves_1 21 rfl rfl)
theorem dX2_proves_47 : decode cX2_proves 47 = .ok (.iload_n 2, 1) := dk_28 (dk_at dksX2_proves_2 0 rfl rfl)
theorem dX2_proves_48 : decode cX2_proves 48 = .ok (.iaload, 1) := dk_46 (dk_at dksX2_proves_2 1 rfl rfl)
theorem dX2_proves_49 : decode cX2_proves 49 = .ok (.aload_n 0, 1) := dk_42 (dk_at dksX2_proves_2 2 rfl rfl)
theorem dX2_proves_50 : decode cX2_proves 50 = .ok (.getfield 41, 3) := dk_180 0 41 (dk_at dksX2_proves_2 3 rfl rfl)
theorem dX2_proves_53 : decode cX2_proves 53 = .ok (.iload_n 1, 1) := dk_27 (dk_at dksX2_proves_2 6 rfl rfl)
theorem dX2_proves_54 : decode cX2_proves 54 = .ok (.iaload, 1) := dk_46 (dk_at dksX2_proves_2 7 rfl rfl)
theorem dX2_proves_55 : decode cX2_proves 55 = .ok (.iconst (-1), 1) := dk_2 (dk_at dksX2_proves_2 8 rfl rfl)
theorem dX2_proves_56 : decode cX2_proves 56 = .ok (.ixor, 1) := dk_130 (dk_at dksX2_proves_2 9 rfl rfl)
theorem dX2_proves_57 : decode cX2_proves 57 = .ok (.iand, 1) := dk_126 (dk_at dksX2_proves_2 10 rfl rfl)
theorem dX2_proves_58 : decode cX2_proves 58 = .ok (.invokestatic 132, 3) := dk_184 0 132 (dk_at dksX2_proves_2 11 rfl rfl)
theorem dX2_proves_61 : decode cX2_proves 61 = .ok (.iconst 1, 1) := dk_4 (dk_at dksX2_proves_2 14 rfl rfl)
theorem dX2_proves_62 : decode cX2_proves 62 = .ok (.if_icmp .gt 7, 3) := dk_163 0 7 (dk_at dksX2_proves_2 15 rfl rfl)
theorem dX2_proves_65 : decode cX2_proves 65 = .ok (.iconst 1, 1) := dk_4 (dk_at dksX2_proves_2 18 rfl rfl)
theorem dX2_proves_66 : decode cX2_proves 66 = .ok (.goto 4, 3) := dk_167 0 4 (dk_at dksX2_proves_2 19 rfl rfl)
theorem dX2_proves_69 : decode cX2_proves 69 = .ok (.iconst 0, 1) := dk_3 (dk_at dksX2_proves_2 22 rfl rfl)
theorem dX2_proves_70 : decode cX2_proves 70 = .ok (.ireturn, 1) := dk_172 (dk_at dksX2_proves_2 23 rfl rfl)
abbrev cX2_isBeaten : ByteArray := prog_6_method_36_code
def yX2_isBeaten : MethodName := ⟨RX2, "isBeaten", "(II)Z"⟩
def dkwX2_isBeaten_3 : List UInt8 := [160, 0, 13, 21, 5, 28, 162, 0, 7, 4, 167, 0, 4, 3, 62, 132, 5, 1, 167, 255, 179, 29, 172]
abbrev dktX2_isBeaten_3 : List UInt8 := dkwX2_isBeaten_3 ++ []
def dkwX2_isBeaten_2 : List UInt8 := [154, 0, 37, 42, 27, 21, 5, 182, 0, 172, 153, 0, 27, 21, 6, 21, 4, 163, 0, 16, 21, 6, 21, 4]
abbrev dktX2_isBeaten_2 : List UInt8 := dkwX2_isBeaten_2 ++ dktX2_isBeaten_3
def dkwX2_isBeaten_1 : List UInt8 := [21, 5, 182, 0, 169, 54, 6, 29, 154, 0, 49, 21, 5, 28, 159, 0, 47, 42, 180, 0, 96, 21, 5, 46]
abbrev dktX2_isBeaten_1 : List UInt8 := dkwX2_isBeaten_1 ++ dktX2_isBeaten_2
def dkwX2_isBeaten_0 : List UInt8 := [3, 62, 42, 27, 28, 182, 0, 169, 54, 4, 3, 54, 5, 21, 5, 42, 180, 0, 116, 162, 0, 74, 42, 27]
abbrev dktX2_isBeaten_0 : List UInt8 := dkwX2_isBeaten_0 ++ dktX2_isBeaten_1
theorem dksX2_isBeaten_0 : cX2_isBeaten.data.toList.drop 0 = dktX2_isBeaten_0 := by decide +kernel
theorem dksX2_isBeaten_1 : cX2_isBeaten.data.toList.drop 24 = dktX2_isBeaten_1 := dk_seg dksX2_isBeaten_0 24 rfl rfl
theorem dksX2_isBeaten_2 : cX2_isBeaten.data.toList.drop 48 = dktX2_isBeaten_2 := dk_seg dksX2_isBeaten_1 24 rfl rfl
theorem dksX2_isBeaten_3 : cX2_isBeaten.data.toList.drop 72 = dktX2_isBeaten_3 := dk_seg dksX2_isBeaten_2 24 rfl rfl
theorem dX2_isBeaten_0 : decode cX2_isBeaten 0 = .ok (.iconst 0, 1) := dk_3 (dk_at dksX2_isBeaten_0 0 rfl rfl)
theorem dX2_isBeaten_1 : decode cX2_isBeaten 1 = .ok (.istore_n 3, 1) := dk_62 (dk_at dksX2_isBeaten_0 1 rfl rfl)
theorem dX2_isBeaten_2 : decode cX2_isBeaten 2 = .ok (.aload_n 0, 1) := dk_42 (dk_at dksX2_isBeaten_0 2 rfl rfl)
theorem dX2_isBeaten_3 : decode cX2_isBeaten 3 = .ok (.iload_n 1, 1) := dk_27 (dk_at dksX2_isBeaten_0 3 rfl rfl)
theorem dX2_isBeaten_4 : decode cX2_isBeaten 4 = .ok (.iload_n 2, 1) := dk_28 (dk_at dksX2_isBeaten_0 4 rfl rfl)
theorem dX2_isBeaten_5 : decode cX2_isBeaten 5 = .ok (.invokevirtual 169, 3) := dk_182 0 169 (dk_at dksX2_isBeaten_0 5 rfl rfl)
theorem dX2_isBeaten_8 : decode cX2_isBeaten 8 = .ok (.istore 4, 2) := dk_54 4 (dk_at dksX2_isBeaten_0 8 rfl rfl)
theorem dX2_isBeaten_10 : decode cX2_isBeaten 10 = .ok (.iconst 0, 1) := dk_3 (dk_at dksX2_isBeaten_0 10 rfl rfl)
theorem dX2_isBeaten_11 : decode cX2_isBeaten 11 = .ok (.istore 5, 2) := dk_54 5 (dk_at dksX2_isBeaten_0 11 rfl rfl)
theorem dX2_isBeaten_13 : decode cX2_isBeaten 13 = .ok (.iload 5, 2) := dk_21 5 (dk_at dksX2_isBeaten_0 13 rfl rfl)
theorem dX2_isBeaten_15 : decode cX2_isBeaten 15 = .ok (.aload_n 0, 1) := dk_42 (dk_at dksX2_isBeaten_0 15 rfl rfl)
theorem dX2_isBeaten_16 : decode cX2_isBeaten 16 = .ok (.getfield 116, 3) := dk_180 0 116 (dk_at dksX2_isBeaten_0 16 rfl rfl)
theorem dX2_isBeaten_19 : decode cX2_isBeaten 19 = .ok (.if_icmp .ge 74, 3) := dk_162 0 74 (dk_at dksX2_isBeaten_0 19 rfl rfl)
theorem dX2_isBeaten_22 : decode cX2_isBeaten 22 = .ok (.aload_n 0, 1) := dk_42 (dk_at dksX2_isBeaten_0 22 rfl rfl)
theorem dX2_isBeaten_23 : decode cX2_isBeaten 23 = .ok (.iload_n 1, 1) := dk_27 (dk_at dksX2_isBeaten_0 23 rfl rfl)
theorem dX2_isBeaten_24 : decode cX2_isBeaten 24 = .ok (.iload 5, 2) := dk_21 5 (dk_at dksX2_isBeaten_1 0 rfl rfl)
theorem dX2_isBeaten_26 : decode cX2_isBeaten 26 = .ok (.invokevirtual 169, 3) := dk_182 0 169 (dk_at dksX2_isBeaten_1 2 rfl rfl)
theorem dX2_isBeaten_29 : decode cX2_isBeaten 29 = .ok (.istore 6, 2) := dk_54 6 (dk_at dksX2_isBeaten_1 5 rfl rfl)
theorem dX2_isBeaten_31 : decode cX2_isBeaten 31 = .ok (.iload_n 3, 1) := dk_29 (dk_at dksX2_isBeaten_1 7 rfl rfl)
theorem dX2_isBeaten_32 : decode cX2_isBeaten 32 = .ok (.ifCond .ne 49, 3) := dk_154 0 49 (dk_at dksX2_isBeaten_1 8 rfl rfl)
theorem dX2_isBeaten_35 : decode cX2_isBeaten 35 = .ok (.iload 5, 2) := dk_21 5 (dk_at dksX2_isBeaten_1 11 rfl rfl)
theorem dX2_isBeaten_37 : decode cX2_isBeaten 37 = .ok (.iload_n 2, 1) := dk_28 (dk_at dksX2_isBeaten_1 13 rfl rfl)
theorem dX2_isBeaten_38 : decode cX2_isBeaten 38 = .ok (.if_icmp .eq 47, 3) := dk_159 0 47 (dk_at dksX2_isBeaten_1 14 rfl rfl)
theorem dX2_isBeaten_41 : decode cX2_isBeaten 41 = .ok (.aload_n 0, 1) := dk_42 (dk_at dksX2_isBeaten_1 17 rfl rfl)
theorem dX2_isBeaten_42 : decode cX2_isBeaten 42 = .ok (.getfield 96, 3) := dk_180 0 96 (dk_at dksX2_isBeaten_1 18 rfl rfl)
theorem dX2_isBeaten_45 : decode cX2_isBeaten 45 = .ok (.iload 5, 2) := dk_21 5 (dk_at dksX2_isBeaten_1 21 rfl rfl)
theorem dX2_isBeaten_47 : decode cX2_isBeaten 47 = .ok (.iaload, 1) := dk_46 (dk_at dksX2_isBeaten_1 23 rfl rfl)
theorem dX2_isBeaten_48 : decode cX2_isBeaten 48 = .ok (.ifCond .ne 37, 3) := dk_154 0 37 (dk_at dksX2_isBeaten_2 0 rfl rfl)
theorem dX2_isBeaten_51 : decode cX2_isBeaten 51 = .ok (.aload_n 0, 1) := dk_42 (dk_at dksX2_isBeaten_2 3 rfl rfl)
theorem dX2_isBeaten_52 : decode cX2_isBeaten 52 = .ok (.iload_n 1, 1) := dk_27 (dk_at dksX2_isBeaten_2 4 rfl rfl)
theorem dX2_isBeaten_53 : decode cX2_isBeaten 53 = .ok (.iload 5, 2) := dk_21 5 (dk_at dksX2_isBeaten_2 5 rfl rfl)
theorem dX2_isBeaten_55 : decode cX2_isBeaten 55 = .ok (.invokevirtual 172, 3) := dk_182 0 172 (dk_at dksX2_isBeaten_2 7 rfl rfl)
theorem dX2_isBeaten_58 : decode cX2_isBeaten 58 = .ok (.ifCond .eq 27, 3) := dk_153 0 27 (dk_at dksX2_isBeaten_2 10 rfl rfl)
theorem dX2_isBeaten_61 : decode cX2_isBeaten 61 = .ok (.iload 6, 2) := dk_21 6 (dk_at dksX2_isBeaten_2 13 rfl rfl)
theorem dX2_isBeaten_63 : decode cX2_isBeaten 63 = .ok (.iload 4, 2) := dk_21 4 (dk_at dksX2_isBeaten_2 15 rfl rfl)
theorem dX2_isBeaten_65 : decode cX2_isBeaten 65 = .ok (.if_icmp .gt 16, 3) := dk_163 0 16 (dk_at dksX2_isBeaten_2 17 rfl rfl)
theorem dX2_isBeaten_68 : decode cX2_isBeaten 68 = .ok (.iload 6, 2) := dk_21 6 (dk_at dksX2_isBeaten_2 20 rfl rfl)
theorem dX2_isBeaten_70 : decode cX2_isBeaten 70 = .ok (.iload 4, 2) := dk_21 4 (dk_at dksX2_isBeaten_2 22 rfl rfl)
theorem dX2_isBeaten_72 : decode cX2_isBeaten 72 = .ok (.if_icmp .ne 13, 3) := dk_160 0 13 (dk_at dksX2_isBeaten_3 0 rfl rfl)
theorem dX2_isBeaten_75 : decode cX2_isBeaten 75 = .ok (.iload 5, 2) := dk_21 5 (dk_at dksX2_isBeaten_3 3 rfl rfl)
theorem dX2_isBeaten_77 : decode cX2_isBeaten 77 = .ok (.iload_n 2, 1) := dk_28 (dk_at dksX2_isBeaten_3 5 rfl rfl)
theorem dX2_isBeaten_78 : decode cX2_isBeaten 78 = .ok (.if_icmp .ge 7, 3) := dk_162 0 7 (dk_at dksX2_isBeaten_3 6 rfl rfl)
theorem dX2_isBeaten_81 : decode cX2_isBeaten 81 = .ok (.iconst 1, 1) := dk_4 (dk_at dksX2_isBeaten_3 9 rfl rfl)
theorem dX2_isBeaten_82 : decode cX2_isBeaten 82 = .ok (.goto 4, 3) := dk_167 0 4 (dk_at dksX2_isBeaten_3 10 rfl rfl)
theorem dX2_isBeaten_85 : decode cX2_isBeaten 85 = .ok (.iconst 0, 1) := dk_3 (dk_at dksX2_isBeaten_3 13 rfl rfl)
theorem dX2_isBeaten_86 : decode cX2_isBeaten 86 = .ok (.istore_n 3, 1) := dk_62 (dk_at dksX2_isBeaten_3 14 rfl rfl)
theorem dX2_isBeaten_87 : decode cX2_isBeaten 87 = .ok (.iinc 5 1, 3) := dk_132 5 1 (dk_at dksX2_isBeaten_3 15 rfl rfl)
theorem dX2_isBeaten_90 : decode cX2_isBeaten 90 = .ok (.goto (-77), 3) := dk_167 255 179 (dk_at dksX2_isBeaten_3 18 rfl rfl)
theorem dX2_isBeaten_93 : decode cX2_isBeaten 93 = .ok (.iload_n 3, 1) := dk_29 (dk_at dksX2_isBeaten_3 21 rfl rfl)
theorem dX2_isBeaten_94 : decode cX2_isBeaten 94 = .ok (.ireturn, 1) := dk_172 (dk_at dksX2_isBeaten_3 22 rfl rfl)
abbrev cX2_extend : ByteArray := prog_6_method_40_code
def yX2_extend : MethodName := ⟨RX2, "extend", "(II)I"⟩
def dkwX2_extend_4 : List UInt8 := [180, 0, 56, 27, 46, 79, 42, 180, 0, 56, 27, 46, 172]
abbrev dktX2_extend_4 : List UInt8 := dkwX2_extend_4 ++ []
def dkwX2_extend_3 : List UInt8 := [180, 0, 136, 28, 96, 42, 180, 0, 56, 27, 46, 164, 0, 12, 42, 180, 0, 136, 28, 96, 167, 0, 9, 42]
abbrev dktX2_extend_3 : List UInt8 := dkwX2_extend_3 ++ dktX2_extend_4
def dkwX2_extend_2 : List UInt8 := [160, 0, 7, 6, 167, 0, 4, 3, 182, 0, 123, 154, 0, 5, 3, 172, 42, 180, 0, 56, 27, 42]
abbrev dktX2_extend_2 : List UInt8 := dkwX2_extend_2 ++ dktX2_extend_3
def dkwX2_extend_1 : List UInt8 := [154, 0, 7, 5, 167, 0, 27, 42, 27, 182, 0, 152, 153, 0, 14, 42, 180, 0, 29, 27, 46, 16, 7]
abbrev dktX2_extend_1 : List UInt8 := dkwX2_extend_1 ++ dktX2_extend_2
def dkwX2_extend_0 : List UInt8 := [42, 27, 182, 0, 149, 62, 42, 29, 154, 0, 7, 4, 167, 0, 42, 28, 4, 17, 1, 109, 184, 0, 108]
abbrev dktX2_extend_0 : List UInt8 := dkwX2_extend_0 ++ dktX2_extend_1
theorem dksX2_extend_0 : cX2_extend.data.toList.drop 0 = dktX2_extend_0 := by decide +kernel
theorem dksX2_extend_1 : cX2_extend.data.toList.drop 23 = dktX2_extend_1 := dk_seg dksX2_extend_0 23 rfl rfl
theorem dksX2_extend_2 : cX2_extend.data.toList.drop 46 = dktX2_extend_2 := dk_seg dksX2_extend_1 23 rfl rfl
theorem dksX2_extend_3 : cX2_extend.data.toList.drop 68 = dktX2_extend_3 := dk_seg dksX2_extend_2 22 rfl rfl
theorem dksX2_extend_4 : cX2_extend.data.toList.drop 92 = dktX2_extend_4 := dk_seg dksX2_extend_3 24 rfl rfl
theorem dX2_extend_0 : decode cX2_extend 0 = .ok (.aload_n 0, 1) := dk_42 (dk_at dksX2_extend_0 0 rfl rfl)
theorem dX2_extend_1 : decode cX2_extend 1 = .ok (.iload_n 1, 1) := dk_27 (dk_at dksX2_extend_0 1 rfl rfl)
theorem dX2_extend_2 : decode cX2_extend 2 = .ok (.invokevirtual 149, 3) := dk_182 0 149 (dk_at dksX2_extend_0 2 rfl rfl)
theorem dX2_extend_5 : decode cX2_extend 5 = .ok (.istore_n 3, 1) := dk_62 (dk_at dksX2_extend_0 5 rfl rfl)
theorem dX2_extend_6 : decode cX2_extend 6 = .ok (.aload_n 0, 1) := dk_42 (dk_at dksX2_extend_0 6 rfl rfl)
theorem dX2_extend_7 : decode cX2_extend 7 = .ok (.iload_n 3, 1) := dk_29 (dk_at dksX2_extend_0 7 rfl rfl)
theorem dX2_extend_8 : decode cX2_extend 8 = .ok (.ifCond .ne 7, 3) := dk_154 0 7 (dk_at dksX2_extend_0 8 rfl rfl)
theorem dX2_extend_11 : decode cX2_extend 11 = .ok (.iconst 1, 1) := dk_4 (dk_at dksX2_extend_0 11 rfl rfl)
theorem dX2_extend_12 : decode cX2_extend 12 = .ok (.goto 42, 3) := dk_167 0 42 (dk_at dksX2_extend_0 12 rfl rfl)
theorem dX2_extend_15 : decode cX2_extend 15 = .ok (.iload_n 2, 1) := dk_28 (dk_at dksX2_extend_0 15 rfl rfl)
theorem dX2_extend_16 : decode cX2_extend 16 = .ok (.iconst 1, 1) := dk_4 (dk_at dksX2_extend_0 16 rfl rfl)
theorem dX2_extend_17 : decode cX2_extend 17 = .ok (.sipush 365, 3) := dk_17 1 109 (dk_at dksX2_extend_0 17 rfl rfl)
theorem dX2_extend_20 : decode cX2_extend 20 = .ok (.invokestatic 108, 3) := dk_184 0 108 (dk_at dksX2_extend_0 20 rfl rfl)
theorem dX2_extend_23 : decode cX2_extend 23 = .ok (.ifCond .ne 7, 3) := dk_154 0 7 (dk_at dksX2_extend_1 0 rfl rfl)
theorem dX2_extend_26 : decode cX2_extend 26 = .ok (.iconst 2, 1) := dk_5 (dk_at dksX2_extend_1 3 rfl rfl)
theorem dX2_extend_27 : decode cX2_extend 27 = .ok (.goto 27, 3) := dk_167 0 27 (dk_at dksX2_extend_1 4 rfl rfl)
theorem dX2_extend_30 : decode cX2_extend 30 = .ok (.aload_n 0, 1) := dk_42 (dk_at dksX2_extend_1 7 rfl rfl)
theorem dX2_extend_31 : decode cX2_extend 31 = .ok (.iload_n 1, 1) := dk_27 (dk_at dksX2_extend_1 8 rfl rfl)
theorem dX2_extend_32 : decode cX2_extend 32 = .ok (.invokevirtual 152, 3) := dk_182 0 152 (dk_at dksX2_extend_1 9 rfl rfl)
theorem dX2_extend_35 : decode cX2_extend 35 = .ok (.ifCond .eq 14, 3) := dk_153 0 14 (dk_at dksX2_extend_1 12 rfl rfl)
theorem dX2_extend_38 : decode cX2_extend 38 = .ok (.aload_n 0, 1) := dk_42 (dk_at dksX2_extend_1 15 rfl rfl)
theorem dX2_extend_39 : decode cX2_extend 39 = .ok (.getfield 29, 3) := dk_180 0 29 (dk_at dksX2_extend_1 16 rfl rfl)
theorem dX2_extend_42 : decode cX2_extend 42 = .ok (.iload_n 1, 1) := dk_27 (dk_at dksX2_extend_1 19 rfl rfl)
theorem dX2_extend_43 : decode cX2_extend 43 = .ok (.iaload, 1) := dk_46 (dk_at dksX2_extend_1 20 rfl rfl)
theorem dX2_extend_44 : decode cX2_extend 44 = .ok (.bipush 7, 2) := dk_16 7 (dk_at dksX2_extend_1 21 rfl rfl)
theorem dX2_extend_46 : decode cX2_extend 46 = .ok (.if_icmp .ne 7, 3) := dk_160 0 7 (dk_at dksX2_extend_2 0 rfl rfl)
theorem dX2_extend_49 : decode cX2_extend 49 = .ok (.iconst 3, 1) := dk_6 (dk_at dksX2_extend_2 3 rfl rfl)
theorem dX2_extend_50 : decode cX2_extend 50 = .ok (.goto 4, 3) := dk_167 0 4 (dk_at dksX2_extend_2 4 rfl rfl)
theorem dX2_extend_53 : decode cX2_extend 53 = .ok (.iconst 0, 1) := dk_3 (dk_at dksX2_extend_2 7 rfl rfl)
theorem dX2_extend_54 : decode cX2_extend 54 = .ok (.invokevirtual 123, 3) := dk_182 0 123 (dk_at dksX2_extend_2 8 rfl rfl)
theorem dX2_extend_57 : decode cX2_extend 57 = .ok (.ifCond .ne 5, 3) := dk_154 0 5 (dk_at dksX2_extend_2 11 rfl rfl)
theorem dX2_extend_60 : decode cX2_extend 60 = .ok (.iconst 0, 1) := dk_3 (dk_at dksX2_extend_2 14 rfl rfl)
theorem dX2_extend_61 : decode cX2_extend 61 = .ok (.ireturn, 1) := dk_172 (dk_at dksX2_extend_2 15 rfl rfl)
theorem dX2_extend_62 : decode cX2_extend 62 = .ok (.aload_n 0, 1) := dk_42 (dk_at dksX2_extend_2 16 rfl rfl)
theorem dX2_extend_63 : decode cX2_extend 63 = .ok (.getfield 56, 3) := dk_180 0 56 (dk_at dksX2_extend_2 17 rfl rfl)
theorem dX2_extend_66 : decode cX2_extend 66 = .ok (.iload_n 1, 1) := dk_27 (dk_at dksX2_extend_2 20 rfl rfl)
theorem dX2_extend_67 : decode cX2_extend 67 = .ok (.aload_n 0, 1) := dk_42 (dk_at dksX2_extend_2 21 rfl rfl)
theorem dX2_extend_68 : decode cX2_extend 68 = .ok (.getfield 136, 3) := dk_180 0 136 (dk_at dksX2_extend_3 0 rfl rfl)
theorem dX2_extend_71 : decode cX2_extend 71 = .ok (.iload_n 2, 1) := dk_28 (dk_at dksX2_extend_3 3 rfl rfl)
theorem dX2_extend_72 : decode cX2_extend 72 = .ok (.iadd, 1) := dk_96 (dk_at dksX2_extend_3 4 rfl rfl)
theorem dX2_extend_73 : decode cX2_extend 73 = .ok (.aload_n 0, 1) := dk_42 (dk_at dksX2_extend_3 5 rfl rfl)
theorem dX2_extend_74 : decode cX2_extend 74 = .ok (.getfield 56, 3) := dk_180 0 56 (dk_at dksX2_extend_3 6 rfl rfl)
theorem dX2_extend_77 : decode cX2_extend 77 = .ok (.iload_n 1, 1) := dk_27 (dk_at dksX2_extend_3 9 rfl rfl)
theorem dX2_extend_78 : decode cX2_extend 78 = .ok (.iaload, 1) := dk_46 (dk_at dksX2_extend_3 10 rfl rfl)
theorem dX2_extend_79 : decode cX2_extend 79 = .ok (.if_icmp .le 12, 3) := dk_164 0 12 (dk_at dksX2_extend_3 11 rfl rfl)
theorem dX2_extend_82 : decode cX2_extend 82 = .ok (.aload_n 0, 1) := dk_42 (dk_at dksX2_extend_3 14 rfl rfl)
theorem dX2_extend_83 : decode cX2_extend 83 = .ok (.getfield 136, 3) := dk_180 0 136 (dk_at dksX2_extend_3 15 rfl rfl)
theorem dX2_extend_86 : decode cX2_extend 86 = .ok (.iload_n 2, 1) := dk_28 (dk_at dksX2_extend_3 18 rfl rfl)
theorem dX2_extend_87 : decode cX2_extend 87 = .ok (.iadd, 1) := dk_96 (dk_at dksX2_extend_3 19 rfl rfl)
theorem dX2_extend_88 : decode cX2_extend 88 = .ok (.goto 9, 3) := dk_167 0 9 (dk_at dksX2_extend_3 20 rfl rfl)
theorem dX2_extend_91 : decode cX2_extend 91 = .ok (.aload_n 0, 1) := dk_42 (dk_at dksX2_extend_3 23 rfl rfl)
theorem dX2_extend_92 : decode cX2_extend 92 = .ok (.getfield 56, 3) := dk_180 0 56 (dk_at dksX2_extend_4 0 rfl rfl)
theorem dX2_extend_95 : decode cX2_extend 95 = .ok (.iload_n 1, 1) := dk_27 (dk_at dksX2_extend_4 3 rfl rfl)
theorem dX2_extend_96 : decode cX2_extend 96 = .ok (.iaload, 1) := dk_46 (dk_at dksX2_extend_4 4 rfl rfl)
theorem dX2_extend_97 : decode cX2_extend 97 = .ok (.iastore, 1) := dk_79 (dk_at dksX2_extend_4 5 rfl rfl)
theorem dX2_extend_98 : decode cX2_extend 98 = .ok (.aload_n 0, 1) := dk_42 (dk_at dksX2_extend_4 6 rfl rfl)
theorem dX2_extend_99 : decode cX2_extend 99 = .ok (.getfield 56, 3) := dk_180 0 56 (dk_at dksX2_extend_4 7 rfl rfl)
theorem dX2_extend_102 : decode cX2_extend 102 = .ok (.iload_n 1, 1) := dk_27 (dk_at dksX2_extend_4 10 rfl rfl)
theorem dX2_extend_103 : decode cX2_extend 103 = .ok (.iaload, 1) := dk_46 (dk_at dksX2_extend_4 11 rfl rfl)
theorem dX2_extend_104 : decode cX2_extend 104 = .ok (.ireturn, 1) := dk_172 (dk_at dksX2_extend_4 12 rfl rfl)
abbrev cX2_sell : ByteArray := prog_6_method_41_code
def yX2_sell : MethodName := ⟨RX2, "sell", "(II)I"⟩
def dkwX2_sell_4 : List UInt8 := [181, 0, 194, 42, 180, 0, 194, 172]
abbrev dktX2_sell_4 : List UInt8 := dkwX2_sell_4 ++ []
def dkwX2_sell_3 : List UInt8 := [180, 0, 63, 27, 28, 79, 42, 180, 0, 66, 27, 42, 180, 0, 136, 79, 42, 89, 180, 0, 194, 28, 96]
abbrev dktX2_sell_3 : List UInt8 := dkwX2_sell_3 ++ dktX2_sell_4
def dkwX2_sell_2 : List UInt8 := [160, 0, 7, 6, 167, 0, 4, 3, 182, 0, 123, 154, 0, 5, 3, 172, 42, 180, 0, 47, 27, 7, 79, 42]
abbrev dktX2_sell_2 : List UInt8 := dkwX2_sell_2 ++ dktX2_sell_3
def dkwX2_sell_1 : List UInt8 := [154, 0, 7, 5, 167, 0, 27, 42, 27, 182, 0, 191, 153, 0, 14, 42, 180, 0, 29, 27, 46, 16, 7]
abbrev dktX2_sell_1 : List UInt8 := dkwX2_sell_1 ++ dktX2_sell_2
def dkwX2_sell_0 : List UInt8 := [42, 27, 182, 0, 149, 62, 42, 29, 154, 0, 7, 4, 167, 0, 42, 28, 4, 17, 39, 15, 184, 0, 108]
abbrev dktX2_sell_0 : List UInt8 := dkwX2_sell_0 ++ dktX2_sell_1
theorem dksX2_sell_0 : cX2_sell.data.toList.drop 0 = dktX2_sell_0 := by decide +kernel
theorem dksX2_sell_1 : cX2_sell.data.toList.drop 23 = dktX2_sell_1 := dk_seg dksX2_sell_0 23 rfl rfl
theorem dksX2_sell_2 : cX2_sell.data.toList.drop 46 = dktX2_sell_2 := dk_seg dksX2_sell_1 23 rfl rfl
theorem dksX2_sell_3 : cX2_sell.data.toList.drop 70 = dktX2_sell_3 := dk_seg dksX2_sell_2 24 rfl rfl
theorem dksX2_sell_4 : cX2_sell.data.toList.drop 93 = dktX2_sell_4 := dk_seg dksX2_sell_3 23 rfl rfl
theorem dX2_sell_0 : decode cX2_sell 0 = .ok (.aload_n 0, 1) := dk_42 (dk_at dksX2_sell_0 0 rfl rfl)
theorem dX2_sell_1 : decode cX2_sell 1 = .ok (.iload_n 1, 1) := dk_27 (dk_at dksX2_sell_0 1 rfl rfl)
theorem dX2_sell_2 : decode cX2_sell 2 = .ok (.invokevirtual 149, 3) := dk_182 0 149 (dk_at dksX2_sell_0 2 rfl rfl)
theorem dX2_sell_5 : decode cX2_sell 5 = .ok (.istore_n 3, 1) := dk_62 (dk_at dksX2_sell_0 5 rfl rfl)
theorem dX2_sell_6 : decode cX2_sell 6 = .ok (.aload_n 0, 1) := dk_42 (dk_at dksX2_sell_0 6 rfl rfl)
theorem dX2_sell_7 : decode cX2_sell 7 = .ok (.iload_n 3, 1) := dk_29 (dk_at dksX2_sell_0 7 rfl rfl)
theorem dX2_sell_8 : decode cX2_sell 8 = .ok (.ifCond .ne 7, 3) := dk_154 0 7 (dk_at dksX2_sell_0 8 rfl rfl)
theorem dX2_sell_11 : decode cX2_sell 11 = .ok (.iconst 1, 1) := dk_4 (dk_at dksX2_sell_0 11 rfl rfl)
theorem dX2_sell_12 : decode cX2_sell 12 = .ok (.goto 42, 3) := dk_167 0 42 (dk_at dksX2_sell_0 12 rfl rfl)
theorem dX2_sell_15 : decode cX2_sell 15 = .ok (.iload_n 2, 1) := dk_28 (dk_at dksX2_sell_0 15 rfl rfl)
theorem dX2_sell_16 : decode cX2_sell 16 = .ok (.iconst 1, 1) := dk_4 (dk_at dksX2_sell_0 16 rfl rfl)
theorem dX2_sell_17 : decode cX2_sell 17 = .ok (.sipush 9999, 3) := dk_17 39 15 (dk_at dksX2_sell_0 17 rfl rfl)
theorem dX2_sell_20 : decode cX2_sell 20 = .ok (.invokestatic 108, 3) := dk_184 0 108 (dk_at dksX2_sell_0 20 rfl rfl)
theorem dX2_sell_23 : decode cX2_sell 23 = .ok (.ifCond .ne 7, 3) := dk_154 0 7 (dk_at dksX2_sell_1 0 rfl rfl)
theorem dX2_sell_26 : decode cX2_sell 26 = .ok (.iconst 2, 1) := dk_5 (dk_at dksX2_sell_1 3 rfl rfl)
theorem dX2_sell_27 : decode cX2_sell 27 = .ok (.goto 27, 3) := dk_167 0 27 (dk_at dksX2_sell_1 4 rfl rfl)
theorem dX2_sell_30 : decode cX2_sell 30 = .ok (.aload_n 0, 1) := dk_42 (dk_at dksX2_sell_1 7 rfl rfl)
theorem dX2_sell_31 : decode cX2_sell 31 = .ok (.iload_n 1, 1) := dk_27 (dk_at dksX2_sell_1 8 rfl rfl)
theorem dX2_sell_32 : decode cX2_sell 32 = .ok (.invokevirtual 191, 3) := dk_182 0 191 (dk_at dksX2_sell_1 9 rfl rfl)
theorem dX2_sell_35 : decode cX2_sell 35 = .ok (.ifCond .eq 14, 3) := dk_153 0 14 (dk_at dksX2_sell_1 12 rfl rfl)
theorem dX2_sell_38 : decode cX2_sell 38 = .ok (.aload_n 0, 1) := dk_42 (dk_at dksX2_sell_1 15 rfl rfl)
theorem dX2_sell_39 : decode cX2_sell 39 = .ok (.getfield 29, 3) := dk_180 0 29 (dk_at dksX2_sell_1 16 rfl rfl)
theorem dX2_sell_42 : decode cX2_sell 42 = .ok (.iload_n 1, 1) := dk_27 (dk_at dksX2_sell_1 19 rfl rfl)
theorem dX2_sell_43 : decode cX2_sell 43 = .ok (.iaload, 1) := dk_46 (dk_at dksX2_sell_1 20 rfl rfl)
theorem dX2_sell_44 : decode cX2_sell 44 = .ok (.bipush 7, 2) := dk_16 7 (dk_at dksX2_sell_1 21 rfl rfl)
theorem dX2_sell_46 : decode cX2_sell 46 = .ok (.if_icmp .ne 7, 3) := dk_160 0 7 (dk_at dksX2_sell_2 0 rfl rfl)
theorem dX2_sell_49 : decode cX2_sell 49 = .ok (.iconst 3, 1) := dk_6 (dk_at dksX2_sell_2 3 rfl rfl)
theorem dX2_sell_50 : decode cX2_sell 50 = .ok (.goto 4, 3) := dk_167 0 4 (dk_at dksX2_sell_2 4 rfl rfl)
theorem dX2_sell_53 : decode cX2_sell 53 = .ok (.iconst 0, 1) := dk_3 (dk_at dksX2_sell_2 7 rfl rfl)
theorem dX2_sell_54 : decode cX2_sell 54 = .ok (.invokevirtual 123, 3) := dk_182 0 123 (dk_at dksX2_sell_2 8 rfl rfl)
theorem dX2_sell_57 : decode cX2_sell 57 = .ok (.ifCond .ne 5, 3) := dk_154 0 5 (dk_at dksX2_sell_2 11 rfl rfl)
theorem dX2_sell_60 : decode cX2_sell 60 = .ok (.iconst 0, 1) := dk_3 (dk_at dksX2_sell_2 14 rfl rfl)
theorem dX2_sell_61 : decode cX2_sell 61 = .ok (.ireturn, 1) := dk_172 (dk_at dksX2_sell_2 15 rfl rfl)
theorem dX2_sell_62 : decode cX2_sell 62 = .ok (.aload_n 0, 1) := dk_42 (dk_at dksX2_sell_2 16 rfl rfl)
theorem dX2_sell_63 : decode cX2_sell 63 = .ok (.getfield 47, 3) := dk_180 0 47 (dk_at dksX2_sell_2 17 rfl rfl)
theorem dX2_sell_66 : decode cX2_sell 66 = .ok (.iload_n 1, 1) := dk_27 (dk_at dksX2_sell_2 20 rfl rfl)
theorem dX2_sell_67 : decode cX2_sell 67 = .ok (.iconst 4, 1) := dk_7 (dk_at dksX2_sell_2 21 rfl rfl)
theorem dX2_sell_68 : decode cX2_sell 68 = .ok (.iastore, 1) := dk_79 (dk_at dksX2_sell_2 22 rfl rfl)
theorem dX2_sell_69 : decode cX2_sell 69 = .ok (.aload_n 0, 1) := dk_42 (dk_at dksX2_sell_2 23 rfl rfl)
theorem dX2_sell_70 : decode cX2_sell 70 = .ok (.getfield 63, 3) := dk_180 0 63 (dk_at dksX2_sell_3 0 rfl rfl)
theorem dX2_sell_73 : decode cX2_sell 73 = .ok (.iload_n 1, 1) := dk_27 (dk_at dksX2_sell_3 3 rfl rfl)
theorem dX2_sell_74 : decode cX2_sell 74 = .ok (.iload_n 2, 1) := dk_28 (dk_at dksX2_sell_3 4 rfl rfl)
theorem dX2_sell_75 : decode cX2_sell 75 = .ok (.iastore, 1) := dk_79 (dk_at dksX2_sell_3 5 rfl rfl)
theorem dX2_sell_76 : decode cX2_sell 76 = .ok (.aload_n 0, 1) := dk_42 (dk_at dksX2_sell_3 6 rfl rfl)
theorem dX2_sell_77 : decode cX2_sell 77 = .ok (.getfield 66, 3) := dk_180 0 66 (dk_at dksX2_sell_3 7 rfl rfl)
theorem dX2_sell_80 : decode cX2_sell 80 = .ok (.iload_n 1, 1) := dk_27 (dk_at dksX2_sell_3 10 rfl rfl)
theorem dX2_sell_81 : decode cX2_sell 81 = .ok (.aload_n 0, 1) := dk_42 (dk_at dksX2_sell_3 11 rfl rfl)
theorem dX2_sell_82 : decode cX2_sell 82 = .ok (.getfield 136, 3) := dk_180 0 136 (dk_at dksX2_sell_3 12 rfl rfl)
theorem dX2_sell_85 : decode cX2_sell 85 = .ok (.iastore, 1) := dk_79 (dk_at dksX2_sell_3 15 rfl rfl)
theorem dX2_sell_86 : decode cX2_sell 86 = .ok (.aload_n 0, 1) := dk_42 (dk_at dksX2_sell_3 16 rfl rfl)
theorem dX2_sell_87 : decode cX2_sell 87 = .ok (.dup, 1) := dk_89 (dk_at dksX2_sell_3 17 rfl rfl)
theorem dX2_sell_88 : decode cX2_sell 88 = .ok (.getfield 194, 3) := dk_180 0 194 (dk_at dksX2_sell_3 18 rfl rfl)
theorem dX2_sell_91 : decode cX2_sell 91 = .ok (.iload_n 2, 1) := dk_28 (dk_at dksX2_sell_3 21 rfl rfl)
theorem dX2_sell_92 : decode cX2_sell 92 = .ok (.iadd, 1) := dk_96 (dk_at dksX2_sell_3 22 rfl rfl)
theorem dX2_sell_93 : decode cX2_sell 93 = .ok (.putfield 194, 3) := dk_181 0 194 (dk_at dksX2_sell_4 0 rfl rfl)
theorem dX2_sell_96 : decode cX2_sell 96 = .ok (.aload_n 0, 1) := dk_42 (dk_at dksX2_sell_4 3 rfl rfl)
theorem dX2_sell_97 : decode cX2_sell 97 = .ok (.getfield 194, 3) := dk_180 0 194 (dk_at dksX2_sell_4 4 rfl rfl)
theorem dX2_sell_100 : decode cX2_sell 100 = .ok (.ireturn, 1) := dk_172 (dk_at dksX2_sell_4 7 rfl rfl)
abbrev cX2_isOver : ByteArray := prog_6_method_39_code
def yX2_isOver : MethodName := ⟨RX2, "isOver", "(I)Z"⟩
def dkwX2_isOver_3 : List UInt8 := [167, 255, 226, 28, 172]
abbrev dktX2_isOver_3 : List UInt8 := dkwX2_isOver_3 ++ []
def dkwX2_isOver_2 : List UInt8 := [28, 153, 0, 16, 42, 27, 29, 182, 0, 176, 154, 0, 7, 4, 167, 0, 4, 3, 61, 132, 3, 1]
abbrev dktX2_isOver_2 : List UInt8 := dkwX2_isOver_2 ++ dktX2_isOver_3
def dkwX2_isOver_1 : List UInt8 := [180, 0, 59, 27, 51, 154, 0, 7, 4, 167, 0, 4, 3, 61, 3, 62, 29, 42, 180, 0, 116, 162, 0, 28]
abbrev dktX2_isOver_1 : List UInt8 := dkwX2_isOver_1 ++ dktX2_isOver_2
def dkwX2_isOver_0 : List UInt8 := [42, 180, 0, 47, 27, 46, 154, 0, 29, 42, 180, 0, 56, 27, 46, 42, 180, 0, 136, 162, 0, 16, 42]
abbrev dktX2_isOver_0 : List UInt8 := dkwX2_isOver_0 ++ dktX2_isOver_1
theorem dksX2_isOver_0 : cX2_isOver.data.toList.drop 0 = dktX2_isOver_0 := by decide +kernel
theorem dksX2_isOver_1 : cX2_isOver.data.toList.drop 23 = dktX2_isOver_1 := dk_seg dksX2_isOver_0 23 rfl rfl
theorem dksX2_isOver_2 : cX2_isOver.data.toList.drop 47 = dktX2_isOver_2 := dk_seg dksX2_isOver_1 24 rfl rfl
theorem dksX2_isOver_3 : cX2_isOver.data.toList.drop 69 = dktX2_isOver_3 := dk_seg dksX2_isOver_2 22 rfl rfl
theorem dX2_isOver_0 : decode cX2_isOver 0 = .ok (.aload_n 0, 1) := dk_42 (dk_at dksX2_isOver_0 0 rfl rfl)
theorem dX2_isOver_1 : decode cX2_isOver 1 = .ok (.getfield 47, 3) := dk_180 0 47 (dk_at dksX2_isOver_0 1 rfl rfl)
theorem dX2_isOver_4 : decode cX2_isOver 4 = .ok (.iload_n 1, 1) := dk_27 (dk_at dksX2_isOver_0 4 rfl rfl)
theorem dX2_isOver_5 : decode cX2_isOver 5 = .ok (.iaload, 1) := dk_46 (dk_at dksX2_isOver_0 5 rfl rfl)
theorem dX2_isOver_6 : decode cX2_isOver 6 = .ok (.ifCond .ne 29, 3) := dk_154 0 29 (dk_at dksX2_isOver_0 6 rfl rfl)
theorem dX2_isOver_9 : decode cX2_isOver 9 = .ok (.aload_n 0, 1) := dk_42 (dk_at dksX2_isOver_0 9 rfl rfl)
theorem dX2_isOver_10 : decode cX2_isOver 10 = .ok (.getfield 56, 3) := dk_180 0 56 (dk_at dksX2_isOver_0 10 rfl rfl)
theorem dX2_isOver_13 : decode cX2_isOver 13 = .ok (.iload_n 1, 1) := dk_27 (dk_at dksX2_isOver_0 13 rfl rfl)
theorem dX2_isOver_14 : decode cX2_isOver 14 = .ok (.iaload, 1) := dk_46 (dk_at dksX2_isOver_0 14 rfl rfl)
theorem dX2_isOver_15 : decode cX2_isOver 15 = .ok (.aload_n 0, 1) := dk_42 (dk_at dksX2_isOver_0 15 rfl rfl)
theorem dX2_isOver_16 : decode cX2_isOver 16 = .ok (.getfield 136, 3) := dk_180 0 136 (dk_at dksX2_isOver_0 16 rfl rfl)
theorem dX2_isOver_19 : decode cX2_isOver 19 = .ok (.if_icmp .ge 16, 3) := dk_162 0 16 (dk_at dksX2_isOver_0 19 rfl rfl)
theorem dX2_isOver_22 : decode cX2_isOver 22 = .ok (.aload_n 0, 1) := dk_42 (dk_at dksX2_isOver_0 22 rfl rfl)
theorem dX2_isOver_23 : decode cX2_isOver 23 = .ok (.getfield 59, 3) := dk_180 0 59 (dk_at dksX2_isOver_1 0 rfl rfl)
theorem dX2_isOver_26 : decode cX2_isOver 26 = .ok (.iload_n 1, 1) := dk_27 (dk_at dksX2_isOver_1 3 rfl rfl)
theorem dX2_isOver_27 : decode cX2_isOver 27 = .ok (.baload, 1) := dk_51 (dk_at dksX2_isOver_1 4 rfl rfl)
theorem dX2_isOver_28 : decode cX2_isOver 28 = .ok (.ifCond .ne 7, 3) := dk_154 0 7 (dk_at dksX2_isOver_1 5 rfl rfl)
theorem dX2_isOver_31 : decode cX2_isOver 31 = .ok (.iconst 1, 1) := dk_4 (dk_at dksX2_isOver_1 8 rfl rfl)
theorem dX2_isOver_32 : decode cX2_isOver 32 = .ok (.goto 4, 3) := dk_167 0 4 (dk_at dksX2_isOver_1 9 rfl rfl)
theorem dX2_isOver_35 : decode cX2_isOver 35 = .ok (.iconst 0, 1) := dk_3 (dk_at dksX2_isOver_1 12 rfl rfl)
theorem dX2_isOver_36 : decode cX2_isOver 36 = .ok (.istore_n 2, 1) := dk_61 (dk_at dksX2_isOver_1 13 rfl rfl)
theorem dX2_isOver_37 : decode cX2_isOver 37 = .ok (.iconst 0, 1) := dk_3 (dk_at dksX2_isOver_1 14 rfl rfl)
theorem dX2_isOver_38 : decode cX2_isOver 38 = .ok (.istore_n 3, 1) := dk_62 (dk_at dksX2_isOver_1 15 rfl rfl)
theorem dX2_isOver_39 : decode cX2_isOver 39 = .ok (.iload_n 3, 1) := dk_29 (dk_at dksX2_isOver_1 16 rfl rfl)
theorem dX2_isOver_40 : decode cX2_isOver 40 = .ok (.aload_n 0, 1) := dk_42 (dk_at dksX2_isOver_1 17 rfl rfl)
theorem dX2_isOver_41 : decode cX2_isOver 41 = .ok (.getfield 116, 3) := dk_180 0 116 (dk_at dksX2_isOver_1 18 rfl rfl)
theorem dX2_isOver_44 : decode cX2_isOver 44 = .ok (.if_icmp .ge 28, 3) := dk_162 0 28 (dk_at dksX2_isOver_1 21 rfl rfl)
theorem dX2_isOver_47 : decode cX2_isOver 47 = .ok (.iload_n 2, 1) := dk_28 (dk_at dksX2_isOver_2 0 rfl rfl)
theorem dX2_isOver_48 : decode cX2_isOver 48 = .ok (.ifCond .eq 16, 3) := dk_153 0 16 (dk_at dksX2_isOver_2 1 rfl rfl)
theorem dX2_isOver_51 : decode cX2_isOver 51 = .ok (.aload_n 0, 1) := dk_42 (dk_at dksX2_isOver_2 4 rfl rfl)
theorem dX2_isOver_52 : decode cX2_isOver 52 = .ok (.iload_n 1, 1) := dk_27 (dk_at dksX2_isOver_2 5 rfl rfl)
theorem dX2_isOver_53 : decode cX2_isOver 53 = .ok (.iload_n 3, 1) := dk_29 (dk_at dksX2_isOver_2 6 rfl rfl)
theorem dX2_isOver_54 : decode cX2_isOver 54 = .ok (.invokevirtual 176, 3) := dk_182 0 176 (dk_at dksX2_isOver_2 7 rfl rfl)
theorem dX2_isOver_57 : decode cX2_isOver 57 = .ok (.ifCond .ne 7, 3) := dk_154 0 7 (dk_at dksX2_isOver_2 10 rfl rfl)
theorem dX2_isOver_60 : decode cX2_isOver 60 = .ok (.iconst 1, 1) := dk_4 (dk_at dksX2_isOver_2 13 rfl rfl)
theorem dX2_isOver_61 : decode cX2_isOver 61 = .ok (.goto 4, 3) := dk_167 0 4 (dk_at dksX2_isOver_2 14 rfl rfl)
theorem dX2_isOver_64 : decode cX2_isOver 64 = .ok (.iconst 0, 1) := dk_3 (dk_at dksX2_isOver_2 17 rfl rfl)
theorem dX2_isOver_65 : decode cX2_isOver 65 = .ok (.istore_n 2, 1) := dk_61 (dk_at dksX2_isOver_2 18 rfl rfl)
theorem dX2_isOver_66 : decode cX2_isOver 66 = .ok (.iinc 3 1, 3) := dk_132 3 1 (dk_at dksX2_isOver_2 19 rfl rfl)
theorem dX2_isOver_69 : decode cX2_isOver 69 = .ok (.goto (-30), 3) := dk_167 255 226 (dk_at dksX2_isOver_3 0 rfl rfl)
theorem dX2_isOver_72 : decode cX2_isOver 72 = .ok (.iload_n 2, 1) := dk_28 (dk_at dksX2_isOver_3 3 rfl rfl)
theorem dX2_isOver_73 : decode cX2_isOver 73 = .ok (.ireturn, 1) := dk_172 (dk_at dksX2_isOver_3 4 rfl rfl)
abbrev cX2_destroy : ByteArray := prog_6_method_42_code
def yX2_destroy : MethodName := ⟨RX2, "destroy", "(I)I"⟩
def dkwX2_destroy_2 : List UInt8 := [46, 172]
abbrev dktX2_destroy_2 : List UInt8 := dkwX2_destroy_2 ++ []
def dkwX2_destroy_1 : List UInt8 := [167, 0, 4, 5, 182, 0, 123, 154, 0, 5, 3, 172, 42, 180, 0, 47, 27, 8, 79, 42, 180, 0, 50, 27]
abbrev dktX2_destroy_1 : List UInt8 := dkwX2_destroy_1 ++ dktX2_destroy_2
def dkwX2_destroy_0 : List UInt8 := [42, 27, 182, 0, 149, 61, 42, 28, 154, 0, 7, 4, 167, 0, 16, 42, 27, 182, 0, 191, 153, 0, 7, 3]
abbrev dktX2_destroy_0 : List UInt8 := dkwX2_destroy_0 ++ dktX2_destroy_1
theorem dksX2_destroy_0 : cX2_destroy.data.toList.drop 0 = dktX2_destroy_0 := by decide +kernel
theorem dksX2_destroy_1 : cX2_destroy.data.toList.drop 24 = dktX2_destroy_1 := dk_seg dksX2_destroy_0 24 rfl rfl
theorem dksX2_destroy_2 : cX2_destroy.data.toList.drop 48 = dktX2_destroy_2 := dk_seg dksX2_destroy_1 24 rfl rfl
theorem dX2_destroy_0 : decode cX2_destroy 0 = .ok (.aload_n 0, 1) := dk_42 (dk_at dksX2_destroy_0 0 rfl rfl)
theorem dX2_destroy_1 : decode cX2_destroy 1 = .ok (.iload_n 1, 1) := dk_27 (dk_at dksX2_destroy_0 1 rfl rfl)
theorem dX2_destroy_2 : decode cX2_destroy 2 = .ok (.invokevirtual 149, 3) := dk_182 0 149 (dk_at dksX2_destroy_0 2 rfl rfl)
theorem dX2_destroy_5 : decode cX2_destroy 5 = .ok (.istore_n 2, 1) := dk_61 (dk_at dksX2_destroy_0 5 rfl rfl)
theorem dX2_destroy_6 : decode cX2_destroy 6 = .ok (.aload_n 0, 1) := dk_42 (dk_at dksX2_destroy_0 6 rfl rfl)
theorem dX2_destroy_7 : decode cX2_destroy 7 = .ok (.iload_n 2, 1) := dk_28 (dk_at dksX2_destroy_0 7 rfl rfl)
theorem dX2_destroy_8 : decode cX2_destroy 8 = .ok (.ifCond .ne 7, 3) := dk_154 0 7 (dk_at dksX2_destroy_0 8 rfl rfl)
theorem dX2_destroy_11 : decode cX2_destroy 11 = .ok (.iconst 1, 1) := dk_4 (dk_at dksX2_destroy_0 11 rfl rfl)
theorem dX2_destroy_12 : decode cX2_destroy 12 = .ok (.goto 16, 3) := dk_167 0 16 (dk_at dksX2_destroy_0 12 rfl rfl)
theorem dX2_destroy_15 : decode cX2_destroy 15 = .ok (.aload_n 0, 1) := dk_42 (dk_at dksX2_destroy_0 15 rfl rfl)
theorem dX2_destroy_16 : decode cX2_destroy 16 = .ok (.iload_n 1, 1) := dk_27 (dk_at dksX2_destroy_0 16 rfl rfl)
theorem dX2_destroy_17 : decode cX2_destroy 17 = .ok (.invokevirtual 191, 3) := dk_182 0 191 (dk_at dksX2_destroy_0 17 rfl rfl)
theorem dX2_destroy_20 : decode cX2_destroy 20 = .ok (.ifCond .eq 7, 3) := dk_153 0 7 (dk_at dksX2_destroy_0 20 rfl rfl)
theorem dX2_destroy_23 : decode cX2_destroy 23 = .ok (.iconst 0, 1) := dk_3 (dk_at dksX2_destroy_0 23 rfl rfl)
theorem dX2_destroy_24 : decode cX2_destroy 24 = .ok (.goto 4, 3) := dk_167 0 4 (dk_at dksX2_destroy_1 0 rfl rfl)
theorem dX2_destroy_27 : decode cX2_destroy 27 = .ok (.iconst 2, 1) := dk_5 (dk_at dksX2_destroy_1 3 rfl rfl)
theorem dX2_destroy_28 : decode cX2_destroy 28 = .ok (.invokevirtual 123, 3) := dk_182 0 123 (dk_at dksX2_destroy_1 4 rfl rfl)
theorem dX2_destroy_31 : decode cX2_destroy 31 = .ok (.ifCond .ne 5, 3) := dk_154 0 5 (dk_at dksX2_destroy_1 7 rfl rfl)
theorem dX2_destroy_34 : decode cX2_destroy 34 = .ok (.iconst 0, 1) := dk_3 (dk_at dksX2_destroy_1 10 rfl rfl)
theorem dX2_destroy_35 : decode cX2_destroy 35 = .ok (.ireturn, 1) := dk_172 (dk_at dksX2_destroy_1 11 rfl rfl)
theorem dX2_destroy_36 : decode cX2_destroy 36 = .ok (.aload_n 0, 1) := dk_42 (dk_at dksX2_destroy_1 12 rfl rfl)
theorem dX2_destroy_37 : decode cX2_destroy 37 = .ok (.getfield 47, 3) := dk_180 0 47 (dk_at dksX2_destroy_1 13 rfl rfl)
theorem dX2_destroy_40 : decode cX2_destroy 40 = .ok (.iload_n 1, 1) := dk_27 (dk_at dksX2_destroy_1 16 rfl rfl)
theorem dX2_destroy_41 : decode cX2_destroy 41 = .ok (.iconst 5, 1) := dk_8 (dk_at dksX2_destroy_1 17 rfl rfl)
theorem dX2_destroy_42 : decode cX2_destroy 42 = .ok (.iastore, 1) := dk_79 (dk_at dksX2_destroy_1 18 rfl rfl)
theorem dX2_destroy_43 : decode cX2_destroy 43 = .ok (.aload_n 0, 1) := dk_42 (dk_at dksX2_destroy_1 19 rfl rfl)
theorem dX2_destroy_44 : decode cX2_destroy 44 = .ok (.getfield 50, 3) := dk_180 0 50 (dk_at dksX2_destroy_1 20 rfl rfl)
theorem dX2_destroy_47 : decode cX2_destroy 47 = .ok (.iload_n 1, 1) := dk_27 (dk_at dksX2_destroy_1 23 rfl rfl)
theorem dX2_destroy_48 : decode cX2_destroy 48 = .ok (.iaload, 1) := dk_46 (dk_at dksX2_destroy_2 0 rfl rfl)
theorem dX2_destroy_49 : decode cX2_destroy 49 = .ok (.ireturn, 1) := dk_172 (dk_at dksX2_destroy_2 1 rfl rfl)
abbrev cX2_payOut : ByteArray := prog_6_method_43_code
def yX2_payOut : MethodName := ⟨RX2, "payOut", "(II)I"⟩
def dkwX2_payOut_6 : List UInt8 := [27, 182, 0, 162, 42, 180, 0, 63, 27, 46, 21, 4, 100, 172]
abbrev dktX2_payOut_6 : List UInt8 := dkwX2_payOut_6 ++ []
def dkwX2_payOut_5 : List UInt8 := [180, 0, 194, 42, 180, 0, 63, 27, 46, 100, 181, 0, 194, 42, 180, 0, 47, 27, 16, 6, 79, 42, 28, 4]
abbrev dktX2_payOut_5 : List UInt8 := dkwX2_payOut_5 ++ dktX2_payOut_6
def dkwX2_payOut_4 : List UInt8 := [180, 0, 63, 27, 46, 167, 0, 4, 8, 54, 4, 42, 89, 180, 0, 185, 21, 4, 96, 181, 0, 185, 42, 89]
abbrev dktX2_payOut_4 : List UInt8 := dkwX2_payOut_4 ++ dktX2_payOut_5
def dkwX2_payOut_3 : List UInt8 := [167, 0, 4, 3, 182, 0, 123, 154, 0, 5, 3, 172, 42, 180, 0, 63, 27, 46, 8, 162, 0, 12, 42]
abbrev dktX2_payOut_3 : List UInt8 := dkwX2_payOut_3 ++ dktX2_payOut_4
def dkwX2_payOut_2 : List UInt8 := [180, 0, 66, 27, 46, 100, 17, 1, 109, 163, 0, 12, 42, 27, 28, 182, 0, 182, 154, 0, 7, 5]
abbrev dktX2_payOut_2 : List UInt8 := dkwX2_payOut_2 ++ dktX2_payOut_3
def dkwX2_payOut_1 : List UInt8 := [154, 0, 7, 4, 167, 0, 44, 42, 180, 0, 47, 27, 46, 7, 160, 0, 29, 42, 180, 0, 136, 42]
abbrev dktX2_payOut_1 : List UInt8 := dkwX2_payOut_1 ++ dktX2_payOut_2
def dkwX2_payOut_0 : List UInt8 := [42, 27, 182, 0, 149, 153, 0, 15, 42, 28, 182, 0, 155, 153, 0, 7, 4, 167, 0, 4, 3, 62, 42, 29]
abbrev dktX2_payOut_0 : List UInt8 := dkwX2_payOut_0 ++ dktX2_payOut_1
theorem dksX2_payOut_0 : cX2_payOut.data.toList.drop 0 = dktX2_payOut_0 := by decide +kernel
theorem dksX2_payOut_1 : cX2_payOut.data.toList.drop 24 = dktX2_payOut_1 := dk_seg dksX2_payOut_0 24 rfl rfl
theorem dksX2_payOut_2 : cX2_payOut.data.toList.drop 46 = dktX2_payOut_2 := dk_seg dksX2_payOut_1 22 rfl rfl
theorem dksX2_payOut_3 : cX2_payOut.data.toList.drop 68 = dktX2_payOut_3 := dk_seg dksX2_payOut_2 22 rfl rfl
theorem dksX2_payOut_4 : cX2_payOut.data.toList.drop 91 = dktX2_payOut_4 := dk_seg dksX2_payOut_3 23 rfl rfl
theorem dksX2_payOut_5 : cX2_payOut.data.toList.drop 115 = dktX2_payOut_5 := dk_seg dksX2_payOut_4 24 rfl rfl
theorem dksX2_payOut_6 : cX2_payOut.data.toList.drop 139 = dktX2_payOut_6 := dk_seg dksX2_payOut_5 24 rfl rfl
theorem dX2_payOut_0 : decode cX2_payOut 0 = .ok (.aload_n 0, 1) := dk_42 (dk_at dksX2_payOut_0 0 rfl rfl)
theorem dX2_payOut_1 : decode cX2_payOut 1 = .ok (.iload_n 1, 1) := dk_27 (dk_at dksX2_payOut_0 1 rfl rfl)
theorem dX2_payOut_2 : decode cX2_payOut 2 = .ok (.invokevirtual 149, 3) := dk_182 0 149 (dk_at dksX2_payOut_0 2 rfl rfl)
theorem dX2_payOut_5 : decode cX2_payOut 5 = .ok (.ifCond .eq 15, 3) := dk_153 0 15 (dk_at dksX2_payOut_0 5 rfl rfl)
theorem dX2_payOut_8 : decode cX2_payOut 8 = .ok (.aload_n 0, 1) := dk_42 (dk_at dksX2_payOut_0 8 rfl rfl)
theorem dX2_payOut_9 : decode cX2_payOut 9 = .ok (.iload_n 2, 1) := dk_28 (dk_at dksX2_payOut_0 9 rfl rfl)
theorem dX2_payOut_10 : decode cX2_payOut 10 = .ok (.invokevirtual 155, 3) := dk_182 0 155 (dk_at dksX2_payOut_0 10 rfl rfl)
theorem dX2_payOut_13 : decode cX2_payOut 13 = .ok (.ifCond .eq 7, 3) := dk_153 0 7 (dk_at dksX2_payOut_0 13 rfl rfl)
theorem dX2_payOut_16 : decode cX2_payOut 16 = .ok (.iconst 1, 1) := dk_4 (dk_at dksX2_payOut_0 16 rfl rfl)
theorem dX2_payOut_17 : decode cX2_payOut 17 = .ok (.goto 4, 3) := dk_167 0 4 (dk_at dksX2_payOut_0 17 rfl rfl)
theorem dX2_payOut_20 : decode cX2_payOut 20 = .ok (.iconst 0, 1) := dk_3 (dk_at dksX2_payOut_0 20 rfl rfl)
theorem dX2_payOut_21 : decode cX2_payOut 21 = .ok (.istore_n 3, 1) := dk_62 (dk_at dksX2_payOut_0 21 rfl rfl)
theorem dX2_payOut_22 : decode cX2_payOut 22 = .ok (.aload_n 0, 1) := dk_42 (dk_at dksX2_payOut_0 22 rfl rfl)
theorem dX2_payOut_23 : decode cX2_payOut 23 = .ok (.iload_n 3, 1) := dk_29 (dk_at dksX2_payOut_0 23 rfl rfl)
theorem dX2_payOut_24 : decode cX2_payOut 24 = .ok (.ifCond .ne 7, 3) := dk_154 0 7 (dk_at dksX2_payOut_1 0 rfl rfl)
theorem dX2_payOut_27 : decode cX2_payOut 27 = .ok (.iconst 1, 1) := dk_4 (dk_at dksX2_payOut_1 3 rfl rfl)
theorem dX2_payOut_28 : decode cX2_payOut 28 = .ok (.goto 44, 3) := dk_167 0 44 (dk_at dksX2_payOut_1 4 rfl rfl)
theorem dX2_payOut_31 : decode cX2_payOut 31 = .ok (.aload_n 0, 1) := dk_42 (dk_at dksX2_payOut_1 7 rfl rfl)
theorem dX2_payOut_32 : decode cX2_payOut 32 = .ok (.getfield 47, 3) := dk_180 0 47 (dk_at dksX2_payOut_1 8 rfl rfl)
theorem dX2_payOut_35 : decode cX2_payOut 35 = .ok (.iload_n 1, 1) := dk_27 (dk_at dksX2_payOut_1 11 rfl rfl)
theorem dX2_payOut_36 : decode cX2_payOut 36 = .ok (.iaload, 1) := dk_46 (dk_at dksX2_payOut_1 12 rfl rfl)
theorem dX2_payOut_37 : decode cX2_payOut 37 = .ok (.iconst 4, 1) := dk_7 (dk_at dksX2_payOut_1 13 rfl rfl)
theorem dX2_payOut_38 : decode cX2_payOut 38 = .ok (.if_icmp .ne 29, 3) := dk_160 0 29 (dk_at dksX2_payOut_1 14 rfl rfl)
theorem dX2_payOut_41 : decode cX2_payOut 41 = .ok (.aload_n 0, 1) := dk_42 (dk_at dksX2_payOut_1 17 rfl rfl)
theorem dX2_payOut_42 : decode cX2_payOut 42 = .ok (.getfield 136, 3) := dk_180 0 136 (dk_at dksX2_payOut_1 18 rfl rfl)
theorem dX2_payOut_45 : decode cX2_payOut 45 = .ok (.aload_n 0, 1) := dk_42 (dk_at dksX2_payOut_1 21 rfl rfl)
theorem dX2_payOut_46 : decode cX2_payOut 46 = .ok (.getfield 66, 3) := dk_180 0 66 (dk_at dksX2_payOut_2 0 rfl rfl)
theorem dX2_payOut_49 : decode cX2_payOut 49 = .ok (.iload_n 1, 1) := dk_27 (dk_at dksX2_payOut_2 3 rfl rfl)
theorem dX2_payOut_50 : decode cX2_payOut 50 = .ok (.iaload, 1) := dk_46 (dk_at dksX2_payOut_2 4 rfl rfl)
theorem dX2_payOut_51 : decode cX2_payOut 51 = .ok (.isub, 1) := dk_100 (dk_at dksX2_payOut_2 5 rfl rfl)
theorem dX2_payOut_52 : decode cX2_payOut 52 = .ok (.sipush 365, 3) := dk_17 1 109 (dk_at dksX2_payOut_2 6 rfl rfl)
theorem dX2_payOut_55 : decode cX2_payOut 55 = .ok (.if_icmp .gt 12, 3) := dk_163 0 12 (dk_at dksX2_payOut_2 9 rfl rfl)
theorem dX2_payOut_58 : decode cX2_payOut 58 = .ok (.aload_n 0, 1) := dk_42 (dk_at dksX2_payOut_2 12 rfl rfl)
theorem dX2_payOut_59 : decode cX2_payOut 59 = .ok (.iload_n 1, 1) := dk_27 (dk_at dksX2_payOut_2 13 rfl rfl)
theorem dX2_payOut_60 : decode cX2_payOut 60 = .ok (.iload_n 2, 1) := dk_28 (dk_at dksX2_payOut_2 14 rfl rfl)
theorem dX2_payOut_61 : decode cX2_payOut 61 = .ok (.invokevirtual 182, 3) := dk_182 0 182 (dk_at dksX2_payOut_2 15 rfl rfl)
theorem dX2_payOut_64 : decode cX2_payOut 64 = .ok (.ifCond .ne 7, 3) := dk_154 0 7 (dk_at dksX2_payOut_2 18 rfl rfl)
theorem dX2_payOut_67 : decode cX2_payOut 67 = .ok (.iconst 2, 1) := dk_5 (dk_at dksX2_payOut_2 21 rfl rfl)
theorem dX2_payOut_68 : decode cX2_payOut 68 = .ok (.goto 4, 3) := dk_167 0 4 (dk_at dksX2_payOut_3 0 rfl rfl)
theorem dX2_payOut_71 : decode cX2_payOut 71 = .ok (.iconst 0, 1) := dk_3 (dk_at dksX2_payOut_3 3 rfl rfl)
theorem dX2_payOut_72 : decode cX2_payOut 72 = .ok (.invokevirtual 123, 3) := dk_182 0 123 (dk_at dksX2_payOut_3 4 rfl rfl)
theorem dX2_payOut_75 : decode cX2_payOut 75 = .ok (.ifCond .ne 5, 3) := dk_154 0 5 (dk_at dksX2_payOut_3 7 rfl rfl)
theorem dX2_payOut_78 : decode cX2_payOut 78 = .ok (.iconst 0, 1) := dk_3 (dk_at dksX2_payOut_3 10 rfl rfl)
theorem dX2_payOut_79 : decode cX2_payOut 79 = .ok (.ireturn, 1) := dk_172 (dk_at dksX2_payOut_3 11 rfl rfl)
theorem dX2_payOut_80 : decode cX2_payOut 80 = .ok (.aload_n 0, 1) := dk_42 (dk_at dksX2_payOut_3 12 rfl rfl)
theorem dX2_payOut_81 : decode cX2_payOut 81 = .ok (.getfield 63, 3) := dk_180 0 63 (dk_at dksX2_payOut_3 13 rfl rfl)
theorem dX2_payOut_84 : decode cX2_payOut 84 = .ok (.iload_n 1, 1) := dk_27 (dk_at dksX2_payOut_3 16 rfl rfl)
theorem dX2_payOut_85 : decode cX2_payOut 85 = .ok (.iaload, 1) := dk_46 (dk_at dksX2_payOut_3 17 rfl rfl)
theorem dX2_payOut_86 : decode cX2_payOut 86 = .ok (.iconst 5, 1) := dk_8 (dk_at dksX2_payOut_3 18 rfl rfl)
theorem dX2_payOut_87 : decode cX2_payOut 87 = .ok (.if_icmp .ge 12, 3) := dk_162 0 12 (dk_at dksX2_payOut_3 19 rfl rfl)
theorem dX2_payOut_90 : decode cX2_payOut 90 = .ok (.aload_n 0, 1) := dk_42 (dk_at dksX2_payOut_3 22 rfl rfl)
theorem dX2_payOut_91 : decode cX2_payOut 91 = .ok (.getfield 63, 3) := dk_180 0 63 (dk_at dksX2_payOut_4 0 rfl rfl)
theorem dX2_payOut_94 : decode cX2_payOut 94 = .ok (.iload_n 1, 1) := dk_27 (dk_at dksX2_payOut_4 3 rfl rfl)
theorem dX2_payOut_95 : decode cX2_payOut 95 = .ok (.iaload, 1) := dk_46 (dk_at dksX2_payOut_4 4 rfl rfl)
theorem dX2_payOut_96 : decode cX2_payOut 96 = .ok (.goto 4, 3) := dk_167 0 4 (dk_at dksX2_payOut_4 5 rfl rfl)
theorem dX2_payOut_99 : decode cX2_payOut 99 = .ok (.iconst 5, 1) := dk_8 (dk_at dksX2_payOut_4 8 rfl rfl)
theorem dX2_payOut_100 : decode cX2_payOut 100 = .ok (.istore 4, 2) := dk_54 4 (dk_at dksX2_payOut_4 9 rfl rfl)
theorem dX2_payOut_102 : decode cX2_payOut 102 = .ok (.aload_n 0, 1) := dk_42 (dk_at dksX2_payOut_4 11 rfl rfl)
theorem dX2_payOut_103 : decode cX2_payOut 103 = .ok (.dup, 1) := dk_89 (dk_at dksX2_payOut_4 12 rfl rfl)
theorem dX2_payOut_104 : decode cX2_payOut 104 = .ok (.getfield 185, 3) := dk_180 0 185 (dk_at dksX2_payOut_4 13 rfl rfl)
theorem dX2_payOut_107 : decode cX2_payOut 107 = .ok (.iload 4, 2) := dk_21 4 (dk_at dksX2_payOut_4 16 rfl rfl)
theorem dX2_payOut_109 : decode cX2_payOut 109 = .ok (.iadd, 1) := dk_96 (dk_at dksX2_payOut_4 18 rfl rfl)
theorem dX2_payOut_110 : decode cX2_payOut 110 = .ok (.putfield 185, 3) := dk_181 0 185 (dk_at dksX2_payOut_4 19 rfl rfl)
theorem dX2_payOut_113 : decode cX2_payOut 113 = .ok (.aload_n 0, 1) := dk_42 (dk_at dksX2_payOut_4 22 rfl rfl)
theorem dX2_payOut_114 : decode cX2_payOut 114 = .ok (.dup, 1) := dk_89 (dk_at dksX2_payOut_4 23 rfl rfl)
theorem dX2_payOut_115 : decode cX2_payOut 115 = .ok (.getfield 194, 3) := dk_180 0 194 (dk_at dksX2_payOut_5 0 rfl rfl)
theorem dX2_payOut_118 : decode cX2_payOut 118 = .ok (.aload_n 0, 1) := dk_42 (dk_at dksX2_payOut_5 3 rfl rfl)
theorem dX2_payOut_119 : decode cX2_payOut 119 = .ok (.getfield 63, 3) := dk_180 0 63 (dk_at dksX2_payOut_5 4 rfl rfl)
theorem dX2_payOut_122 : decode cX2_payOut 122 = .ok (.iload_n 1, 1) := dk_27 (dk_at dksX2_payOut_5 7 rfl rfl)
theorem dX2_payOut_123 : decode cX2_payOut 123 = .ok (.iaload, 1) := dk_46 (dk_at dksX2_payOut_5 8 rfl rfl)
theorem dX2_payOut_124 : decode cX2_payOut 124 = .ok (.isub, 1) := dk_100 (dk_at dksX2_payOut_5 9 rfl rfl)
theorem dX2_payOut_125 : decode cX2_payOut 125 = .ok (.putfield 194, 3) := dk_181 0 194 (dk_at dksX2_payOut_5 10 rfl rfl)
theorem dX2_payOut_128 : decode cX2_payOut 128 = .ok (.aload_n 0, 1) := dk_42 (dk_at dksX2_payOut_5 13 rfl rfl)
theorem dX2_payOut_129 : decode cX2_payOut 129 = .ok (.getfield 47, 3) := dk_180 0 47 (dk_at dksX2_payOut_5 14 rfl rfl)
theorem dX2_payOut_132 : decode cX2_payOut 132 = .ok (.iload_n 1, 1) := dk_27 (dk_at dksX2_payOut_5 17 rfl rfl)
theorem dX2_payOut_133 : decode cX2_payOut 133 = .ok (.bipush 6, 2) := dk_16 6 (dk_at dksX2_payOut_5 18 rfl rfl)
theorem dX2_payOut_135 : decode cX2_payOut 135 = .ok (.iastore, 1) := dk_79 (dk_at dksX2_payOut_5 20 rfl rfl)
theorem dX2_payOut_136 : decode cX2_payOut 136 = .ok (.aload_n 0, 1) := dk_42 (dk_at dksX2_payOut_5 21 rfl rfl)
theorem dX2_payOut_137 : decode cX2_payOut 137 = .ok (.iload_n 2, 1) := dk_28 (dk_at dksX2_payOut_5 22 rfl rfl)
theorem dX2_payOut_138 : decode cX2_payOut 138 = .ok (.iconst 1, 1) := dk_4 (dk_at dksX2_payOut_5 23 rfl rfl)
theorem dX2_payOut_139 : decode cX2_payOut 139 = .ok (.iload_n 1, 1) := dk_27 (dk_at dksX2_payOut_6 0 rfl rfl)
theorem dX2_payOut_140 : decode cX2_payOut 140 = .ok (.invokevirtual 162, 3) := dk_182 0 162 (dk_at dksX2_payOut_6 1 rfl rfl)
theorem dX2_payOut_143 : decode cX2_payOut 143 = .ok (.aload_n 0, 1) := dk_42 (dk_at dksX2_payOut_6 4 rfl rfl)
theorem dX2_payOut_144 : decode cX2_payOut 144 = .ok (.getfield 63, 3) := dk_180 0 63 (dk_at dksX2_payOut_6 5 rfl rfl)
theorem dX2_payOut_147 : decode cX2_payOut 147 = .ok (.iload_n 1, 1) := dk_27 (dk_at dksX2_payOut_6 8 rfl rfl)
theorem dX2_payOut_148 : decode cX2_payOut 148 = .ok (.iaload, 1) := dk_46 (dk_at dksX2_payOut_6 9 rfl rfl)
theorem dX2_payOut_149 : decode cX2_payOut 149 = .ok (.iload 4, 2) := dk_21 4 (dk_at dksX2_payOut_6 10 rfl rfl)
theorem dX2_payOut_151 : decode cX2_payOut 151 = .ok (.isub, 1) := dk_100 (dk_at dksX2_payOut_6 12 rfl rfl)
theorem dX2_payOut_152 : decode cX2_payOut 152 = .ok (.ireturn, 1) := dk_172 (dk_at dksX2_payOut_6 13 rfl rfl)
abbrev cX2_pass : ByteArray := prog_6_method_45_code
def yX2_pass : MethodName := ⟨RX2, "pass", "(I)I"⟩
def dkwX2_pass_2 : List UInt8 := [162, 0, 13, 42, 182, 0, 197, 132, 2, 1, 167, 255, 244, 42, 180, 0, 136, 172]
abbrev dktX2_pass_2 : List UInt8 := dkwX2_pass_2 ++ []
def dkwX2_pass_1 : List UInt8 := [17, 39, 15, 164, 0, 7, 5, 167, 0, 4, 3, 182, 0, 123, 154, 0, 5, 3, 172, 3, 61, 28, 27]
abbrev dktX2_pass_1 : List UInt8 := dkwX2_pass_1 ++ dktX2_pass_2
def dkwX2_pass_0 : List UInt8 := [42, 27, 4, 17, 1, 144, 184, 0, 108, 154, 0, 7, 4, 167, 0, 20, 42, 180, 0, 136, 27, 96]
abbrev dktX2_pass_0 : List UInt8 := dkwX2_pass_0 ++ dktX2_pass_1
theorem dksX2_pass_0 : cX2_pass.data.toList.drop 0 = dktX2_pass_0 := by decide +kernel
theorem dksX2_pass_1 : cX2_pass.data.toList.drop 22 = dktX2_pass_1 := dk_seg dksX2_pass_0 22 rfl rfl
theorem dksX2_pass_2 : cX2_pass.data.toList.drop 45 = dktX2_pass_2 := dk_seg dksX2_pass_1 23 rfl rfl
theorem dX2_pass_0 : decode cX2_pass 0 = .ok (.aload_n 0, 1) := dk_42 (dk_at dksX2_pass_0 0 rfl rfl)
theorem dX2_pass_1 : decode cX2_pass 1 = .ok (.iload_n 1, 1) := dk_27 (dk_at dksX2_pass_0 1 rfl rfl)
theorem dX2_pass_2 : decode cX2_pass 2 = .ok (.iconst 1, 1) := dk_4 (dk_at dksX2_pass_0 2 rfl rfl)
theorem dX2_pass_3 : decode cX2_pass 3 = .ok (.sipush 400, 3) := dk_17 1 144 (dk_at dksX2_pass_0 3 rfl rfl)
theorem dX2_pass_6 : decode cX2_pass 6 = .ok (.invokestatic 108, 3) := dk_184 0 108 (dk_at dksX2_pass_0 6 rfl rfl)
theorem dX2_pass_9 : decode cX2_pass 9 = .ok (.ifCond .ne 7, 3) := dk_154 0 7 (dk_at dksX2_pass_0 9 rfl rfl)
theorem dX2_pass_12 : decode cX2_pass 12 = .ok (.iconst 1, 1) := dk_4 (dk_at dksX2_pass_0 12 rfl rfl)
theorem dX2_pass_13 : decode cX2_pass 13 = .ok (.goto 20, 3) := dk_167 0 20 (dk_at dksX2_pass_0 13 rfl rfl)
theorem dX2_pass_16 : decode cX2_pass 16 = .ok (.aload_n 0, 1) := dk_42 (dk_at dksX2_pass_0 16 rfl rfl)
theorem dX2_pass_17 : decode cX2_pass 17 = .ok (.getfield 136, 3) := dk_180 0 136 (dk_at dksX2_pass_0 17 rfl rfl)
theorem dX2_pass_20 : decode cX2_pass 20 = .ok (.iload_n 1, 1) := dk_27 (dk_at dksX2_pass_0 20 rfl rfl)
theorem dX2_pass_21 : decode cX2_pass 21 = .ok (.iadd, 1) := dk_96 (dk_at dksX2_pass_0 21 rfl rfl)
theorem dX2_pass_22 : decode cX2_pass 22 = .ok (.sipush 9999, 3) := dk_17 39 15 (dk_at dksX2_pass_1 0 rfl rfl)
theorem dX2_pass_25 : decode cX2_pass 25 = .ok (.if_icmp .le 7, 3) := dk_164 0 7 (dk_at dksX2_pass_1 3 rfl rfl)
theorem dX2_pass_28 : decode cX2_pass 28 = .ok (.iconst 2, 1) := dk_5 (dk_at dksX2_pass_1 6 rfl rfl)
theorem dX2_pass_29 : decode cX2_pass 29 = .ok (.goto 4, 3) := dk_167 0 4 (dk_at dksX2_pass_1 7 rfl rfl)
theorem dX2_pass_32 : decode cX2_pass 32 = .ok (.iconst 0, 1) := dk_3 (dk_at dksX2_pass_1 10 rfl rfl)
theorem dX2_pass_33 : decode cX2_pass 33 = .ok (.invokevirtual 123, 3) := dk_182 0 123 (dk_at dksX2_pass_1 11 rfl rfl)
theorem dX2_pass_36 : decode cX2_pass 36 = .ok (.ifCond .ne 5, 3) := dk_154 0 5 (dk_at dksX2_pass_1 14 rfl rfl)
theorem dX2_pass_39 : decode cX2_pass 39 = .ok (.iconst 0, 1) := dk_3 (dk_at dksX2_pass_1 17 rfl rfl)
theorem dX2_pass_40 : decode cX2_pass 40 = .ok (.ireturn, 1) := dk_172 (dk_at dksX2_pass_1 18 rfl rfl)
theorem dX2_pass_41 : decode cX2_pass 41 = .ok (.iconst 0, 1) := dk_3 (dk_at dksX2_pass_1 19 rfl rfl)
theorem dX2_pass_42 : decode cX2_pass 42 = .ok (.istore_n 2, 1) := dk_61 (dk_at dksX2_pass_1 20 rfl rfl)
theorem dX2_pass_43 : decode cX2_pass 43 = .ok (.iload_n 2, 1) := dk_28 (dk_at dksX2_pass_1 21 rfl rfl)
theorem dX2_pass_44 : decode cX2_pass 44 = .ok (.iload_n 1, 1) := dk_27 (dk_at dksX2_pass_1 22 rfl rfl)
theorem dX2_pass_45 : decode cX2_pass 45 = .ok (.if_icmp .ge 13, 3) := dk_162 0 13 (dk_at dksX2_pass_2 0 rfl rfl)
theorem dX2_pass_48 : decode cX2_pass 48 = .ok (.aload_n 0, 1) := dk_42 (dk_at dksX2_pass_2 3 rfl rfl)
theorem dX2_pass_49 : decode cX2_pass 49 = .ok (.invokevirtual 197, 3) := dk_182 0 197 (dk_at dksX2_pass_2 4 rfl rfl)
theorem dX2_pass_52 : decode cX2_pass 52 = .ok (.iinc 2 1, 3) := dk_132 2 1 (dk_at dksX2_pass_2 7 rfl rfl)
theorem dX2_pass_55 : decode cX2_pass 55 = .ok (.goto (-12), 3) := dk_167 255 244 (dk_at dksX2_pass_2 10 rfl rfl)
theorem dX2_pass_58 : decode cX2_pass 58 = .ok (.aload_n 0, 1) := dk_42 (dk_at dksX2_pass_2 13 rfl rfl)
theorem dX2_pass_59 : decode cX2_pass 59 = .ok (.getfield 136, 3) := dk_180 0 136 (dk_at dksX2_pass_2 14 rfl rfl)
theorem dX2_pass_62 : decode cX2_pass 62 = .ok (.ireturn, 1) := dk_172 (dk_at dksX2_pass_2 17 rfl rfl)
abbrev cX2_begins : ByteArray := prog_6_method_44_code
def yX2_begins : MethodName := ⟨RX2, "begins", "()V"⟩
def dkwX2_begins_7 : List UInt8 := [167, 255, 143, 177]
abbrev dktX2_begins_7 : List UInt8 := dkwX2_begins_7 ++ []
def dkwX2_begins_6 : List UInt8 := [180, 0, 93, 27, 28, 153, 0, 7, 3, 167, 0, 9, 42, 180, 0, 93, 27, 46, 79, 132, 1, 1]
abbrev dktX2_begins_6 : List UInt8 := dkwX2_begins_6 ++ dktX2_begins_7
def dkwX2_begins_5 : List UInt8 := [79, 42, 180, 0, 90, 27, 28, 153, 0, 7, 3, 167, 0, 9, 42, 180, 0, 90, 27, 46, 79, 42]
abbrev dktX2_begins_5 : List UInt8 := dkwX2_begins_5 ++ dktX2_begins_6
def dkwX2_begins_4 : List UInt8 := [167, 0, 4, 3, 61, 42, 180, 0, 96, 27, 28, 153, 0, 7, 6, 167, 0, 9, 42, 180, 0, 96, 27, 46]
abbrev dktX2_begins_4 : List UInt8 := dkwX2_begins_4 ++ dktX2_begins_5
def dkwX2_begins_3 : List UInt8 := [46, 5, 160, 0, 23, 42, 180, 0, 136, 42, 180, 0, 99, 27, 46, 100, 16, 90, 161, 0, 7, 4]
abbrev dktX2_begins_3 : List UInt8 := dkwX2_begins_3 ++ dktX2_begins_4
def dkwX2_begins_2 : List UInt8 := [60, 27, 42, 180, 0, 116, 162, 0, 111, 42, 180, 0, 96, 27, 46, 4, 159, 0, 13, 42, 180, 0, 96, 27]
abbrev dktX2_begins_2 : List UInt8 := dkwX2_begins_2 ++ dktX2_begins_3
def dkwX2_begins_1 : List UInt8 := [27, 46, 4, 160, 0, 14, 42, 27, 42, 180, 0, 53, 27, 46, 182, 0, 145, 132, 1, 1, 167, 255, 224, 3]
abbrev dktX2_begins_1 : List UInt8 := dkwX2_begins_1 ++ dktX2_begins_2
def dkwX2_begins_0 : List UInt8 := [42, 89, 180, 0, 136, 4, 96, 181, 0, 136, 3, 60, 27, 42, 180, 0, 113, 162, 0, 30, 42, 180, 0, 47]
abbrev dktX2_begins_0 : List UInt8 := dkwX2_begins_0 ++ dktX2_begins_1
theorem dksX2_begins_0 : cX2_begins.data.toList.drop 0 = dktX2_begins_0 := by decide +kernel
theorem dksX2_begins_1 : cX2_begins.data.toList.drop 24 = dktX2_begins_1 := dk_seg dksX2_begins_0 24 rfl rfl
theorem dksX2_begins_2 : cX2_begins.data.toList.drop 48 = dktX2_begins_2 := dk_seg dksX2_begins_1 24 rfl rfl
theorem dksX2_begins_3 : cX2_begins.data.toList.drop 72 = dktX2_begins_3 := dk_seg dksX2_begins_2 24 rfl rfl
theorem dksX2_begins_4 : cX2_begins.data.toList.drop 94 = dktX2_begins_4 := dk_seg dksX2_begins_3 22 rfl rfl
theorem dksX2_begins_5 : cX2_begins.data.toList.drop 118 = dktX2_begins_5 := dk_seg dksX2_begins_4 24 rfl rfl
theorem dksX2_begins_6 : cX2_begins.data.toList.drop 140 = dktX2_begins_6 := dk_seg dksX2_begins_5 22 rfl rfl
theorem dksX2_begins_7 : cX2_begins.data.toList.drop 162 = dktX2_begins_7 := dk_seg dksX2_begins_6 22 rfl rfl
theorem dX2_begins_0 : decode cX2_begins 0 = .ok (.aload_n 0, 1) := dk_42 (dk_at dksX2_begins_0 0 rfl rfl)
theorem dX2_begins_1 : decode cX2_begins 1 = .ok (.dup, 1) := dk_89 (dk_at dksX2_begins_0 1 rfl rfl)
theorem dX2_begins_2 : decode cX2_begins 2 = .ok (.getfield 136, 3) := dk_180 0 136 (dk_at dksX2_begins_0 2 rfl rfl)
theorem dX2_begins_5 : decode cX2_begins 5 = .ok (.iconst 1, 1) := dk_4 (dk_at dksX2_begins_0 5 rfl rfl)
theorem dX2_begins_6 : decode cX2_begins 6 = .ok (.iadd, 1) := dk_96 (dk_at dksX2_begins_0 6 rfl rfl)
theorem dX2_begins_7 : decode cX2_begins 7 = .ok (.putfield 136, 3) := dk_181 0 136 (dk_at dksX2_begins_0 7 rfl rfl)
theorem dX2_begins_10 : decode cX2_begins 10 = .ok (.iconst 0, 1) := dk_3 (dk_at dksX2_begins_0 10 rfl rfl)
theorem dX2_begins_11 : decode cX2_begins 11 = .ok (.istore_n 1, 1) := dk_60 (dk_at dksX2_begins_0 11 rfl rfl)
theorem dX2_begins_12 : decode cX2_begins 12 = .ok (.iload_n 1, 1) := dk_27 (dk_at dksX2_begins_0 12 rfl rfl)
theorem dX2_begins_13 : decode cX2_begins 13 = .ok (.aload_n 0, 1) := dk_42 (dk_at dksX2_begins_0 13 rfl rfl)
theorem dX2_begins_14 : decode cX2_begins 14 = .ok (.getfield 113, 3) := dk_180 0 113 (dk_at dksX2_begins_0 14 rfl rfl)
theorem dX2_begins_17 : decode cX2_begins 17 = .ok (.if_icmp .ge 30, 3) := dk_162 0 30 (dk_at dksX2_begins_0 17 rfl rfl)
theorem dX2_begins_20 : decode cX2_begins 20 = .ok (.aload_n 0, 1) := dk_42 (dk_at dksX2_begins_0 20 rfl rfl)
theorem dX2_begins_21 : decode cX2_begins 21 = .ok (.getfield 47, 3) := dk_180 0 47 (dk_at dksX2_begins_0 21 rfl rfl)
theorem dX2_begins_24 : decode cX2_begins 24 = .ok (.iload_n 1, 1) := dk_27 (dk_at dksX2_begins_1 0 rfl rfl)
theorem dX2_begins_25 : decode cX2_begins 25 = .ok (.iaload, 1) := dk_46 (dk_at dksX2_begins_1 1 rfl rfl)
theorem dX2_begins_26 : decode cX2_begins 26 = .ok (.iconst 1, 1) := dk_4 (dk_at dksX2_begins_1 2 rfl rfl)
theorem dX2_begins_27 : decode cX2_begins 27 = .ok (.if_icmp .ne 14, 3) := dk_160 0 14 (dk_at dksX2_begins_1 3 rfl rfl)
theorem dX2_begins_30 : decode cX2_begins 30 = .ok (.aload_n 0, 1) := dk_42 (dk_at dksX2_begins_1 6 rfl rfl)
theorem dX2_begins_31 : decode cX2_begins 31 = .ok (.iload_n 1, 1) := dk_27 (dk_at dksX2_begins_1 7 rfl rfl)
theorem dX2_begins_32 : decode cX2_begins 32 = .ok (.aload_n 0, 1) := dk_42 (dk_at dksX2_begins_1 8 rfl rfl)
theorem dX2_begins_33 : decode cX2_begins 33 = .ok (.getfield 53, 3) := dk_180 0 53 (dk_at dksX2_begins_1 9 rfl rfl)
theorem dX2_begins_36 : decode cX2_begins 36 = .ok (.iload_n 1, 1) := dk_27 (dk_at dksX2_begins_1 12 rfl rfl)
theorem dX2_begins_37 : decode cX2_begins 37 = .ok (.iaload, 1) := dk_46 (dk_at dksX2_begins_1 13 rfl rfl)
theorem dX2_begins_38 : decode cX2_begins 38 = .ok (.invokevirtual 145, 3) := dk_182 0 145 (dk_at dksX2_begins_1 14 rfl rfl)
theorem dX2_begins_41 : decode cX2_begins 41 = .ok (.iinc 1 1, 3) := dk_132 1 1 (dk_at dksX2_begins_1 17 rfl rfl)
theorem dX2_begins_44 : decode cX2_begins 44 = .ok (.goto (-32), 3) := dk_167 255 224 (dk_at dksX2_begins_1 20 rfl rfl)
theorem dX2_begins_47 : decode cX2_begins 47 = .ok (.iconst 0, 1) := dk_3 (dk_at dksX2_begins_1 23 rfl rfl)
theorem dX2_begins_48 : decode cX2_begins 48 = .ok (.istore_n 1, 1) := dk_60 (dk_at dksX2_begins_2 0 rfl rfl)
theorem dX2_begins_49 : decode cX2_begins 49 = .ok (.iload_n 1, 1) := dk_27 (dk_at dksX2_begins_2 1 rfl rfl)
theorem dX2_begins_50 : decode cX2_begins 50 = .ok (.aload_n 0, 1) := dk_42 (dk_at dksX2_begins_2 2 rfl rfl)
theorem dX2_begins_51 : decode cX2_begins 51 = .ok (.getfield 116, 3) := dk_180 0 116 (dk_at dksX2_begins_2 3 rfl rfl)
theorem dX2_begins_54 : decode cX2_begins 54 = .ok (.if_icmp .ge 111, 3) := dk_162 0 111 (dk_at dksX2_begins_2 6 rfl rfl)
theorem dX2_begins_57 : decode cX2_begins 57 = .ok (.aload_n 0, 1) := dk_42 (dk_at dksX2_begins_2 9 rfl rfl)
theorem dX2_begins_58 : decode cX2_begins 58 = .ok (.getfield 96, 3) := dk_180 0 96 (dk_at dksX2_begins_2 10 rfl rfl)
theorem dX2_begins_61 : decode cX2_begins 61 = .ok (.iload_n 1, 1) := dk_27 (dk_at dksX2_begins_2 13 rfl rfl)
theorem dX2_begins_62 : decode cX2_begins 62 = .ok (.iaload, 1) := dk_46 (dk_at dksX2_begins_2 14 rfl rfl)
theorem dX2_begins_63 : decode cX2_begins 63 = .ok (.iconst 1, 1) := dk_4 (dk_at dksX2_begins_2 15 rfl rfl)
theorem dX2_begins_64 : decode cX2_begins 64 = .ok (.if_icmp .eq 13, 3) := dk_159 0 13 (dk_at dksX2_begins_2 16 rfl rfl)
theorem dX2_begins_67 : decode cX2_begins 67 = .ok (.aload_n 0, 1) := dk_42 (dk_at dksX2_begins_2 19 rfl rfl)
theorem dX2_begins_68 : decode cX2_begins 68 = .ok (.getfield 96, 3) := dk_180 0 96 (dk_at dksX2_begins_2 20 rfl rfl)
theorem dX2_begins_71 : decode cX2_begins 71 = .ok (.iload_n 1, 1) := dk_27 (dk_at dksX2_begins_2 23 rfl rfl)
theorem dX2_begins_72 : decode cX2_begins 72 = .ok (.iaload, 1) := dk_46 (dk_at dksX2_begins_3 0 rfl rfl)
theorem dX2_begins_73 : decode cX2_begins 73 = .ok (.iconst 2, 1) := dk_5 (dk_at dksX2_begins_3 1 rfl rfl)
theorem dX2_begins_74 : decode cX2_begins 74 = .ok (.if_icmp .ne 23, 3) := dk_160 0 23 (dk_at dksX2_begins_3 2 rfl rfl)
theorem dX2_begins_77 : decode cX2_begins 77 = .ok (.aload_n 0, 1) := dk_42 (dk_at dksX2_begins_3 5 rfl rfl)
theorem dX2_begins_78 : decode cX2_begins 78 = .ok (.getfield 136, 3) := dk_180 0 136 (dk_at dksX2_begins_3 6 rfl rfl)
theorem dX2_begins_81 : decode cX2_begins 81 = .ok (.aload_n 0, 1) := dk_42 (dk_at dksX2_begins_3 9 rfl rfl)
theorem dX2_begins_82 : decode cX2_begins 82 = .ok (.getfield 99, 3) := dk_180 0 99 (dk_at dksX2_begins_3 10 rfl rfl)
theorem dX2_begins_85 : decode cX2_begins 85 = .ok (.iload_n 1, 1) := dk_27 (dk_at dksX2_begins_3 13 rfl rfl)
theorem dX2_begins_86 : decode cX2_begins 86 = .ok (.iaload, 1) := dk_46 (dk_at dksX2_begins_3 14 rfl rfl)
theorem dX2_begins_87 : decode cX2_begins 87 = .ok (.isub, 1) := dk_100 (dk_at dksX2_begins_3 15 rfl rfl)
theorem dX2_begins_88 : decode cX2_begins 88 = .ok (.bipush 90, 2) := dk_16 90 (dk_at dksX2_begins_3 16 rfl rfl)
theorem dX2_begins_90 : decode cX2_begins 90 = .ok (.if_icmp .lt 7, 3) := dk_161 0 7 (dk_at dksX2_begins_3 18 rfl rfl)
theorem dX2_begins_93 : decode cX2_begins 93 = .ok (.iconst 1, 1) := dk_4 (dk_at dksX2_begins_3 21 rfl rfl)
theorem dX2_begins_94 : decode cX2_begins 94 = .ok (.goto 4, 3) := dk_167 0 4 (dk_at dksX2_begins_4 0 rfl rfl)
theorem dX2_begins_97 : decode cX2_begins 97 = .ok (.iconst 0, 1) := dk_3 (dk_at dksX2_begins_4 3 rfl rfl)
theorem dX2_begins_98 : decode cX2_begins 98 = .ok (.istore_n 2, 1) := dk_61 (dk_at dksX2_begins_4 4 rfl rfl)
theorem dX2_begins_99 : decode cX2_begins 99 = .ok (.aload_n 0, 1) := dk_42 (dk_at dksX2_begins_4 5 rfl rfl)
theorem dX2_begins_100 : decode cX2_begins 100 = .ok (.getfield 96, 3) := dk_180 0 96 (dk_at dksX2_begins_4 6 rfl rfl)
theorem dX2_begins_103 : decode cX2_begins 103 = .ok (.iload_n 1, 1) := dk_27 (dk_at dksX2_begins_4 9 rfl rfl)
theorem dX2_begins_104 : decode cX2_begins 104 = .ok (.iload_n 2, 1) := dk_28 (dk_at dksX2_begins_4 10 rfl rfl)
theorem dX2_begins_105 : decode cX2_begins 105 = .ok (.ifCond .eq 7, 3) := dk_153 0 7 (dk_at dksX2_begins_4 11 rfl rfl)
theorem dX2_begins_108 : decode cX2_begins 108 = .ok (.iconst 3, 1) := dk_6 (dk_at dksX2_begins_4 14 rfl rfl)
theorem dX2_begins_109 : decode cX2_begins 109 = .ok (.goto 9, 3) := dk_167 0 9 (dk_at dksX2_begins_4 15 rfl rfl)
theorem dX2_begins_112 : decode cX2_begins 112 = .ok (.aload_n 0, 1) := dk_42 (dk_at dksX2_begins_4 18 rfl rfl)
theorem dX2_begins_113 : decode cX2_begins 113 = .ok (.getfield 96, 3) := dk_180 0 96 (dk_at dksX2_begins_4 19 rfl rfl)
theorem dX2_begins_116 : decode cX2_begins 116 = .ok (.iload_n 1, 1) := dk_27 (dk_at dksX2_begins_4 22 rfl rfl)
theorem dX2_begins_117 : decode cX2_begins 117 = .ok (.iaload, 1) := dk_46 (dk_at dksX2_begins_4 23 rfl rfl)
theorem dX2_begins_118 : decode cX2_begins 118 = .ok (.iastore, 1) := dk_79 (dk_at dksX2_begins_5 0 rfl rfl)
theorem dX2_begins_119 : decode cX2_begins 119 = .ok (.aload_n 0, 1) := dk_42 (dk_at dksX2_begins_5 1 rfl rfl)
theorem dX2_begins_120 : decode cX2_begins 120 = .ok (.getfield 90, 3) := dk_180 0 90 (dk_at dksX2_begins_5 2 rfl rfl)
theorem dX2_begins_123 : decode cX2_begins 123 = .ok (.iload_n 1, 1) := dk_27 (dk_at dksX2_begins_5 5 rfl rfl)
theorem dX2_begins_124 : decode cX2_begins 124 = .ok (.iload_n 2, 1) := dk_28 (dk_at dksX2_begins_5 6 rfl rfl)
theorem dX2_begins_125 : decode cX2_begins 125 = .ok (.ifCond .eq 7, 3) := dk_153 0 7 (dk_at dksX2_begins_5 7 rfl rfl)
theorem dX2_begins_128 : decode cX2_begins 128 = .ok (.iconst 0, 1) := dk_3 (dk_at dksX2_begins_5 10 rfl rfl)
theorem dX2_begins_129 : decode cX2_begins 129 = .ok (.goto 9, 3) := dk_167 0 9 (dk_at dksX2_begins_5 11 rfl rfl)
theorem dX2_begins_132 : decode cX2_begins 132 = .ok (.aload_n 0, 1) := dk_42 (dk_at dksX2_begins_5 14 rfl rfl)
theorem dX2_begins_133 : decode cX2_begins 133 = .ok (.getfield 90, 3) := dk_180 0 90 (dk_at dksX2_begins_5 15 rfl rfl)
theorem dX2_begins_136 : decode cX2_begins 136 = .ok (.iload_n 1, 1) := dk_27 (dk_at dksX2_begins_5 18 rfl rfl)
theorem dX2_begins_137 : decode cX2_begins 137 = .ok (.iaload, 1) := dk_46 (dk_at dksX2_begins_5 19 rfl rfl)
theorem dX2_begins_138 : decode cX2_begins 138 = .ok (.iastore, 1) := dk_79 (dk_at dksX2_begins_5 20 rfl rfl)
theorem dX2_begins_139 : decode cX2_begins 139 = .ok (.aload_n 0, 1) := dk_42 (dk_at dksX2_begins_5 21 rfl rfl)
theorem dX2_begins_140 : decode cX2_begins 140 = .ok (.getfield 93, 3) := dk_180 0 93 (dk_at dksX2_begins_6 0 rfl rfl)
theorem dX2_begins_143 : decode cX2_begins 143 = .ok (.iload_n 1, 1) := dk_27 (dk_at dksX2_begins_6 3 rfl rfl)
theorem dX2_begins_144 : decode cX2_begins 144 = .ok (.iload_n 2, 1) := dk_28 (dk_at dksX2_begins_6 4 rfl rfl)
theorem dX2_begins_145 : decode cX2_begins 145 = .ok (.ifCond .eq 7, 3) := dk_153 0 7 (dk_at dksX2_begins_6 5 rfl rfl)
theorem dX2_begins_148 : decode cX2_begins 148 = .ok (.iconst 0, 1) := dk_3 (dk_at dksX2_begins_6 8 rfl rfl)
theorem dX2_begins_149 : decode cX2_begins 149 = .ok (.goto 9, 3) := dk_167 0 9 (dk_at dksX2_begins_6 9 rfl rfl)
theorem dX2_begins_152 : decode cX2_begins 152 = .ok (.aload_n 0, 1) := dk_42 (dk_at dksX2_begins_6 12 rfl rfl)
theorem dX2_begins_153 : decode cX2_begins 153 = .ok (.getfield 93, 3) := dk_180 0 93 (dk_at dksX2_begins_6 13 rfl rfl)
theorem dX2_begins_156 : decode cX2_begins 156 = .ok (.iload_n 1, 1) := dk_27 (dk_at dksX2_begins_6 16 rfl rfl)
theorem dX2_begins_157 : decode cX2_begins 157 = .ok (.iaload, 1) := dk_46 (dk_at dksX2_begins_6 17 rfl rfl)
theorem dX2_begins_158 : decode cX2_begins 158 = .ok (.iastore, 1) := dk_79 (dk_at dksX2_begins_6 18 rfl rfl)
theorem dX2_begins_159 : decode cX2_begins 159 = .ok (.iinc 1 1, 3) := dk_132 1 1 (dk_at dksX2_begins_6 19 rfl rfl)
theorem dX2_begins_162 : decode cX2_begins 162 = .ok (.goto (-113), 3) := dk_167 255 143 (dk_at dksX2_begins_7 0 rfl rfl)
theorem dX2_begins_165 : decode cX2_begins 165 = .ok (.return_, 1) := dk_177 (dk_at dksX2_begins_7 3 rfl rfl)
abbrev cX2_today : ByteArray := prog_6_method_46_code
def yX2_today : MethodName := ⟨RX2, "today", "()I"⟩
def dkwX2_today_0 : List UInt8 := [42, 3, 181, 0, 105, 42, 180, 0, 136, 172]
abbrev dktX2_today_0 : List UInt8 := dkwX2_today_0 ++ []
theorem dksX2_today_0 : cX2_today.data.toList.drop 0 = dktX2_today_0 := by decide +kernel
theorem dX2_today_0 : decode cX2_today 0 = .ok (.aload_n 0, 1) := dk_42 (dk_at dksX2_today_0 0 rfl rfl)
theorem dX2_today_1 : decode cX2_today 1 = .ok (.iconst 0, 1) := dk_3 (dk_at dksX2_today_0 1 rfl rfl)
theorem dX2_today_2 : decode cX2_today 2 = .ok (.putfield 105, 3) := dk_181 0 105 (dk_at dksX2_today_0 2 rfl rfl)
theorem dX2_today_5 : decode cX2_today 5 = .ok (.aload_n 0, 1) := dk_42 (dk_at dksX2_today_0 5 rfl rfl)
theorem dX2_today_6 : decode cX2_today 6 = .ok (.getfield 136, 3) := dk_180 0 136 (dk_at dksX2_today_0 6 rfl rfl)
theorem dX2_today_9 : decode cX2_today 9 = .ok (.ireturn, 1) := dk_172 (dk_at dksX2_today_0 9 rfl rfl)
abbrev cX2_fit : ByteArray := prog_6_method_47_code
def yX2_fit : MethodName := ⟨RX2, "fit", "(II)I"⟩
def dkwX2_fit_1 : List UInt8 := [182, 0, 123, 153, 0, 12, 42, 27, 28, 182, 0, 169, 167, 0, 4, 3, 172]
abbrev dktX2_fit_1 : List UInt8 := dkwX2_fit_1 ++ []
def dkwX2_fit_0 : List UInt8 := [42, 42, 27, 182, 0, 149, 153, 0, 15, 42, 28, 182, 0, 155, 153, 0, 7, 3, 167, 0, 4, 4]
abbrev dktX2_fit_0 : List UInt8 := dkwX2_fit_0 ++ dktX2_fit_1
theorem dksX2_fit_0 : cX2_fit.data.toList.drop 0 = dktX2_fit_0 := by decide +kernel
theorem dksX2_fit_1 : cX2_fit.data.toList.drop 22 = dktX2_fit_1 := dk_seg dksX2_fit_0 22 rfl rfl
theorem dX2_fit_0 : decode cX2_fit 0 = .ok (.aload_n 0, 1) := dk_42 (dk_at dksX2_fit_0 0 rfl rfl)
theorem dX2_fit_1 : decode cX2_fit 1 = .ok (.aload_n 0, 1) := dk_42 (dk_at dksX2_fit_0 1 rfl rfl)
theorem dX2_fit_2 : decode cX2_fit 2 = .ok (.iload_n 1, 1) := dk_27 (dk_at dksX2_fit_0 2 rfl rfl)
theorem dX2_fit_3 : decode cX2_fit 3 = .ok (.invokevirtual 149, 3) := dk_182 0 149 (dk_at dksX2_fit_0 3 rfl rfl)
theorem dX2_fit_6 : decode cX2_fit 6 = .ok (.ifCond .eq 15, 3) := dk_153 0 15 (dk_at dksX2_fit_0 6 rfl rfl)
theorem dX2_fit_9 : decode cX2_fit 9 = .ok (.aload_n 0, 1) := dk_42 (dk_at dksX2_fit_0 9 rfl rfl)
theorem dX2_fit_10 : decode cX2_fit 10 = .ok (.iload_n 2, 1) := dk_28 (dk_at dksX2_fit_0 10 rfl rfl)
theorem dX2_fit_11 : decode cX2_fit 11 = .ok (.invokevirtual 155, 3) := dk_182 0 155 (dk_at dksX2_fit_0 11 rfl rfl)
theorem dX2_fit_14 : decode cX2_fit 14 = .ok (.ifCond .eq 7, 3) := dk_153 0 7 (dk_at dksX2_fit_0 14 rfl rfl)
theorem dX2_fit_17 : decode cX2_fit 17 = .ok (.iconst 0, 1) := dk_3 (dk_at dksX2_fit_0 17 rfl rfl)
theorem dX2_fit_18 : decode cX2_fit 18 = .ok (.goto 4, 3) := dk_167 0 4 (dk_at dksX2_fit_0 18 rfl rfl)
theorem dX2_fit_21 : decode cX2_fit 21 = .ok (.iconst 1, 1) := dk_4 (dk_at dksX2_fit_0 21 rfl rfl)
theorem dX2_fit_22 : decode cX2_fit 22 = .ok (.invokevirtual 123, 3) := dk_182 0 123 (dk_at dksX2_fit_1 0 rfl rfl)
theorem dX2_fit_25 : decode cX2_fit 25 = .ok (.ifCond .eq 12, 3) := dk_153 0 12 (dk_at dksX2_fit_1 3 rfl rfl)
theorem dX2_fit_28 : decode cX2_fit 28 = .ok (.aload_n 0, 1) := dk_42 (dk_at dksX2_fit_1 6 rfl rfl)
theorem dX2_fit_29 : decode cX2_fit 29 = .ok (.iload_n 1, 1) := dk_27 (dk_at dksX2_fit_1 7 rfl rfl)
theorem dX2_fit_30 : decode cX2_fit 30 = .ok (.iload_n 2, 1) := dk_28 (dk_at dksX2_fit_1 8 rfl rfl)
theorem dX2_fit_31 : decode cX2_fit 31 = .ok (.invokevirtual 169, 3) := dk_182 0 169 (dk_at dksX2_fit_1 9 rfl rfl)
theorem dX2_fit_34 : decode cX2_fit 34 = .ok (.goto 4, 3) := dk_167 0 4 (dk_at dksX2_fit_1 12 rfl rfl)
theorem dX2_fit_37 : decode cX2_fit 37 = .ok (.iconst 0, 1) := dk_3 (dk_at dksX2_fit_1 15 rfl rfl)
theorem dX2_fit_38 : decode cX2_fit 38 = .ok (.ireturn, 1) := dk_172 (dk_at dksX2_fit_1 16 rfl rfl)
abbrev cX2_candidate : ByteArray := prog_6_method_50_code
def yX2_candidate : MethodName := ⟨RX2, "candidate", "(II)I"⟩
def dkwX2_candidate_3 : List UInt8 := [167, 255, 216, 29, 172]
abbrev dktX2_candidate_3 : List UInt8 := dkwX2_candidate_3 ++ []
def dkwX2_candidate_2 : List UInt8 := [153, 0, 19, 42, 21, 4, 27, 182, 0, 203, 28, 160, 0, 8, 21, 4, 167, 0, 4, 29, 62, 132, 4, 1]
abbrev dktX2_candidate_2 : List UInt8 := dkwX2_candidate_2 ++ dktX2_candidate_3
def dkwX2_candidate_1 : List UInt8 := [3, 172, 2, 62, 3, 54, 4, 21, 4, 42, 180, 0, 113, 162, 0, 37, 42, 21, 4, 27, 182, 0, 200]
abbrev dktX2_candidate_1 : List UInt8 := dkwX2_candidate_1 ++ dktX2_candidate_2
def dkwX2_candidate_0 : List UInt8 := [42, 42, 27, 182, 0, 155, 153, 0, 11, 28, 155, 0, 7, 3, 167, 0, 4, 4, 182, 0, 123, 154, 0, 5]
abbrev dktX2_candidate_0 : List UInt8 := dkwX2_candidate_0 ++ dktX2_candidate_1
theorem dksX2_candidate_0 : cX2_candidate.data.toList.drop 0 = dktX2_candidate_0 := by decide +kernel
theorem dksX2_candidate_1 : cX2_candidate.data.toList.drop 24 = dktX2_candidate_1 := dk_seg dksX2_candidate_0 24 rfl rfl
theorem dksX2_candidate_2 : cX2_candidate.data.toList.drop 47 = dktX2_candidate_2 := dk_seg dksX2_candidate_1 23 rfl rfl
theorem dksX2_candidate_3 : cX2_candidate.data.toList.drop 71 = dktX2_candidate_3 := dk_seg dksX2_candidate_2 24 rfl rfl
theorem dX2_candidate_0 : decode cX2_candidate 0 = .ok (.aload_n 0, 1) := dk_42 (dk_at dksX2_candidate_0 0 rfl rfl)
theorem dX2_candidate_1 : decode cX2_candidate 1 = .ok (.aload_n 0, 1) := dk_42 (dk_at dksX2_candidate_0 1 rfl rfl)
theorem dX2_candidate_2 : decode cX2_candidate 2 = .ok (.iload_n 1, 1) := dk_27 (dk_at dksX2_candidate_0 2 rfl rfl)
theorem dX2_candidate_3 : decode cX2_candidate 3 = .ok (.invokevirtual 155, 3) := dk_182 0 155 (dk_at dksX2_candidate_0 3 rfl rfl)
theorem dX2_candidate_6 : decode cX2_candidate 6 = .ok (.ifCond .eq 11, 3) := dk_153 0 11 (dk_at dksX2_candidate_0 6 rfl rfl)
theorem dX2_candidate_9 : decode cX2_candidate 9 = .ok (.iload_n 2, 1) := dk_28 (dk_at dksX2_candidate_0 9 rfl rfl)
theorem dX2_candidate_10 : decode cX2_candidate 10 = .ok (.ifCond .lt 7, 3) := dk_155 0 7 (dk_at dksX2_candidate_0 10 rfl rfl)
theorem dX2_candidate_13 : decode cX2_candidate 13 = .ok (.iconst 0, 1) := dk_3 (dk_at dksX2_candidate_0 13 rfl rfl)
theorem dX2_candidate_14 : decode cX2_candidate 14 = .ok (.goto 4, 3) := dk_167 0 4 (dk_at dksX2_candidate_0 14 rfl rfl)
theorem dX2_candidate_17 : decode cX2_candidate 17 = .ok (.iconst 1, 1) := dk_4 (dk_at dksX2_candidate_0 17 rfl rfl)
theorem dX2_candidate_18 : decode cX2_candidate 18 = .ok (.invokevirtual 123, 3) := dk_182 0 123 (dk_at dksX2_candidate_0 18 rfl rfl)
theorem dX2_candidate_21 : decode cX2_candidate 21 = .ok (.ifCond .ne 5, 3) := dk_154 0 5 (dk_at dksX2_candidate_0 21 rfl rfl)
theorem dX2_candidate_24 : decode cX2_candidate 24 = .ok (.iconst 0, 1) := dk_3 (dk_at dksX2_candidate_1 0 rfl rfl)
theorem dX2_candidate_25 : decode cX2_candidate 25 = .ok (.ireturn, 1) := dk_172 (dk_at dksX2_candidate_1 1 rfl rfl)
theorem dX2_candidate_26 : decode cX2_candidate 26 = .ok (.iconst (-1), 1) := dk_2 (dk_at dksX2_candidate_1 2 rfl rfl)
theorem dX2_candidate_27 : decode cX2_candidate 27 = .ok (.istore_n 3, 1) := dk_62 (dk_at dksX2_candidate_1 3 rfl rfl)
theorem dX2_candidate_28 : decode cX2_candidate 28 = .ok (.iconst 0, 1) := dk_3 (dk_at dksX2_candidate_1 4 rfl rfl)
theorem dX2_candidate_29 : decode cX2_candidate 29 = .ok (.istore 4, 2) := dk_54 4 (dk_at dksX2_candidate_1 5 rfl rfl)
theorem dX2_candidate_31 : decode cX2_candidate 31 = .ok (.iload 4, 2) := dk_21 4 (dk_at dksX2_candidate_1 7 rfl rfl)
theorem dX2_candidate_33 : decode cX2_candidate 33 = .ok (.aload_n 0, 1) := dk_42 (dk_at dksX2_candidate_1 9 rfl rfl)
theorem dX2_candidate_34 : decode cX2_candidate 34 = .ok (.getfield 113, 3) := dk_180 0 113 (dk_at dksX2_candidate_1 10 rfl rfl)
theorem dX2_candidate_37 : decode cX2_candidate 37 = .ok (.if_icmp .ge 37, 3) := dk_162 0 37 (dk_at dksX2_candidate_1 13 rfl rfl)
theorem dX2_candidate_40 : decode cX2_candidate 40 = .ok (.aload_n 0, 1) := dk_42 (dk_at dksX2_candidate_1 16 rfl rfl)
theorem dX2_candidate_41 : decode cX2_candidate 41 = .ok (.iload 4, 2) := dk_21 4 (dk_at dksX2_candidate_1 17 rfl rfl)
theorem dX2_candidate_43 : decode cX2_candidate 43 = .ok (.iload_n 1, 1) := dk_27 (dk_at dksX2_candidate_1 19 rfl rfl)
theorem dX2_candidate_44 : decode cX2_candidate 44 = .ok (.invokevirtual 200, 3) := dk_182 0 200 (dk_at dksX2_candidate_1 20 rfl rfl)
theorem dX2_candidate_47 : decode cX2_candidate 47 = .ok (.ifCond .eq 19, 3) := dk_153 0 19 (dk_at dksX2_candidate_2 0 rfl rfl)
theorem dX2_candidate_50 : decode cX2_candidate 50 = .ok (.aload_n 0, 1) := dk_42 (dk_at dksX2_candidate_2 3 rfl rfl)
theorem dX2_candidate_51 : decode cX2_candidate 51 = .ok (.iload 4, 2) := dk_21 4 (dk_at dksX2_candidate_2 4 rfl rfl)
theorem dX2_candidate_53 : decode cX2_candidate 53 = .ok (.iload_n 1, 1) := dk_27 (dk_at dksX2_candidate_2 6 rfl rfl)
theorem dX2_candidate_54 : decode cX2_candidate 54 = .ok (.invokevirtual 203, 3) := dk_182 0 203 (dk_at dksX2_candidate_2 7 rfl rfl)
theorem dX2_candidate_57 : decode cX2_candidate 57 = .ok (.iload_n 2, 1) := dk_28 (dk_at dksX2_candidate_2 10 rfl rfl)
theorem dX2_candidate_58 : decode cX2_candidate 58 = .ok (.if_icmp .ne 8, 3) := dk_160 0 8 (dk_at dksX2_candidate_2 11 rfl rfl)
theorem dX2_candidate_61 : decode cX2_candidate 61 = .ok (.iload 4, 2) := dk_21 4 (dk_at dksX2_candidate_2 14 rfl rfl)
theorem dX2_candidate_63 : decode cX2_candidate 63 = .ok (.goto 4, 3) := dk_167 0 4 (dk_at dksX2_candidate_2 16 rfl rfl)
theorem dX2_candidate_66 : decode cX2_candidate 66 = .ok (.iload_n 3, 1) := dk_29 (dk_at dksX2_candidate_2 19 rfl rfl)
theorem dX2_candidate_67 : decode cX2_candidate 67 = .ok (.istore_n 3, 1) := dk_62 (dk_at dksX2_candidate_2 20 rfl rfl)
theorem dX2_candidate_68 : decode cX2_candidate 68 = .ok (.iinc 4 1, 3) := dk_132 4 1 (dk_at dksX2_candidate_2 21 rfl rfl)
theorem dX2_candidate_71 : decode cX2_candidate 71 = .ok (.goto (-40), 3) := dk_167 255 216 (dk_at dksX2_candidate_3 0 rfl rfl)
theorem dX2_candidate_74 : decode cX2_candidate 74 = .ok (.iload_n 3, 1) := dk_29 (dk_at dksX2_candidate_3 3 rfl rfl)
theorem dX2_candidate_75 : decode cX2_candidate 75 = .ok (.ireturn, 1) := dk_172 (dk_at dksX2_candidate_3 4 rfl rfl)
abbrev cX2_isAsked : ByteArray := prog_6_method_48_code
def yX2_isAsked : MethodName := ⟨RX2, "isAsked", "(II)Z"⟩
def dkwX2_isAsked_0 : List UInt8 := [42, 27, 182, 0, 152, 153, 0, 16, 42, 27, 28, 182, 0, 176, 153, 0, 7, 4, 167, 0, 4, 3, 172]
abbrev dktX2_isAsked_0 : List UInt8 := dkwX2_isAsked_0 ++ []
theorem dksX2_isAsked_0 : cX2_isAsked.data.toList.drop 0 = dktX2_isAsked_0 := by decide +kernel
theorem dX2_isAsked_0 : decode cX2_isAsked 0 = .ok (.aload_n 0, 1) := dk_42 (dk_at dksX2_isAsked_0 0 rfl rfl)
theorem dX2_isAsked_1 : decode cX2_isAsked 1 = .ok (.iload_n 1, 1) := dk_27 (dk_at dksX2_isAsked_0 1 rfl rfl)
theorem dX2_isAsked_2 : decode cX2_isAsked 2 = .ok (.invokevirtual 152, 3) := dk_182 0 152 (dk_at dksX2_isAsked_0 2 rfl rfl)
theorem dX2_isAsked_5 : decode cX2_isAsked 5 = .ok (.ifCond .eq 16, 3) := dk_153 0 16 (dk_at dksX2_isAsked_0 5 rfl rfl)
theorem dX2_isAsked_8 : decode cX2_isAsked 8 = .ok (.aload_n 0, 1) := dk_42 (dk_at dksX2_isAsked_0 8 rfl rfl)
theorem dX2_isAsked_9 : decode cX2_isAsked 9 = .ok (.iload_n 1, 1) := dk_27 (dk_at dksX2_isAsked_0 9 rfl rfl)
theorem dX2_isAsked_10 : decode cX2_isAsked 10 = .ok (.iload_n 2, 1) := dk_28 (dk_at dksX2_isAsked_0 10 rfl rfl)
theorem dX2_isAsked_11 : decode cX2_isAsked 11 = .ok (.invokevirtual 176, 3) := dk_182 0 176 (dk_at dksX2_isAsked_0 11 rfl rfl)
theorem dX2_isAsked_14 : decode cX2_isAsked 14 = .ok (.ifCond .eq 7, 3) := dk_153 0 7 (dk_at dksX2_isAsked_0 14 rfl rfl)
theorem dX2_isAsked_17 : decode cX2_isAsked 17 = .ok (.iconst 1, 1) := dk_4 (dk_at dksX2_isAsked_0 17 rfl rfl)
theorem dX2_isAsked_18 : decode cX2_isAsked 18 = .ok (.goto 4, 3) := dk_167 0 4 (dk_at dksX2_isAsked_0 18 rfl rfl)
theorem dX2_isAsked_21 : decode cX2_isAsked 21 = .ok (.iconst 0, 1) := dk_3 (dk_at dksX2_isAsked_0 21 rfl rfl)
theorem dX2_isAsked_22 : decode cX2_isAsked 22 = .ok (.ireturn, 1) := dk_172 (dk_at dksX2_isAsked_0 22 rfl rfl)
abbrev cX2_aheadOf : ByteArray := prog_6_method_49_code
def yX2_aheadOf : MethodName := ⟨RX2, "aheadOf", "(II)I"⟩
def dkwX2_aheadOf_3 : List UInt8 := [54, 4, 132, 5, 1, 167, 255, 193, 21, 4, 172]
abbrev dktX2_aheadOf_3 : List UInt8 := dkwX2_aheadOf_3 ++ []
def dkwX2_aheadOf_2 : List UInt8 := [21, 4, 21, 6, 157, 0, 14, 21, 6, 154, 0, 13, 21, 5, 27, 162, 0, 7, 4, 167, 0, 4, 3, 96]
abbrev dktX2_aheadOf_2 : List UInt8 := dkwX2_aheadOf_2 ++ dktX2_aheadOf_3
def dkwX2_aheadOf_1 : List UInt8 := [21, 5, 28, 182, 0, 200, 153, 0, 15, 42, 21, 5, 28, 182, 0, 169, 29, 100, 167, 0, 4, 2, 54, 6]
abbrev dktX2_aheadOf_1 : List UInt8 := dkwX2_aheadOf_1 ++ dktX2_aheadOf_2
def dkwX2_aheadOf_0 : List UInt8 := [42, 27, 28, 182, 0, 169, 62, 3, 54, 4, 3, 54, 5, 21, 5, 42, 180, 0, 113, 162, 0, 60, 42]
abbrev dktX2_aheadOf_0 : List UInt8 := dkwX2_aheadOf_0 ++ dktX2_aheadOf_1
theorem dksX2_aheadOf_0 : cX2_aheadOf.data.toList.drop 0 = dktX2_aheadOf_0 := by decide +kernel
theorem dksX2_aheadOf_1 : cX2_aheadOf.data.toList.drop 23 = dktX2_aheadOf_1 := dk_seg dksX2_aheadOf_0 23 rfl rfl
theorem dksX2_aheadOf_2 : cX2_aheadOf.data.toList.drop 47 = dktX2_aheadOf_2 := dk_seg dksX2_aheadOf_1 24 rfl rfl
theorem dksX2_aheadOf_3 : cX2_aheadOf.data.toList.drop 71 = dktX2_aheadOf_3 := dk_seg dksX2_aheadOf_2 24 rfl rfl
theorem dX2_aheadOf_0 : decode cX2_aheadOf 0 = .ok (.aload_n 0, 1) := dk_42 (dk_at dksX2_aheadOf_0 0 rfl rfl)
theorem dX2_aheadOf_1 : decode cX2_aheadOf 1 = .ok (.iload_n 1, 1) := dk_27 (dk_at dksX2_aheadOf_0 1 rfl rfl)
theorem dX2_aheadOf_2 : decode cX2_aheadOf 2 = .ok (.iload_n 2, 1) := dk_28 (dk_at dksX2_aheadOf_0 2 rfl rfl)
theorem dX2_aheadOf_3 : decode cX2_aheadOf 3 = .ok (.invokevirtual 169, 3) := dk_182 0 169 (dk_at dksX2_aheadOf_0 3 rfl rfl)
theorem dX2_aheadOf_6 : decode cX2_aheadOf 6 = .ok (.istore_n 3, 1) := dk_62 (dk_at dksX2_aheadOf_0 6 rfl rfl)
theorem dX2_aheadOf_7 : decode cX2_aheadOf 7 = .ok (.iconst 0, 1) := dk_3 (dk_at dksX2_aheadOf_0 7 rfl rfl)
theorem dX2_aheadOf_8 : decode cX2_aheadOf 8 = .ok (.istore 4, 2) := dk_54 4 (dk_at dksX2_aheadOf_0 8 rfl rfl)
theorem dX2_aheadOf_10 : decode cX2_aheadOf 10 = .ok (.iconst 0, 1) := dk_3 (dk_at dksX2_aheadOf_0 10 rfl rfl)
theorem dX2_aheadOf_11 : decode cX2_aheadOf 11 = .ok (.istore 5, 2) := dk_54 5 (dk_at dksX2_aheadOf_0 11 rfl rfl)
theorem dX2_aheadOf_13 : decode cX2_aheadOf 13 = .ok (.iload 5, 2) := dk_21 5 (dk_at dksX2_aheadOf_0 13 rfl rfl)
theorem dX2_aheadOf_15 : decode cX2_aheadOf 15 = .ok (.aload_n 0, 1) := dk_42 (dk_at dksX2_aheadOf_0 15 rfl rfl)
theorem dX2_aheadOf_16 : decode cX2_aheadOf 16 = .ok (.getfield 113, 3) := dk_180 0 113 (dk_at dksX2_aheadOf_0 16 rfl rfl)
theorem dX2_aheadOf_19 : decode cX2_aheadOf 19 = .ok (.if_icmp .ge 60, 3) := dk_162 0 60 (dk_at dksX2_aheadOf_0 19 rfl rfl)
theorem dX2_aheadOf_22 : decode cX2_aheadOf 22 = .ok (.aload_n 0, 1) := dk_42 (dk_at dksX2_aheadOf_0 22 rfl rfl)
theorem dX2_aheadOf_23 : decode cX2_aheadOf 23 = .ok (.iload 5, 2) := dk_21 5 (dk_at dksX2_aheadOf_1 0 rfl rfl)
theorem dX2_aheadOf_25 : decode cX2_aheadOf 25 = .ok (.iload_n 2, 1) := dk_28 (dk_at dksX2_aheadOf_1 2 rfl rfl)
theorem dX2_aheadOf_26 : decode cX2_aheadOf 26 = .ok (.invokevirtual 200, 3) := dk_182 0 200 (dk_at dksX2_aheadOf_1 3 rfl rfl)
theorem dX2_aheadOf_29 : decode cX2_aheadOf 29 = .ok (.ifCond .eq 15, 3) := dk_153 0 15 (dk_at dksX2_aheadOf_1 6 rfl rfl)
theorem dX2_aheadOf_32 : decode cX2_aheadOf 32 = .ok (.aload_n 0, 1) := dk_42 (dk_at dksX2_aheadOf_1 9 rfl rfl)
theorem dX2_aheadOf_33 : decode cX2_aheadOf 33 = .ok (.iload 5, 2) := dk_21 5 (dk_at dksX2_aheadOf_1 10 rfl rfl)
theorem dX2_aheadOf_35 : decode cX2_aheadOf 35 = .ok (.iload_n 2, 1) := dk_28 (dk_at dksX2_aheadOf_1 12 rfl rfl)
theorem dX2_aheadOf_36 : decode cX2_aheadOf 36 = .ok (.invokevirtual 169, 3) := dk_182 0 169 (dk_at dksX2_aheadOf_1 13 rfl rfl)
theorem dX2_aheadOf_39 : decode cX2_aheadOf 39 = .ok (.iload_n 3, 1) := dk_29 (dk_at dksX2_aheadOf_1 16 rfl rfl)
theorem dX2_aheadOf_40 : decode cX2_aheadOf 40 = .ok (.isub, 1) := dk_100 (dk_at dksX2_aheadOf_1 17 rfl rfl)
theorem dX2_aheadOf_41 : decode cX2_aheadOf 41 = .ok (.goto 4, 3) := dk_167 0 4 (dk_at dksX2_aheadOf_1 18 rfl rfl)
theorem dX2_aheadOf_44 : decode cX2_aheadOf 44 = .ok (.iconst (-1), 1) := dk_2 (dk_at dksX2_aheadOf_1 21 rfl rfl)
theorem dX2_aheadOf_45 : decode cX2_aheadOf 45 = .ok (.istore 6, 2) := dk_54 6 (dk_at dksX2_aheadOf_1 22 rfl rfl)
theorem dX2_aheadOf_47 : decode cX2_aheadOf 47 = .ok (.iload 4, 2) := dk_21 4 (dk_at dksX2_aheadOf_2 0 rfl rfl)
theorem dX2_aheadOf_49 : decode cX2_aheadOf 49 = .ok (.iload 6, 2) := dk_21 6 (dk_at dksX2_aheadOf_2 2 rfl rfl)
theorem dX2_aheadOf_51 : decode cX2_aheadOf 51 = .ok (.ifCond .gt 14, 3) := dk_157 0 14 (dk_at dksX2_aheadOf_2 4 rfl rfl)
theorem dX2_aheadOf_54 : decode cX2_aheadOf 54 = .ok (.iload 6, 2) := dk_21 6 (dk_at dksX2_aheadOf_2 7 rfl rfl)
theorem dX2_aheadOf_56 : decode cX2_aheadOf 56 = .ok (.ifCond .ne 13, 3) := dk_154 0 13 (dk_at dksX2_aheadOf_2 9 rfl rfl)
theorem dX2_aheadOf_59 : decode cX2_aheadOf 59 = .ok (.iload 5, 2) := dk_21 5 (dk_at dksX2_aheadOf_2 12 rfl rfl)
theorem dX2_aheadOf_61 : decode cX2_aheadOf 61 = .ok (.iload_n 1, 1) := dk_27 (dk_at dksX2_aheadOf_2 14 rfl rfl)
theorem dX2_aheadOf_62 : decode cX2_aheadOf 62 = .ok (.if_icmp .ge 7, 3) := dk_162 0 7 (dk_at dksX2_aheadOf_2 15 rfl rfl)
theorem dX2_aheadOf_65 : decode cX2_aheadOf 65 = .ok (.iconst 1, 1) := dk_4 (dk_at dksX2_aheadOf_2 18 rfl rfl)
theorem dX2_aheadOf_66 : decode cX2_aheadOf 66 = .ok (.goto 4, 3) := dk_167 0 4 (dk_at dksX2_aheadOf_2 19 rfl rfl)
theorem dX2_aheadOf_69 : decode cX2_aheadOf 69 = .ok (.iconst 0, 1) := dk_3 (dk_at dksX2_aheadOf_2 22 rfl rfl)
theorem dX2_aheadOf_70 : decode cX2_aheadOf 70 = .ok (.iadd, 1) := dk_96 (dk_at dksX2_aheadOf_2 23 rfl rfl)
theorem dX2_aheadOf_71 : decode cX2_aheadOf 71 = .ok (.istore 4, 2) := dk_54 4 (dk_at dksX2_aheadOf_3 0 rfl rfl)
theorem dX2_aheadOf_73 : decode cX2_aheadOf 73 = .ok (.iinc 5 1, 3) := dk_132 5 1 (dk_at dksX2_aheadOf_3 2 rfl rfl)
theorem dX2_aheadOf_76 : decode cX2_aheadOf 76 = .ok (.goto (-63), 3) := dk_167 255 193 (dk_at dksX2_aheadOf_3 5 rfl rfl)
theorem dX2_aheadOf_79 : decode cX2_aheadOf 79 = .ok (.iload 4, 2) := dk_21 4 (dk_at dksX2_aheadOf_3 8 rfl rfl)
theorem dX2_aheadOf_81 : decode cX2_aheadOf 81 = .ok (.ireturn, 1) := dk_172 (dk_at dksX2_aheadOf_3 10 rfl rfl)
abbrev cX2_question : ByteArray := prog_6_method_51_code
def yX2_question : MethodName := ⟨RX2, "question", "(I)I"⟩
def dkwX2_question_9 : List UInt8 := [172]
abbrev dktX2_question_9 : List UInt8 := dkwX2_question_9 ++ []
def dkwX2_question_8 : List UInt8 := [167, 0, 4, 28, 61, 21, 8, 153, 0, 8, 21, 7, 167, 0, 4, 29, 62, 132, 4, 255, 167, 255, 79, 28]
abbrev dktX2_question_8 : List UInt8 := dkwX2_question_8 ++ dktX2_question_9
def dkwX2_question_7 : List UInt8 := [159, 0, 9, 21, 7, 29, 163, 0, 7, 4, 167, 0, 4, 3, 54, 8, 21, 8, 153, 0, 8, 21, 4]
abbrev dktX2_question_7 : List UInt8 := dkwX2_question_7 ++ dktX2_question_8
def dkwX2_question_6 : List UInt8 := [180, 0, 90, 27, 46, 21, 4, 122, 4, 126, 154, 0, 25, 21, 7, 21, 5, 162, 0, 18, 28, 2]
abbrev dktX2_question_6 : List UInt8 := dkwX2_question_6 ++ dktX2_question_7
def dkwX2_question_5 : List UInt8 := [54, 6, 132, 7, 1, 167, 255, 177, 21, 6, 156, 0, 9, 21, 6, 116, 167, 0, 5, 21, 6, 54, 7, 42]
abbrev dktX2_question_5 : List UInt8 := dkwX2_question_5 ++ dktX2_question_6
def dkwX2_question_4 : List UInt8 := [46, 42, 180, 0, 41, 21, 7, 46, 128, 21, 4, 122, 4, 126, 4, 160, 0, 7, 4, 167, 0, 4, 2, 96]
abbrev dktX2_question_4 : List UInt8 := dkwX2_question_4 ++ dktX2_question_5
def dkwX2_question_3 : List UInt8 := [167, 0, 4, 3, 96, 54, 5, 21, 6, 21, 8, 154, 0, 7, 3, 167, 0, 32, 42, 180, 0, 38, 21, 7]
abbrev dktX2_question_3 : List UInt8 := dkwX2_question_3 ++ dktX2_question_4
def dkwX2_question_2 : List UInt8 := [180, 0, 113, 162, 0, 76, 42, 21, 7, 27, 182, 0, 200, 54, 8, 21, 5, 21, 8, 153, 0, 7, 4]
abbrev dktX2_question_2 : List UInt8 := dkwX2_question_2 ++ dktX2_question_3
def dkwX2_question_1 : List UInt8 := [3, 62, 16, 23, 54, 4, 21, 4, 155, 0, 178, 3, 54, 5, 3, 54, 6, 3, 54, 7, 21, 7, 42]
abbrev dktX2_question_1 : List UInt8 := dkwX2_question_1 ++ dktX2_question_2
def dkwX2_question_0 : List UInt8 := [42, 42, 27, 182, 0, 155, 153, 0, 7, 3, 167, 0, 4, 4, 182, 0, 123, 154, 0, 5, 3, 172, 2, 61]
abbrev dktX2_question_0 : List UInt8 := dkwX2_question_0 ++ dktX2_question_1
theorem dksX2_question_0 : cX2_question.data.toList.drop 0 = dktX2_question_0 := by decide +kernel
theorem dksX2_question_1 : cX2_question.data.toList.drop 24 = dktX2_question_1 := dk_seg dksX2_question_0 24 rfl rfl
theorem dksX2_question_2 : cX2_question.data.toList.drop 47 = dktX2_question_2 := dk_seg dksX2_question_1 23 rfl rfl
theorem dksX2_question_3 : cX2_question.data.toList.drop 70 = dktX2_question_3 := dk_seg dksX2_question_2 23 rfl rfl
theorem dksX2_question_4 : cX2_question.data.toList.drop 94 = dktX2_question_4 := dk_seg dksX2_question_3 24 rfl rfl
theorem dksX2_question_5 : cX2_question.data.toList.drop 118 = dktX2_question_5 := dk_seg dksX2_question_4 24 rfl rfl
theorem dksX2_question_6 : cX2_question.data.toList.drop 142 = dktX2_question_6 := dk_seg dksX2_question_5 24 rfl rfl
theorem dksX2_question_7 : cX2_question.data.toList.drop 164 = dktX2_question_7 := dk_seg dksX2_question_6 22 rfl rfl
theorem dksX2_question_8 : cX2_question.data.toList.drop 187 = dktX2_question_8 := dk_seg dksX2_question_7 23 rfl rfl
theorem dksX2_question_9 : cX2_question.data.toList.drop 211 = dktX2_question_9 := dk_seg dksX2_question_8 24 rfl rfl
theorem dX2_question_0 : decode cX2_question 0 = .ok (.aload_n 0, 1) := dk_42 (dk_at dksX2_question_0 0 rfl rfl)
theorem dX2_question_1 : decode cX2_question 1 = .ok (.aload_n 0, 1) := dk_42 (dk_at dksX2_question_0 1 rfl rfl)
theorem dX2_question_2 : decode cX2_question 2 = .ok (.iload_n 1, 1) := dk_27 (dk_at dksX2_question_0 2 rfl rfl)
theorem dX2_question_3 : decode cX2_question 3 = .ok (.invokevirtual 155, 3) := dk_182 0 155 (dk_at dksX2_question_0 3 rfl rfl)
theorem dX2_question_6 : decode cX2_question 6 = .ok (.ifCond .eq 7, 3) := dk_153 0 7 (dk_at dksX2_question_0 6 rfl rfl)
theorem dX2_question_9 : decode cX2_question 9 = .ok (.iconst 0, 1) := dk_3 (dk_at dksX2_question_0 9 rfl rfl)
theorem dX2_question_10 : decode cX2_question 10 = .ok (.goto 4, 3) := dk_167 0 4 (dk_at dksX2_question_0 10 rfl rfl)
theorem dX2_question_13 : decode cX2_question 13 = .ok (.iconst 1, 1) := dk_4 (dk_at dksX2_question_0 13 rfl rfl)
theorem dX2_question_14 : decode cX2_question 14 = .ok (.invokevirtual 123, 3) := dk_182 0 123 (dk_at dksX2_question_0 14 rfl rfl)
theorem dX2_question_17 : decode cX2_question 17 = .ok (.ifCond .ne 5, 3) := dk_154 0 5 (dk_at dksX2_question_0 17 rfl rfl)
theorem dX2_question_20 : decode cX2_question 20 = .ok (.iconst 0, 1) := dk_3 (dk_at dksX2_question_0 20 rfl rfl)
theorem dX2_question_21 : decode cX2_question 21 = .ok (.ireturn, 1) := dk_172 (dk_at dksX2_question_0 21 rfl rfl)
theorem dX2_question_22 : decode cX2_question 22 = .ok (.iconst (-1), 1) := dk_2 (dk_at dksX2_question_0 22 rfl rfl)
theorem dX2_question_23 : decode cX2_question 23 = .ok (.istore_n 2, 1) := dk_61 (dk_at dksX2_question_0 23 rfl rfl)
theorem dX2_question_24 : decode cX2_question 24 = .ok (.iconst 0, 1) := dk_3 (dk_at dksX2_question_1 0 rfl rfl)
theorem dX2_question_25 : decode cX2_question 25 = .ok (.istore_n 3, 1) := dk_62 (dk_at dksX2_question_1 1 rfl rfl)
theorem dX2_question_26 : decode cX2_question 26 = .ok (.bipush 23, 2) := dk_16 23 (dk_at dksX2_question_1 2 rfl rfl)
theorem dX2_question_28 : decode cX2_question 28 = .ok (.istore 4, 2) := dk_54 4 (dk_at dksX2_question_1 4 rfl rfl)
theorem dX2_question_30 : decode cX2_question 30 = .ok (.iload 4, 2) := dk_21 4 (dk_at dksX2_question_1 6 rfl rfl)
theorem dX2_question_32 : decode cX2_question 32 = .ok (.ifCond .lt 178, 3) := dk_155 0 178 (dk_at dksX2_question_1 8 rfl rfl)
theorem dX2_question_35 : decode cX2_question 35 = .ok (.iconst 0, 1) := dk_3 (dk_at dksX2_question_1 11 rfl rfl)
theorem dX2_question_36 : decode cX2_question 36 = .ok (.istore 5, 2) := dk_54 5 (dk_at dksX2_question_1 12 rfl rfl)
theorem dX2_question_38 : decode cX2_question 38 = .ok (.iconst 0, 1) := dk_3 (dk_at dksX2_question_1 14 rfl rfl)
theorem dX2_question_39 : decode cX2_question 39 = .ok (.istore 6, 2) := dk_54 6 (dk_at dksX2_question_1 15 rfl rfl)
theorem dX2_question_41 : decode cX2_question 41 = .ok (.iconst 0, 1) := dk_3 (dk_at dksX2_question_1 17 rfl rfl)
theorem dX2_question_42 : decode cX2_question 42 = .ok (.istore 7, 2) := dk_54 7 (dk_at dksX2_question_1 18 rfl rfl)
theorem dX2_question_44 : decode cX2_question 44 = .ok (.iload 7, 2) := dk_21 7 (dk_at dksX2_question_1 20 rfl rfl)
theorem dX2_question_46 : decode cX2_question 46 = .ok (.aload_n 0, 1) := dk_42 (dk_at dksX2_question_1 22 rfl rfl)
theorem dX2_question_47 : decode cX2_question 47 = .ok (.getfield 113, 3) := dk_180 0 113 (dk_at dksX2_question_2 0 rfl rfl)
theorem dX2_question_50 : decode cX2_question 50 = .ok (.if_icmp .ge 76, 3) := dk_162 0 76 (dk_at dksX2_question_2 3 rfl rfl)
theorem dX2_question_53 : decode cX2_question 53 = .ok (.aload_n 0, 1) := dk_42 (dk_at dksX2_question_2 6 rfl rfl)
theorem dX2_question_54 : decode cX2_question 54 = .ok (.iload 7, 2) := dk_21 7 (dk_at dksX2_question_2 7 rfl rfl)
theorem dX2_question_56 : decode cX2_question 56 = .ok (.iload_n 1, 1) := dk_27 (dk_at dksX2_question_2 9 rfl rfl)
theorem dX2_question_57 : decode cX2_question 57 = .ok (.invokevirtual 200, 3) := dk_182 0 200 (dk_at dksX2_question_2 10 rfl rfl)
theorem dX2_question_60 : decode cX2_question 60 = .ok (.istore 8, 2) := dk_54 8 (dk_at dksX2_question_2 13 rfl rfl)
theorem dX2_question_62 : decode cX2_question 62 = .ok (.iload 5, 2) := dk_21 5 (dk_at dksX2_question_2 15 rfl rfl)
theorem dX2_question_64 : decode cX2_question 64 = .ok (.iload 8, 2) := dk_21 8 (dk_at dksX2_question_2 17 rfl rfl)
theorem dX2_question_66 : decode cX2_question 66 = .ok (.ifCond .eq 7, 3) := dk_153 0 7 (dk_at dksX2_question_2 19 rfl rfl)
theorem dX2_question_69 : decode cX2_question 69 = .ok (.iconst 1, 1) := dk_4 (dk_at dksX2_question_2 22 rfl rfl)
theorem dX2_question_70 : decode cX2_question 70 = .ok (.goto 4, 3) := dk_167 0 4 (dk_at dksX2_question_3 0 rfl rfl)
theorem dX2_question_73 : decode cX2_question 73 = .ok (.iconst 0, 1) := dk_3 (dk_at dksX2_question_3 3 rfl rfl)
theorem dX2_question_74 : decode cX2_question 74 = .ok (.iadd, 1) := dk_96 (dk_at dksX2_question_3 4 rfl rfl)
theorem dX2_question_75 : decode cX2_question 75 = .ok (.istore 5, 2) := dk_54 5 (dk_at dksX2_question_3 5 rfl rfl)
theorem dX2_question_77 : decode cX2_question 77 = .ok (.iload 6, 2) := dk_21 6 (dk_at dksX2_question_3 7 rfl rfl)
theorem dX2_question_79 : decode cX2_question 79 = .ok (.iload 8, 2) := dk_21 8 (dk_at dksX2_question_3 9 rfl rfl)
theorem dX2_question_81 : decode cX2_question 81 = .ok (.ifCond .ne 7, 3) := dk_154 0 7 (dk_at dksX2_question_3 11 rfl rfl)
theorem dX2_question_84 : decode cX2_question 84 = .ok (.iconst 0, 1) := dk_3 (dk_at dksX2_question_3 14 rfl rfl)
theorem dX2_question_85 : decode cX2_question 85 = .ok (.goto 32, 3) := dk_167 0 32 (dk_at dksX2_question_3 15 rfl rfl)
theorem dX2_question_88 : decode cX2_question 88 = .ok (.aload_n 0, 1) := dk_42 (dk_at dksX2_question_3 18 rfl rfl)
theorem dX2_question_89 : decode cX2_question 89 = .ok (.getfield 38, 3) := dk_180 0 38 (dk_at dksX2_question_3 19 rfl rfl)
theorem dX2_question_92 : decode cX2_question 92 = .ok (.iload 7, 2) := dk_21 7 (dk_at dksX2_question_3 22 rfl rfl)
theorem dX2_question_94 : decode cX2_question 94 = .ok (.iaload, 1) := dk_46 (dk_at dksX2_question_4 0 rfl rfl)
theorem dX2_question_95 : decode cX2_question 95 = .ok (.aload_n 0, 1) := dk_42 (dk_at dksX2_question_4 1 rfl rfl)
theorem dX2_question_96 : decode cX2_question 96 = .ok (.getfield 41, 3) := dk_180 0 41 (dk_at dksX2_question_4 2 rfl rfl)
theorem dX2_question_99 : decode cX2_question 99 = .ok (.iload 7, 2) := dk_21 7 (dk_at dksX2_question_4 5 rfl rfl)
theorem dX2_question_101 : decode cX2_question 101 = .ok (.iaload, 1) := dk_46 (dk_at dksX2_question_4 7 rfl rfl)
theorem dX2_question_102 : decode cX2_question 102 = .ok (.ior, 1) := dk_128 (dk_at dksX2_question_4 8 rfl rfl)
theorem dX2_question_103 : decode cX2_question 103 = .ok (.iload 4, 2) := dk_21 4 (dk_at dksX2_question_4 9 rfl rfl)
theorem dX2_question_105 : decode cX2_question 105 = .ok (.ishr, 1) := dk_122 (dk_at dksX2_question_4 11 rfl rfl)
theorem dX2_question_106 : decode cX2_question 106 = .ok (.iconst 1, 1) := dk_4 (dk_at dksX2_question_4 12 rfl rfl)
theorem dX2_question_107 : decode cX2_question 107 = .ok (.iand, 1) := dk_126 (dk_at dksX2_question_4 13 rfl rfl)
theorem dX2_question_108 : decode cX2_question 108 = .ok (.iconst 1, 1) := dk_4 (dk_at dksX2_question_4 14 rfl rfl)
theorem dX2_question_109 : decode cX2_question 109 = .ok (.if_icmp .ne 7, 3) := dk_160 0 7 (dk_at dksX2_question_4 15 rfl rfl)
theorem dX2_question_112 : decode cX2_question 112 = .ok (.iconst 1, 1) := dk_4 (dk_at dksX2_question_4 18 rfl rfl)
theorem dX2_question_113 : decode cX2_question 113 = .ok (.goto 4, 3) := dk_167 0 4 (dk_at dksX2_question_4 19 rfl rfl)
theorem dX2_question_116 : decode cX2_question 116 = .ok (.iconst (-1), 1) := dk_2 (dk_at dksX2_question_4 22 rfl rfl)
theorem dX2_question_117 : decode cX2_question 117 = .ok (.iadd, 1) := dk_96 (dk_at dksX2_question_4 23 rfl rfl)
theorem dX2_question_118 : decode cX2_question 118 = .ok (.istore 6, 2) := dk_54 6 (dk_at dksX2_question_5 0 rfl rfl)
theorem dX2_question_120 : decode cX2_question 120 = .ok (.iinc 7 1, 3) := dk_132 7 1 (dk_at dksX2_question_5 2 rfl rfl)
theorem dX2_question_123 : decode cX2_question 123 = .ok (.goto (-79), 3) := dk_167 255 177 (dk_at dksX2_question_5 5 rfl rfl)
theorem dX2_question_126 : decode cX2_question 126 = .ok (.iload 6, 2) := dk_21 6 (dk_at dksX2_question_5 8 rfl rfl)
theorem dX2_question_128 : decode cX2_question 128 = .ok (.ifCond .ge 9, 3) := dk_156 0 9 (dk_at dksX2_question_5 10 rfl rfl)
theorem dX2_question_131 : decode cX2_question 131 = .ok (.iload 6, 2) := dk_21 6 (dk_at dksX2_question_5 13 rfl rfl)
theorem dX2_question_133 : decode cX2_question 133 = .ok (.ineg, 1) := dk_116 (dk_at dksX2_question_5 15 rfl rfl)
theorem dX2_question_134 : decode cX2_question 134 = .ok (.goto 5, 3) := dk_167 0 5 (dk_at dksX2_question_5 16 rfl rfl)
theorem dX2_question_137 : decode cX2_question 137 = .ok (.iload 6, 2) := dk_21 6 (dk_at dksX2_question_5 19 rfl rfl)
theorem dX2_question_139 : decode cX2_question 139 = .ok (.istore 7, 2) := dk_54 7 (dk_at dksX2_question_5 21 rfl rfl)
theorem dX2_question_141 : decode cX2_question 141 = .ok (.aload_n 0, 1) := dk_42 (dk_at dksX2_question_5 23 rfl rfl)
theorem dX2_question_142 : decode cX2_question 142 = .ok (.getfield 90, 3) := dk_180 0 90 (dk_at dksX2_question_6 0 rfl rfl)
theorem dX2_question_145 : decode cX2_question 145 = .ok (.iload_n 1, 1) := dk_27 (dk_at dksX2_question_6 3 rfl rfl)
theorem dX2_question_146 : decode cX2_question 146 = .ok (.iaload, 1) := dk_46 (dk_at dksX2_question_6 4 rfl rfl)
theorem dX2_question_147 : decode cX2_question 147 = .ok (.iload 4, 2) := dk_21 4 (dk_at dksX2_question_6 5 rfl rfl)
theorem dX2_question_149 : decode cX2_question 149 = .ok (.ishr, 1) := dk_122 (dk_at dksX2_question_6 7 rfl rfl)
theorem dX2_question_150 : decode cX2_question 150 = .ok (.iconst 1, 1) := dk_4 (dk_at dksX2_question_6 8 rfl rfl)
theorem dX2_question_151 : decode cX2_question 151 = .ok (.iand, 1) := dk_126 (dk_at dksX2_question_6 9 rfl rfl)
theorem dX2_question_152 : decode cX2_question 152 = .ok (.ifCond .ne 25, 3) := dk_154 0 25 (dk_at dksX2_question_6 10 rfl rfl)
theorem dX2_question_155 : decode cX2_question 155 = .ok (.iload 7, 2) := dk_21 7 (dk_at dksX2_question_6 13 rfl rfl)
theorem dX2_question_157 : decode cX2_question 157 = .ok (.iload 5, 2) := dk_21 5 (dk_at dksX2_question_6 15 rfl rfl)
theorem dX2_question_159 : decode cX2_question 159 = .ok (.if_icmp .ge 18, 3) := dk_162 0 18 (dk_at dksX2_question_6 17 rfl rfl)
theorem dX2_question_162 : decode cX2_question 162 = .ok (.iload_n 2, 1) := dk_28 (dk_at dksX2_question_6 20 rfl rfl)
theorem dX2_question_163 : decode cX2_question 163 = .ok (.iconst (-1), 1) := dk_2 (dk_at dksX2_question_6 21 rfl rfl)
theorem dX2_question_164 : decode cX2_question 164 = .ok (.if_icmp .eq 9, 3) := dk_159 0 9 (dk_at dksX2_question_7 0 rfl rfl)
theorem dX2_question_167 : decode cX2_question 167 = .ok (.iload 7, 2) := dk_21 7 (dk_at dksX2_question_7 3 rfl rfl)
theorem dX2_question_169 : decode cX2_question 169 = .ok (.iload_n 3, 1) := dk_29 (dk_at dksX2_question_7 5 rfl rfl)
theorem dX2_question_170 : decode cX2_question 170 = .ok (.if_icmp .gt 7, 3) := dk_163 0 7 (dk_at dksX2_question_7 6 rfl rfl)
theorem dX2_question_173 : decode cX2_question 173 = .ok (.iconst 1, 1) := dk_4 (dk_at dksX2_question_7 9 rfl rfl)
theorem dX2_question_174 : decode cX2_question 174 = .ok (.goto 4, 3) := dk_167 0 4 (dk_at dksX2_question_7 10 rfl rfl)
theorem dX2_question_177 : decode cX2_question 177 = .ok (.iconst 0, 1) := dk_3 (dk_at dksX2_question_7 13 rfl rfl)
theorem dX2_question_178 : decode cX2_question 178 = .ok (.istore 8, 2) := dk_54 8 (dk_at dksX2_question_7 14 rfl rfl)
theorem dX2_question_180 : decode cX2_question 180 = .ok (.iload 8, 2) := dk_21 8 (dk_at dksX2_question_7 16 rfl rfl)
theorem dX2_question_182 : decode cX2_question 182 = .ok (.ifCond .eq 8, 3) := dk_153 0 8 (dk_at dksX2_question_7 18 rfl rfl)
theorem dX2_question_185 : decode cX2_question 185 = .ok (.iload 4, 2) := dk_21 4 (dk_at dksX2_question_7 21 rfl rfl)
theorem dX2_question_187 : decode cX2_question 187 = .ok (.goto 4, 3) := dk_167 0 4 (dk_at dksX2_question_8 0 rfl rfl)
theorem dX2_question_190 : decode cX2_question 190 = .ok (.iload_n 2, 1) := dk_28 (dk_at dksX2_question_8 3 rfl rfl)
theorem dX2_question_191 : decode cX2_question 191 = .ok (.istore_n 2, 1) := dk_61 (dk_at dksX2_question_8 4 rfl rfl)
theorem dX2_question_192 : decode cX2_question 192 = .ok (.iload 8, 2) := dk_21 8 (dk_at dksX2_question_8 5 rfl rfl)
theorem dX2_question_194 : decode cX2_question 194 = .ok (.ifCond .eq 8, 3) := dk_153 0 8 (dk_at dksX2_question_8 7 rfl rfl)
theorem dX2_question_197 : decode cX2_question 197 = .ok (.iload 7, 2) := dk_21 7 (dk_at dksX2_question_8 10 rfl rfl)
theorem dX2_question_199 : decode cX2_question 199 = .ok (.goto 4, 3) := dk_167 0 4 (dk_at dksX2_question_8 12 rfl rfl)
theorem dX2_question_202 : decode cX2_question 202 = .ok (.iload_n 3, 1) := dk_29 (dk_at dksX2_question_8 15 rfl rfl)
theorem dX2_question_203 : decode cX2_question 203 = .ok (.istore_n 3, 1) := dk_62 (dk_at dksX2_question_8 16 rfl rfl)
theorem dX2_question_204 : decode cX2_question 204 = .ok (.iinc 4 (-1), 3) := dk_132 4 255 (dk_at dksX2_question_8 17 rfl rfl)
theorem dX2_question_207 : decode cX2_question 207 = .ok (.goto (-177), 3) := dk_167 255 79 (dk_at dksX2_question_8 20 rfl rfl)
theorem dX2_question_210 : decode cX2_question 210 = .ok (.iload_n 2, 1) := dk_28 (dk_at dksX2_question_8 23 rfl rfl)
theorem dX2_question_211 : decode cX2_question 211 = .ok (.ireturn, 1) := dk_172 (dk_at dksX2_question_9 0 rfl rfl)
abbrev cX2_isProven : ByteArray := prog_6_method_52_code
def yX2_isProven : MethodName := ⟨RX2, "isProven", "(II)Z"⟩
def dkwX2_isProven_1 : List UInt8 := [182, 0, 123, 153, 0, 16, 42, 27, 28, 182, 0, 172, 153, 0, 7, 4, 167, 0, 4, 3, 172]
abbrev dktX2_isProven_1 : List UInt8 := dkwX2_isProven_1 ++ []
def dkwX2_isProven_0 : List UInt8 := [42, 42, 27, 182, 0, 149, 153, 0, 15, 42, 28, 182, 0, 155, 153, 0, 7, 3, 167, 0, 4, 4]
abbrev dktX2_isProven_0 : List UInt8 := dkwX2_isProven_0 ++ dktX2_isProven_1
theorem dksX2_isProven_0 : cX2_isProven.data.toList.drop 0 = dktX2_isProven_0 := by decide +kernel
theorem dksX2_isProven_1 : cX2_isProven.data.toList.drop 22 = dktX2_isProven_1 := dk_seg dksX2_isProven_0 22 rfl rfl
theorem dX2_isProven_0 : decode cX2_isProven 0 = .ok (.aload_n 0, 1) := dk_42 (dk_at dksX2_isProven_0 0 rfl rfl)
theorem dX2_isProven_1 : decode cX2_isProven 1 = .ok (.aload_n 0, 1) := dk_42 (dk_at dksX2_isProven_0 1 rfl rfl)
theorem dX2_isProven_2 : decode cX2_isProven 2 = .ok (.iload_n 1, 1) := dk_27 (dk_at dksX2_isProven_0 2 rfl rfl)
theorem dX2_isProven_3 : decode cX2_isProven 3 = .ok (.invokevirtual 149, 3) := dk_182 0 149 (dk_at dksX2_isProven_0 3 rfl rfl)
theorem dX2_isProven_6 : decode cX2_isProven 6 = .ok (.ifCond .eq 15, 3) := dk_153 0 15 (dk_at dksX2_isProven_0 6 rfl rfl)
theorem dX2_isProven_9 : decode cX2_isProven 9 = .ok (.aload_n 0, 1) := dk_42 (dk_at dksX2_isProven_0 9 rfl rfl)
theorem dX2_isProven_10 : decode cX2_isProven 10 = .ok (.iload_n 2, 1) := dk_28 (dk_at dksX2_isProven_0 10 rfl rfl)
theorem dX2_isProven_11 : decode cX2_isProven 11 = .ok (.invokevirtual 155, 3) := dk_182 0 155 (dk_at dksX2_isProven_0 11 rfl rfl)
theorem dX2_isProven_14 : decode cX2_isProven 14 = .ok (.ifCond .eq 7, 3) := dk_153 0 7 (dk_at dksX2_isProven_0 14 rfl rfl)
theorem dX2_isProven_17 : decode cX2_isProven 17 = .ok (.iconst 0, 1) := dk_3 (dk_at dksX2_isProven_0 17 rfl rfl)
theorem dX2_isProven_18 : decode cX2_isProven 18 = .ok (.goto 4, 3) := dk_167 0 4 (dk_at dksX2_isProven_0 18 rfl rfl)
theorem dX2_isProven_21 : decode cX2_isProven 21 = .ok (.iconst 1, 1) := dk_4 (dk_at dksX2_isProven_0 21 rfl rfl)
theorem dX2_isProven_22 : decode cX2_isProven 22 = .ok (.invokevirtual 123, 3) := dk_182 0 123 (dk_at dksX2_isProven_1 0 rfl rfl)
theorem dX2_isProven_25 : decode cX2_isProven 25 = .ok (.ifCond .eq 16, 3) := dk_153 0 16 (dk_at dksX2_isProven_1 3 rfl rfl)
theorem dX2_isProven_28 : decode cX2_isProven 28 = .ok (.aload_n 0, 1) := dk_42 (dk_at dksX2_isProven_1 6 rfl rfl)
theorem dX2_isProven_29 : decode cX2_isProven 29 = .ok (.iload_n 1, 1) := dk_27 (dk_at dksX2_isProven_1 7 rfl rfl)
theorem dX2_isProven_30 : decode cX2_isProven 30 = .ok (.iload_n 2, 1) := dk_28 (dk_at dksX2_isProven_1 8 rfl rfl)
theorem dX2_isProven_31 : decode cX2_isProven 31 = .ok (.invokevirtual 172, 3) := dk_182 0 172 (dk_at dksX2_isProven_1 9 rfl rfl)
theorem dX2_isProven_34 : decode cX2_isProven 34 = .ok (.ifCond .eq 7, 3) := dk_153 0 7 (dk_at dksX2_isProven_1 12 rfl rfl)
theorem dX2_isProven_37 : decode cX2_isProven 37 = .ok (.iconst 1, 1) := dk_4 (dk_at dksX2_isProven_1 15 rfl rfl)
theorem dX2_isProven_38 : decode cX2_isProven 38 = .ok (.goto 4, 3) := dk_167 0 4 (dk_at dksX2_isProven_1 16 rfl rfl)
theorem dX2_isProven_41 : decode cX2_isProven 41 = .ok (.iconst 0, 1) := dk_3 (dk_at dksX2_isProven_1 19 rfl rfl)
theorem dX2_isProven_42 : decode cX2_isProven 42 = .ok (.ireturn, 1) := dk_172 (dk_at dksX2_isProven_1 20 rfl rfl)
abbrev cX2_isDue : ByteArray := prog_6_method_53_code
def yX2_isDue : MethodName := ⟨RX2, "isDue", "(I)Z"⟩
def dkwX2_isDue_1 : List UInt8 := [182, 0, 191, 153, 0, 7, 4, 167, 0, 4, 3, 172]
abbrev dktX2_isDue_1 : List UInt8 := dkwX2_isDue_1 ++ []
def dkwX2_isDue_0 : List UInt8 := [42, 42, 27, 182, 0, 149, 153, 0, 7, 3, 167, 0, 4, 4, 182, 0, 123, 153, 0, 15, 42, 27]
abbrev dktX2_isDue_0 : List UInt8 := dkwX2_isDue_0 ++ dktX2_isDue_1
theorem dksX2_isDue_0 : cX2_isDue.data.toList.drop 0 = dktX2_isDue_0 := by decide +kernel
theorem dksX2_isDue_1 : cX2_isDue.data.toList.drop 22 = dktX2_isDue_1 := dk_seg dksX2_isDue_0 22 rfl rfl
theorem dX2_isDue_0 : decode cX2_isDue 0 = .ok (.aload_n 0, 1) := dk_42 (dk_at dksX2_isDue_0 0 rfl rfl)
theorem dX2_isDue_1 : decode cX2_isDue 1 = .ok (.aload_n 0, 1) := dk_42 (dk_at dksX2_isDue_0 1 rfl rfl)
theorem dX2_isDue_2 : decode cX2_isDue 2 = .ok (.iload_n 1, 1) := dk_27 (dk_at dksX2_isDue_0 2 rfl rfl)
theorem dX2_isDue_3 : decode cX2_isDue 3 = .ok (.invokevirtual 149, 3) := dk_182 0 149 (dk_at dksX2_isDue_0 3 rfl rfl)
theorem dX2_isDue_6 : decode cX2_isDue 6 = .ok (.ifCond .eq 7, 3) := dk_153 0 7 (dk_at dksX2_isDue_0 6 rfl rfl)
theorem dX2_isDue_9 : decode cX2_isDue 9 = .ok (.iconst 0, 1) := dk_3 (dk_at dksX2_isDue_0 9 rfl rfl)
theorem dX2_isDue_10 : decode cX2_isDue 10 = .ok (.goto 4, 3) := dk_167 0 4 (dk_at dksX2_isDue_0 10 rfl rfl)
theorem dX2_isDue_13 : decode cX2_isDue 13 = .ok (.iconst 1, 1) := dk_4 (dk_at dksX2_isDue_0 13 rfl rfl)
theorem dX2_isDue_14 : decode cX2_isDue 14 = .ok (.invokevirtual 123, 3) := dk_182 0 123 (dk_at dksX2_isDue_0 14 rfl rfl)
theorem dX2_isDue_17 : decode cX2_isDue 17 = .ok (.ifCond .eq 15, 3) := dk_153 0 15 (dk_at dksX2_isDue_0 17 rfl rfl)
theorem dX2_isDue_20 : decode cX2_isDue 20 = .ok (.aload_n 0, 1) := dk_42 (dk_at dksX2_isDue_0 20 rfl rfl)
theorem dX2_isDue_21 : decode cX2_isDue 21 = .ok (.iload_n 1, 1) := dk_27 (dk_at dksX2_isDue_0 21 rfl rfl)
theorem dX2_isDue_22 : decode cX2_isDue 22 = .ok (.invokevirtual 191, 3) := dk_182 0 191 (dk_at dksX2_isDue_1 0 rfl rfl)
theorem dX2_isDue_25 : decode cX2_isDue 25 = .ok (.ifCond .eq 7, 3) := dk_153 0 7 (dk_at dksX2_isDue_1 3 rfl rfl)
theorem dX2_isDue_28 : decode cX2_isDue 28 = .ok (.iconst 1, 1) := dk_4 (dk_at dksX2_isDue_1 6 rfl rfl)
theorem dX2_isDue_29 : decode cX2_isDue 29 = .ok (.goto 4, 3) := dk_167 0 4 (dk_at dksX2_isDue_1 7 rfl rfl)
theorem dX2_isDue_32 : decode cX2_isDue 32 = .ok (.iconst 0, 1) := dk_3 (dk_at dksX2_isDue_1 10 rfl rfl)
theorem dX2_isDue_33 : decode cX2_isDue 33 = .ok (.ireturn, 1) := dk_172 (dk_at dksX2_isDue_1 11 rfl rfl)
abbrev cX2_ofFind : ByteArray := prog_6_method_54_code
def yX2_ofFind : MethodName := ⟨RX2, "ofFind", "(II)I"⟩
def dkwX2_ofFind_5 : List UInt8 := [46, 172, 42, 180, 0, 38, 27, 46, 172, 42, 180, 0, 69, 27, 46, 172]
abbrev dktX2_ofFind_5 : List UInt8 := dkwX2_ofFind_5 ++ []
def dkwX2_ofFind_4 : List UInt8 := [160, 0, 12, 42, 180, 0, 53, 27, 46, 167, 0, 9, 42, 180, 0, 50, 27, 46, 172, 42, 180, 0, 56, 27]
abbrev dktX2_ofFind_4 : List UInt8 := dkwX2_ofFind_4 ++ dktX2_ofFind_5
def dkwX2_ofFind_3 : List UInt8 := [42, 180, 0, 47, 27, 46, 172, 42, 180, 0, 47, 27, 46, 4, 159, 0, 13, 42, 180, 0, 47, 27, 46, 5]
abbrev dktX2_ofFind_3 : List UInt8 := dkwX2_ofFind_3 ++ dktX2_ofFind_4
def dkwX2_ofFind_2 : List UInt8 := [170, 0, 0, 0, 0, 0, 0, 89, 0, 0, 0, 0, 0, 0, 0, 3, 0, 0, 0, 32, 0, 0, 0, 39, 0, 0, 0, 75, 0, 0, 0, 82]
abbrev dktX2_ofFind_2 : List UInt8 := dkwX2_ofFind_2 ++ dktX2_ofFind_3
def dkwX2_ofFind_1 : List UInt8 := [167, 0, 4, 5, 182, 0, 123, 154, 0, 5, 3, 172, 28]
abbrev dktX2_ofFind_1 : List UInt8 := dkwX2_ofFind_1 ++ dktX2_ofFind_2
def dkwX2_ofFind_0 : List UInt8 := [42, 42, 27, 182, 0, 149, 154, 0, 7, 4, 167, 0, 17, 28, 3, 7, 184, 0, 108, 153, 0, 7, 3]
abbrev dktX2_ofFind_0 : List UInt8 := dkwX2_ofFind_0 ++ dktX2_ofFind_1
theorem dksX2_ofFind_0 : cX2_ofFind.data.toList.drop 0 = dktX2_ofFind_0 := by decide +kernel
theorem dksX2_ofFind_1 : cX2_ofFind.data.toList.drop 23 = dktX2_ofFind_1 := dk_seg dksX2_ofFind_0 23 rfl rfl
theorem dksX2_ofFind_2 : cX2_ofFind.data.toList.drop 36 = dktX2_ofFind_2 := dk_seg dksX2_ofFind_1 13 rfl rfl
theorem dksX2_ofFind_3 : cX2_ofFind.data.toList.drop 68 = dktX2_ofFind_3 := dk_seg dksX2_ofFind_2 32 rfl rfl
theorem dksX2_ofFind_4 : cX2_ofFind.data.toList.drop 92 = dktX2_ofFind_4 := dk_seg dksX2_ofFind_3 24 rfl rfl
theorem dksX2_ofFind_5 : cX2_ofFind.data.toList.drop 116 = dktX2_ofFind_5 := dk_seg dksX2_ofFind_4 24 rfl rfl
theorem dX2_ofFind_0 : decode cX2_ofFind 0 = .ok (.aload_n 0, 1) := dk_42 (dk_at dksX2_ofFind_0 0 rfl rfl)
theorem dX2_ofFind_1 : decode cX2_ofFind 1 = .ok (.aload_n 0, 1) := dk_42 (dk_at dksX2_ofFind_0 1 rfl rfl)
theorem dX2_ofFind_2 : decode cX2_ofFind 2 = .ok (.iload_n 1, 1) := dk_27 (dk_at dksX2_ofFind_0 2 rfl rfl)
theorem dX2_ofFind_3 : decode cX2_ofFind 3 = .ok (.invokevirtual 149, 3) := dk_182 0 149 (dk_at dksX2_ofFind_0 3 rfl rfl)
theorem dX2_ofFind_6 : decode cX2_ofFind 6 = .ok (.ifCond .ne 7, 3) := dk_154 0 7 (dk_at dksX2_ofFind_0 6 rfl rfl)
theorem dX2_ofFind_9 : decode cX2_ofFind 9 = .ok (.iconst 1, 1) := dk_4 (dk_at dksX2_ofFind_0 9 rfl rfl)
theorem dX2_ofFind_10 : decode cX2_ofFind 10 = .ok (.goto 17, 3) := dk_167 0 17 (dk_at dksX2_ofFind_0 10 rfl rfl)
theorem dX2_ofFind_13 : decode cX2_ofFind 13 = .ok (.iload_n 2, 1) := dk_28 (dk_at dksX2_ofFind_0 13 rfl rfl)
theorem dX2_ofFind_14 : decode cX2_ofFind 14 = .ok (.iconst 0, 1) := dk_3 (dk_at dksX2_ofFind_0 14 rfl rfl)
theorem dX2_ofFind_15 : decode cX2_ofFind 15 = .ok (.iconst 4, 1) := dk_7 (dk_at dksX2_ofFind_0 15 rfl rfl)
theorem dX2_ofFind_16 : decode cX2_ofFind 16 = .ok (.invokestatic 108, 3) := dk_184 0 108 (dk_at dksX2_ofFind_0 16 rfl rfl)
theorem dX2_ofFind_19 : decode cX2_ofFind 19 = .ok (.ifCond .eq 7, 3) := dk_153 0 7 (dk_at dksX2_ofFind_0 19 rfl rfl)
theorem dX2_ofFind_22 : decode cX2_ofFind 22 = .ok (.iconst 0, 1) := dk_3 (dk_at dksX2_ofFind_0 22 rfl rfl)
theorem dX2_ofFind_23 : decode cX2_ofFind 23 = .ok (.goto 4, 3) := dk_167 0 4 (dk_at dksX2_ofFind_1 0 rfl rfl)
theorem dX2_ofFind_26 : decode cX2_ofFind 26 = .ok (.iconst 2, 1) := dk_5 (dk_at dksX2_ofFind_1 3 rfl rfl)
theorem dX2_ofFind_27 : decode cX2_ofFind 27 = .ok (.invokevirtual 123, 3) := dk_182 0 123 (dk_at dksX2_ofFind_1 4 rfl rfl)
theorem dX2_ofFind_30 : decode cX2_ofFind 30 = .ok (.ifCond .ne 5, 3) := dk_154 0 5 (dk_at dksX2_ofFind_1 7 rfl rfl)
theorem dX2_ofFind_33 : decode cX2_ofFind 33 = .ok (.iconst 0, 1) := dk_3 (dk_at dksX2_ofFind_1 10 rfl rfl)
theorem dX2_ofFind_34 : decode cX2_ofFind 34 = .ok (.ireturn, 1) := dk_172 (dk_at dksX2_ofFind_1 11 rfl rfl)
theorem dX2_ofFind_35 : decode cX2_ofFind 35 = .ok (.iload_n 2, 1) := dk_28 (dk_at dksX2_ofFind_1 12 rfl rfl)
theorem dX2_ofFind_36 : decode cX2_ofFind 36 = .ok (.tableswitch 89 0 3 #[32, 39, 75, 82], 32) := by decide +kernel
theorem dX2_ofFind_68 : decode cX2_ofFind 68 = .ok (.aload_n 0, 1) := dk_42 (dk_at dksX2_ofFind_3 0 rfl rfl)
theorem dX2_ofFind_69 : decode cX2_ofFind 69 = .ok (.getfield 47, 3) := dk_180 0 47 (dk_at dksX2_ofFind_3 1 rfl rfl)
theorem dX2_ofFind_72 : decode cX2_ofFind 72 = .ok (.iload_n 1, 1) := dk_27 (dk_at dksX2_ofFind_3 4 rfl rfl)
theorem dX2_ofFind_73 : decode cX2_ofFind 73 = .ok (.iaload, 1) := dk_46 (dk_at dksX2_ofFind_3 5 rfl rfl)
theorem dX2_ofFind_74 : decode cX2_ofFind 74 = .ok (.ireturn, 1) := dk_172 (dk_at dksX2_ofFind_3 6 rfl rfl)
theorem dX2_ofFind_75 : decode cX2_ofFind 75 = .ok (.aload_n 0, 1) := dk_42 (dk_at dksX2_ofFind_3 7 rfl rfl)
theorem dX2_ofFind_76 : decode cX2_ofFind 76 = .ok (.getfield 47, 3) := dk_180 0 47 (dk_at dksX2_ofFind_3 8 rfl rfl)
theorem dX2_ofFind_79 : decode cX2_ofFind 79 = .ok (.iload_n 1, 1) := dk_27 (dk_at dksX2_ofFind_3 11 rfl rfl)
theorem dX2_ofFind_80 : decode cX2_ofFind 80 = .ok (.iaload, 1) := dk_46 (dk_at dksX2_ofFind_3 12 rfl rfl)
theorem dX2_ofFind_81 : decode cX2_ofFind 81 = .ok (.iconst 1, 1) := dk_4 (dk_at dksX2_ofFind_3 13 rfl rfl)
theorem dX2_ofFind_82 : decode cX2_ofFind 82 = .ok (.if_icmp .eq 13, 3) := dk_159 0 13 (dk_at dksX2_ofFind_3 14 rfl rfl)
theorem dX2_ofFind_85 : decode cX2_ofFind 85 = .ok (.aload_n 0, 1) := dk_42 (dk_at dksX2_ofFind_3 17 rfl rfl)
theorem dX2_ofFind_86 : decode cX2_ofFind 86 = .ok (.getfield 47, 3) := dk_180 0 47 (dk_at dksX2_ofFind_3 18 rfl rfl)
theorem dX2_ofFind_89 : decode cX2_ofFind 89 = .ok (.iload_n 1, 1) := dk_27 (dk_at dksX2_ofFind_3 21 rfl rfl)
theorem dX2_ofFind_90 : decode cX2_ofFind 90 = .ok (.iaload, 1) := dk_46 (dk_at dksX2_ofFind_3 22 rfl rfl)
theorem dX2_ofFind_91 : decode cX2_ofFind 91 = .ok (.iconst 2, 1) := dk_5 (dk_at dksX2_ofFind_3 23 rfl rfl)
theorem dX2_ofFind_92 : decode cX2_ofFind 92 = .ok (.if_icmp .ne 12, 3) := dk_160 0 12 (dk_at dksX2_ofFind_4 0 rfl rfl)
theorem dX2_ofFind_95 : decode cX2_ofFind 95 = .ok (.aload_n 0, 1) := dk_42 (dk_at dksX2_ofFind_4 3 rfl rfl)
theorem dX2_ofFind_96 : decode cX2_ofFind 96 = .ok (.getfield 53, 3) := dk_180 0 53 (dk_at dksX2_ofFind_4 4 rfl rfl)
theorem dX2_ofFind_99 : decode cX2_ofFind 99 = .ok (.iload_n 1, 1) := dk_27 (dk_at dksX2_ofFind_4 7 rfl rfl)
theorem dX2_ofFind_100 : decode cX2_ofFind 100 = .ok (.iaload, 1) := dk_46 (dk_at dksX2_ofFind_4 8 rfl rfl)
theorem dX2_ofFind_101 : decode cX2_ofFind 101 = .ok (.goto 9, 3) := dk_167 0 9 (dk_at dksX2_ofFind_4 9 rfl rfl)
theorem dX2_ofFind_104 : decode cX2_ofFind 104 = .ok (.aload_n 0, 1) := dk_42 (dk_at dksX2_ofFind_4 12 rfl rfl)
theorem dX2_ofFind_105 : decode cX2_ofFind 105 = .ok (.getfield 50, 3) := dk_180 0 50 (dk_at dksX2_ofFind_4 13 rfl rfl)
theorem dX2_ofFind_108 : decode cX2_ofFind 108 = .ok (.iload_n 1, 1) := dk_27 (dk_at dksX2_ofFind_4 16 rfl rfl)
theorem dX2_ofFind_109 : decode cX2_ofFind 109 = .ok (.iaload, 1) := dk_46 (dk_at dksX2_ofFind_4 17 rfl rfl)
theorem dX2_ofFind_110 : decode cX2_ofFind 110 = .ok (.ireturn, 1) := dk_172 (dk_at dksX2_ofFind_4 18 rfl rfl)
theorem dX2_ofFind_111 : decode cX2_ofFind 111 = .ok (.aload_n 0, 1) := dk_42 (dk_at dksX2_ofFind_4 19 rfl rfl)
theorem dX2_ofFind_112 : decode cX2_ofFind 112 = .ok (.getfield 56, 3) := dk_180 0 56 (dk_at dksX2_ofFind_4 20 rfl rfl)
theorem dX2_ofFind_115 : decode cX2_ofFind 115 = .ok (.iload_n 1, 1) := dk_27 (dk_at dksX2_ofFind_4 23 rfl rfl)
theorem dX2_ofFind_116 : decode cX2_ofFind 116 = .ok (.iaload, 1) := dk_46 (dk_at dksX2_ofFind_5 0 rfl rfl)
theorem dX2_ofFind_117 : decode cX2_ofFind 117 = .ok (.ireturn, 1) := dk_172 (dk_at dksX2_ofFind_5 1 rfl rfl)
theorem dX2_ofFind_118 : decode cX2_ofFind 118 = .ok (.aload_n 0, 1) := dk_42 (dk_at dksX2_ofFind_5 2 rfl rfl)
theorem dX2_ofFind_119 : decode cX2_ofFind 119 = .ok (.getfield 38, 3) := dk_180 0 38 (dk_at dksX2_ofFind_5 3 rfl rfl)
theorem dX2_ofFind_122 : decode cX2_ofFind 122 = .ok (.iload_n 1, 1) := dk_27 (dk_at dksX2_ofFind_5 6 rfl rfl)
theorem dX2_ofFind_123 : decode cX2_ofFind 123 = .ok (.iaload, 1) := dk_46 (dk_at dksX2_ofFind_5 7 rfl rfl)
theorem dX2_ofFind_124 : decode cX2_ofFind 124 = .ok (.ireturn, 1) := dk_172 (dk_at dksX2_ofFind_5 8 rfl rfl)
theorem dX2_ofFind_125 : decode cX2_ofFind 125 = .ok (.aload_n 0, 1) := dk_42 (dk_at dksX2_ofFind_5 9 rfl rfl)
theorem dX2_ofFind_126 : decode cX2_ofFind 126 = .ok (.getfield 69, 3) := dk_180 0 69 (dk_at dksX2_ofFind_5 10 rfl rfl)
theorem dX2_ofFind_129 : decode cX2_ofFind 129 = .ok (.iload_n 1, 1) := dk_27 (dk_at dksX2_ofFind_5 13 rfl rfl)
theorem dX2_ofFind_130 : decode cX2_ofFind 130 = .ok (.iaload, 1) := dk_46 (dk_at dksX2_ofFind_5 14 rfl rfl)
theorem dX2_ofFind_131 : decode cX2_ofFind 131 = .ok (.ireturn, 1) := dk_172 (dk_at dksX2_ofFind_5 15 rfl rfl)
abbrev cX2_hand : ByteArray := prog_6_method_55_code
def yX2_hand : MethodName := ⟨RX2, "hand", "(IIZ)I"⟩
def dkwX2_hand_3 : List UInt8 := [16, 12, 27, 104, 28, 96, 46, 172]
abbrev dktX2_hand_3 : List UInt8 := dkwX2_hand_3 ++ []
def dkwX2_hand_2 : List UInt8 := [3, 172, 29, 153, 0, 17, 42, 180, 0, 75, 16, 12, 27, 104, 28, 96, 46, 167, 0, 14, 42, 180, 0, 72]
abbrev dktX2_hand_2 : List UInt8 := dkwX2_hand_2 ++ dktX2_hand_3
def dkwX2_hand_1 : List UInt8 := [4, 167, 0, 4, 3, 54, 4, 42, 21, 4, 153, 0, 7, 3, 167, 0, 4, 4, 182, 0, 123, 154, 0, 5]
abbrev dktX2_hand_1 : List UInt8 := dkwX2_hand_1 ++ dktX2_hand_2
def dkwX2_hand_0 : List UInt8 := [42, 27, 182, 0, 149, 153, 0, 23, 28, 3, 42, 180, 0, 69, 27, 46, 4, 100, 184, 0, 108, 153, 0, 7]
abbrev dktX2_hand_0 : List UInt8 := dkwX2_hand_0 ++ dktX2_hand_1
theorem dksX2_hand_0 : cX2_hand.data.toList.drop 0 = dktX2_hand_0 := by decide +kernel
theorem dksX2_hand_1 : cX2_hand.data.toList.drop 24 = dktX2_hand_1 := dk_seg dksX2_hand_0 24 rfl rfl
theorem dksX2_hand_2 : cX2_hand.data.toList.drop 48 = dktX2_hand_2 := dk_seg dksX2_hand_1 24 rfl rfl
theorem dksX2_hand_3 : cX2_hand.data.toList.drop 72 = dktX2_hand_3 := dk_seg dksX2_hand_2 24 rfl rfl
theorem dX2_hand_0 : decode cX2_hand 0 = .ok (.aload_n 0, 1) := dk_42 (dk_at dksX2_hand_0 0 rfl rfl)
theorem dX2_hand_1 : decode cX2_hand 1 = .ok (.iload_n 1, 1) := dk_27 (dk_at dksX2_hand_0 1 rfl rfl)
theorem dX2_hand_2 : decode cX2_hand 2 = .ok (.invokevirtual 149, 3) := dk_182 0 149 (dk_at dksX2_hand_0 2 rfl rfl)
theorem dX2_hand_5 : decode cX2_hand 5 = .ok (.ifCond .eq 23, 3) := dk_153 0 23 (dk_at dksX2_hand_0 5 rfl rfl)
theorem dX2_hand_8 : decode cX2_hand 8 = .ok (.iload_n 2, 1) := dk_28 (dk_at dksX2_hand_0 8 rfl rfl)
theorem dX2_hand_9 : decode cX2_hand 9 = .ok (.iconst 0, 1) := dk_3 (dk_at dksX2_hand_0 9 rfl rfl)
theorem dX2_hand_10 : decode cX2_hand 10 = .ok (.aload_n 0, 1) := dk_42 (dk_at dksX2_hand_0 10 rfl rfl)
theorem dX2_hand_11 : decode cX2_hand 11 = .ok (.getfield 69, 3) := dk_180 0 69 (dk_at dksX2_hand_0 11 rfl rfl)
theorem dX2_hand_14 : decode cX2_hand 14 = .ok (.iload_n 1, 1) := dk_27 (dk_at dksX2_hand_0 14 rfl rfl)
theorem dX2_hand_15 : decode cX2_hand 15 = .ok (.iaload, 1) := dk_46 (dk_at dksX2_hand_0 15 rfl rfl)
theorem dX2_hand_16 : decode cX2_hand 16 = .ok (.iconst 1, 1) := dk_4 (dk_at dksX2_hand_0 16 rfl rfl)
theorem dX2_hand_17 : decode cX2_hand 17 = .ok (.isub, 1) := dk_100 (dk_at dksX2_hand_0 17 rfl rfl)
theorem dX2_hand_18 : decode cX2_hand 18 = .ok (.invokestatic 108, 3) := dk_184 0 108 (dk_at dksX2_hand_0 18 rfl rfl)
theorem dX2_hand_21 : decode cX2_hand 21 = .ok (.ifCond .eq 7, 3) := dk_153 0 7 (dk_at dksX2_hand_0 21 rfl rfl)
theorem dX2_hand_24 : decode cX2_hand 24 = .ok (.iconst 1, 1) := dk_4 (dk_at dksX2_hand_1 0 rfl rfl)
theorem dX2_hand_25 : decode cX2_hand 25 = .ok (.goto 4, 3) := dk_167 0 4 (dk_at dksX2_hand_1 1 rfl rfl)
theorem dX2_hand_28 : decode cX2_hand 28 = .ok (.iconst 0, 1) := dk_3 (dk_at dksX2_hand_1 4 rfl rfl)
theorem dX2_hand_29 : decode cX2_hand 29 = .ok (.istore 4, 2) := dk_54 4 (dk_at dksX2_hand_1 5 rfl rfl)
theorem dX2_hand_31 : decode cX2_hand 31 = .ok (.aload_n 0, 1) := dk_42 (dk_at dksX2_hand_1 7 rfl rfl)
theorem dX2_hand_32 : decode cX2_hand 32 = .ok (.iload 4, 2) := dk_21 4 (dk_at dksX2_hand_1 8 rfl rfl)
theorem dX2_hand_34 : decode cX2_hand 34 = .ok (.ifCond .eq 7, 3) := dk_153 0 7 (dk_at dksX2_hand_1 10 rfl rfl)
theorem dX2_hand_37 : decode cX2_hand 37 = .ok (.iconst 0, 1) := dk_3 (dk_at dksX2_hand_1 13 rfl rfl)
theorem dX2_hand_38 : decode cX2_hand 38 = .ok (.goto 4, 3) := dk_167 0 4 (dk_at dksX2_hand_1 14 rfl rfl)
theorem dX2_hand_41 : decode cX2_hand 41 = .ok (.iconst 1, 1) := dk_4 (dk_at dksX2_hand_1 17 rfl rfl)
theorem dX2_hand_42 : decode cX2_hand 42 = .ok (.invokevirtual 123, 3) := dk_182 0 123 (dk_at dksX2_hand_1 18 rfl rfl)
theorem dX2_hand_45 : decode cX2_hand 45 = .ok (.ifCond .ne 5, 3) := dk_154 0 5 (dk_at dksX2_hand_1 21 rfl rfl)
theorem dX2_hand_48 : decode cX2_hand 48 = .ok (.iconst 0, 1) := dk_3 (dk_at dksX2_hand_2 0 rfl rfl)
theorem dX2_hand_49 : decode cX2_hand 49 = .ok (.ireturn, 1) := dk_172 (dk_at dksX2_hand_2 1 rfl rfl)
theorem dX2_hand_50 : decode cX2_hand 50 = .ok (.iload_n 3, 1) := dk_29 (dk_at dksX2_hand_2 2 rfl rfl)
theorem dX2_hand_51 : decode cX2_hand 51 = .ok (.ifCond .eq 17, 3) := dk_153 0 17 (dk_at dksX2_hand_2 3 rfl rfl)
theorem dX2_hand_54 : decode cX2_hand 54 = .ok (.aload_n 0, 1) := dk_42 (dk_at dksX2_hand_2 6 rfl rfl)
theorem dX2_hand_55 : decode cX2_hand 55 = .ok (.getfield 75, 3) := dk_180 0 75 (dk_at dksX2_hand_2 7 rfl rfl)
theorem dX2_hand_58 : decode cX2_hand 58 = .ok (.bipush 12, 2) := dk_16 12 (dk_at dksX2_hand_2 10 rfl rfl)
theorem dX2_hand_60 : decode cX2_hand 60 = .ok (.iload_n 1, 1) := dk_27 (dk_at dksX2_hand_2 12 rfl rfl)
theorem dX2_hand_61 : decode cX2_hand 61 = .ok (.imul, 1) := dk_104 (dk_at dksX2_hand_2 13 rfl rfl)
theorem dX2_hand_62 : decode cX2_hand 62 = .ok (.iload_n 2, 1) := dk_28 (dk_at dksX2_hand_2 14 rfl rfl)
theorem dX2_hand_63 : decode cX2_hand 63 = .ok (.iadd, 1) := dk_96 (dk_at dksX2_hand_2 15 rfl rfl)
theorem dX2_hand_64 : decode cX2_hand 64 = .ok (.iaload, 1) := dk_46 (dk_at dksX2_hand_2 16 rfl rfl)
theorem dX2_hand_65 : decode cX2_hand 65 = .ok (.goto 14, 3) := dk_167 0 14 (dk_at dksX2_hand_2 17 rfl rfl)
theorem dX2_hand_68 : decode cX2_hand 68 = .ok (.aload_n 0, 1) := dk_42 (dk_at dksX2_hand_2 20 rfl rfl)
theorem dX2_hand_69 : decode cX2_hand 69 = .ok (.getfield 72, 3) := dk_180 0 72 (dk_at dksX2_hand_2 21 rfl rfl)
theorem dX2_hand_72 : decode cX2_hand 72 = .ok (.bipush 12, 2) := dk_16 12 (dk_at dksX2_hand_3 0 rfl rfl)
theorem dX2_hand_74 : decode cX2_hand 74 = .ok (.iload_n 1, 1) := dk_27 (dk_at dksX2_hand_3 2 rfl rfl)
theorem dX2_hand_75 : decode cX2_hand 75 = .ok (.imul, 1) := dk_104 (dk_at dksX2_hand_3 3 rfl rfl)
theorem dX2_hand_76 : decode cX2_hand 76 = .ok (.iload_n 2, 1) := dk_28 (dk_at dksX2_hand_3 4 rfl rfl)
theorem dX2_hand_77 : decode cX2_hand 77 = .ok (.iadd, 1) := dk_96 (dk_at dksX2_hand_3 5 rfl rfl)
theorem dX2_hand_78 : decode cX2_hand 78 = .ok (.iaload, 1) := dk_46 (dk_at dksX2_hand_3 6 rfl rfl)
theorem dX2_hand_79 : decode cX2_hand 79 = .ok (.ireturn, 1) := dk_172 (dk_at dksX2_hand_3 7 rfl rfl)
abbrev cX2_ofClaim : ByteArray := prog_6_method_56_code
def yX2_ofClaim : MethodName := ⟨RX2, "ofClaim", "(II)I"⟩
def dkwX2_ofClaim_3 : List UInt8 := [180, 0, 93, 27, 46, 167, 0, 9, 42, 180, 0, 102, 27, 46, 172]
abbrev dktX2_ofClaim_3 : List UInt8 := dkwX2_ofClaim_3 ++ []
def dkwX2_ofClaim_2 : List UInt8 := [167, 0, 37, 28, 4, 160, 0, 12, 42, 180, 0, 90, 27, 46, 167, 0, 23, 28, 5, 160, 0, 12, 42]
abbrev dktX2_ofClaim_2 : List UInt8 := dkwX2_ofClaim_2 ++ dktX2_ofClaim_3
def dkwX2_ofClaim_1 : List UInt8 := [167, 0, 4, 5, 182, 0, 123, 154, 0, 5, 3, 172, 28, 154, 0, 12, 42, 180, 0, 96, 27, 46]
abbrev dktX2_ofClaim_1 : List UInt8 := dkwX2_ofClaim_1 ++ dktX2_ofClaim_2
def dkwX2_ofClaim_0 : List UInt8 := [42, 42, 27, 182, 0, 155, 154, 0, 7, 4, 167, 0, 17, 28, 3, 6, 184, 0, 108, 153, 0, 7, 3]
abbrev dktX2_ofClaim_0 : List UInt8 := dkwX2_ofClaim_0 ++ dktX2_ofClaim_1
theorem dksX2_ofClaim_0 : cX2_ofClaim.data.toList.drop 0 = dktX2_ofClaim_0 := by decide +kernel
theorem dksX2_ofClaim_1 : cX2_ofClaim.data.toList.drop 23 = dktX2_ofClaim_1 := dk_seg dksX2_ofClaim_0 23 rfl rfl
theorem dksX2_ofClaim_2 : cX2_ofClaim.data.toList.drop 45 = dktX2_ofClaim_2 := dk_seg dksX2_ofClaim_1 22 rfl rfl
theorem dksX2_ofClaim_3 : cX2_ofClaim.data.toList.drop 68 = dktX2_ofClaim_3 := dk_seg dksX2_ofClaim_2 23 rfl rfl
theorem dX2_ofClaim_0 : decode cX2_ofClaim 0 = .ok (.aload_n 0, 1) := dk_42 (dk_at dksX2_ofClaim_0 0 rfl rfl)
theorem dX2_ofClaim_1 : decode cX2_ofClaim 1 = .ok (.aload_n 0, 1) := dk_42 (dk_at dksX2_ofClaim_0 1 rfl rfl)
theorem dX2_ofClaim_2 : decode cX2_ofClaim 2 = .ok (.iload_n 1, 1) := dk_27 (dk_at dksX2_ofClaim_0 2 rfl rfl)
theorem dX2_ofClaim_3 : decode cX2_ofClaim 3 = .ok (.invokevirtual 155, 3) := dk_182 0 155 (dk_at dksX2_ofClaim_0 3 rfl rfl)
theorem dX2_ofClaim_6 : decode cX2_ofClaim 6 = .ok (.ifCond .ne 7, 3) := dk_154 0 7 (dk_at dksX2_ofClaim_0 6 rfl rfl)
theorem dX2_ofClaim_9 : decode cX2_ofClaim 9 = .ok (.iconst 1, 1) := dk_4 (dk_at dksX2_ofClaim_0 9 rfl rfl)
theorem dX2_ofClaim_10 : decode cX2_ofClaim 10 = .ok (.goto 17, 3) := dk_167 0 17 (dk_at dksX2_ofClaim_0 10 rfl rfl)
theorem dX2_ofClaim_13 : decode cX2_ofClaim 13 = .ok (.iload_n 2, 1) := dk_28 (dk_at dksX2_ofClaim_0 13 rfl rfl)
theorem dX2_ofClaim_14 : decode cX2_ofClaim 14 = .ok (.iconst 0, 1) := dk_3 (dk_at dksX2_ofClaim_0 14 rfl rfl)
theorem dX2_ofClaim_15 : decode cX2_ofClaim 15 = .ok (.iconst 3, 1) := dk_6 (dk_at dksX2_ofClaim_0 15 rfl rfl)
theorem dX2_ofClaim_16 : decode cX2_ofClaim 16 = .ok (.invokestatic 108, 3) := dk_184 0 108 (dk_at dksX2_ofClaim_0 16 rfl rfl)
theorem dX2_ofClaim_19 : decode cX2_ofClaim 19 = .ok (.ifCond .eq 7, 3) := dk_153 0 7 (dk_at dksX2_ofClaim_0 19 rfl rfl)
theorem dX2_ofClaim_22 : decode cX2_ofClaim 22 = .ok (.iconst 0, 1) := dk_3 (dk_at dksX2_ofClaim_0 22 rfl rfl)
theorem dX2_ofClaim_23 : decode cX2_ofClaim 23 = .ok (.goto 4, 3) := dk_167 0 4 (dk_at dksX2_ofClaim_1 0 rfl rfl)
theorem dX2_ofClaim_26 : decode cX2_ofClaim 26 = .ok (.iconst 2, 1) := dk_5 (dk_at dksX2_ofClaim_1 3 rfl rfl)
theorem dX2_ofClaim_27 : decode cX2_ofClaim 27 = .ok (.invokevirtual 123, 3) := dk_182 0 123 (dk_at dksX2_ofClaim_1 4 rfl rfl)
theorem dX2_ofClaim_30 : decode cX2_ofClaim 30 = .ok (.ifCond .ne 5, 3) := dk_154 0 5 (dk_at dksX2_ofClaim_1 7 rfl rfl)
theorem dX2_ofClaim_33 : decode cX2_ofClaim 33 = .ok (.iconst 0, 1) := dk_3 (dk_at dksX2_ofClaim_1 10 rfl rfl)
theorem dX2_ofClaim_34 : decode cX2_ofClaim 34 = .ok (.ireturn, 1) := dk_172 (dk_at dksX2_ofClaim_1 11 rfl rfl)
theorem dX2_ofClaim_35 : decode cX2_ofClaim 35 = .ok (.iload_n 2, 1) := dk_28 (dk_at dksX2_ofClaim_1 12 rfl rfl)
theorem dX2_ofClaim_36 : decode cX2_ofClaim 36 = .ok (.ifCond .ne 12, 3) := dk_154 0 12 (dk_at dksX2_ofClaim_1 13 rfl rfl)
theorem dX2_ofClaim_39 : decode cX2_ofClaim 39 = .ok (.aload_n 0, 1) := dk_42 (dk_at dksX2_ofClaim_1 16 rfl rfl)
theorem dX2_ofClaim_40 : decode cX2_ofClaim 40 = .ok (.getfield 96, 3) := dk_180 0 96 (dk_at dksX2_ofClaim_1 17 rfl rfl)
theorem dX2_ofClaim_43 : decode cX2_ofClaim 43 = .ok (.iload_n 1, 1) := dk_27 (dk_at dksX2_ofClaim_1 20 rfl rfl)
theorem dX2_ofClaim_44 : decode cX2_ofClaim 44 = .ok (.iaload, 1) := dk_46 (dk_at dksX2_ofClaim_1 21 rfl rfl)
theorem dX2_ofClaim_45 : decode cX2_ofClaim 45 = .ok (.goto 37, 3) := dk_167 0 37 (dk_at dksX2_ofClaim_2 0 rfl rfl)
theorem dX2_ofClaim_48 : decode cX2_ofClaim 48 = .ok (.iload_n 2, 1) := dk_28 (dk_at dksX2_ofClaim_2 3 rfl rfl)
theorem dX2_ofClaim_49 : decode cX2_ofClaim 49 = .ok (.iconst 1, 1) := dk_4 (dk_at dksX2_ofClaim_2 4 rfl rfl)
theorem dX2_ofClaim_50 : decode cX2_ofClaim 50 = .ok (.if_icmp .ne 12, 3) := dk_160 0 12 (dk_at dksX2_ofClaim_2 5 rfl rfl)
theorem dX2_ofClaim_53 : decode cX2_ofClaim 53 = .ok (.aload_n 0, 1) := dk_42 (dk_at dksX2_ofClaim_2 8 rfl rfl)
theorem dX2_ofClaim_54 : decode cX2_ofClaim 54 = .ok (.getfield 90, 3) := dk_180 0 90 (dk_at dksX2_ofClaim_2 9 rfl rfl)
theorem dX2_ofClaim_57 : decode cX2_ofClaim 57 = .ok (.iload_n 1, 1) := dk_27 (dk_at dksX2_ofClaim_2 12 rfl rfl)
theorem dX2_ofClaim_58 : decode cX2_ofClaim 58 = .ok (.iaload, 1) := dk_46 (dk_at dksX2_ofClaim_2 13 rfl rfl)
theorem dX2_ofClaim_59 : decode cX2_ofClaim 59 = .ok (.goto 23, 3) := dk_167 0 23 (dk_at dksX2_ofClaim_2 14 rfl rfl)
theorem dX2_ofClaim_62 : decode cX2_ofClaim 62 = .ok (.iload_n 2, 1) := dk_28 (dk_at dksX2_ofClaim_2 17 rfl rfl)
theorem dX2_ofClaim_63 : decode cX2_ofClaim 63 = .ok (.iconst 2, 1) := dk_5 (dk_at dksX2_ofClaim_2 18 rfl rfl)
theorem dX2_ofClaim_64 : decode cX2_ofClaim 64 = .ok (.if_icmp .ne 12, 3) := dk_160 0 12 (dk_at dksX2_ofClaim_2 19 rfl rfl)
theorem dX2_ofClaim_67 : decode cX2_ofClaim 67 = .ok (.aload_n 0, 1) := dk_42 (dk_at dksX2_ofClaim_2 22 rfl rfl)
theorem dX2_ofClaim_68 : decode cX2_ofClaim 68 = .ok (.getfield 93, 3) := dk_180 0 93 (dk_at dksX2_ofClaim_3 0 rfl rfl)
theorem dX2_ofClaim_71 : decode cX2_ofClaim 71 = .ok (.iload_n 1, 1) := dk_27 (dk_at dksX2_ofClaim_3 3 rfl rfl)
theorem dX2_ofClaim_72 : decode cX2_ofClaim 72 = .ok (.iaload, 1) := dk_46 (dk_at dksX2_ofClaim_3 4 rfl rfl)
theorem dX2_ofClaim_73 : decode cX2_ofClaim 73 = .ok (.goto 9, 3) := dk_167 0 9 (dk_at dksX2_ofClaim_3 5 rfl rfl)
theorem dX2_ofClaim_76 : decode cX2_ofClaim 76 = .ok (.aload_n 0, 1) := dk_42 (dk_at dksX2_ofClaim_3 8 rfl rfl)
theorem dX2_ofClaim_77 : decode cX2_ofClaim 77 = .ok (.getfield 102, 3) := dk_180 0 102 (dk_at dksX2_ofClaim_3 9 rfl rfl)
theorem dX2_ofClaim_80 : decode cX2_ofClaim 80 = .ok (.iload_n 1, 1) := dk_27 (dk_at dksX2_ofClaim_3 12 rfl rfl)
theorem dX2_ofClaim_81 : decode cX2_ofClaim 81 = .ok (.iaload, 1) := dk_46 (dk_at dksX2_ofClaim_3 13 rfl rfl)
theorem dX2_ofClaim_82 : decode cX2_ofClaim 82 = .ok (.ireturn, 1) := dk_172 (dk_at dksX2_ofClaim_3 14 rfl rfl)
abbrev cX2_money : ByteArray := prog_6_method_57_code
def yX2_money : MethodName := ⟨RX2, "money", "(I)I"⟩
def dkwX2_money_2 : List UInt8 := [180, 0, 194, 172]
abbrev dktX2_money_2 : List UInt8 := dkwX2_money_2 ++ []
def dkwX2_money_1 : List UInt8 := [154, 0, 10, 42, 180, 0, 185, 167, 0, 19, 27, 4, 160, 0, 10, 42, 180, 0, 188, 167, 0, 7, 42]
abbrev dktX2_money_1 : List UInt8 := dkwX2_money_1 ++ dktX2_money_2
def dkwX2_money_0 : List UInt8 := [42, 27, 3, 5, 184, 0, 108, 153, 0, 7, 3, 167, 0, 4, 4, 182, 0, 123, 154, 0, 5, 3, 172, 27]
abbrev dktX2_money_0 : List UInt8 := dkwX2_money_0 ++ dktX2_money_1
theorem dksX2_money_0 : cX2_money.data.toList.drop 0 = dktX2_money_0 := by decide +kernel
theorem dksX2_money_1 : cX2_money.data.toList.drop 24 = dktX2_money_1 := dk_seg dksX2_money_0 24 rfl rfl
theorem dksX2_money_2 : cX2_money.data.toList.drop 47 = dktX2_money_2 := dk_seg dksX2_money_1 23 rfl rfl
theorem dX2_money_0 : decode cX2_money 0 = .ok (.aload_n 0, 1) := dk_42 (dk_at dksX2_money_0 0 rfl rfl)
theorem dX2_money_1 : decode cX2_money 1 = .ok (.iload_n 1, 1) := dk_27 (dk_at dksX2_money_0 1 rfl rfl)
theorem dX2_money_2 : decode cX2_money 2 = .ok (.iconst 0, 1) := dk_3 (dk_at dksX2_money_0 2 rfl rfl)
theorem dX2_money_3 : decode cX2_money 3 = .ok (.iconst 2, 1) := dk_5 (dk_at dksX2_money_0 3 rfl rfl)
theorem dX2_money_4 : decode cX2_money 4 = .ok (.invokestatic 108, 3) := dk_184 0 108 (dk_at dksX2_money_0 4 rfl rfl)
theorem dX2_money_7 : decode cX2_money 7 = .ok (.ifCond .eq 7, 3) := dk_153 0 7 (dk_at dksX2_money_0 7 rfl rfl)
theorem dX2_money_10 : decode cX2_money 10 = .ok (.iconst 0, 1) := dk_3 (dk_at dksX2_money_0 10 rfl rfl)
theorem dX2_money_11 : decode cX2_money 11 = .ok (.goto 4, 3) := dk_167 0 4 (dk_at dksX2_money_0 11 rfl rfl)
theorem dX2_money_14 : decode cX2_money 14 = .ok (.iconst 1, 1) := dk_4 (dk_at dksX2_money_0 14 rfl rfl)
theorem dX2_money_15 : decode cX2_money 15 = .ok (.invokevirtual 123, 3) := dk_182 0 123 (dk_at dksX2_money_0 15 rfl rfl)
theorem dX2_money_18 : decode cX2_money 18 = .ok (.ifCond .ne 5, 3) := dk_154 0 5 (dk_at dksX2_money_0 18 rfl rfl)
theorem dX2_money_21 : decode cX2_money 21 = .ok (.iconst 0, 1) := dk_3 (dk_at dksX2_money_0 21 rfl rfl)
theorem dX2_money_22 : decode cX2_money 22 = .ok (.ireturn, 1) := dk_172 (dk_at dksX2_money_0 22 rfl rfl)
theorem dX2_money_23 : decode cX2_money 23 = .ok (.iload_n 1, 1) := dk_27 (dk_at dksX2_money_0 23 rfl rfl)
theorem dX2_money_24 : decode cX2_money 24 = .ok (.ifCond .ne 10, 3) := dk_154 0 10 (dk_at dksX2_money_1 0 rfl rfl)
theorem dX2_money_27 : decode cX2_money 27 = .ok (.aload_n 0, 1) := dk_42 (dk_at dksX2_money_1 3 rfl rfl)
theorem dX2_money_28 : decode cX2_money 28 = .ok (.getfield 185, 3) := dk_180 0 185 (dk_at dksX2_money_1 4 rfl rfl)
theorem dX2_money_31 : decode cX2_money 31 = .ok (.goto 19, 3) := dk_167 0 19 (dk_at dksX2_money_1 7 rfl rfl)
theorem dX2_money_34 : decode cX2_money 34 = .ok (.iload_n 1, 1) := dk_27 (dk_at dksX2_money_1 10 rfl rfl)
theorem dX2_money_35 : decode cX2_money 35 = .ok (.iconst 1, 1) := dk_4 (dk_at dksX2_money_1 11 rfl rfl)
theorem dX2_money_36 : decode cX2_money 36 = .ok (.if_icmp .ne 10, 3) := dk_160 0 10 (dk_at dksX2_money_1 12 rfl rfl)
theorem dX2_money_39 : decode cX2_money 39 = .ok (.aload_n 0, 1) := dk_42 (dk_at dksX2_money_1 15 rfl rfl)
theorem dX2_money_40 : decode cX2_money 40 = .ok (.getfield 188, 3) := dk_180 0 188 (dk_at dksX2_money_1 16 rfl rfl)
theorem dX2_money_43 : decode cX2_money 43 = .ok (.goto 7, 3) := dk_167 0 7 (dk_at dksX2_money_1 19 rfl rfl)
theorem dX2_money_46 : decode cX2_money 46 = .ok (.aload_n 0, 1) := dk_42 (dk_at dksX2_money_1 22 rfl rfl)
theorem dX2_money_47 : decode cX2_money 47 = .ok (.getfield 194, 3) := dk_180 0 194 (dk_at dksX2_money_2 0 rfl rfl)
theorem dX2_money_50 : decode cX2_money 50 = .ok (.ireturn, 1) := dk_172 (dk_at dksX2_money_2 3 rfl rfl)
abbrev cX2_audit : ByteArray := prog_6_method_58_code
def yX2_audit : MethodName := ⟨RX2, "audit", "(I)I"⟩
def dkwX2_audit_2 : List UInt8 := [46, 27, 160, 0, 9, 4, 29, 120, 167, 0, 4, 3, 128, 61, 132, 3, 1, 167, 255, 216, 28, 172]
abbrev dktX2_audit_2 : List UInt8 := dkwX2_audit_2 ++ []
def dkwX2_audit_1 : List UInt8 := [62, 29, 42, 180, 0, 113, 162, 0, 38, 28, 42, 180, 0, 47, 29, 46, 154, 0, 19, 42, 180, 0, 50, 29]
abbrev dktX2_audit_1 : List UInt8 := dkwX2_audit_1 ++ dktX2_audit_2
def dkwX2_audit_0 : List UInt8 := [42, 27, 184, 0, 129, 153, 0, 7, 3, 167, 0, 4, 4, 182, 0, 123, 154, 0, 5, 3, 172, 3, 61, 3]
abbrev dktX2_audit_0 : List UInt8 := dkwX2_audit_0 ++ dktX2_audit_1
theorem dksX2_audit_0 : cX2_audit.data.toList.drop 0 = dktX2_audit_0 := by decide +kernel
theorem dksX2_audit_1 : cX2_audit.data.toList.drop 24 = dktX2_audit_1 := dk_seg dksX2_audit_0 24 rfl rfl
theorem dksX2_audit_2 : cX2_audit.data.toList.drop 48 = dktX2_audit_2 := dk_seg dksX2_audit_1 24 rfl rfl
theorem dX2_audit_0 : decode cX2_audit 0 = .ok (.aload_n 0, 1) := dk_42 (dk_at dksX2_audit_0 0 rfl rfl)
theorem dX2_audit_1 : decode cX2_audit 1 = .ok (.iload_n 1, 1) := dk_27 (dk_at dksX2_audit_0 1 rfl rfl)
theorem dX2_audit_2 : decode cX2_audit 2 = .ok (.invokestatic 129, 3) := dk_184 0 129 (dk_at dksX2_audit_0 2 rfl rfl)
theorem dX2_audit_5 : decode cX2_audit 5 = .ok (.ifCond .eq 7, 3) := dk_153 0 7 (dk_at dksX2_audit_0 5 rfl rfl)
theorem dX2_audit_8 : decode cX2_audit 8 = .ok (.iconst 0, 1) := dk_3 (dk_at dksX2_audit_0 8 rfl rfl)
theorem dX2_audit_9 : decode cX2_audit 9 = .ok (.goto 4, 3) := dk_167 0 4 (dk_at dksX2_audit_0 9 rfl rfl)
theorem dX2_audit_12 : decode cX2_audit 12 = .ok (.iconst 1, 1) := dk_4 (dk_at dksX2_audit_0 12 rfl rfl)
theorem dX2_audit_13 : decode cX2_audit 13 = .ok (.invokevirtual 123, 3) := dk_182 0 123 (dk_at dksX2_audit_0 13 rfl rfl)
theorem dX2_audit_16 : decode cX2_audit 16 = .ok (.ifCond .ne 5, 3) := dk_154 0 5 (dk_at dksX2_audit_0 16 rfl rfl)
theorem dX2_audit_19 : decode cX2_audit 19 = .ok (.iconst 0, 1) := dk_3 (dk_at dksX2_audit_0 19 rfl rfl)
theorem dX2_audit_20 : decode cX2_audit 20 = .ok (.ireturn, 1) := dk_172 (dk_at dksX2_audit_0 20 rfl rfl)
theorem dX2_audit_21 : decode cX2_audit 21 = .ok (.iconst 0, 1) := dk_3 (dk_at dksX2_audit_0 21 rfl rfl)
theorem dX2_audit_22 : decode cX2_audit 22 = .ok (.istore_n 2, 1) := dk_61 (dk_at dksX2_audit_0 22 rfl rfl)
theorem dX2_audit_23 : decode cX2_audit 23 = .ok (.iconst 0, 1) := dk_3 (dk_at dksX2_audit_0 23 rfl rfl)
theorem dX2_audit_24 : decode cX2_audit 24 = .ok (.istore_n 3, 1) := dk_62 (dk_at dksX2_audit_1 0 rfl rfl)
theorem dX2_audit_25 : decode cX2_audit 25 = .ok (.iload_n 3, 1) := dk_29 (dk_at dksX2_audit_1 1 rfl rfl)
theorem dX2_audit_26 : decode cX2_audit 26 = .ok (.aload_n 0, 1) := dk_42 (dk_at dksX2_audit_1 2 rfl rfl)
theorem dX2_audit_27 : decode cX2_audit 27 = .ok (.getfield 113, 3) := dk_180 0 113 (dk_at dksX2_audit_1 3 rfl rfl)
theorem dX2_audit_30 : decode cX2_audit 30 = .ok (.if_icmp .ge 38, 3) := dk_162 0 38 (dk_at dksX2_audit_1 6 rfl rfl)
theorem dX2_audit_33 : decode cX2_audit 33 = .ok (.iload_n 2, 1) := dk_28 (dk_at dksX2_audit_1 9 rfl rfl)
theorem dX2_audit_34 : decode cX2_audit 34 = .ok (.aload_n 0, 1) := dk_42 (dk_at dksX2_audit_1 10 rfl rfl)
theorem dX2_audit_35 : decode cX2_audit 35 = .ok (.getfield 47, 3) := dk_180 0 47 (dk_at dksX2_audit_1 11 rfl rfl)
theorem dX2_audit_38 : decode cX2_audit 38 = .ok (.iload_n 3, 1) := dk_29 (dk_at dksX2_audit_1 14 rfl rfl)
theorem dX2_audit_39 : decode cX2_audit 39 = .ok (.iaload, 1) := dk_46 (dk_at dksX2_audit_1 15 rfl rfl)
theorem dX2_audit_40 : decode cX2_audit 40 = .ok (.ifCond .ne 19, 3) := dk_154 0 19 (dk_at dksX2_audit_1 16 rfl rfl)
theorem dX2_audit_43 : decode cX2_audit 43 = .ok (.aload_n 0, 1) := dk_42 (dk_at dksX2_audit_1 19 rfl rfl)
theorem dX2_audit_44 : decode cX2_audit 44 = .ok (.getfield 50, 3) := dk_180 0 50 (dk_at dksX2_audit_1 20 rfl rfl)
theorem dX2_audit_47 : decode cX2_audit 47 = .ok (.iload_n 3, 1) := dk_29 (dk_at dksX2_audit_1 23 rfl rfl)
theorem dX2_audit_48 : decode cX2_audit 48 = .ok (.iaload, 1) := dk_46 (dk_at dksX2_audit_2 0 rfl rfl)
theorem dX2_audit_49 : decode cX2_audit 49 = .ok (.iload_n 1, 1) := dk_27 (dk_at dksX2_audit_2 1 rfl rfl)
theorem dX2_audit_50 : decode cX2_audit 50 = .ok (.if_icmp .ne 9, 3) := dk_160 0 9 (dk_at dksX2_audit_2 2 rfl rfl)
theorem dX2_audit_53 : decode cX2_audit 53 = .ok (.iconst 1, 1) := dk_4 (dk_at dksX2_audit_2 5 rfl rfl)
theorem dX2_audit_54 : decode cX2_audit 54 = .ok (.iload_n 3, 1) := dk_29 (dk_at dksX2_audit_2 6 rfl rfl)
theorem dX2_audit_55 : decode cX2_audit 55 = .ok (.ishl, 1) := dk_120 (dk_at dksX2_audit_2 7 rfl rfl)
theorem dX2_audit_56 : decode cX2_audit 56 = .ok (.goto 4, 3) := dk_167 0 4 (dk_at dksX2_audit_2 8 rfl rfl)
theorem dX2_audit_59 : decode cX2_audit 59 = .ok (.iconst 0, 1) := dk_3 (dk_at dksX2_audit_2 11 rfl rfl)
theorem dX2_audit_60 : decode cX2_audit 60 = .ok (.ior, 1) := dk_128 (dk_at dksX2_audit_2 12 rfl rfl)
theorem dX2_audit_61 : decode cX2_audit 61 = .ok (.istore_n 2, 1) := dk_61 (dk_at dksX2_audit_2 13 rfl rfl)
theorem dX2_audit_62 : decode cX2_audit 62 = .ok (.iinc 3 1, 3) := dk_132 3 1 (dk_at dksX2_audit_2 14 rfl rfl)
theorem dX2_audit_65 : decode cX2_audit 65 = .ok (.goto (-40), 3) := dk_167 255 216 (dk_at dksX2_audit_2 17 rfl rfl)
theorem dX2_audit_68 : decode cX2_audit 68 = .ok (.iload_n 2, 1) := dk_28 (dk_at dksX2_audit_2 20 rfl rfl)
theorem dX2_audit_69 : decode cX2_audit 69 = .ok (.ireturn, 1) := dk_172 (dk_at dksX2_audit_2 21 rfl rfl)
theorem q41 : (Jvm.Cond.initialized "LostroomModel") ∈ lw_all := lw_g (lw_at lw_m1 9 rfl) rfl
theorem q143 : (Jvm.Cond.selects "LostroomModel" ({ cls := "java/lang/Object", name := "getClass", desc := "()Ljava/lang/Class;" } : Jvm.MethodName) ({ cls := "java/lang/Object", name := "getClass", desc := "()Ljava/lang/Class;" } : Jvm.MethodName)) ∈ lw_all := lw_g (lw_at lw_m1 111 rfl) rfl
theorem q444 : (Jvm.Cond.selects "LostroomModel" ({ cls := "java/lang/Object", name := "equals", desc := "(Ljava/lang/Object;)Z" } : Jvm.MethodName) ({ cls := "java/lang/Object", name := "equals", desc := "(Ljava/lang/Object;)Z" } : Jvm.MethodName)) ∈ lw_all := lw_g (lw_at lw_m2 172 rfl) rfl
theorem q946 : (Jvm.Cond.instantiable "LostroomModel" (38 : Nat)) ∈ lw_all := lw_g (lw_at lw_m4 194 rfl) rfl
theorem q948 : (Jvm.Cond.instanceMethod ({ cls := "LostroomModel", name := "<init>", desc := "()V" } : Jvm.MethodName)) ∈ lw_all := lw_g (lw_at lw_m4 196 rfl) rfl
theorem q949 : (Jvm.Cond.code ({ cls := "LostroomModel", name := "<init>", desc := "()V" } : Jvm.MethodName) prog_6_method_1_code (2 : Nat) (Option.none : Option Jvm.ClassFile.FieldType)) ∈ lw_all := lw_g (lw_at lw_m4 197 rfl) rfl
theorem q950 : (Jvm.Cond.methodLink "LostroomModel" (1 : Nat) ({ cls := "java/lang/Object", name := "<init>", desc := "()V" } : Jvm.MethodName)) ∈ lw_all := lw_g (lw_at lw_m4 198 rfl) rfl
theorem q951 : (Jvm.Cond.fieldLink "LostroomModel" (105 : Nat) "LostroomModel" "thrown" "I") ∈ lw_all := lw_g (lw_at lw_m4 199 rfl) rfl
theorem q952 : (Jvm.Cond.fieldLink "LostroomModel" (136 : Nat) "LostroomModel" "today" "I") ∈ lw_all := lw_g (lw_at lw_m4 200 rfl) rfl
theorem q953 : (Jvm.Cond.fieldLink "LostroomModel" (7 : Nat) "LostroomModel" "nears" "[I") ∈ lw_all := lw_g (lw_at lw_m4 201 rfl) rfl
theorem q954 : (Jvm.Cond.fieldLink "LostroomModel" (13 : Nat) "LostroomModel" "alikes" "[I") ∈ lw_all := lw_g (lw_at lw_m4 202 rfl) rfl
theorem q955 : (Jvm.Cond.fieldLink "LostroomModel" (16 : Nat) "LostroomModel" "terms" "[I") ∈ lw_all := lw_g (lw_at lw_m4 203 rfl) rfl
theorem q956 : (Jvm.Cond.fieldLink "LostroomModel" (19 : Nat) "LostroomModel" "rates" "[I") ∈ lw_all := lw_g (lw_at lw_m4 204 rfl) rfl
theorem q957 : (Jvm.Cond.fieldLink "LostroomModel" (22 : Nat) "LostroomModel" "stops" "[I") ∈ lw_all := lw_g (lw_at lw_m4 205 rfl) rfl
theorem q958 : (Jvm.Cond.fieldLink "LostroomModel" (25 : Nat) "LostroomModel" "threshold" "I") ∈ lw_all := lw_g (lw_at lw_m4 206 rfl) rfl
theorem q959 : (Jvm.Cond.fieldLink "LostroomModel" (113 : Nat) "LostroomModel" "finds" "I") ∈ lw_all := lw_g (lw_at lw_m4 207 rfl) rfl
theorem q960 : (Jvm.Cond.fieldLink "LostroomModel" (29 : Nat) "LostroomModel" "kinds" "[I") ∈ lw_all := lw_g (lw_at lw_m4 208 rfl) rfl
theorem q961 : (Jvm.Cond.fieldLink "LostroomModel" (32 : Nat) "LostroomModel" "places" "[I") ∈ lw_all := lw_g (lw_at lw_m4 209 rfl) rfl
theorem q962 : (Jvm.Cond.fieldLink "LostroomModel" (35 : Nat) "LostroomModel" "days" "[I") ∈ lw_all := lw_g (lw_at lw_m4 210 rfl) rfl
theorem q963 : (Jvm.Cond.fieldLink "LostroomModel" (38 : Nat) "LostroomModel" "words" "[I") ∈ lw_all := lw_g (lw_at lw_m4 211 rfl) rfl
theorem q964 : (Jvm.Cond.fieldLink "LostroomModel" (41 : Nat) "LostroomModel" "secrets" "[I") ∈ lw_all := lw_g (lw_at lw_m4 212 rfl) rfl
theorem q965 : (Jvm.Cond.fieldLink "LostroomModel" (44 : Nat) "LostroomModel" "values" "[I") ∈ lw_all := lw_g (lw_at lw_m4 213 rfl) rfl
theorem q966 : (Jvm.Cond.fieldLink "LostroomModel" (47 : Nat) "LostroomModel" "states" "[I") ∈ lw_all := lw_g (lw_at lw_m4 214 rfl) rfl
theorem q967 : (Jvm.Cond.fieldLink "LostroomModel" (50 : Nat) "LostroomModel" "rooms" "[I") ∈ lw_all := lw_g (lw_at lw_m4 215 rfl) rfl
theorem q968 : (Jvm.Cond.fieldLink "LostroomModel" (53 : Nat) "LostroomModel" "goesTo" "[I") ∈ lw_all := lw_g (lw_at lw_m4 216 rfl) rfl
theorem q969 : (Jvm.Cond.fieldLink "LostroomModel" (56 : Nat) "LostroomModel" "lasts" "[I") ∈ lw_all := lw_g (lw_at lw_m4 217 rfl) rfl
theorem q970 : (Jvm.Cond.fieldLink "LostroomModel" (59 : Nat) "LostroomModel" "areHeld" "[Z") ∈ lw_all := lw_g (lw_at lw_m4 218 rfl) rfl
theorem q971 : (Jvm.Cond.fieldLink "LostroomModel" (63 : Nat) "LostroomModel" "prices" "[I") ∈ lw_all := lw_g (lw_at lw_m4 219 rfl) rfl
theorem q972 : (Jvm.Cond.fieldLink "LostroomModel" (66 : Nat) "LostroomModel" "soldOn" "[I") ∈ lw_all := lw_g (lw_at lw_m4 220 rfl) rfl
theorem q973 : (Jvm.Cond.fieldLink "LostroomModel" (69 : Nat) "LostroomModel" "handMany" "[I") ∈ lw_all := lw_g (lw_at lw_m4 221 rfl) rfl
theorem q974 : (Jvm.Cond.fieldLink "LostroomModel" (72 : Nat) "LostroomModel" "handRoom" "[I") ∈ lw_all := lw_g (lw_at lw_m4 222 rfl) rfl
theorem q975 : (Jvm.Cond.fieldLink "LostroomModel" (75 : Nat) "LostroomModel" "handDay" "[I") ∈ lw_all := lw_g (lw_at lw_m4 223 rfl) rfl
theorem q976 : (Jvm.Cond.fieldLink "LostroomModel" (116 : Nat) "LostroomModel" "claims" "I") ∈ lw_all := lw_g (lw_at lw_m4 224 rfl) rfl
theorem q977 : (Jvm.Cond.fieldLink "LostroomModel" (78 : Nat) "LostroomModel" "claimKind" "[I") ∈ lw_all := lw_g (lw_at lw_m4 225 rfl) rfl
theorem q978 : (Jvm.Cond.fieldLink "LostroomModel" (81 : Nat) "LostroomModel" "claimPlace" "[I") ∈ lw_all := lw_g (lw_at lw_m4 226 rfl) rfl
theorem q979 : (Jvm.Cond.fieldLink "LostroomModel" (84 : Nat) "LostroomModel" "froms" "[I") ∈ lw_all := lw_g (lw_at lw_m4 227 rfl) rfl
theorem q980 : (Jvm.Cond.fieldLink "LostroomModel" (87 : Nat) "LostroomModel" "tos" "[I") ∈ lw_all := lw_g (lw_at lw_m4 228 rfl) rfl
theorem q981 : (Jvm.Cond.fieldLink "LostroomModel" (90 : Nat) "LostroomModel" "said" "[I") ∈ lw_all := lw_g (lw_at lw_m4 229 rfl) rfl
theorem q982 : (Jvm.Cond.fieldLink "LostroomModel" (93 : Nat) "LostroomModel" "tolds" "[I") ∈ lw_all := lw_g (lw_at lw_m4 230 rfl) rfl
theorem q983 : (Jvm.Cond.fieldLink "LostroomModel" (96 : Nat) "LostroomModel" "claimState" "[I") ∈ lw_all := lw_g (lw_at lw_m4 231 rfl) rfl
theorem q984 : (Jvm.Cond.fieldLink "LostroomModel" (99 : Nat) "LostroomModel" "endedOn" "[I") ∈ lw_all := lw_g (lw_at lw_m4 232 rfl) rfl
theorem q985 : (Jvm.Cond.fieldLink "LostroomModel" (102 : Nat) "LostroomModel" "servedBy" "[I") ∈ lw_all := lw_g (lw_at lw_m4 233 rfl) rfl
theorem q986 : (Jvm.Cond.fieldLink "LostroomModel" (185 : Nat) "LostroomModel" "fees" "I") ∈ lw_all := lw_g (lw_at lw_m4 234 rfl) rfl
theorem q987 : (Jvm.Cond.fieldLink "LostroomModel" (188 : Nat) "LostroomModel" "rewards" "I") ∈ lw_all := lw_g (lw_at lw_m4 235 rfl) rfl
theorem q988 : (Jvm.Cond.fieldLink "LostroomModel" (194 : Nat) "LostroomModel" "proceeds" "I") ∈ lw_all := lw_g (lw_at lw_m4 236 rfl) rfl
theorem q989 : (Jvm.Cond.lays "LostroomModel" "LostroomModel" "thrown" "I") ∈ lw_all := lw_g (lw_at lw_m4 237 rfl) rfl
theorem q990 : (Jvm.Cond.soleField "LostroomModel" "thrown") ∈ lw_all := lw_g (lw_at lw_m4 238 rfl) rfl
theorem q991 : (Jvm.Cond.lays "LostroomModel" "LostroomModel" "today" "I") ∈ lw_all := lw_g (lw_at lw_m4 239 rfl) rfl
theorem q992 : (Jvm.Cond.soleField "LostroomModel" "today") ∈ lw_all := lw_g (lw_at lw_m5 0 rfl) rfl
theorem q993 : (Jvm.Cond.laysFinal "LostroomModel" "LostroomModel" "nears" "[I") ∈ lw_all := lw_g (lw_at lw_m5 1 rfl) rfl
theorem q994 : (Jvm.Cond.soleField "LostroomModel" "nears") ∈ lw_all := lw_g (lw_at lw_m5 2 rfl) rfl
theorem q995 : (Jvm.Cond.laysFinal "LostroomModel" "LostroomModel" "alikes" "[I") ∈ lw_all := lw_g (lw_at lw_m5 3 rfl) rfl
theorem q996 : (Jvm.Cond.soleField "LostroomModel" "alikes") ∈ lw_all := lw_g (lw_at lw_m5 4 rfl) rfl
theorem q997 : (Jvm.Cond.laysFinal "LostroomModel" "LostroomModel" "terms" "[I") ∈ lw_all := lw_g (lw_at lw_m5 5 rfl) rfl
theorem q998 : (Jvm.Cond.soleField "LostroomModel" "terms") ∈ lw_all := lw_g (lw_at lw_m5 6 rfl) rfl
theorem q999 : (Jvm.Cond.laysFinal "LostroomModel" "LostroomModel" "rates" "[I") ∈ lw_all := lw_g (lw_at lw_m5 7 rfl) rfl
theorem q1000 : (Jvm.Cond.soleField "LostroomModel" "rates") ∈ lw_all := lw_g (lw_at lw_m5 8 rfl) rfl
theorem q1001 : (Jvm.Cond.laysFinal "LostroomModel" "LostroomModel" "stops" "[I") ∈ lw_all := lw_g (lw_at lw_m5 9 rfl) rfl
theorem q1002 : (Jvm.Cond.soleField "LostroomModel" "stops") ∈ lw_all := lw_g (lw_at lw_m5 10 rfl) rfl
theorem q1003 : (Jvm.Cond.lays "LostroomModel" "LostroomModel" "threshold" "I") ∈ lw_all := lw_g (lw_at lw_m5 11 rfl) rfl
theorem q1004 : (Jvm.Cond.soleField "LostroomModel" "threshold") ∈ lw_all := lw_g (lw_at lw_m5 12 rfl) rfl
theorem q1005 : (Jvm.Cond.lays "LostroomModel" "LostroomModel" "finds" "I") ∈ lw_all := lw_g (lw_at lw_m5 13 rfl) rfl
theorem q1006 : (Jvm.Cond.soleField "LostroomModel" "finds") ∈ lw_all := lw_g (lw_at lw_m5 14 rfl) rfl
theorem q1007 : (Jvm.Cond.laysFinal "LostroomModel" "LostroomModel" "kinds" "[I") ∈ lw_all := lw_g (lw_at lw_m5 15 rfl) rfl
theorem q1008 : (Jvm.Cond.soleField "LostroomModel" "kinds") ∈ lw_all := lw_g (lw_at lw_m5 16 rfl) rfl
theorem q1009 : (Jvm.Cond.laysFinal "LostroomModel" "LostroomModel" "places" "[I") ∈ lw_all := lw_g (lw_at lw_m5 17 rfl) rfl
theorem q1010 : (Jvm.Cond.soleField "LostroomModel" "places") ∈ lw_all := lw_g (lw_at lw_m5 18 rfl) rfl
theorem q1011 : (Jvm.Cond.laysFinal "LostroomModel" "LostroomModel" "days" "[I") ∈ lw_all := lw_g (lw_at lw_m5 19 rfl) rfl
theorem q1012 : (Jvm.Cond.soleField "LostroomModel" "days") ∈ lw_all := lw_g (lw_at lw_m5 20 rfl) rfl
theorem q1013 : (Jvm.Cond.laysFinal "LostroomModel" "LostroomModel" "words" "[I") ∈ lw_all := lw_g (lw_at lw_m5 21 rfl) rfl
theorem q1014 : (Jvm.Cond.soleField "LostroomModel" "words") ∈ lw_all := lw_g (lw_at lw_m5 22 rfl) rfl
theorem q1015 : (Jvm.Cond.laysFinal "LostroomModel" "LostroomModel" "secrets" "[I") ∈ lw_all := lw_g (lw_at lw_m5 23 rfl) rfl
theorem q1016 : (Jvm.Cond.soleField "LostroomModel" "secrets") ∈ lw_all := lw_g (lw_at lw_m5 24 rfl) rfl
theorem q1017 : (Jvm.Cond.laysFinal "LostroomModel" "LostroomModel" "values" "[I") ∈ lw_all := lw_g (lw_at lw_m5 25 rfl) rfl
theorem q1018 : (Jvm.Cond.soleField "LostroomModel" "values") ∈ lw_all := lw_g (lw_at lw_m5 26 rfl) rfl
theorem q1019 : (Jvm.Cond.laysFinal "LostroomModel" "LostroomModel" "states" "[I") ∈ lw_all := lw_g (lw_at lw_m5 27 rfl) rfl
theorem q1020 : (Jvm.Cond.soleField "LostroomModel" "states") ∈ lw_all := lw_g (lw_at lw_m5 28 rfl) rfl
theorem q1021 : (Jvm.Cond.laysFinal "LostroomModel" "LostroomModel" "rooms" "[I") ∈ lw_all := lw_g (lw_at lw_m5 29 rfl) rfl
theorem q1022 : (Jvm.Cond.soleField "LostroomModel" "rooms") ∈ lw_all := lw_g (lw_at lw_m5 30 rfl) rfl
theorem q1023 : (Jvm.Cond.laysFinal "LostroomModel" "LostroomModel" "goesTo" "[I") ∈ lw_all := lw_g (lw_at lw_m5 31 rfl) rfl
theorem q1024 : (Jvm.Cond.soleField "LostroomModel" "goesTo") ∈ lw_all := lw_g (lw_at lw_m5 32 rfl) rfl
theorem q1025 : (Jvm.Cond.laysFinal "LostroomModel" "LostroomModel" "lasts" "[I") ∈ lw_all := lw_g (lw_at lw_m5 33 rfl) rfl
theorem q1026 : (Jvm.Cond.soleField "LostroomModel" "lasts") ∈ lw_all := lw_g (lw_at lw_m5 34 rfl) rfl
theorem q1027 : (Jvm.Cond.laysFinal "LostroomModel" "LostroomModel" "areHeld" "[Z") ∈ lw_all := lw_g (lw_at lw_m5 35 rfl) rfl
theorem q1028 : (Jvm.Cond.soleField "LostroomModel" "areHeld") ∈ lw_all := lw_g (lw_at lw_m5 36 rfl) rfl
theorem q1029 : (Jvm.Cond.laysFinal "LostroomModel" "LostroomModel" "prices" "[I") ∈ lw_all := lw_g (lw_at lw_m5 37 rfl) rfl
theorem q1030 : (Jvm.Cond.soleField "LostroomModel" "prices") ∈ lw_all := lw_g (lw_at lw_m5 38 rfl) rfl
theorem q1031 : (Jvm.Cond.laysFinal "LostroomModel" "LostroomModel" "soldOn" "[I") ∈ lw_all := lw_g (lw_at lw_m5 39 rfl) rfl
theorem q1032 : (Jvm.Cond.soleField "LostroomModel" "soldOn") ∈ lw_all := lw_g (lw_at lw_m5 40 rfl) rfl
theorem q1033 : (Jvm.Cond.laysFinal "LostroomModel" "LostroomModel" "handMany" "[I") ∈ lw_all := lw_g (lw_at lw_m5 41 rfl) rfl
theorem q1034 : (Jvm.Cond.soleField "LostroomModel" "handMany") ∈ lw_all := lw_g (lw_at lw_m5 42 rfl) rfl
theorem q1035 : (Jvm.Cond.laysFinal "LostroomModel" "LostroomModel" "handRoom" "[I") ∈ lw_all := lw_g (lw_at lw_m5 43 rfl) rfl
theorem q1036 : (Jvm.Cond.soleField "LostroomModel" "handRoom") ∈ lw_all := lw_g (lw_at lw_m5 44 rfl) rfl
theorem q1037 : (Jvm.Cond.laysFinal "LostroomModel" "LostroomModel" "handDay" "[I") ∈ lw_all := lw_g (lw_at lw_m5 45 rfl) rfl
theorem q1038 : (Jvm.Cond.soleField "LostroomModel" "handDay") ∈ lw_all := lw_g (lw_at lw_m5 46 rfl) rfl
theorem q1039 : (Jvm.Cond.lays "LostroomModel" "LostroomModel" "claims" "I") ∈ lw_all := lw_g (lw_at lw_m5 47 rfl) rfl
theorem q1040 : (Jvm.Cond.soleField "LostroomModel" "claims") ∈ lw_all := lw_g (lw_at lw_m5 48 rfl) rfl
theorem q1041 : (Jvm.Cond.laysFinal "LostroomModel" "LostroomModel" "claimKind" "[I") ∈ lw_all := lw_g (lw_at lw_m5 49 rfl) rfl
theorem q1042 : (Jvm.Cond.soleField "LostroomModel" "claimKind") ∈ lw_all := lw_g (lw_at lw_m5 50 rfl) rfl
theorem q1043 : (Jvm.Cond.laysFinal "LostroomModel" "LostroomModel" "claimPlace" "[I") ∈ lw_all := lw_g (lw_at lw_m5 51 rfl) rfl
theorem q1044 : (Jvm.Cond.soleField "LostroomModel" "claimPlace") ∈ lw_all := lw_g (lw_at lw_m5 52 rfl) rfl
theorem q1045 : (Jvm.Cond.laysFinal "LostroomModel" "LostroomModel" "froms" "[I") ∈ lw_all := lw_g (lw_at lw_m5 53 rfl) rfl
theorem q1046 : (Jvm.Cond.soleField "LostroomModel" "froms") ∈ lw_all := lw_g (lw_at lw_m5 54 rfl) rfl
theorem q1047 : (Jvm.Cond.laysFinal "LostroomModel" "LostroomModel" "tos" "[I") ∈ lw_all := lw_g (lw_at lw_m5 55 rfl) rfl
theorem q1048 : (Jvm.Cond.soleField "LostroomModel" "tos") ∈ lw_all := lw_g (lw_at lw_m5 56 rfl) rfl
theorem q1049 : (Jvm.Cond.laysFinal "LostroomModel" "LostroomModel" "said" "[I") ∈ lw_all := lw_g (lw_at lw_m5 57 rfl) rfl
theorem q1050 : (Jvm.Cond.soleField "LostroomModel" "said") ∈ lw_all := lw_g (lw_at lw_m5 58 rfl) rfl
theorem q1051 : (Jvm.Cond.laysFinal "LostroomModel" "LostroomModel" "tolds" "[I") ∈ lw_all := lw_g (lw_at lw_m5 59 rfl) rfl
theorem q1052 : (Jvm.Cond.soleField "LostroomModel" "tolds") ∈ lw_all := lw_g (lw_at lw_m5 60 rfl) rfl
theorem q1053 : (Jvm.Cond.laysFinal "LostroomModel" "LostroomModel" "claimState" "[I") ∈ lw_all := lw_g (lw_at lw_m5 61 rfl) rfl
theorem q1054 : (Jvm.Cond.soleField "LostroomModel" "claimState") ∈ lw_all := lw_g (lw_at lw_m5 62 rfl) rfl
theorem q1055 : (Jvm.Cond.laysFinal "LostroomModel" "LostroomModel" "endedOn" "[I") ∈ lw_all := lw_g (lw_at lw_m5 63 rfl) rfl
theorem q1056 : (Jvm.Cond.soleField "LostroomModel" "endedOn") ∈ lw_all := lw_g (lw_at lw_m5 64 rfl) rfl
theorem q1057 : (Jvm.Cond.laysFinal "LostroomModel" "LostroomModel" "servedBy" "[I") ∈ lw_all := lw_g (lw_at lw_m5 65 rfl) rfl
theorem q1058 : (Jvm.Cond.soleField "LostroomModel" "servedBy") ∈ lw_all := lw_g (lw_at lw_m5 66 rfl) rfl
theorem q1059 : (Jvm.Cond.lays "LostroomModel" "LostroomModel" "fees" "I") ∈ lw_all := lw_g (lw_at lw_m5 67 rfl) rfl
theorem q1060 : (Jvm.Cond.soleField "LostroomModel" "fees") ∈ lw_all := lw_g (lw_at lw_m5 68 rfl) rfl
theorem q1061 : (Jvm.Cond.lays "LostroomModel" "LostroomModel" "rewards" "I") ∈ lw_all := lw_g (lw_at lw_m5 69 rfl) rfl
theorem q1062 : (Jvm.Cond.soleField "LostroomModel" "rewards") ∈ lw_all := lw_g (lw_at lw_m5 70 rfl) rfl
theorem q1063 : (Jvm.Cond.lays "LostroomModel" "LostroomModel" "proceeds" "I") ∈ lw_all := lw_g (lw_at lw_m5 71 rfl) rfl
theorem q1064 : (Jvm.Cond.soleField "LostroomModel" "proceeds") ∈ lw_all := lw_g (lw_at lw_m5 72 rfl) rfl
theorem q1065 : (Jvm.Cond.superclass "LostroomModel" "java/lang/Object") ∈ lw_all := lw_g (lw_at lw_m5 73 rfl) rfl
theorem q1068 : (Jvm.Cond.instanceMethod ({ cls := "LostroomModel", name := "thrown", desc := "()I" } : Jvm.MethodName)) ∈ lw_all := lw_g (lw_at lw_m5 76 rfl) rfl
theorem q1069 : (Jvm.Cond.selects "LostroomModel" ({ cls := "LostroomModel", name := "thrown", desc := "()I" } : Jvm.MethodName) ({ cls := "LostroomModel", name := "thrown", desc := "()I" } : Jvm.MethodName)) ∈ lw_all := lw_g (lw_at lw_m5 77 rfl) rfl
theorem q1070 : (Jvm.Cond.code ({ cls := "LostroomModel", name := "thrown", desc := "()I" } : Jvm.MethodName) prog_6_method_2_code (1 : Nat) (Option.some Jvm.ClassFile.FieldType.int)) ∈ lw_all := lw_g (lw_at lw_m5 78 rfl) rfl
theorem q1072 : (Jvm.Cond.instanceMethod ({ cls := "LostroomModel", name := "near", desc := "(II)Z" } : Jvm.MethodName)) ∈ lw_all := lw_g (lw_at lw_m5 80 rfl) rfl
theorem q1073 : (Jvm.Cond.selects "LostroomModel" ({ cls := "LostroomModel", name := "near", desc := "(II)Z" } : Jvm.MethodName) ({ cls := "LostroomModel", name := "near", desc := "(II)Z" } : Jvm.MethodName)) ∈ lw_all := lw_g (lw_at lw_m5 81 rfl) rfl
theorem q1074 : (Jvm.Cond.code ({ cls := "LostroomModel", name := "near", desc := "(II)Z" } : Jvm.MethodName) prog_6_method_13_code (4 : Nat) (Option.some Jvm.ClassFile.FieldType.boolean)) ∈ lw_all := lw_g (lw_at lw_m5 82 rfl) rfl
theorem q1075 : (Jvm.Cond.methodLink "LostroomModel" (119 : Nat) ({ cls := "LostroomModel", name := "isWord", desc := "(I)Z" } : Jvm.MethodName)) ∈ lw_all := lw_g (lw_at lw_m5 83 rfl) rfl
theorem q1076 : (Jvm.Cond.static ({ cls := "LostroomModel", name := "isWord", desc := "(I)Z" } : Jvm.MethodName)) ∈ lw_all := lw_g (lw_at lw_m5 84 rfl) rfl
theorem q1077 : (Jvm.Cond.code ({ cls := "LostroomModel", name := "isWord", desc := "(I)Z" } : Jvm.MethodName) prog_6_method_5_code (1 : Nat) (Option.some Jvm.ClassFile.FieldType.boolean)) ∈ lw_all := lw_g (lw_at lw_m5 85 rfl) rfl
theorem q1078 : (Jvm.Cond.methodLink "LostroomModel" (108 : Nat) ({ cls := "LostroomModel", name := "in", desc := "(III)Z" } : Jvm.MethodName)) ∈ lw_all := lw_g (lw_at lw_m5 86 rfl) rfl
theorem q1079 : (Jvm.Cond.static ({ cls := "LostroomModel", name := "in", desc := "(III)Z" } : Jvm.MethodName)) ∈ lw_all := lw_g (lw_at lw_m5 87 rfl) rfl
theorem q1080 : (Jvm.Cond.code ({ cls := "LostroomModel", name := "in", desc := "(III)Z" } : Jvm.MethodName) prog_6_method_4_code (3 : Nat) (Option.some Jvm.ClassFile.FieldType.boolean)) ∈ lw_all := lw_g (lw_at lw_m5 88 rfl) rfl
theorem q1081 : (Jvm.Cond.methodLink "LostroomModel" (123 : Nat) ({ cls := "LostroomModel", name := "holds", desc := "(I)Z" } : Jvm.MethodName)) ∈ lw_all := lw_g (lw_at lw_m5 89 rfl) rfl
theorem q1082 : (Jvm.Cond.privateMethod ({ cls := "LostroomModel", name := "holds", desc := "(I)Z" } : Jvm.MethodName)) ∈ lw_tbl := lw_at lw_m5 90 rfl
theorem q1083 : (Jvm.Cond.instanceMethod ({ cls := "LostroomModel", name := "holds", desc := "(I)Z" } : Jvm.MethodName)) ∈ lw_all := lw_g (lw_at lw_m5 91 rfl) rfl
theorem q1084 : (Jvm.Cond.code ({ cls := "LostroomModel", name := "holds", desc := "(I)Z" } : Jvm.MethodName) prog_6_method_3_code (2 : Nat) (Option.some Jvm.ClassFile.FieldType.boolean)) ∈ lw_all := lw_g (lw_at lw_m5 92 rfl) rfl
theorem q1086 : (Jvm.Cond.instanceMethod ({ cls := "LostroomModel", name := "alike", desc := "(II)Z" } : Jvm.MethodName)) ∈ lw_all := lw_g (lw_at lw_m5 94 rfl) rfl
theorem q1087 : (Jvm.Cond.selects "LostroomModel" ({ cls := "LostroomModel", name := "alike", desc := "(II)Z" } : Jvm.MethodName) ({ cls := "LostroomModel", name := "alike", desc := "(II)Z" } : Jvm.MethodName)) ∈ lw_all := lw_g (lw_at lw_m5 95 rfl) rfl
theorem q1088 : (Jvm.Cond.code ({ cls := "LostroomModel", name := "alike", desc := "(II)Z" } : Jvm.MethodName) prog_6_method_14_code (4 : Nat) (Option.some Jvm.ClassFile.FieldType.boolean)) ∈ lw_all := lw_g (lw_at lw_m5 96 rfl) rfl
theorem q1089 : (Jvm.Cond.methodLink "LostroomModel" (126 : Nat) ({ cls := "LostroomModel", name := "isKind", desc := "(I)Z" } : Jvm.MethodName)) ∈ lw_all := lw_g (lw_at lw_m5 97 rfl) rfl
theorem q1090 : (Jvm.Cond.static ({ cls := "LostroomModel", name := "isKind", desc := "(I)Z" } : Jvm.MethodName)) ∈ lw_all := lw_g (lw_at lw_m5 98 rfl) rfl
theorem q1091 : (Jvm.Cond.code ({ cls := "LostroomModel", name := "isKind", desc := "(I)Z" } : Jvm.MethodName) prog_6_method_6_code (1 : Nat) (Option.some Jvm.ClassFile.FieldType.boolean)) ∈ lw_all := lw_g (lw_at lw_m5 99 rfl) rfl
theorem q1093 : (Jvm.Cond.instanceMethod ({ cls := "LostroomModel", name := "rule", desc := "(III)I" } : Jvm.MethodName)) ∈ lw_all := lw_g (lw_at lw_m5 101 rfl) rfl
theorem q1094 : (Jvm.Cond.selects "LostroomModel" ({ cls := "LostroomModel", name := "rule", desc := "(III)I" } : Jvm.MethodName) ({ cls := "LostroomModel", name := "rule", desc := "(III)I" } : Jvm.MethodName)) ∈ lw_all := lw_g (lw_at lw_m5 102 rfl) rfl
theorem q1095 : (Jvm.Cond.code ({ cls := "LostroomModel", name := "rule", desc := "(III)I" } : Jvm.MethodName) prog_6_method_15_code (5 : Nat) (Option.some Jvm.ClassFile.FieldType.int)) ∈ lw_all := lw_g (lw_at lw_m5 103 rfl) rfl
theorem q1097 : (Jvm.Cond.instanceMethod ({ cls := "LostroomModel", name := "stop", desc := "(II)I" } : Jvm.MethodName)) ∈ lw_all := lw_g (lw_at lw_m5 105 rfl) rfl
theorem q1098 : (Jvm.Cond.selects "LostroomModel" ({ cls := "LostroomModel", name := "stop", desc := "(II)I" } : Jvm.MethodName) ({ cls := "LostroomModel", name := "stop", desc := "(II)I" } : Jvm.MethodName)) ∈ lw_all := lw_g (lw_at lw_m5 106 rfl) rfl
theorem q1099 : (Jvm.Cond.code ({ cls := "LostroomModel", name := "stop", desc := "(II)I" } : Jvm.MethodName) prog_6_method_16_code (4 : Nat) (Option.some Jvm.ClassFile.FieldType.int)) ∈ lw_all := lw_g (lw_at lw_m5 107 rfl) rfl
theorem q1100 : (Jvm.Cond.methodLink "LostroomModel" (129 : Nat) ({ cls := "LostroomModel", name := "isRoom", desc := "(I)Z" } : Jvm.MethodName)) ∈ lw_all := lw_g (lw_at lw_m5 108 rfl) rfl
theorem q1101 : (Jvm.Cond.static ({ cls := "LostroomModel", name := "isRoom", desc := "(I)Z" } : Jvm.MethodName)) ∈ lw_all := lw_g (lw_at lw_m5 109 rfl) rfl
theorem q1102 : (Jvm.Cond.code ({ cls := "LostroomModel", name := "isRoom", desc := "(I)Z" } : Jvm.MethodName) prog_6_method_7_code (1 : Nat) (Option.some Jvm.ClassFile.FieldType.boolean)) ∈ lw_all := lw_g (lw_at lw_m5 110 rfl) rfl
theorem q1103 : (Jvm.Cond.methodLink "LostroomModel" (132 : Nat) ({ cls := "LostroomModel", name := "bits", desc := "(I)I" } : Jvm.MethodName)) ∈ lw_all := lw_g (lw_at lw_m5 111 rfl) rfl
theorem q1104 : (Jvm.Cond.static ({ cls := "LostroomModel", name := "bits", desc := "(I)I" } : Jvm.MethodName)) ∈ lw_all := lw_g (lw_at lw_m5 112 rfl) rfl
theorem q1105 : (Jvm.Cond.code ({ cls := "LostroomModel", name := "bits", desc := "(I)I" } : Jvm.MethodName) prog_6_method_12_code (3 : Nat) (Option.some Jvm.ClassFile.FieldType.int)) ∈ lw_all := lw_g (lw_at lw_m5 113 rfl) rfl
theorem q1107 : (Jvm.Cond.instanceMethod ({ cls := "LostroomModel", name := "threshold", desc := "(I)I" } : Jvm.MethodName)) ∈ lw_all := lw_g (lw_at lw_m5 115 rfl) rfl
theorem q1108 : (Jvm.Cond.selects "LostroomModel" ({ cls := "LostroomModel", name := "threshold", desc := "(I)I" } : Jvm.MethodName) ({ cls := "LostroomModel", name := "threshold", desc := "(I)I" } : Jvm.MethodName)) ∈ lw_all := lw_g (lw_at lw_m5 116 rfl) rfl
theorem q1109 : (Jvm.Cond.code ({ cls := "LostroomModel", name := "threshold", desc := "(I)I" } : Jvm.MethodName) prog_6_method_17_code (3 : Nat) (Option.some Jvm.ClassFile.FieldType.int)) ∈ lw_all := lw_g (lw_at lw_m5 117 rfl) rfl
theorem q1111 : (Jvm.Cond.instanceMethod ({ cls := "LostroomModel", name := "find", desc := "(IIIIIII)I" } : Jvm.MethodName)) ∈ lw_all := lw_g (lw_at lw_m5 119 rfl) rfl
theorem q1112 : (Jvm.Cond.selects "LostroomModel" ({ cls := "LostroomModel", name := "find", desc := "(IIIIIII)I" } : Jvm.MethodName) ({ cls := "LostroomModel", name := "find", desc := "(IIIIIII)I" } : Jvm.MethodName)) ∈ lw_all := lw_g (lw_at lw_m5 120 rfl) rfl
theorem q1113 : (Jvm.Cond.code ({ cls := "LostroomModel", name := "find", desc := "(IIIIIII)I" } : Jvm.MethodName) prog_6_method_19_code (10 : Nat) (Option.some Jvm.ClassFile.FieldType.int)) ∈ lw_all := lw_g (lw_at lw_m5 121 rfl) rfl
theorem q1114 : (Jvm.Cond.methodLink "LostroomModel" (139 : Nat) ({ cls := "LostroomModel", name := "isPlace", desc := "(I)Z" } : Jvm.MethodName)) ∈ lw_all := lw_g (lw_at lw_m5 122 rfl) rfl
theorem q1115 : (Jvm.Cond.static ({ cls := "LostroomModel", name := "isPlace", desc := "(I)Z" } : Jvm.MethodName)) ∈ lw_all := lw_g (lw_at lw_m5 123 rfl) rfl
theorem q1116 : (Jvm.Cond.code ({ cls := "LostroomModel", name := "isPlace", desc := "(I)Z" } : Jvm.MethodName) prog_6_method_8_code (1 : Nat) (Option.some Jvm.ClassFile.FieldType.boolean)) ∈ lw_all := lw_g (lw_at lw_m5 124 rfl) rfl
theorem q1117 : (Jvm.Cond.methodLink "LostroomModel" (142 : Nat) ({ cls := "LostroomModel", name := "isSet", desc := "(I)Z" } : Jvm.MethodName)) ∈ lw_all := lw_g (lw_at lw_m5 125 rfl) rfl
theorem q1118 : (Jvm.Cond.static ({ cls := "LostroomModel", name := "isSet", desc := "(I)Z" } : Jvm.MethodName)) ∈ lw_all := lw_g (lw_at lw_m5 126 rfl) rfl
theorem q1119 : (Jvm.Cond.code ({ cls := "LostroomModel", name := "isSet", desc := "(I)Z" } : Jvm.MethodName) prog_6_method_9_code (1 : Nat) (Option.some Jvm.ClassFile.FieldType.boolean)) ∈ lw_all := lw_g (lw_at lw_m5 127 rfl) rfl
theorem q1120 : (Jvm.Cond.constant "LostroomModel" (112 : Nat) (16777215 : Int32)) ∈ lw_all := lw_g (lw_at lw_m5 128 rfl) rfl
theorem q1121 : (Jvm.Cond.methodLink "LostroomModel" (145 : Nat) ({ cls := "LostroomModel", name := "comes", desc := "(II)V" } : Jvm.MethodName)) ∈ lw_all := lw_g (lw_at lw_m5 129 rfl) rfl
theorem q1122 : (Jvm.Cond.privateMethod ({ cls := "LostroomModel", name := "comes", desc := "(II)V" } : Jvm.MethodName)) ∈ lw_tbl := lw_at lw_m5 130 rfl
theorem q1123 : (Jvm.Cond.instanceMethod ({ cls := "LostroomModel", name := "comes", desc := "(II)V" } : Jvm.MethodName)) ∈ lw_all := lw_g (lw_at lw_m5 131 rfl) rfl
theorem q1124 : (Jvm.Cond.code ({ cls := "LostroomModel", name := "comes", desc := "(II)V" } : Jvm.MethodName) prog_6_method_18_code (5 : Nat) (Option.none : Option Jvm.ClassFile.FieldType)) ∈ lw_all := lw_g (lw_at lw_m5 132 rfl) rfl
theorem q1126 : (Jvm.Cond.instanceMethod ({ cls := "LostroomModel", name := "see", desc := "(II)I" } : Jvm.MethodName)) ∈ lw_all := lw_g (lw_at lw_m5 134 rfl) rfl
theorem q1127 : (Jvm.Cond.selects "LostroomModel" ({ cls := "LostroomModel", name := "see", desc := "(II)I" } : Jvm.MethodName) ({ cls := "LostroomModel", name := "see", desc := "(II)I" } : Jvm.MethodName)) ∈ lw_all := lw_g (lw_at lw_m5 135 rfl) rfl
theorem q1128 : (Jvm.Cond.code ({ cls := "LostroomModel", name := "see", desc := "(II)I" } : Jvm.MethodName) prog_6_method_20_code (4 : Nat) (Option.some Jvm.ClassFile.FieldType.int)) ∈ lw_all := lw_g (lw_at lw_m5 136 rfl) rfl
theorem q1129 : (Jvm.Cond.methodLink "LostroomModel" (149 : Nat) ({ cls := "LostroomModel", name := "isFind", desc := "(I)Z" } : Jvm.MethodName)) ∈ lw_all := lw_g (lw_at lw_m5 137 rfl) rfl
theorem q1130 : (Jvm.Cond.privateMethod ({ cls := "LostroomModel", name := "isFind", desc := "(I)Z" } : Jvm.MethodName)) ∈ lw_tbl := lw_at lw_m5 138 rfl
theorem q1131 : (Jvm.Cond.instanceMethod ({ cls := "LostroomModel", name := "isFind", desc := "(I)Z" } : Jvm.MethodName)) ∈ lw_all := lw_g (lw_at lw_m5 139 rfl) rfl
theorem q1132 : (Jvm.Cond.code ({ cls := "LostroomModel", name := "isFind", desc := "(I)Z" } : Jvm.MethodName) prog_6_method_10_code (2 : Nat) (Option.some Jvm.ClassFile.FieldType.boolean)) ∈ lw_all := lw_g (lw_at lw_m5 140 rfl) rfl
theorem q1134 : (Jvm.Cond.instanceMethod ({ cls := "LostroomModel", name := "send", desc := "(II)I" } : Jvm.MethodName)) ∈ lw_all := lw_g (lw_at lw_m5 142 rfl) rfl
theorem q1135 : (Jvm.Cond.selects "LostroomModel" ({ cls := "LostroomModel", name := "send", desc := "(II)I" } : Jvm.MethodName) ({ cls := "LostroomModel", name := "send", desc := "(II)I" } : Jvm.MethodName)) ∈ lw_all := lw_g (lw_at lw_m5 143 rfl) rfl
theorem q1136 : (Jvm.Cond.code ({ cls := "LostroomModel", name := "send", desc := "(II)I" } : Jvm.MethodName) prog_6_method_21_code (4 : Nat) (Option.some Jvm.ClassFile.FieldType.int)) ∈ lw_all := lw_g (lw_at lw_m5 144 rfl) rfl
theorem q1138 : (Jvm.Cond.instanceMethod ({ cls := "LostroomModel", name := "lose", desc := "(I)I" } : Jvm.MethodName)) ∈ lw_all := lw_g (lw_at lw_m5 146 rfl) rfl
theorem q1139 : (Jvm.Cond.selects "LostroomModel" ({ cls := "LostroomModel", name := "lose", desc := "(I)I" } : Jvm.MethodName) ({ cls := "LostroomModel", name := "lose", desc := "(I)I" } : Jvm.MethodName)) ∈ lw_all := lw_g (lw_at lw_m5 147 rfl) rfl
theorem q1140 : (Jvm.Cond.code ({ cls := "LostroomModel", name := "lose", desc := "(I)I" } : Jvm.MethodName) prog_6_method_22_code (5 : Nat) (Option.some Jvm.ClassFile.FieldType.int)) ∈ lw_all := lw_g (lw_at lw_m5 148 rfl) rfl
theorem q1142 : (Jvm.Cond.instanceMethod ({ cls := "LostroomModel", name := "turnUp", desc := "(II)I" } : Jvm.MethodName)) ∈ lw_all := lw_g (lw_at lw_m5 150 rfl) rfl
theorem q1143 : (Jvm.Cond.selects "LostroomModel" ({ cls := "LostroomModel", name := "turnUp", desc := "(II)I" } : Jvm.MethodName) ({ cls := "LostroomModel", name := "turnUp", desc := "(II)I" } : Jvm.MethodName)) ∈ lw_all := lw_g (lw_at lw_m5 151 rfl) rfl
theorem q1144 : (Jvm.Cond.code ({ cls := "LostroomModel", name := "turnUp", desc := "(II)I" } : Jvm.MethodName) prog_6_method_23_code (4 : Nat) (Option.some Jvm.ClassFile.FieldType.int)) ∈ lw_all := lw_g (lw_at lw_m5 152 rfl) rfl
theorem q1146 : (Jvm.Cond.instanceMethod ({ cls := "LostroomModel", name := "hold", desc := "(IZ)Z" } : Jvm.MethodName)) ∈ lw_all := lw_g (lw_at lw_m5 154 rfl) rfl
theorem q1147 : (Jvm.Cond.selects "LostroomModel" ({ cls := "LostroomModel", name := "hold", desc := "(IZ)Z" } : Jvm.MethodName) ({ cls := "LostroomModel", name := "hold", desc := "(IZ)Z" } : Jvm.MethodName)) ∈ lw_all := lw_g (lw_at lw_m5 155 rfl) rfl
theorem q1148 : (Jvm.Cond.code ({ cls := "LostroomModel", name := "hold", desc := "(IZ)Z" } : Jvm.MethodName) prog_6_method_25_code (5 : Nat) (Option.some Jvm.ClassFile.FieldType.boolean)) ∈ lw_all := lw_g (lw_at lw_m5 156 rfl) rfl
theorem q1149 : (Jvm.Cond.methodLink "LostroomModel" (152 : Nat) ({ cls := "LostroomModel", name := "isHere", desc := "(I)Z" } : Jvm.MethodName)) ∈ lw_all := lw_g (lw_at lw_m5 157 rfl) rfl
theorem q1150 : (Jvm.Cond.privateMethod ({ cls := "LostroomModel", name := "isHere", desc := "(I)Z" } : Jvm.MethodName)) ∈ lw_tbl := lw_at lw_m5 158 rfl
theorem q1151 : (Jvm.Cond.instanceMethod ({ cls := "LostroomModel", name := "isHere", desc := "(I)Z" } : Jvm.MethodName)) ∈ lw_all := lw_g (lw_at lw_m5 159 rfl) rfl
theorem q1152 : (Jvm.Cond.code ({ cls := "LostroomModel", name := "isHere", desc := "(I)Z" } : Jvm.MethodName) prog_6_method_24_code (2 : Nat) (Option.some Jvm.ClassFile.FieldType.boolean)) ∈ lw_all := lw_g (lw_at lw_m5 160 rfl) rfl
theorem q1154 : (Jvm.Cond.instanceMethod ({ cls := "LostroomModel", name := "claim", desc := "(IIIII)I" } : Jvm.MethodName)) ∈ lw_all := lw_g (lw_at lw_m5 162 rfl) rfl
theorem q1155 : (Jvm.Cond.selects "LostroomModel" ({ cls := "LostroomModel", name := "claim", desc := "(IIIII)I" } : Jvm.MethodName) ({ cls := "LostroomModel", name := "claim", desc := "(IIIII)I" } : Jvm.MethodName)) ∈ lw_all := lw_g (lw_at lw_m5 163 rfl) rfl
theorem q1156 : (Jvm.Cond.code ({ cls := "LostroomModel", name := "claim", desc := "(IIIII)I" } : Jvm.MethodName) prog_6_method_26_code (8 : Nat) (Option.some Jvm.ClassFile.FieldType.int)) ∈ lw_all := lw_g (lw_at lw_m5 164 rfl) rfl
theorem q1158 : (Jvm.Cond.instanceMethod ({ cls := "LostroomModel", name := "say", desc := "(II)I" } : Jvm.MethodName)) ∈ lw_all := lw_g (lw_at lw_m5 166 rfl) rfl
theorem q1159 : (Jvm.Cond.selects "LostroomModel" ({ cls := "LostroomModel", name := "say", desc := "(II)I" } : Jvm.MethodName) ({ cls := "LostroomModel", name := "say", desc := "(II)I" } : Jvm.MethodName)) ∈ lw_all := lw_g (lw_at lw_m5 167 rfl) rfl
theorem q1160 : (Jvm.Cond.code ({ cls := "LostroomModel", name := "say", desc := "(II)I" } : Jvm.MethodName) prog_6_method_28_code (3 : Nat) (Option.some Jvm.ClassFile.FieldType.int)) ∈ lw_all := lw_g (lw_at lw_m5 168 rfl) rfl
theorem q1161 : (Jvm.Cond.methodLink "LostroomModel" (158 : Nat) ({ cls := "LostroomModel", name := "errorOfWords", desc := "(II)I" } : Jvm.MethodName)) ∈ lw_all := lw_g (lw_at lw_m5 169 rfl) rfl
theorem q1162 : (Jvm.Cond.privateMethod ({ cls := "LostroomModel", name := "errorOfWords", desc := "(II)I" } : Jvm.MethodName)) ∈ lw_tbl := lw_at lw_m5 170 rfl
theorem q1163 : (Jvm.Cond.instanceMethod ({ cls := "LostroomModel", name := "errorOfWords", desc := "(II)I" } : Jvm.MethodName)) ∈ lw_all := lw_g (lw_at lw_m5 171 rfl) rfl
theorem q1164 : (Jvm.Cond.code ({ cls := "LostroomModel", name := "errorOfWords", desc := "(II)I" } : Jvm.MethodName) prog_6_method_27_code (3 : Nat) (Option.some Jvm.ClassFile.FieldType.int)) ∈ lw_all := lw_g (lw_at lw_m5 172 rfl) rfl
theorem q1165 : (Jvm.Cond.methodLink "LostroomModel" (155 : Nat) ({ cls := "LostroomModel", name := "isClaim", desc := "(I)Z" } : Jvm.MethodName)) ∈ lw_all := lw_g (lw_at lw_m5 173 rfl) rfl
theorem q1166 : (Jvm.Cond.privateMethod ({ cls := "LostroomModel", name := "isClaim", desc := "(I)Z" } : Jvm.MethodName)) ∈ lw_tbl := lw_at lw_m5 174 rfl
theorem q1167 : (Jvm.Cond.instanceMethod ({ cls := "LostroomModel", name := "isClaim", desc := "(I)Z" } : Jvm.MethodName)) ∈ lw_all := lw_g (lw_at lw_m5 175 rfl) rfl
theorem q1168 : (Jvm.Cond.code ({ cls := "LostroomModel", name := "isClaim", desc := "(I)Z" } : Jvm.MethodName) prog_6_method_11_code (2 : Nat) (Option.some Jvm.ClassFile.FieldType.boolean)) ∈ lw_all := lw_g (lw_at lw_m5 176 rfl) rfl
theorem q1170 : (Jvm.Cond.instanceMethod ({ cls := "LostroomModel", name := "tell", desc := "(II)I" } : Jvm.MethodName)) ∈ lw_all := lw_g (lw_at lw_m5 178 rfl) rfl
theorem q1171 : (Jvm.Cond.selects "LostroomModel" ({ cls := "LostroomModel", name := "tell", desc := "(II)I" } : Jvm.MethodName) ({ cls := "LostroomModel", name := "tell", desc := "(II)I" } : Jvm.MethodName)) ∈ lw_all := lw_g (lw_at lw_m5 179 rfl) rfl
theorem q1172 : (Jvm.Cond.code ({ cls := "LostroomModel", name := "tell", desc := "(II)I" } : Jvm.MethodName) prog_6_method_29_code (3 : Nat) (Option.some Jvm.ClassFile.FieldType.int)) ∈ lw_all := lw_g (lw_at lw_m5 180 rfl) rfl
theorem q1174 : (Jvm.Cond.instanceMethod ({ cls := "LostroomModel", name := "withdraw", desc := "(I)I" } : Jvm.MethodName)) ∈ lw_all := lw_g (lw_at lw_m5 182 rfl) rfl
theorem q1175 : (Jvm.Cond.selects "LostroomModel" ({ cls := "LostroomModel", name := "withdraw", desc := "(I)I" } : Jvm.MethodName) ({ cls := "LostroomModel", name := "withdraw", desc := "(I)I" } : Jvm.MethodName)) ∈ lw_all := lw_g (lw_at lw_m5 183 rfl) rfl
theorem q1176 : (Jvm.Cond.code ({ cls := "LostroomModel", name := "withdraw", desc := "(I)I" } : Jvm.MethodName) prog_6_method_31_code (3 : Nat) (Option.some Jvm.ClassFile.FieldType.int)) ∈ lw_all := lw_g (lw_at lw_m5 184 rfl) rfl
theorem q1177 : (Jvm.Cond.methodLink "LostroomModel" (162 : Nat) ({ cls := "LostroomModel", name := "ends", desc := "(III)V" } : Jvm.MethodName)) ∈ lw_all := lw_g (lw_at lw_m5 185 rfl) rfl
theorem q1178 : (Jvm.Cond.privateMethod ({ cls := "LostroomModel", name := "ends", desc := "(III)V" } : Jvm.MethodName)) ∈ lw_tbl := lw_at lw_m5 186 rfl
theorem q1179 : (Jvm.Cond.instanceMethod ({ cls := "LostroomModel", name := "ends", desc := "(III)V" } : Jvm.MethodName)) ∈ lw_all := lw_g (lw_at lw_m5 187 rfl) rfl
theorem q1180 : (Jvm.Cond.code ({ cls := "LostroomModel", name := "ends", desc := "(III)V" } : Jvm.MethodName) prog_6_method_30_code (4 : Nat) (Option.none : Option Jvm.ClassFile.FieldType)) ∈ lw_all := lw_g (lw_at lw_m5 188 rfl) rfl
theorem q1182 : (Jvm.Cond.instanceMethod ({ cls := "LostroomModel", name := "release", desc := "(II)I" } : Jvm.MethodName)) ∈ lw_all := lw_g (lw_at lw_m5 190 rfl) rfl
theorem q1183 : (Jvm.Cond.selects "LostroomModel" ({ cls := "LostroomModel", name := "release", desc := "(II)I" } : Jvm.MethodName) ({ cls := "LostroomModel", name := "release", desc := "(II)I" } : Jvm.MethodName)) ∈ lw_all := lw_g (lw_at lw_m5 191 rfl) rfl
theorem q1184 : (Jvm.Cond.code ({ cls := "LostroomModel", name := "release", desc := "(II)I" } : Jvm.MethodName) prog_6_method_38_code (5 : Nat) (Option.some Jvm.ClassFile.FieldType.int)) ∈ lw_all := lw_g (lw_at lw_m5 192 rfl) rfl
theorem q1185 : (Jvm.Cond.methodLink "LostroomModel" (182 : Nat) ({ cls := "LostroomModel", name := "canServe", desc := "(II)Z" } : Jvm.MethodName)) ∈ lw_all := lw_g (lw_at lw_m5 193 rfl) rfl
theorem q1186 : (Jvm.Cond.privateMethod ({ cls := "LostroomModel", name := "canServe", desc := "(II)Z" } : Jvm.MethodName)) ∈ lw_tbl := lw_at lw_m5 194 rfl
theorem q1187 : (Jvm.Cond.instanceMethod ({ cls := "LostroomModel", name := "canServe", desc := "(II)Z" } : Jvm.MethodName)) ∈ lw_all := lw_g (lw_at lw_m5 195 rfl) rfl
theorem q1188 : (Jvm.Cond.code ({ cls := "LostroomModel", name := "canServe", desc := "(II)Z" } : Jvm.MethodName) prog_6_method_37_code (3 : Nat) (Option.some Jvm.ClassFile.FieldType.boolean)) ∈ lw_all := lw_g (lw_at lw_m5 196 rfl) rfl
theorem q1189 : (Jvm.Cond.methodLink "LostroomModel" (176 : Nat) ({ cls := "LostroomModel", name := "isCandidate", desc := "(II)Z" } : Jvm.MethodName)) ∈ lw_all := lw_g (lw_at lw_m5 197 rfl) rfl
theorem q1190 : (Jvm.Cond.privateMethod ({ cls := "LostroomModel", name := "isCandidate", desc := "(II)Z" } : Jvm.MethodName)) ∈ lw_tbl := lw_at lw_m5 198 rfl
theorem q1191 : (Jvm.Cond.instanceMethod ({ cls := "LostroomModel", name := "isCandidate", desc := "(II)Z" } : Jvm.MethodName)) ∈ lw_all := lw_g (lw_at lw_m5 199 rfl) rfl
theorem q1192 : (Jvm.Cond.code ({ cls := "LostroomModel", name := "isCandidate", desc := "(II)Z" } : Jvm.MethodName) prog_6_method_34_code (3 : Nat) (Option.some Jvm.ClassFile.FieldType.boolean)) ∈ lw_all := lw_g (lw_at lw_m5 200 rfl) rfl
theorem q1193 : (Jvm.Cond.methodLink "LostroomModel" (169 : Nat) ({ cls := "LostroomModel", name := "scoreOf", desc := "(II)I" } : Jvm.MethodName)) ∈ lw_all := lw_g (lw_at lw_m5 201 rfl) rfl
theorem q1194 : (Jvm.Cond.privateMethod ({ cls := "LostroomModel", name := "scoreOf", desc := "(II)I" } : Jvm.MethodName)) ∈ lw_tbl := lw_at lw_m5 202 rfl
theorem q1195 : (Jvm.Cond.instanceMethod ({ cls := "LostroomModel", name := "scoreOf", desc := "(II)I" } : Jvm.MethodName)) ∈ lw_all := lw_g (lw_at lw_m5 203 rfl) rfl
theorem q1196 : (Jvm.Cond.code ({ cls := "LostroomModel", name := "scoreOf", desc := "(II)I" } : Jvm.MethodName) prog_6_method_33_code (11 : Nat) (Option.some Jvm.ClassFile.FieldType.int)) ∈ lw_all := lw_g (lw_at lw_m5 204 rfl) rfl
theorem q1197 : (Jvm.Cond.methodLink "LostroomModel" (166 : Nat) ({ cls := "LostroomModel", name := "roomsOf", desc := "(I)I" } : Jvm.MethodName)) ∈ lw_all := lw_g (lw_at lw_m5 205 rfl) rfl
theorem q1198 : (Jvm.Cond.privateMethod ({ cls := "LostroomModel", name := "roomsOf", desc := "(I)I" } : Jvm.MethodName)) ∈ lw_tbl := lw_at lw_m5 206 rfl
theorem q1199 : (Jvm.Cond.instanceMethod ({ cls := "LostroomModel", name := "roomsOf", desc := "(I)I" } : Jvm.MethodName)) ∈ lw_all := lw_g (lw_at lw_m5 207 rfl) rfl
theorem q1200 : (Jvm.Cond.code ({ cls := "LostroomModel", name := "roomsOf", desc := "(I)I" } : Jvm.MethodName) prog_6_method_32_code (2 : Nat) (Option.some Jvm.ClassFile.FieldType.int)) ∈ lw_all := lw_g (lw_at lw_m5 208 rfl) rfl
theorem q1201 : (Jvm.Cond.methodLink "LostroomModel" (172 : Nat) ({ cls := "LostroomModel", name := "proves", desc := "(II)Z" } : Jvm.MethodName)) ∈ lw_all := lw_g (lw_at lw_m5 209 rfl) rfl
theorem q1202 : (Jvm.Cond.privateMethod ({ cls := "LostroomModel", name := "proves", desc := "(II)Z" } : Jvm.MethodName)) ∈ lw_tbl := lw_at lw_m5 210 rfl
theorem q1203 : (Jvm.Cond.instanceMethod ({ cls := "LostroomModel", name := "proves", desc := "(II)Z" } : Jvm.MethodName)) ∈ lw_all := lw_g (lw_at lw_m5 211 rfl) rfl
theorem q1204 : (Jvm.Cond.code ({ cls := "LostroomModel", name := "proves", desc := "(II)Z" } : Jvm.MethodName) prog_6_method_35_code (5 : Nat) (Option.some Jvm.ClassFile.FieldType.boolean)) ∈ lw_all := lw_g (lw_at lw_m5 212 rfl) rfl
theorem q1205 : (Jvm.Cond.methodLink "LostroomModel" (179 : Nat) ({ cls := "LostroomModel", name := "isBeaten", desc := "(II)Z" } : Jvm.MethodName)) ∈ lw_all := lw_g (lw_at lw_m5 213 rfl) rfl
theorem q1206 : (Jvm.Cond.privateMethod ({ cls := "LostroomModel", name := "isBeaten", desc := "(II)Z" } : Jvm.MethodName)) ∈ lw_tbl := lw_at lw_m5 214 rfl
theorem q1207 : (Jvm.Cond.instanceMethod ({ cls := "LostroomModel", name := "isBeaten", desc := "(II)Z" } : Jvm.MethodName)) ∈ lw_all := lw_g (lw_at lw_m5 215 rfl) rfl
theorem q1208 : (Jvm.Cond.code ({ cls := "LostroomModel", name := "isBeaten", desc := "(II)Z" } : Jvm.MethodName) prog_6_method_36_code (7 : Nat) (Option.some Jvm.ClassFile.FieldType.boolean)) ∈ lw_all := lw_g (lw_at lw_m5 216 rfl) rfl
theorem q1210 : (Jvm.Cond.instanceMethod ({ cls := "LostroomModel", name := "extend", desc := "(II)I" } : Jvm.MethodName)) ∈ lw_all := lw_g (lw_at lw_m5 218 rfl) rfl
theorem q1211 : (Jvm.Cond.selects "LostroomModel" ({ cls := "LostroomModel", name := "extend", desc := "(II)I" } : Jvm.MethodName) ({ cls := "LostroomModel", name := "extend", desc := "(II)I" } : Jvm.MethodName)) ∈ lw_all := lw_g (lw_at lw_m5 219 rfl) rfl
theorem q1212 : (Jvm.Cond.code ({ cls := "LostroomModel", name := "extend", desc := "(II)I" } : Jvm.MethodName) prog_6_method_40_code (4 : Nat) (Option.some Jvm.ClassFile.FieldType.int)) ∈ lw_all := lw_g (lw_at lw_m5 220 rfl) rfl
theorem q1214 : (Jvm.Cond.instanceMethod ({ cls := "LostroomModel", name := "sell", desc := "(II)I" } : Jvm.MethodName)) ∈ lw_all := lw_g (lw_at lw_m5 222 rfl) rfl
theorem q1215 : (Jvm.Cond.selects "LostroomModel" ({ cls := "LostroomModel", name := "sell", desc := "(II)I" } : Jvm.MethodName) ({ cls := "LostroomModel", name := "sell", desc := "(II)I" } : Jvm.MethodName)) ∈ lw_all := lw_g (lw_at lw_m5 223 rfl) rfl
theorem q1216 : (Jvm.Cond.code ({ cls := "LostroomModel", name := "sell", desc := "(II)I" } : Jvm.MethodName) prog_6_method_41_code (4 : Nat) (Option.some Jvm.ClassFile.FieldType.int)) ∈ lw_all := lw_g (lw_at lw_m5 224 rfl) rfl
theorem q1217 : (Jvm.Cond.methodLink "LostroomModel" (191 : Nat) ({ cls := "LostroomModel", name := "isOver", desc := "(I)Z" } : Jvm.MethodName)) ∈ lw_all := lw_g (lw_at lw_m5 225 rfl) rfl
theorem q1218 : (Jvm.Cond.privateMethod ({ cls := "LostroomModel", name := "isOver", desc := "(I)Z" } : Jvm.MethodName)) ∈ lw_tbl := lw_at lw_m5 226 rfl
theorem q1219 : (Jvm.Cond.instanceMethod ({ cls := "LostroomModel", name := "isOver", desc := "(I)Z" } : Jvm.MethodName)) ∈ lw_all := lw_g (lw_at lw_m5 227 rfl) rfl
theorem q1220 : (Jvm.Cond.code ({ cls := "LostroomModel", name := "isOver", desc := "(I)Z" } : Jvm.MethodName) prog_6_method_39_code (4 : Nat) (Option.some Jvm.ClassFile.FieldType.boolean)) ∈ lw_all := lw_g (lw_at lw_m5 228 rfl) rfl
theorem q1222 : (Jvm.Cond.instanceMethod ({ cls := "LostroomModel", name := "destroy", desc := "(I)I" } : Jvm.MethodName)) ∈ lw_all := lw_g (lw_at lw_m5 230 rfl) rfl
theorem q1223 : (Jvm.Cond.selects "LostroomModel" ({ cls := "LostroomModel", name := "destroy", desc := "(I)I" } : Jvm.MethodName) ({ cls := "LostroomModel", name := "destroy", desc := "(I)I" } : Jvm.MethodName)) ∈ lw_all := lw_g (lw_at lw_m5 231 rfl) rfl
theorem q1224 : (Jvm.Cond.code ({ cls := "LostroomModel", name := "destroy", desc := "(I)I" } : Jvm.MethodName) prog_6_method_42_code (3 : Nat) (Option.some Jvm.ClassFile.FieldType.int)) ∈ lw_all := lw_g (lw_at lw_m5 232 rfl) rfl
theorem q1226 : (Jvm.Cond.instanceMethod ({ cls := "LostroomModel", name := "payOut", desc := "(II)I" } : Jvm.MethodName)) ∈ lw_all := lw_g (lw_at lw_m5 234 rfl) rfl
theorem q1227 : (Jvm.Cond.selects "LostroomModel" ({ cls := "LostroomModel", name := "payOut", desc := "(II)I" } : Jvm.MethodName) ({ cls := "LostroomModel", name := "payOut", desc := "(II)I" } : Jvm.MethodName)) ∈ lw_all := lw_g (lw_at lw_m5 235 rfl) rfl
theorem q1228 : (Jvm.Cond.code ({ cls := "LostroomModel", name := "payOut", desc := "(II)I" } : Jvm.MethodName) prog_6_method_43_code (5 : Nat) (Option.some Jvm.ClassFile.FieldType.int)) ∈ lw_all := lw_g (lw_at lw_m5 236 rfl) rfl
theorem q1230 : (Jvm.Cond.instanceMethod ({ cls := "LostroomModel", name := "pass", desc := "(I)I" } : Jvm.MethodName)) ∈ lw_all := lw_g (lw_at lw_m5 238 rfl) rfl
theorem q1231 : (Jvm.Cond.selects "LostroomModel" ({ cls := "LostroomModel", name := "pass", desc := "(I)I" } : Jvm.MethodName) ({ cls := "LostroomModel", name := "pass", desc := "(I)I" } : Jvm.MethodName)) ∈ lw_all := lw_g (lw_at lw_m5 239 rfl) rfl
theorem q1232 : (Jvm.Cond.code ({ cls := "LostroomModel", name := "pass", desc := "(I)I" } : Jvm.MethodName) prog_6_method_45_code (3 : Nat) (Option.some Jvm.ClassFile.FieldType.int)) ∈ lw_all := lw_g (lw_at lw_m6 0 rfl) rfl
theorem q1233 : (Jvm.Cond.methodLink "LostroomModel" (197 : Nat) ({ cls := "LostroomModel", name := "begins", desc := "()V" } : Jvm.MethodName)) ∈ lw_all := lw_g (lw_at lw_m6 1 rfl) rfl
theorem q1234 : (Jvm.Cond.privateMethod ({ cls := "LostroomModel", name := "begins", desc := "()V" } : Jvm.MethodName)) ∈ lw_tbl := lw_at lw_m6 2 rfl
theorem q1235 : (Jvm.Cond.instanceMethod ({ cls := "LostroomModel", name := "begins", desc := "()V" } : Jvm.MethodName)) ∈ lw_all := lw_g (lw_at lw_m6 3 rfl) rfl
theorem q1236 : (Jvm.Cond.code ({ cls := "LostroomModel", name := "begins", desc := "()V" } : Jvm.MethodName) prog_6_method_44_code (3 : Nat) (Option.none : Option Jvm.ClassFile.FieldType)) ∈ lw_all := lw_g (lw_at lw_m6 4 rfl) rfl
theorem q1238 : (Jvm.Cond.instanceMethod ({ cls := "LostroomModel", name := "today", desc := "()I" } : Jvm.MethodName)) ∈ lw_all := lw_g (lw_at lw_m6 6 rfl) rfl
theorem q1239 : (Jvm.Cond.selects "LostroomModel" ({ cls := "LostroomModel", name := "today", desc := "()I" } : Jvm.MethodName) ({ cls := "LostroomModel", name := "today", desc := "()I" } : Jvm.MethodName)) ∈ lw_all := lw_g (lw_at lw_m6 7 rfl) rfl
theorem q1240 : (Jvm.Cond.code ({ cls := "LostroomModel", name := "today", desc := "()I" } : Jvm.MethodName) prog_6_method_46_code (1 : Nat) (Option.some Jvm.ClassFile.FieldType.int)) ∈ lw_all := lw_g (lw_at lw_m6 8 rfl) rfl
theorem q1242 : (Jvm.Cond.instanceMethod ({ cls := "LostroomModel", name := "fit", desc := "(II)I" } : Jvm.MethodName)) ∈ lw_all := lw_g (lw_at lw_m6 10 rfl) rfl
theorem q1243 : (Jvm.Cond.selects "LostroomModel" ({ cls := "LostroomModel", name := "fit", desc := "(II)I" } : Jvm.MethodName) ({ cls := "LostroomModel", name := "fit", desc := "(II)I" } : Jvm.MethodName)) ∈ lw_all := lw_g (lw_at lw_m6 11 rfl) rfl
theorem q1244 : (Jvm.Cond.code ({ cls := "LostroomModel", name := "fit", desc := "(II)I" } : Jvm.MethodName) prog_6_method_47_code (3 : Nat) (Option.some Jvm.ClassFile.FieldType.int)) ∈ lw_all := lw_g (lw_at lw_m6 12 rfl) rfl
theorem q1246 : (Jvm.Cond.instanceMethod ({ cls := "LostroomModel", name := "candidate", desc := "(II)I" } : Jvm.MethodName)) ∈ lw_all := lw_g (lw_at lw_m6 14 rfl) rfl
theorem q1247 : (Jvm.Cond.selects "LostroomModel" ({ cls := "LostroomModel", name := "candidate", desc := "(II)I" } : Jvm.MethodName) ({ cls := "LostroomModel", name := "candidate", desc := "(II)I" } : Jvm.MethodName)) ∈ lw_all := lw_g (lw_at lw_m6 15 rfl) rfl
theorem q1248 : (Jvm.Cond.code ({ cls := "LostroomModel", name := "candidate", desc := "(II)I" } : Jvm.MethodName) prog_6_method_50_code (5 : Nat) (Option.some Jvm.ClassFile.FieldType.int)) ∈ lw_all := lw_g (lw_at lw_m6 16 rfl) rfl
theorem q1249 : (Jvm.Cond.methodLink "LostroomModel" (200 : Nat) ({ cls := "LostroomModel", name := "isAsked", desc := "(II)Z" } : Jvm.MethodName)) ∈ lw_all := lw_g (lw_at lw_m6 17 rfl) rfl
theorem q1250 : (Jvm.Cond.privateMethod ({ cls := "LostroomModel", name := "isAsked", desc := "(II)Z" } : Jvm.MethodName)) ∈ lw_tbl := lw_at lw_m6 18 rfl
theorem q1251 : (Jvm.Cond.instanceMethod ({ cls := "LostroomModel", name := "isAsked", desc := "(II)Z" } : Jvm.MethodName)) ∈ lw_all := lw_g (lw_at lw_m6 19 rfl) rfl
theorem q1252 : (Jvm.Cond.code ({ cls := "LostroomModel", name := "isAsked", desc := "(II)Z" } : Jvm.MethodName) prog_6_method_48_code (3 : Nat) (Option.some Jvm.ClassFile.FieldType.boolean)) ∈ lw_all := lw_g (lw_at lw_m6 20 rfl) rfl
theorem q1253 : (Jvm.Cond.methodLink "LostroomModel" (203 : Nat) ({ cls := "LostroomModel", name := "aheadOf", desc := "(II)I" } : Jvm.MethodName)) ∈ lw_all := lw_g (lw_at lw_m6 21 rfl) rfl
theorem q1254 : (Jvm.Cond.privateMethod ({ cls := "LostroomModel", name := "aheadOf", desc := "(II)I" } : Jvm.MethodName)) ∈ lw_tbl := lw_at lw_m6 22 rfl
theorem q1255 : (Jvm.Cond.instanceMethod ({ cls := "LostroomModel", name := "aheadOf", desc := "(II)I" } : Jvm.MethodName)) ∈ lw_all := lw_g (lw_at lw_m6 23 rfl) rfl
theorem q1256 : (Jvm.Cond.code ({ cls := "LostroomModel", name := "aheadOf", desc := "(II)I" } : Jvm.MethodName) prog_6_method_49_code (7 : Nat) (Option.some Jvm.ClassFile.FieldType.int)) ∈ lw_all := lw_g (lw_at lw_m6 24 rfl) rfl
theorem q1258 : (Jvm.Cond.instanceMethod ({ cls := "LostroomModel", name := "question", desc := "(I)I" } : Jvm.MethodName)) ∈ lw_all := lw_g (lw_at lw_m6 26 rfl) rfl
theorem q1259 : (Jvm.Cond.selects "LostroomModel" ({ cls := "LostroomModel", name := "question", desc := "(I)I" } : Jvm.MethodName) ({ cls := "LostroomModel", name := "question", desc := "(I)I" } : Jvm.MethodName)) ∈ lw_all := lw_g (lw_at lw_m6 27 rfl) rfl
theorem q1260 : (Jvm.Cond.code ({ cls := "LostroomModel", name := "question", desc := "(I)I" } : Jvm.MethodName) prog_6_method_51_code (9 : Nat) (Option.some Jvm.ClassFile.FieldType.int)) ∈ lw_all := lw_g (lw_at lw_m6 28 rfl) rfl
theorem q1262 : (Jvm.Cond.instanceMethod ({ cls := "LostroomModel", name := "isProven", desc := "(II)Z" } : Jvm.MethodName)) ∈ lw_all := lw_g (lw_at lw_m6 30 rfl) rfl
theorem q1263 : (Jvm.Cond.selects "LostroomModel" ({ cls := "LostroomModel", name := "isProven", desc := "(II)Z" } : Jvm.MethodName) ({ cls := "LostroomModel", name := "isProven", desc := "(II)Z" } : Jvm.MethodName)) ∈ lw_all := lw_g (lw_at lw_m6 31 rfl) rfl
theorem q1264 : (Jvm.Cond.code ({ cls := "LostroomModel", name := "isProven", desc := "(II)Z" } : Jvm.MethodName) prog_6_method_52_code (3 : Nat) (Option.some Jvm.ClassFile.FieldType.boolean)) ∈ lw_all := lw_g (lw_at lw_m6 32 rfl) rfl
theorem q1266 : (Jvm.Cond.instanceMethod ({ cls := "LostroomModel", name := "isDue", desc := "(I)Z" } : Jvm.MethodName)) ∈ lw_all := lw_g (lw_at lw_m6 34 rfl) rfl
theorem q1267 : (Jvm.Cond.selects "LostroomModel" ({ cls := "LostroomModel", name := "isDue", desc := "(I)Z" } : Jvm.MethodName) ({ cls := "LostroomModel", name := "isDue", desc := "(I)Z" } : Jvm.MethodName)) ∈ lw_all := lw_g (lw_at lw_m6 35 rfl) rfl
theorem q1268 : (Jvm.Cond.code ({ cls := "LostroomModel", name := "isDue", desc := "(I)Z" } : Jvm.MethodName) prog_6_method_53_code (2 : Nat) (Option.some Jvm.ClassFile.FieldType.boolean)) ∈ lw_all := lw_g (lw_at lw_m6 36 rfl) rfl
theorem q1270 : (Jvm.Cond.instanceMethod ({ cls := "LostroomModel", name := "ofFind", desc := "(II)I" } : Jvm.MethodName)) ∈ lw_all := lw_g (lw_at lw_m6 38 rfl) rfl
theorem q1271 : (Jvm.Cond.selects "LostroomModel" ({ cls := "LostroomModel", name := "ofFind", desc := "(II)I" } : Jvm.MethodName) ({ cls := "LostroomModel", name := "ofFind", desc := "(II)I" } : Jvm.MethodName)) ∈ lw_all := lw_g (lw_at lw_m6 39 rfl) rfl
theorem q1272 : (Jvm.Cond.code ({ cls := "LostroomModel", name := "ofFind", desc := "(II)I" } : Jvm.MethodName) prog_6_method_54_code (3 : Nat) (Option.some Jvm.ClassFile.FieldType.int)) ∈ lw_all := lw_g (lw_at lw_m6 40 rfl) rfl
theorem q1274 : (Jvm.Cond.instanceMethod ({ cls := "LostroomModel", name := "hand", desc := "(IIZ)I" } : Jvm.MethodName)) ∈ lw_all := lw_g (lw_at lw_m6 42 rfl) rfl
theorem q1275 : (Jvm.Cond.selects "LostroomModel" ({ cls := "LostroomModel", name := "hand", desc := "(IIZ)I" } : Jvm.MethodName) ({ cls := "LostroomModel", name := "hand", desc := "(IIZ)I" } : Jvm.MethodName)) ∈ lw_all := lw_g (lw_at lw_m6 43 rfl) rfl
theorem q1276 : (Jvm.Cond.code ({ cls := "LostroomModel", name := "hand", desc := "(IIZ)I" } : Jvm.MethodName) prog_6_method_55_code (5 : Nat) (Option.some Jvm.ClassFile.FieldType.int)) ∈ lw_all := lw_g (lw_at lw_m6 44 rfl) rfl
theorem q1278 : (Jvm.Cond.instanceMethod ({ cls := "LostroomModel", name := "ofClaim", desc := "(II)I" } : Jvm.MethodName)) ∈ lw_all := lw_g (lw_at lw_m6 46 rfl) rfl
theorem q1279 : (Jvm.Cond.selects "LostroomModel" ({ cls := "LostroomModel", name := "ofClaim", desc := "(II)I" } : Jvm.MethodName) ({ cls := "LostroomModel", name := "ofClaim", desc := "(II)I" } : Jvm.MethodName)) ∈ lw_all := lw_g (lw_at lw_m6 47 rfl) rfl
theorem q1280 : (Jvm.Cond.code ({ cls := "LostroomModel", name := "ofClaim", desc := "(II)I" } : Jvm.MethodName) prog_6_method_56_code (3 : Nat) (Option.some Jvm.ClassFile.FieldType.int)) ∈ lw_all := lw_g (lw_at lw_m6 48 rfl) rfl
theorem q1282 : (Jvm.Cond.instanceMethod ({ cls := "LostroomModel", name := "money", desc := "(I)I" } : Jvm.MethodName)) ∈ lw_all := lw_g (lw_at lw_m6 50 rfl) rfl
theorem q1283 : (Jvm.Cond.selects "LostroomModel" ({ cls := "LostroomModel", name := "money", desc := "(I)I" } : Jvm.MethodName) ({ cls := "LostroomModel", name := "money", desc := "(I)I" } : Jvm.MethodName)) ∈ lw_all := lw_g (lw_at lw_m6 51 rfl) rfl
theorem q1284 : (Jvm.Cond.code ({ cls := "LostroomModel", name := "money", desc := "(I)I" } : Jvm.MethodName) prog_6_method_57_code (2 : Nat) (Option.some Jvm.ClassFile.FieldType.int)) ∈ lw_all := lw_g (lw_at lw_m6 52 rfl) rfl
theorem q1286 : (Jvm.Cond.instanceMethod ({ cls := "LostroomModel", name := "audit", desc := "(I)I" } : Jvm.MethodName)) ∈ lw_all := lw_g (lw_at lw_m6 54 rfl) rfl
theorem q1287 : (Jvm.Cond.selects "LostroomModel" ({ cls := "LostroomModel", name := "audit", desc := "(I)I" } : Jvm.MethodName) ({ cls := "LostroomModel", name := "audit", desc := "(I)I" } : Jvm.MethodName)) ∈ lw_all := lw_g (lw_at lw_m6 55 rfl) rfl
theorem q1288 : (Jvm.Cond.code ({ cls := "LostroomModel", name := "audit", desc := "(I)I" } : Jvm.MethodName) prog_6_method_58_code (4 : Nat) (Option.some Jvm.ClassFile.FieldType.int)) ∈ lw_all := lw_g (lw_at lw_m6 56 rfl) rfl
theorem q1295 : (Jvm.Cond.castable "LostroomModel" "java/lang/Object") ∈ lw_tbl := lw_at lw_m6 63 rfl
theorem in_X2 : ∀ w ∈ wsX20, w ∈ lw_all := lw_in wsX20 [989, 991, 993, 995, 997, 999, 1001, 1003, 1005, 1007, 1009, 1011, 1013, 1015, 1017, 1019, 1021, 1023, 1025, 1027, 1029, 1031, 1033, 1035, 1037, 1039, 1041, 1043, 1045, 1047, 1049, 1051, 1053, 1055, 1057, 1059, 1061, 1063] (by decide +kernel) (by decide +kernel)
