/-! Lostroom -/
set_option maxRecDepth 100000
def RX1 : String := "Lostroom"
def TX1 : u_T := fun k => match k with
  | 0 => ("Lostroom", "today", "I", false)
  | 1 => ("Lostroom", "near", "[I", true)
  | 2 => ("Lostroom", "alike", "[I", true)
  | 3 => ("Lostroom", "terms", "[I", true)
  | 4 => ("Lostroom", "reward", "[I", true)
  | 5 => ("Lostroom", "trains", "Ljava/util/List;", true)
  | 6 => ("Lostroom", "threshold", "I", false)
  | 7 => ("Lostroom", "finds", "Ljava/util/List;", true)
  | 8 => ("Lostroom", "claims", "Ljava/util/List;", true)
  | 9 => ("Lostroom", "fees", "I", false)
  | 10 => ("Lostroom", "rewards", "I", false)
  | _ => ("Lostroom", "proceeds", "I", false)
def tyX1 : Nat → FieldType := fun k => match k with
  | 0 => .int
  | 1 => .array .int
  | 2 => .array .int
  | 3 => .array .int
  | 4 => .array .int
  | 5 => .object "java/util/List"
  | 6 => .int
  | 7 => .object "java/util/List"
  | 8 => .object "java/util/List"
  | 9 => .int
  | 10 => .int
  | _ => .int
abbrev wsX10 : List Cond := u_ws RX1 TX1 12
theorem nmX1 : ∀ a, a < 12 → ∀ b, b < 12 → a ≠ b → (TX1 a).2.1 ≠ (TX1 b).2.1 := by decide +kernel
theorem tyX1_ok : ∀ k, k < 12 → parseFieldDescriptor (TX1 k).2.2.1 = some (tyX1 k) := by decide +kernel
abbrev cX1_init : ByteArray := prog_1_method_12_code
def yX1_init : MethodName := ⟨RX1, "<init>", "()V"⟩
def dkwX1_init_4 : List UInt8 := [180, 0, 20, 187, 0, 117, 89, 183, 0, 119, 185, 0, 132, 2, 0, 87, 132, 1, 1, 167, 255, 231, 177]
abbrev dktX1_init_4 : List UInt8 := dkwX1_init_4 ++ []
def dkwX1_init_3 : List UInt8 := [183, 0, 119, 181, 0, 123, 42, 180, 0, 111, 16, 60, 184, 0, 126, 3, 60, 27, 7, 162, 0, 26, 42]
abbrev dktX1_init_3 : List UInt8 := dkwX1_init_3 ++ dktX1_init_4
def dkwX1_init_2 : List UInt8 := [42, 16, 50, 181, 0, 105, 42, 187, 0, 117, 89, 183, 0, 119, 181, 0, 120, 42, 187, 0, 117, 89]
abbrev dktX1_init_2 : List UInt8 := dkwX1_init_2 ++ dktX1_init_3
def dkwX1_init_1 : List UInt8 := [188, 10, 181, 0, 111, 42, 16, 8, 188, 10, 181, 0, 114, 42, 187, 0, 117, 89, 183, 0, 119, 181, 0, 20]
abbrev dktX1_init_1 : List UInt8 := dkwX1_init_1 ++ dktX1_init_2
def dkwX1_init_0 : List UInt8 := [42, 183, 0, 108, 42, 16, 24, 188, 10, 181, 0, 47, 42, 16, 8, 188, 10, 181, 0, 60, 42, 16, 8]
abbrev dktX1_init_0 : List UInt8 := dkwX1_init_0 ++ dktX1_init_1
theorem dksX1_init_0 : cX1_init.data.toList.drop 0 = dktX1_init_0 := by decide +kernel
theorem dksX1_init_1 : cX1_init.data.toList.drop 23 = dktX1_init_1 := dk_seg dksX1_init_0 23 rfl rfl
theorem dksX1_init_2 : cX1_init.data.toList.drop 47 = dktX1_init_2 := dk_seg dksX1_init_1 24 rfl rfl
theorem dksX1_init_3 : cX1_init.data.toList.drop 69 = dktX1_init_3 := dk_seg dksX1_init_2 22 rfl rfl
theorem dksX1_init_4 : cX1_init.data.toList.drop 92 = dktX1_init_4 := dk_seg dksX1_init_3 23 rfl rfl
theorem dX1_init_0 : decode cX1_init 0 = .ok (.aload_n 0, 1) := dk_42 (dk_at dksX1_init_0 0 rfl rfl)
theorem dX1_init_1 : decode cX1_init 1 = .ok (.invokespecial 108, 3) := dk_183 0 108 (dk_at dksX1_init_0 1 rfl rfl)
theorem dX1_init_4 : decode cX1_init 4 = .ok (.aload_n 0, 1) := dk_42 (dk_at dksX1_init_0 4 rfl rfl)
theorem dX1_init_5 : decode cX1_init 5 = .ok (.bipush 24, 2) := dk_16 24 (dk_at dksX1_init_0 5 rfl rfl)
theorem dX1_init_7 : decode cX1_init 7 = .ok (.newarray .int, 2) := dk_188_10 (dk_at dksX1_init_0 7 rfl rfl)
theorem dX1_init_9 : decode cX1_init 9 = .ok (.putfield 47, 3) := dk_181 0 47 (dk_at dksX1_init_0 9 rfl rfl)
theorem dX1_init_12 : decode cX1_init 12 = .ok (.aload_n 0, 1) := dk_42 (dk_at dksX1_init_0 12 rfl rfl)
theorem dX1_init_13 : decode cX1_init 13 = .ok (.bipush 8, 2) := dk_16 8 (dk_at dksX1_init_0 13 rfl rfl)
theorem dX1_init_15 : decode cX1_init 15 = .ok (.newarray .int, 2) := dk_188_10 (dk_at dksX1_init_0 15 rfl rfl)
theorem dX1_init_17 : decode cX1_init 17 = .ok (.putfield 60, 3) := dk_181 0 60 (dk_at dksX1_init_0 17 rfl rfl)
theorem dX1_init_20 : decode cX1_init 20 = .ok (.aload_n 0, 1) := dk_42 (dk_at dksX1_init_0 20 rfl rfl)
theorem dX1_init_21 : decode cX1_init 21 = .ok (.bipush 8, 2) := dk_16 8 (dk_at dksX1_init_0 21 rfl rfl)
theorem dX1_init_23 : decode cX1_init 23 = .ok (.newarray .int, 2) := dk_188_10 (dk_at dksX1_init_1 0 rfl rfl)
theorem dX1_init_25 : decode cX1_init 25 = .ok (.putfield 111, 3) := dk_181 0 111 (dk_at dksX1_init_1 2 rfl rfl)
theorem dX1_init_28 : decode cX1_init 28 = .ok (.aload_n 0, 1) := dk_42 (dk_at dksX1_init_1 5 rfl rfl)
theorem dX1_init_29 : decode cX1_init 29 = .ok (.bipush 8, 2) := dk_16 8 (dk_at dksX1_init_1 6 rfl rfl)
theorem dX1_init_31 : decode cX1_init 31 = .ok (.newarray .int, 2) := dk_188_10 (dk_at dksX1_init_1 8 rfl rfl)
theorem dX1_init_33 : decode cX1_init 33 = .ok (.putfield 114, 3) := dk_181 0 114 (dk_at dksX1_init_1 10 rfl rfl)
theorem dX1_init_36 : decode cX1_init 36 = .ok (.aload_n 0, 1) := dk_42 (dk_at dksX1_init_1 13 rfl rfl)
theorem dX1_init_37 : decode cX1_init 37 = .ok (.new 117, 3) := dk_187 0 117 (dk_at dksX1_init_1 14 rfl rfl)
theorem dX1_init_40 : decode cX1_init 40 = .ok (.dup, 1) := dk_89 (dk_at dksX1_init_1 17 rfl rfl)
theorem dX1_init_41 : decode cX1_init 41 = .ok (.invokespecial 119, 3) := dk_183 0 119 (dk_at dksX1_init_1 18 rfl rfl)
theorem dX1_init_44 : decode cX1_init 44 = .ok (.putfield 20, 3) := dk_181 0 20 (dk_at dksX1_init_1 21 rfl rfl)
theorem dX1_init_47 : decode cX1_init 47 = .ok (.aload_n 0, 1) := dk_42 (dk_at dksX1_init_2 0 rfl rfl)
theorem dX1_init_48 : decode cX1_init 48 = .ok (.bipush 50, 2) := dk_16 50 (dk_at dksX1_init_2 1 rfl rfl)
theorem dX1_init_50 : decode cX1_init 50 = .ok (.putfield 105, 3) := dk_181 0 105 (dk_at dksX1_init_2 3 rfl rfl)
theorem dX1_init_53 : decode cX1_init 53 = .ok (.aload_n 0, 1) := dk_42 (dk_at dksX1_init_2 6 rfl rfl)
theorem dX1_init_54 : decode cX1_init 54 = .ok (.new 117, 3) := dk_187 0 117 (dk_at dksX1_init_2 7 rfl rfl)
theorem dX1_init_57 : decode cX1_init 57 = .ok (.dup, 1) := dk_89 (dk_at dksX1_init_2 10 rfl rfl)
theorem dX1_init_58 : decode cX1_init 58 = .ok (.invokespecial 119, 3) := dk_183 0 119 (dk_at dksX1_init_2 11 rfl rfl)
theorem dX1_init_61 : decode cX1_init 61 = .ok (.putfield 120, 3) := dk_181 0 120 (dk_at dksX1_init_2 14 rfl rfl)
theorem dX1_init_64 : decode cX1_init 64 = .ok (.aload_n 0, 1) := dk_42 (dk_at dksX1_init_2 17 rfl rfl)
theorem dX1_init_65 : decode cX1_init 65 = .ok (.new 117, 3) := dk_187 0 117 (dk_at dksX1_init_2 18 rfl rfl)
theorem dX1_init_68 : decode cX1_init 68 = .ok (.dup, 1) := dk_89 (dk_at dksX1_init_2 21 rfl rfl)
theorem dX1_init_69 : decode cX1_init 69 = .ok (.invokespecial 119, 3) := dk_183 0 119 (dk_at dksX1_init_3 0 rfl rfl)
theorem dX1_init_72 : decode cX1_init 72 = .ok (.putfield 123, 3) := dk_181 0 123 (dk_at dksX1_init_3 3 rfl rfl)
theorem dX1_init_75 : decode cX1_init 75 = .ok (.aload_n 0, 1) := dk_42 (dk_at dksX1_init_3 6 rfl rfl)
theorem dX1_init_76 : decode cX1_init 76 = .ok (.getfield 111, 3) := dk_180 0 111 (dk_at dksX1_init_3 7 rfl rfl)
theorem dX1_init_79 : decode cX1_init 79 = .ok (.bipush 60, 2) := dk_16 60 (dk_at dksX1_init_3 10 rfl rfl)
theorem dX1_init_81 : decode cX1_init 81 = .ok (.invokestatic 126, 3) := dk_184 0 126 (dk_at dksX1_init_3 12 rfl rfl)
theorem dX1_init_84 : decode cX1_init 84 = .ok (.iconst 0, 1) := dk_3 (dk_at dksX1_init_3 15 rfl rfl)
theorem dX1_init_85 : decode cX1_init 85 = .ok (.istore_n 1, 1) := dk_60 (dk_at dksX1_init_3 16 rfl rfl)
theorem dX1_init_86 : decode cX1_init 86 = .ok (.iload_n 1, 1) := dk_27 (dk_at dksX1_init_3 17 rfl rfl)
theorem dX1_init_87 : decode cX1_init 87 = .ok (.iconst 4, 1) := dk_7 (dk_at dksX1_init_3 18 rfl rfl)
theorem dX1_init_88 : decode cX1_init 88 = .ok (.if_icmp .ge 26, 3) := dk_162 0 26 (dk_at dksX1_init_3 19 rfl rfl)
theorem dX1_init_91 : decode cX1_init 91 = .ok (.aload_n 0, 1) := dk_42 (dk_at dksX1_init_3 22 rfl rfl)
theorem dX1_init_92 : decode cX1_init 92 = .ok (.getfield 20, 3) := dk_180 0 20 (dk_at dksX1_init_4 0 rfl rfl)
theorem dX1_init_95 : decode cX1_init 95 = .ok (.new 117, 3) := dk_187 0 117 (dk_at dksX1_init_4 3 rfl rfl)
theorem dX1_init_98 : decode cX1_init 98 = .ok (.dup, 1) := dk_89 (dk_at dksX1_init_4 6 rfl rfl)
theorem dX1_init_99 : decode cX1_init 99 = .ok (.invokespecial 119, 3) := dk_183 0 119 (dk_at dksX1_init_4 7 rfl rfl)
theorem dX1_init_102 : decode cX1_init 102 = .ok (.invokeinterface 132 2, 5) := by decide +kernel
theorem dX1_init_107 : decode cX1_init 107 = .ok (.pop, 1) := dk_87 (dk_at dksX1_init_4 15 rfl rfl)
theorem dX1_init_108 : decode cX1_init 108 = .ok (.iinc 1 1, 3) := dk_132 1 1 (dk_at dksX1_init_4 16 rfl rfl)
theorem dX1_init_111 : decode cX1_init 111 = .ok (.goto (-25), 3) := dk_167 255 231 (dk_at dksX1_init_4 19 rfl rfl)
theorem dX1_init_114 : decode cX1_init 114 = .ok (.return_, 1) := dk_177 (dk_at dksX1_init_4 22 rfl rfl)
abbrev cX1_today : ByteArray := prog_1_method_40_code
def yX1_today : MethodName := ⟨RX1, "today", "()I"⟩
theorem dX1_today_0 : decode cX1_today 0 = .ok (.aload_n 0, 1) := by decide +kernel
theorem dX1_today_1 : decode cX1_today 1 = .ok (.getfield 157, 3) := by decide +kernel
theorem dX1_today_4 : decode cX1_today 4 = .ok (.ireturn, 1) := by decide +kernel
abbrev cX1_near : ByteArray := prog_1_method_17_code
def yX1_near : MethodName := ⟨RX1, "near", "(II)Z"⟩
def dkwX1_near_3 : List UInt8 := [184, 0, 44, 172]
abbrev dktX1_near_3 : List UInt8 := dkwX1_near_3 ++ []
def dkwX1_near_2 : List UInt8 := [4, 28, 120, 130, 79, 42, 180, 0, 47, 28, 92, 46, 4, 27, 120, 130, 79, 42, 180, 0, 47, 27, 46, 28]
abbrev dktX1_near_2 : List UInt8 := dkwX1_near_2 ++ dktX1_near_3
def dkwX1_near_1 : List UInt8 := [3, 184, 0, 139, 27, 28, 159, 0, 7, 4, 167, 0, 4, 3, 184, 0, 143, 42, 180, 0, 47, 27, 92, 46]
abbrev dktX1_near_1 : List UInt8 := dkwX1_near_1 ++ dktX1_near_2
def dkwX1_near_0 : List UInt8 := [27, 3, 16, 23, 184, 0, 16, 153, 0, 17, 28, 3, 16, 23, 184, 0, 16, 153, 0, 7, 4, 167, 0, 4]
abbrev dktX1_near_0 : List UInt8 := dkwX1_near_0 ++ dktX1_near_1
theorem dksX1_near_0 : cX1_near.data.toList.drop 0 = dktX1_near_0 := by decide +kernel
theorem dksX1_near_1 : cX1_near.data.toList.drop 24 = dktX1_near_1 := dk_seg dksX1_near_0 24 rfl rfl
theorem dksX1_near_2 : cX1_near.data.toList.drop 48 = dktX1_near_2 := dk_seg dksX1_near_1 24 rfl rfl
theorem dksX1_near_3 : cX1_near.data.toList.drop 72 = dktX1_near_3 := dk_seg dksX1_near_2 24 rfl rfl
theorem dX1_near_0 : decode cX1_near 0 = .ok (.iload_n 1, 1) := dk_27 (dk_at dksX1_near_0 0 rfl rfl)
theorem dX1_near_1 : decode cX1_near 1 = .ok (.iconst 0, 1) := dk_3 (dk_at dksX1_near_0 1 rfl rfl)
theorem dX1_near_2 : decode cX1_near 2 = .ok (.bipush 23, 2) := dk_16 23 (dk_at dksX1_near_0 2 rfl rfl)
theorem dX1_near_4 : decode cX1_near 4 = .ok (.invokestatic 16, 3) := dk_184 0 16 (dk_at dksX1_near_0 4 rfl rfl)
theorem dX1_near_7 : decode cX1_near 7 = .ok (.ifCond .eq 17, 3) := dk_153 0 17 (dk_at dksX1_near_0 7 rfl rfl)
theorem dX1_near_10 : decode cX1_near 10 = .ok (.iload_n 2, 1) := dk_28 (dk_at dksX1_near_0 10 rfl rfl)
theorem dX1_near_11 : decode cX1_near 11 = .ok (.iconst 0, 1) := dk_3 (dk_at dksX1_near_0 11 rfl rfl)
theorem dX1_near_12 : decode cX1_near 12 = .ok (.bipush 23, 2) := dk_16 23 (dk_at dksX1_near_0 12 rfl rfl)
theorem dX1_near_14 : decode cX1_near 14 = .ok (.invokestatic 16, 3) := dk_184 0 16 (dk_at dksX1_near_0 14 rfl rfl)
theorem dX1_near_17 : decode cX1_near 17 = .ok (.ifCond .eq 7, 3) := dk_153 0 7 (dk_at dksX1_near_0 17 rfl rfl)
theorem dX1_near_20 : decode cX1_near 20 = .ok (.iconst 1, 1) := dk_4 (dk_at dksX1_near_0 20 rfl rfl)
theorem dX1_near_21 : decode cX1_near 21 = .ok (.goto 4, 3) := dk_167 0 4 (dk_at dksX1_near_0 21 rfl rfl)
theorem dX1_near_24 : decode cX1_near 24 = .ok (.iconst 0, 1) := dk_3 (dk_at dksX1_near_1 0 rfl rfl)
theorem dX1_near_25 : decode cX1_near 25 = .ok (.invokestatic 139, 3) := dk_184 0 139 (dk_at dksX1_near_1 1 rfl rfl)
theorem dX1_near_28 : decode cX1_near 28 = .ok (.iload_n 1, 1) := dk_27 (dk_at dksX1_near_1 4 rfl rfl)
theorem dX1_near_29 : decode cX1_near 29 = .ok (.iload_n 2, 1) := dk_28 (dk_at dksX1_near_1 5 rfl rfl)
theorem dX1_near_30 : decode cX1_near 30 = .ok (.if_icmp .eq 7, 3) := dk_159 0 7 (dk_at dksX1_near_1 6 rfl rfl)
theorem dX1_near_33 : decode cX1_near 33 = .ok (.iconst 1, 1) := dk_4 (dk_at dksX1_near_1 9 rfl rfl)
theorem dX1_near_34 : decode cX1_near 34 = .ok (.goto 4, 3) := dk_167 0 4 (dk_at dksX1_near_1 10 rfl rfl)
theorem dX1_near_37 : decode cX1_near 37 = .ok (.iconst 0, 1) := dk_3 (dk_at dksX1_near_1 13 rfl rfl)
theorem dX1_near_38 : decode cX1_near 38 = .ok (.invokestatic 143, 3) := dk_184 0 143 (dk_at dksX1_near_1 14 rfl rfl)
theorem dX1_near_41 : decode cX1_near 41 = .ok (.aload_n 0, 1) := dk_42 (dk_at dksX1_near_1 17 rfl rfl)
theorem dX1_near_42 : decode cX1_near 42 = .ok (.getfield 47, 3) := dk_180 0 47 (dk_at dksX1_near_1 18 rfl rfl)
theorem dX1_near_45 : decode cX1_near 45 = .ok (.iload_n 1, 1) := dk_27 (dk_at dksX1_near_1 21 rfl rfl)
theorem dX1_near_46 : decode cX1_near 46 = .ok (.dup2, 1) := dk_92 (dk_at dksX1_near_1 22 rfl rfl)
theorem dX1_near_47 : decode cX1_near 47 = .ok (.iaload, 1) := dk_46 (dk_at dksX1_near_1 23 rfl rfl)
theorem dX1_near_48 : decode cX1_near 48 = .ok (.iconst 1, 1) := dk_4 (dk_at dksX1_near_2 0 rfl rfl)
theorem dX1_near_49 : decode cX1_near 49 = .ok (.iload_n 2, 1) := dk_28 (dk_at dksX1_near_2 1 rfl rfl)
theorem dX1_near_50 : decode cX1_near 50 = .ok (.ishl, 1) := dk_120 (dk_at dksX1_near_2 2 rfl rfl)
theorem dX1_near_51 : decode cX1_near 51 = .ok (.ixor, 1) := dk_130 (dk_at dksX1_near_2 3 rfl rfl)
theorem dX1_near_52 : decode cX1_near 52 = .ok (.iastore, 1) := dk_79 (dk_at dksX1_near_2 4 rfl rfl)
theorem dX1_near_53 : decode cX1_near 53 = .ok (.aload_n 0, 1) := dk_42 (dk_at dksX1_near_2 5 rfl rfl)
theorem dX1_near_54 : decode cX1_near 54 = .ok (.getfield 47, 3) := dk_180 0 47 (dk_at dksX1_near_2 6 rfl rfl)
theorem dX1_near_57 : decode cX1_near 57 = .ok (.iload_n 2, 1) := dk_28 (dk_at dksX1_near_2 9 rfl rfl)
theorem dX1_near_58 : decode cX1_near 58 = .ok (.dup2, 1) := dk_92 (dk_at dksX1_near_2 10 rfl rfl)
theorem dX1_near_59 : decode cX1_near 59 = .ok (.iaload, 1) := dk_46 (dk_at dksX1_near_2 11 rfl rfl)
theorem dX1_near_60 : decode cX1_near 60 = .ok (.iconst 1, 1) := dk_4 (dk_at dksX1_near_2 12 rfl rfl)
theorem dX1_near_61 : decode cX1_near 61 = .ok (.iload_n 1, 1) := dk_27 (dk_at dksX1_near_2 13 rfl rfl)
theorem dX1_near_62 : decode cX1_near 62 = .ok (.ishl, 1) := dk_120 (dk_at dksX1_near_2 14 rfl rfl)
theorem dX1_near_63 : decode cX1_near 63 = .ok (.ixor, 1) := dk_130 (dk_at dksX1_near_2 15 rfl rfl)
theorem dX1_near_64 : decode cX1_near 64 = .ok (.iastore, 1) := dk_79 (dk_at dksX1_near_2 16 rfl rfl)
theorem dX1_near_65 : decode cX1_near 65 = .ok (.aload_n 0, 1) := dk_42 (dk_at dksX1_near_2 17 rfl rfl)
theorem dX1_near_66 : decode cX1_near 66 = .ok (.getfield 47, 3) := dk_180 0 47 (dk_at dksX1_near_2 18 rfl rfl)
theorem dX1_near_69 : decode cX1_near 69 = .ok (.iload_n 1, 1) := dk_27 (dk_at dksX1_near_2 21 rfl rfl)
theorem dX1_near_70 : decode cX1_near 70 = .ok (.iaload, 1) := dk_46 (dk_at dksX1_near_2 22 rfl rfl)
theorem dX1_near_71 : decode cX1_near 71 = .ok (.iload_n 2, 1) := dk_28 (dk_at dksX1_near_2 23 rfl rfl)
theorem dX1_near_72 : decode cX1_near 72 = .ok (.invokestatic 44, 3) := dk_184 0 44 (dk_at dksX1_near_3 0 rfl rfl)
theorem dX1_near_75 : decode cX1_near 75 = .ok (.ireturn, 1) := dk_172 (dk_at dksX1_near_3 3 rfl rfl)
abbrev cX1_isIn : ByteArray := prog_1_method_4_code
def yX1_isIn : MethodName := ⟨RX1, "isIn", "(III)Z"⟩
def dkwX1_isIn_0 : List UInt8 := [26, 27, 161, 0, 12, 26, 28, 163, 0, 7, 4, 167, 0, 4, 3, 172]
abbrev dktX1_isIn_0 : List UInt8 := dkwX1_isIn_0 ++ []
theorem dksX1_isIn_0 : cX1_isIn.data.toList.drop 0 = dktX1_isIn_0 := by decide +kernel
theorem dX1_isIn_0 : decode cX1_isIn 0 = .ok (.iload_n 0, 1) := dk_26 (dk_at dksX1_isIn_0 0 rfl rfl)
theorem dX1_isIn_1 : decode cX1_isIn 1 = .ok (.iload_n 1, 1) := dk_27 (dk_at dksX1_isIn_0 1 rfl rfl)
theorem dX1_isIn_2 : decode cX1_isIn 2 = .ok (.if_icmp .lt 12, 3) := dk_161 0 12 (dk_at dksX1_isIn_0 2 rfl rfl)
theorem dX1_isIn_5 : decode cX1_isIn 5 = .ok (.iload_n 0, 1) := dk_26 (dk_at dksX1_isIn_0 5 rfl rfl)
theorem dX1_isIn_6 : decode cX1_isIn 6 = .ok (.iload_n 2, 1) := dk_28 (dk_at dksX1_isIn_0 6 rfl rfl)
theorem dX1_isIn_7 : decode cX1_isIn 7 = .ok (.if_icmp .gt 7, 3) := dk_163 0 7 (dk_at dksX1_isIn_0 7 rfl rfl)
theorem dX1_isIn_10 : decode cX1_isIn 10 = .ok (.iconst 1, 1) := dk_4 (dk_at dksX1_isIn_0 10 rfl rfl)
theorem dX1_isIn_11 : decode cX1_isIn 11 = .ok (.goto 4, 3) := dk_167 0 4 (dk_at dksX1_isIn_0 11 rfl rfl)
theorem dX1_isIn_14 : decode cX1_isIn 14 = .ok (.iconst 0, 1) := dk_3 (dk_at dksX1_isIn_0 14 rfl rfl)
theorem dX1_isIn_15 : decode cX1_isIn 15 = .ok (.ireturn, 1) := dk_172 (dk_at dksX1_isIn_0 15 rfl rfl)
abbrev cX1_requireIndex : ByteArray := prog_1_method_1_code
def yX1_requireIndex : MethodName := ⟨RX1, "requireIndex", "(Z)V"⟩
def dkwX1_requireIndex_0 : List UInt8 := [26, 154, 0, 11, 187, 0, 1, 89, 183, 0, 3, 191, 177]
abbrev dktX1_requireIndex_0 : List UInt8 := dkwX1_requireIndex_0 ++ []
theorem dksX1_requireIndex_0 : cX1_requireIndex.data.toList.drop 0 = dktX1_requireIndex_0 := by decide +kernel
theorem dX1_requireIndex_0 : decode cX1_requireIndex 0 = .ok (.iload_n 0, 1) := dk_26 (dk_at dksX1_requireIndex_0 0 rfl rfl)
theorem dX1_requireIndex_1 : decode cX1_requireIndex 1 = .ok (.ifCond .ne 11, 3) := dk_154 0 11 (dk_at dksX1_requireIndex_0 1 rfl rfl)
theorem dX1_requireIndex_4 : decode cX1_requireIndex 4 = .ok (.new 1, 3) := dk_187 0 1 (dk_at dksX1_requireIndex_0 4 rfl rfl)
theorem dX1_requireIndex_7 : decode cX1_requireIndex 7 = .ok (.dup, 1) := dk_89 (dk_at dksX1_requireIndex_0 7 rfl rfl)
theorem dX1_requireIndex_8 : decode cX1_requireIndex 8 = .ok (.invokespecial 3, 3) := dk_183 0 3 (dk_at dksX1_requireIndex_0 8 rfl rfl)
theorem dX1_requireIndex_11 : decode cX1_requireIndex 11 = .ok (.athrow, 1) := dk_191 (dk_at dksX1_requireIndex_0 11 rfl rfl)
theorem dX1_requireIndex_12 : decode cX1_requireIndex 12 = .ok (.return_, 1) := dk_177 (dk_at dksX1_requireIndex_0 12 rfl rfl)
abbrev cX1_requireArgument : ByteArray := prog_1_method_2_code
def yX1_requireArgument : MethodName := ⟨RX1, "requireArgument", "(Z)V"⟩
def dkwX1_requireArgument_0 : List UInt8 := [26, 154, 0, 11, 187, 0, 7, 89, 183, 0, 9, 191, 177]
abbrev dktX1_requireArgument_0 : List UInt8 := dkwX1_requireArgument_0 ++ []
theorem dksX1_requireArgument_0 : cX1_requireArgument.data.toList.drop 0 = dktX1_requireArgument_0 := by decide +kernel
theorem dX1_requireArgument_0 : decode cX1_requireArgument 0 = .ok (.iload_n 0, 1) := dk_26 (dk_at dksX1_requireArgument_0 0 rfl rfl)
theorem dX1_requireArgument_1 : decode cX1_requireArgument 1 = .ok (.ifCond .ne 11, 3) := dk_154 0 11 (dk_at dksX1_requireArgument_0 1 rfl rfl)
theorem dX1_requireArgument_4 : decode cX1_requireArgument 4 = .ok (.new 7, 3) := dk_187 0 7 (dk_at dksX1_requireArgument_0 4 rfl rfl)
theorem dX1_requireArgument_7 : decode cX1_requireArgument 7 = .ok (.dup, 1) := dk_89 (dk_at dksX1_requireArgument_0 7 rfl rfl)
theorem dX1_requireArgument_8 : decode cX1_requireArgument 8 = .ok (.invokespecial 9, 3) := dk_183 0 9 (dk_at dksX1_requireArgument_0 8 rfl rfl)
theorem dX1_requireArgument_11 : decode cX1_requireArgument 11 = .ok (.athrow, 1) := dk_191 (dk_at dksX1_requireArgument_0 11 rfl rfl)
theorem dX1_requireArgument_12 : decode cX1_requireArgument 12 = .ok (.return_, 1) := dk_177 (dk_at dksX1_requireArgument_0 12 rfl rfl)
abbrev cX1_has : ByteArray := prog_1_method_5_code
def yX1_has : MethodName := ⟨RX1, "has", "(II)Z"⟩
def dkwX1_has_0 : List UInt8 := [26, 27, 122, 4, 126, 4, 160, 0, 7, 4, 167, 0, 4, 3, 172]
abbrev dktX1_has_0 : List UInt8 := dkwX1_has_0 ++ []
theorem dksX1_has_0 : cX1_has.data.toList.drop 0 = dktX1_has_0 := by decide +kernel
theorem dX1_has_0 : decode cX1_has 0 = .ok (.iload_n 0, 1) := dk_26 (dk_at dksX1_has_0 0 rfl rfl)
theorem dX1_has_1 : decode cX1_has 1 = .ok (.iload_n 1, 1) := dk_27 (dk_at dksX1_has_0 1 rfl rfl)
theorem dX1_has_2 : decode cX1_has 2 = .ok (.ishr, 1) := dk_122 (dk_at dksX1_has_0 2 rfl rfl)
theorem dX1_has_3 : decode cX1_has 3 = .ok (.iconst 1, 1) := dk_4 (dk_at dksX1_has_0 3 rfl rfl)
theorem dX1_has_4 : decode cX1_has 4 = .ok (.iand, 1) := dk_126 (dk_at dksX1_has_0 4 rfl rfl)
theorem dX1_has_5 : decode cX1_has 5 = .ok (.iconst 1, 1) := dk_4 (dk_at dksX1_has_0 5 rfl rfl)
theorem dX1_has_6 : decode cX1_has 6 = .ok (.if_icmp .ne 7, 3) := dk_160 0 7 (dk_at dksX1_has_0 6 rfl rfl)
theorem dX1_has_9 : decode cX1_has 9 = .ok (.iconst 1, 1) := dk_4 (dk_at dksX1_has_0 9 rfl rfl)
theorem dX1_has_10 : decode cX1_has 10 = .ok (.goto 4, 3) := dk_167 0 4 (dk_at dksX1_has_0 10 rfl rfl)
theorem dX1_has_13 : decode cX1_has 13 = .ok (.iconst 0, 1) := dk_3 (dk_at dksX1_has_0 13 rfl rfl)
theorem dX1_has_14 : decode cX1_has 14 = .ok (.ireturn, 1) := dk_172 (dk_at dksX1_has_0 14 rfl rfl)
abbrev cX1_alike : ByteArray := prog_1_method_18_code
def yX1_alike : MethodName := ⟨RX1, "alike", "(II)Z"⟩
def dkwX1_alike_2 : List UInt8 := [180, 0, 60, 27, 46, 28, 184, 0, 44, 172]
abbrev dktX1_alike_2 : List UInt8 := dkwX1_alike_2 ++ []
def dkwX1_alike_1 : List UInt8 := [180, 0, 60, 27, 92, 46, 4, 28, 120, 130, 79, 42, 180, 0, 60, 28, 92, 46, 4, 27, 120, 130, 79, 42]
abbrev dktX1_alike_1 : List UInt8 := dkwX1_alike_1 ++ dktX1_alike_2
def dkwX1_alike_0 : List UInt8 := [27, 184, 0, 146, 28, 184, 0, 146, 27, 28, 159, 0, 7, 4, 167, 0, 4, 3, 184, 0, 143, 42]
abbrev dktX1_alike_0 : List UInt8 := dkwX1_alike_0 ++ dktX1_alike_1
theorem dksX1_alike_0 : cX1_alike.data.toList.drop 0 = dktX1_alike_0 := by decide +kernel
theorem dksX1_alike_1 : cX1_alike.data.toList.drop 22 = dktX1_alike_1 := dk_seg dksX1_alike_0 22 rfl rfl
theorem dksX1_alike_2 : cX1_alike.data.toList.drop 46 = dktX1_alike_2 := dk_seg dksX1_alike_1 24 rfl rfl
theorem dX1_alike_0 : decode cX1_alike 0 = .ok (.iload_n 1, 1) := dk_27 (dk_at dksX1_alike_0 0 rfl rfl)
theorem dX1_alike_1 : decode cX1_alike 1 = .ok (.invokestatic 146, 3) := dk_184 0 146 (dk_at dksX1_alike_0 1 rfl rfl)
theorem dX1_alike_4 : decode cX1_alike 4 = .ok (.iload_n 2, 1) := dk_28 (dk_at dksX1_alike_0 4 rfl rfl)
theorem dX1_alike_5 : decode cX1_alike 5 = .ok (.invokestatic 146, 3) := dk_184 0 146 (dk_at dksX1_alike_0 5 rfl rfl)
theorem dX1_alike_8 : decode cX1_alike 8 = .ok (.iload_n 1, 1) := dk_27 (dk_at dksX1_alike_0 8 rfl rfl)
theorem dX1_alike_9 : decode cX1_alike 9 = .ok (.iload_n 2, 1) := dk_28 (dk_at dksX1_alike_0 9 rfl rfl)
theorem dX1_alike_10 : decode cX1_alike 10 = .ok (.if_icmp .eq 7, 3) := dk_159 0 7 (dk_at dksX1_alike_0 10 rfl rfl)
theorem dX1_alike_13 : decode cX1_alike 13 = .ok (.iconst 1, 1) := dk_4 (dk_at dksX1_alike_0 13 rfl rfl)
theorem dX1_alike_14 : decode cX1_alike 14 = .ok (.goto 4, 3) := dk_167 0 4 (dk_at dksX1_alike_0 14 rfl rfl)
theorem dX1_alike_17 : decode cX1_alike 17 = .ok (.iconst 0, 1) := dk_3 (dk_at dksX1_alike_0 17 rfl rfl)
theorem dX1_alike_18 : decode cX1_alike 18 = .ok (.invokestatic 143, 3) := dk_184 0 143 (dk_at dksX1_alike_0 18 rfl rfl)
theorem dX1_alike_21 : decode cX1_alike 21 = .ok (.aload_n 0, 1) := dk_42 (dk_at dksX1_alike_0 21 rfl rfl)
theorem dX1_alike_22 : decode cX1_alike 22 = .ok (.getfield 60, 3) := dk_180 0 60 (dk_at dksX1_alike_1 0 rfl rfl)
theorem dX1_alike_25 : decode cX1_alike 25 = .ok (.iload_n 1, 1) := dk_27 (dk_at dksX1_alike_1 3 rfl rfl)
theorem dX1_alike_26 : decode cX1_alike 26 = .ok (.dup2, 1) := dk_92 (dk_at dksX1_alike_1 4 rfl rfl)
theorem dX1_alike_27 : decode cX1_alike 27 = .ok (.iaload, 1) := dk_46 (dk_at dksX1_alike_1 5 rfl rfl)
theorem dX1_alike_28 : decode cX1_alike 28 = .ok (.iconst 1, 1) := dk_4 (dk_at dksX1_alike_1 6 rfl rfl)
theorem dX1_alike_29 : decode cX1_alike 29 = .ok (.iload_n 2, 1) := dk_28 (dk_at dksX1_alike_1 7 rfl rfl)
theorem dX1_alike_30 : decode cX1_alike 30 = .ok (.ishl, 1) := dk_120 (dk_at dksX1_alike_1 8 rfl rfl)
theorem dX1_alike_31 : decode cX1_alike 31 = .ok (.ixor, 1) := dk_130 (dk_at dksX1_alike_1 9 rfl rfl)
theorem dX1_alike_32 : decode cX1_alike 32 = .ok (.iastore, 1) := dk_79 (dk_at dksX1_alike_1 10 rfl rfl)
theorem dX1_alike_33 : decode cX1_alike 33 = .ok (.aload_n 0, 1) := dk_42 (dk_at dksX1_alike_1 11 rfl rfl)
theorem dX1_alike_34 : decode cX1_alike 34 = .ok (.getfield 60, 3) := dk_180 0 60 (dk_at dksX1_alike_1 12 rfl rfl)
theorem dX1_alike_37 : decode cX1_alike 37 = .ok (.iload_n 2, 1) := dk_28 (dk_at dksX1_alike_1 15 rfl rfl)
theorem dX1_alike_38 : decode cX1_alike 38 = .ok (.dup2, 1) := dk_92 (dk_at dksX1_alike_1 16 rfl rfl)
theorem dX1_alike_39 : decode cX1_alike 39 = .ok (.iaload, 1) := dk_46 (dk_at dksX1_alike_1 17 rfl rfl)
theorem dX1_alike_40 : decode cX1_alike 40 = .ok (.iconst 1, 1) := dk_4 (dk_at dksX1_alike_1 18 rfl rfl)
theorem dX1_alike_41 : decode cX1_alike 41 = .ok (.iload_n 1, 1) := dk_27 (dk_at dksX1_alike_1 19 rfl rfl)
theorem dX1_alike_42 : decode cX1_alike 42 = .ok (.ishl, 1) := dk_120 (dk_at dksX1_alike_1 20 rfl rfl)
theorem dX1_alike_43 : decode cX1_alike 43 = .ok (.ixor, 1) := dk_130 (dk_at dksX1_alike_1 21 rfl rfl)
theorem dX1_alike_44 : decode cX1_alike 44 = .ok (.iastore, 1) := dk_79 (dk_at dksX1_alike_1 22 rfl rfl)
theorem dX1_alike_45 : decode cX1_alike 45 = .ok (.aload_n 0, 1) := dk_42 (dk_at dksX1_alike_1 23 rfl rfl)
theorem dX1_alike_46 : decode cX1_alike 46 = .ok (.getfield 60, 3) := dk_180 0 60 (dk_at dksX1_alike_2 0 rfl rfl)
theorem dX1_alike_49 : decode cX1_alike 49 = .ok (.iload_n 1, 1) := dk_27 (dk_at dksX1_alike_2 3 rfl rfl)
theorem dX1_alike_50 : decode cX1_alike 50 = .ok (.iaload, 1) := dk_46 (dk_at dksX1_alike_2 4 rfl rfl)
theorem dX1_alike_51 : decode cX1_alike 51 = .ok (.iload_n 2, 1) := dk_28 (dk_at dksX1_alike_2 5 rfl rfl)
theorem dX1_alike_52 : decode cX1_alike 52 = .ok (.invokestatic 44, 3) := dk_184 0 44 (dk_at dksX1_alike_2 6 rfl rfl)
theorem dX1_alike_55 : decode cX1_alike 55 = .ok (.ireturn, 1) := dk_172 (dk_at dksX1_alike_2 9 rfl rfl)
abbrev cX1_requireKind : ByteArray := prog_1_method_15_code
def yX1_requireKind : MethodName := ⟨RX1, "requireKind", "(I)V"⟩
def dkwX1_requireKind_0 : List UInt8 := [26, 3, 16, 7, 184, 0, 16, 184, 0, 139, 177]
abbrev dktX1_requireKind_0 : List UInt8 := dkwX1_requireKind_0 ++ []
theorem dksX1_requireKind_0 : cX1_requireKind.data.toList.drop 0 = dktX1_requireKind_0 := by decide +kernel
theorem dX1_requireKind_0 : decode cX1_requireKind 0 = .ok (.iload_n 0, 1) := dk_26 (dk_at dksX1_requireKind_0 0 rfl rfl)
theorem dX1_requireKind_1 : decode cX1_requireKind 1 = .ok (.iconst 0, 1) := dk_3 (dk_at dksX1_requireKind_0 1 rfl rfl)
theorem dX1_requireKind_2 : decode cX1_requireKind 2 = .ok (.bipush 7, 2) := dk_16 7 (dk_at dksX1_requireKind_0 2 rfl rfl)
theorem dX1_requireKind_4 : decode cX1_requireKind 4 = .ok (.invokestatic 16, 3) := dk_184 0 16 (dk_at dksX1_requireKind_0 4 rfl rfl)
theorem dX1_requireKind_7 : decode cX1_requireKind 7 = .ok (.invokestatic 139, 3) := dk_184 0 139 (dk_at dksX1_requireKind_0 7 rfl rfl)
theorem dX1_requireKind_10 : decode cX1_requireKind 10 = .ok (.return_, 1) := dk_177 (dk_at dksX1_requireKind_0 10 rfl rfl)
abbrev cX1_rule : ByteArray := prog_1_method_19_code
def yX1_rule : MethodName := ⟨RX1, "rule", "(III)I"⟩
def dkwX1_rule_2 : List UInt8 := [28, 79, 42, 180, 0, 114, 27, 29, 79, 21, 4, 172]
abbrev dktX1_rule_2 : List UInt8 := dkwX1_rule_2 ++ []
def dkwX1_rule_1 : List UInt8 := [153, 0, 7, 4, 167, 0, 4, 3, 184, 0, 143, 42, 180, 0, 111, 27, 46, 54, 4, 42, 180, 0, 111, 27]
abbrev dktX1_rule_1 : List UInt8 := dkwX1_rule_1 ++ dktX1_rule_2
def dkwX1_rule_0 : List UInt8 := [27, 184, 0, 146, 28, 4, 17, 1, 144, 184, 0, 16, 153, 0, 17, 29, 3, 16, 50, 184, 0, 16]
abbrev dktX1_rule_0 : List UInt8 := dkwX1_rule_0 ++ dktX1_rule_1
theorem dksX1_rule_0 : cX1_rule.data.toList.drop 0 = dktX1_rule_0 := by decide +kernel
theorem dksX1_rule_1 : cX1_rule.data.toList.drop 22 = dktX1_rule_1 := dk_seg dksX1_rule_0 22 rfl rfl
theorem dksX1_rule_2 : cX1_rule.data.toList.drop 46 = dktX1_rule_2 := dk_seg dksX1_rule_1 24 rfl rfl
theorem dX1_rule_0 : decode cX1_rule 0 = .ok (.iload_n 1, 1) := dk_27 (dk_at dksX1_rule_0 0 rfl rfl)
theorem dX1_rule_1 : decode cX1_rule 1 = .ok (.invokestatic 146, 3) := dk_184 0 146 (dk_at dksX1_rule_0 1 rfl rfl)
theorem dX1_rule_4 : decode cX1_rule 4 = .ok (.iload_n 2, 1) := dk_28 (dk_at dksX1_rule_0 4 rfl rfl)
theorem dX1_rule_5 : decode cX1_rule 5 = .ok (.iconst 1, 1) := dk_4 (dk_at dksX1_rule_0 5 rfl rfl)
theorem dX1_rule_6 : decode cX1_rule 6 = .ok (.sipush 400, 3) := dk_17 1 144 (dk_at dksX1_rule_0 6 rfl rfl)
theorem dX1_rule_9 : decode cX1_rule 9 = .ok (.invokestatic 16, 3) := dk_184 0 16 (dk_at dksX1_rule_0 9 rfl rfl)
theorem dX1_rule_12 : decode cX1_rule 12 = .ok (.ifCond .eq 17, 3) := dk_153 0 17 (dk_at dksX1_rule_0 12 rfl rfl)
theorem dX1_rule_15 : decode cX1_rule 15 = .ok (.iload_n 3, 1) := dk_29 (dk_at dksX1_rule_0 15 rfl rfl)
theorem dX1_rule_16 : decode cX1_rule 16 = .ok (.iconst 0, 1) := dk_3 (dk_at dksX1_rule_0 16 rfl rfl)
theorem dX1_rule_17 : decode cX1_rule 17 = .ok (.bipush 50, 2) := dk_16 50 (dk_at dksX1_rule_0 17 rfl rfl)
theorem dX1_rule_19 : decode cX1_rule 19 = .ok (.invokestatic 16, 3) := dk_184 0 16 (dk_at dksX1_rule_0 19 rfl rfl)
theorem dX1_rule_22 : decode cX1_rule 22 = .ok (.ifCond .eq 7, 3) := dk_153 0 7 (dk_at dksX1_rule_1 0 rfl rfl)
theorem dX1_rule_25 : decode cX1_rule 25 = .ok (.iconst 1, 1) := dk_4 (dk_at dksX1_rule_1 3 rfl rfl)
theorem dX1_rule_26 : decode cX1_rule 26 = .ok (.goto 4, 3) := dk_167 0 4 (dk_at dksX1_rule_1 4 rfl rfl)
theorem dX1_rule_29 : decode cX1_rule 29 = .ok (.iconst 0, 1) := dk_3 (dk_at dksX1_rule_1 7 rfl rfl)
theorem dX1_rule_30 : decode cX1_rule 30 = .ok (.invokestatic 143, 3) := dk_184 0 143 (dk_at dksX1_rule_1 8 rfl rfl)
theorem dX1_rule_33 : decode cX1_rule 33 = .ok (.aload_n 0, 1) := dk_42 (dk_at dksX1_rule_1 11 rfl rfl)
theorem dX1_rule_34 : decode cX1_rule 34 = .ok (.getfield 111, 3) := dk_180 0 111 (dk_at dksX1_rule_1 12 rfl rfl)
theorem dX1_rule_37 : decode cX1_rule 37 = .ok (.iload_n 1, 1) := dk_27 (dk_at dksX1_rule_1 15 rfl rfl)
theorem dX1_rule_38 : decode cX1_rule 38 = .ok (.iaload, 1) := dk_46 (dk_at dksX1_rule_1 16 rfl rfl)
theorem dX1_rule_39 : decode cX1_rule 39 = .ok (.istore 4, 2) := dk_54 4 (dk_at dksX1_rule_1 17 rfl rfl)
theorem dX1_rule_41 : decode cX1_rule 41 = .ok (.aload_n 0, 1) := dk_42 (dk_at dksX1_rule_1 19 rfl rfl)
theorem dX1_rule_42 : decode cX1_rule 42 = .ok (.getfield 111, 3) := dk_180 0 111 (dk_at dksX1_rule_1 20 rfl rfl)
theorem dX1_rule_45 : decode cX1_rule 45 = .ok (.iload_n 1, 1) := dk_27 (dk_at dksX1_rule_1 23 rfl rfl)
theorem dX1_rule_46 : decode cX1_rule 46 = .ok (.iload_n 2, 1) := dk_28 (dk_at dksX1_rule_2 0 rfl rfl)
theorem dX1_rule_47 : decode cX1_rule 47 = .ok (.iastore, 1) := dk_79 (dk_at dksX1_rule_2 1 rfl rfl)
theorem dX1_rule_48 : decode cX1_rule 48 = .ok (.aload_n 0, 1) := dk_42 (dk_at dksX1_rule_2 2 rfl rfl)
theorem dX1_rule_49 : decode cX1_rule 49 = .ok (.getfield 114, 3) := dk_180 0 114 (dk_at dksX1_rule_2 3 rfl rfl)
theorem dX1_rule_52 : decode cX1_rule 52 = .ok (.iload_n 1, 1) := dk_27 (dk_at dksX1_rule_2 6 rfl rfl)
theorem dX1_rule_53 : decode cX1_rule 53 = .ok (.iload_n 3, 1) := dk_29 (dk_at dksX1_rule_2 7 rfl rfl)
theorem dX1_rule_54 : decode cX1_rule 54 = .ok (.iastore, 1) := dk_79 (dk_at dksX1_rule_2 8 rfl rfl)
theorem dX1_rule_55 : decode cX1_rule 55 = .ok (.iload 4, 2) := dk_21 4 (dk_at dksX1_rule_2 9 rfl rfl)
theorem dX1_rule_57 : decode cX1_rule 57 = .ok (.ireturn, 1) := dk_172 (dk_at dksX1_rule_2 11 rfl rfl)
abbrev cX1_stop : ByteArray := prog_1_method_20_code
def yX1_stop : MethodName := ⟨RX1, "stop", "(II)I"⟩
def dkwX1_stop_5 : List UInt8 := [185, 0, 24, 2, 0, 192, 0, 25, 185, 0, 135, 1, 0, 172]
abbrev dktX1_stop_5 : List UInt8 := dkwX1_stop_5 ++ []
def dkwX1_stop_4 : List UInt8 := [185, 0, 24, 2, 0, 192, 0, 25, 28, 184, 0, 30, 185, 0, 132, 2, 0, 87, 42, 180, 0, 20, 27]
abbrev dktX1_stop_4 : List UInt8 := dkwX1_stop_4 ++ dktX1_stop_5
def dkwX1_stop_3 : List UInt8 := [185, 0, 36, 2, 0, 154, 0, 7, 4, 167, 0, 4, 3, 184, 0, 150, 42, 180, 0, 20, 27]
abbrev dktX1_stop_3 : List UInt8 := dkwX1_stop_3 ++ dktX1_stop_4
def dkwX1_stop_2 : List UInt8 := [162, 0, 32, 42, 180, 0, 20, 27, 185, 0, 24, 2, 0, 192, 0, 25, 28, 184, 0, 30]
abbrev dktX1_stop_2 : List UInt8 := dkwX1_stop_2 ++ dktX1_stop_3
def dkwX1_stop_1 : List UInt8 := [184, 0, 139, 42, 180, 0, 20, 27, 185, 0, 24, 2, 0, 192, 0, 25, 185, 0, 135, 1, 0, 16, 6]
abbrev dktX1_stop_1 : List UInt8 := dkwX1_stop_1 ++ dktX1_stop_2
def dkwX1_stop_0 : List UInt8 := [27, 3, 6, 184, 0, 16, 153, 0, 16, 28, 3, 8, 184, 0, 16, 153, 0, 7, 4, 167, 0, 4, 3]
abbrev dktX1_stop_0 : List UInt8 := dkwX1_stop_0 ++ dktX1_stop_1
theorem dksX1_stop_0 : cX1_stop.data.toList.drop 0 = dktX1_stop_0 := by decide +kernel
theorem dksX1_stop_1 : cX1_stop.data.toList.drop 23 = dktX1_stop_1 := dk_seg dksX1_stop_0 23 rfl rfl
theorem dksX1_stop_2 : cX1_stop.data.toList.drop 46 = dktX1_stop_2 := dk_seg dksX1_stop_1 23 rfl rfl
theorem dksX1_stop_3 : cX1_stop.data.toList.drop 66 = dktX1_stop_3 := dk_seg dksX1_stop_2 20 rfl rfl
theorem dksX1_stop_4 : cX1_stop.data.toList.drop 87 = dktX1_stop_4 := dk_seg dksX1_stop_3 21 rfl rfl
theorem dksX1_stop_5 : cX1_stop.data.toList.drop 110 = dktX1_stop_5 := dk_seg dksX1_stop_4 23 rfl rfl
theorem dX1_stop_0 : decode cX1_stop 0 = .ok (.iload_n 1, 1) := dk_27 (dk_at dksX1_stop_0 0 rfl rfl)
theorem dX1_stop_1 : decode cX1_stop 1 = .ok (.iconst 0, 1) := dk_3 (dk_at dksX1_stop_0 1 rfl rfl)
theorem dX1_stop_2 : decode cX1_stop 2 = .ok (.iconst 3, 1) := dk_6 (dk_at dksX1_stop_0 2 rfl rfl)
theorem dX1_stop_3 : decode cX1_stop 3 = .ok (.invokestatic 16, 3) := dk_184 0 16 (dk_at dksX1_stop_0 3 rfl rfl)
theorem dX1_stop_6 : decode cX1_stop 6 = .ok (.ifCond .eq 16, 3) := dk_153 0 16 (dk_at dksX1_stop_0 6 rfl rfl)
theorem dX1_stop_9 : decode cX1_stop 9 = .ok (.iload_n 2, 1) := dk_28 (dk_at dksX1_stop_0 9 rfl rfl)
theorem dX1_stop_10 : decode cX1_stop 10 = .ok (.iconst 0, 1) := dk_3 (dk_at dksX1_stop_0 10 rfl rfl)
theorem dX1_stop_11 : decode cX1_stop 11 = .ok (.iconst 5, 1) := dk_8 (dk_at dksX1_stop_0 11 rfl rfl)
theorem dX1_stop_12 : decode cX1_stop 12 = .ok (.invokestatic 16, 3) := dk_184 0 16 (dk_at dksX1_stop_0 12 rfl rfl)
theorem dX1_stop_15 : decode cX1_stop 15 = .ok (.ifCond .eq 7, 3) := dk_153 0 7 (dk_at dksX1_stop_0 15 rfl rfl)
theorem dX1_stop_18 : decode cX1_stop 18 = .ok (.iconst 1, 1) := dk_4 (dk_at dksX1_stop_0 18 rfl rfl)
theorem dX1_stop_19 : decode cX1_stop 19 = .ok (.goto 4, 3) := dk_167 0 4 (dk_at dksX1_stop_0 19 rfl rfl)
theorem dX1_stop_22 : decode cX1_stop 22 = .ok (.iconst 0, 1) := dk_3 (dk_at dksX1_stop_0 22 rfl rfl)
theorem dX1_stop_23 : decode cX1_stop 23 = .ok (.invokestatic 139, 3) := dk_184 0 139 (dk_at dksX1_stop_1 0 rfl rfl)
theorem dX1_stop_26 : decode cX1_stop 26 = .ok (.aload_n 0, 1) := dk_42 (dk_at dksX1_stop_1 3 rfl rfl)
theorem dX1_stop_27 : decode cX1_stop 27 = .ok (.getfield 20, 3) := dk_180 0 20 (dk_at dksX1_stop_1 4 rfl rfl)
theorem dX1_stop_30 : decode cX1_stop 30 = .ok (.iload_n 1, 1) := dk_27 (dk_at dksX1_stop_1 7 rfl rfl)
theorem dX1_stop_31 : decode cX1_stop 31 = .ok (.invokeinterface 24 2, 5) := by decide +kernel
theorem dX1_stop_36 : decode cX1_stop 36 = .ok (.checkcast 25, 3) := dk_192 0 25 (dk_at dksX1_stop_1 13 rfl rfl)
theorem dX1_stop_39 : decode cX1_stop 39 = .ok (.invokeinterface 135 1, 5) := by decide +kernel
theorem dX1_stop_44 : decode cX1_stop 44 = .ok (.bipush 6, 2) := dk_16 6 (dk_at dksX1_stop_1 21 rfl rfl)
theorem dX1_stop_46 : decode cX1_stop 46 = .ok (.if_icmp .ge 32, 3) := dk_162 0 32 (dk_at dksX1_stop_2 0 rfl rfl)
theorem dX1_stop_49 : decode cX1_stop 49 = .ok (.aload_n 0, 1) := dk_42 (dk_at dksX1_stop_2 3 rfl rfl)
theorem dX1_stop_50 : decode cX1_stop 50 = .ok (.getfield 20, 3) := dk_180 0 20 (dk_at dksX1_stop_2 4 rfl rfl)
theorem dX1_stop_53 : decode cX1_stop 53 = .ok (.iload_n 1, 1) := dk_27 (dk_at dksX1_stop_2 7 rfl rfl)
theorem dX1_stop_54 : decode cX1_stop 54 = .ok (.invokeinterface 24 2, 5) := by decide +kernel
theorem dX1_stop_59 : decode cX1_stop 59 = .ok (.checkcast 25, 3) := dk_192 0 25 (dk_at dksX1_stop_2 13 rfl rfl)
theorem dX1_stop_62 : decode cX1_stop 62 = .ok (.iload_n 2, 1) := dk_28 (dk_at dksX1_stop_2 16 rfl rfl)
theorem dX1_stop_63 : decode cX1_stop 63 = .ok (.invokestatic 30, 3) := dk_184 0 30 (dk_at dksX1_stop_2 17 rfl rfl)
theorem dX1_stop_66 : decode cX1_stop 66 = .ok (.invokeinterface 36 2, 5) := by decide +kernel
theorem dX1_stop_71 : decode cX1_stop 71 = .ok (.ifCond .ne 7, 3) := dk_154 0 7 (dk_at dksX1_stop_3 5 rfl rfl)
theorem dX1_stop_74 : decode cX1_stop 74 = .ok (.iconst 1, 1) := dk_4 (dk_at dksX1_stop_3 8 rfl rfl)
theorem dX1_stop_75 : decode cX1_stop 75 = .ok (.goto 4, 3) := dk_167 0 4 (dk_at dksX1_stop_3 9 rfl rfl)
theorem dX1_stop_78 : decode cX1_stop 78 = .ok (.iconst 0, 1) := dk_3 (dk_at dksX1_stop_3 12 rfl rfl)
theorem dX1_stop_79 : decode cX1_stop 79 = .ok (.invokestatic 150, 3) := dk_184 0 150 (dk_at dksX1_stop_3 13 rfl rfl)
theorem dX1_stop_82 : decode cX1_stop 82 = .ok (.aload_n 0, 1) := dk_42 (dk_at dksX1_stop_3 16 rfl rfl)
theorem dX1_stop_83 : decode cX1_stop 83 = .ok (.getfield 20, 3) := dk_180 0 20 (dk_at dksX1_stop_3 17 rfl rfl)
theorem dX1_stop_86 : decode cX1_stop 86 = .ok (.iload_n 1, 1) := dk_27 (dk_at dksX1_stop_3 20 rfl rfl)
theorem dX1_stop_87 : decode cX1_stop 87 = .ok (.invokeinterface 24 2, 5) := by decide +kernel
theorem dX1_stop_92 : decode cX1_stop 92 = .ok (.checkcast 25, 3) := dk_192 0 25 (dk_at dksX1_stop_4 5 rfl rfl)
theorem dX1_stop_95 : decode cX1_stop 95 = .ok (.iload_n 2, 1) := dk_28 (dk_at dksX1_stop_4 8 rfl rfl)
theorem dX1_stop_96 : decode cX1_stop 96 = .ok (.invokestatic 30, 3) := dk_184 0 30 (dk_at dksX1_stop_4 9 rfl rfl)
theorem dX1_stop_99 : decode cX1_stop 99 = .ok (.invokeinterface 132 2, 5) := by decide +kernel
theorem dX1_stop_104 : decode cX1_stop 104 = .ok (.pop, 1) := dk_87 (dk_at dksX1_stop_4 17 rfl rfl)
theorem dX1_stop_105 : decode cX1_stop 105 = .ok (.aload_n 0, 1) := dk_42 (dk_at dksX1_stop_4 18 rfl rfl)
theorem dX1_stop_106 : decode cX1_stop 106 = .ok (.getfield 20, 3) := dk_180 0 20 (dk_at dksX1_stop_4 19 rfl rfl)
theorem dX1_stop_109 : decode cX1_stop 109 = .ok (.iload_n 1, 1) := dk_27 (dk_at dksX1_stop_4 22 rfl rfl)
theorem dX1_stop_110 : decode cX1_stop 110 = .ok (.invokeinterface 24 2, 5) := by decide +kernel
theorem dX1_stop_115 : decode cX1_stop 115 = .ok (.checkcast 25, 3) := dk_192 0 25 (dk_at dksX1_stop_5 5 rfl rfl)
theorem dX1_stop_118 : decode cX1_stop 118 = .ok (.invokeinterface 135 1, 5) := by decide +kernel
theorem dX1_stop_123 : decode cX1_stop 123 = .ok (.ireturn, 1) := dk_172 (dk_at dksX1_stop_5 13 rfl rfl)
abbrev cX1_requireState : ByteArray := prog_1_method_3_code
def yX1_requireState : MethodName := ⟨RX1, "requireState", "(Z)V"⟩
def dkwX1_requireState_0 : List UInt8 := [26, 154, 0, 11, 187, 0, 10, 89, 183, 0, 12, 191, 177]
abbrev dktX1_requireState_0 : List UInt8 := dkwX1_requireState_0 ++ []
theorem dksX1_requireState_0 : cX1_requireState.data.toList.drop 0 = dktX1_requireState_0 := by decide +kernel
theorem dX1_requireState_0 : decode cX1_requireState 0 = .ok (.iload_n 0, 1) := dk_26 (dk_at dksX1_requireState_0 0 rfl rfl)
theorem dX1_requireState_1 : decode cX1_requireState 1 = .ok (.ifCond .ne 11, 3) := dk_154 0 11 (dk_at dksX1_requireState_0 1 rfl rfl)
theorem dX1_requireState_4 : decode cX1_requireState 4 = .ok (.new 10, 3) := dk_187 0 10 (dk_at dksX1_requireState_0 4 rfl rfl)
theorem dX1_requireState_7 : decode cX1_requireState 7 = .ok (.dup, 1) := dk_89 (dk_at dksX1_requireState_0 7 rfl rfl)
theorem dX1_requireState_8 : decode cX1_requireState 8 = .ok (.invokespecial 12, 3) := dk_183 0 12 (dk_at dksX1_requireState_0 8 rfl rfl)
theorem dX1_requireState_11 : decode cX1_requireState 11 = .ok (.athrow, 1) := dk_191 (dk_at dksX1_requireState_0 11 rfl rfl)
theorem dX1_requireState_12 : decode cX1_requireState 12 = .ok (.return_, 1) := dk_177 (dk_at dksX1_requireState_0 12 rfl rfl)
abbrev cX1_threshold : ByteArray := prog_1_method_21_code
def yX1_threshold : MethodName := ⟨RX1, "threshold", "(I)I"⟩
def dkwX1_threshold_0 : List UInt8 := [27, 4, 17, 0, 200, 184, 0, 16, 184, 0, 143, 42, 180, 0, 105, 61, 42, 27, 181, 0, 105, 28, 172]
abbrev dktX1_threshold_0 : List UInt8 := dkwX1_threshold_0 ++ []
theorem dksX1_threshold_0 : cX1_threshold.data.toList.drop 0 = dktX1_threshold_0 := by decide +kernel
theorem dX1_threshold_0 : decode cX1_threshold 0 = .ok (.iload_n 1, 1) := dk_27 (dk_at dksX1_threshold_0 0 rfl rfl)
theorem dX1_threshold_1 : decode cX1_threshold 1 = .ok (.iconst 1, 1) := dk_4 (dk_at dksX1_threshold_0 1 rfl rfl)
theorem dX1_threshold_2 : decode cX1_threshold 2 = .ok (.sipush 200, 3) := dk_17 0 200 (dk_at dksX1_threshold_0 2 rfl rfl)
theorem dX1_threshold_5 : decode cX1_threshold 5 = .ok (.invokestatic 16, 3) := dk_184 0 16 (dk_at dksX1_threshold_0 5 rfl rfl)
theorem dX1_threshold_8 : decode cX1_threshold 8 = .ok (.invokestatic 143, 3) := dk_184 0 143 (dk_at dksX1_threshold_0 8 rfl rfl)
theorem dX1_threshold_11 : decode cX1_threshold 11 = .ok (.aload_n 0, 1) := dk_42 (dk_at dksX1_threshold_0 11 rfl rfl)
theorem dX1_threshold_12 : decode cX1_threshold 12 = .ok (.getfield 105, 3) := dk_180 0 105 (dk_at dksX1_threshold_0 12 rfl rfl)
theorem dX1_threshold_15 : decode cX1_threshold 15 = .ok (.istore_n 2, 1) := dk_61 (dk_at dksX1_threshold_0 15 rfl rfl)
theorem dX1_threshold_16 : decode cX1_threshold 16 = .ok (.aload_n 0, 1) := dk_42 (dk_at dksX1_threshold_0 16 rfl rfl)
theorem dX1_threshold_17 : decode cX1_threshold 17 = .ok (.iload_n 1, 1) := dk_27 (dk_at dksX1_threshold_0 17 rfl rfl)
theorem dX1_threshold_18 : decode cX1_threshold 18 = .ok (.putfield 105, 3) := dk_181 0 105 (dk_at dksX1_threshold_0 18 rfl rfl)
theorem dX1_threshold_21 : decode cX1_threshold 21 = .ok (.iload_n 2, 1) := dk_28 (dk_at dksX1_threshold_0 21 rfl rfl)
theorem dX1_threshold_22 : decode cX1_threshold 22 = .ok (.ireturn, 1) := dk_172 (dk_at dksX1_threshold_0 22 rfl rfl)
abbrev cX1_find : ByteArray := prog_1_method_22_code
def yX1_find : MethodName := ⟨RX1, "find", "(IIIIIII)I"⟩
def dkwX1_find_6 : List UInt8 := [185, 0, 132, 2, 0, 87, 42, 180, 0, 120, 185, 0, 135, 1, 0, 4, 100, 172]
abbrev dktX1_find_6 : List UInt8 := dkwX1_find_6 ++ []
def dkwX1_find_5 : List UInt8 := [187, 0, 52, 89, 42, 27, 28, 42, 180, 0, 157, 29, 100, 21, 4, 21, 5, 21, 6, 21, 7, 183, 0, 163]
abbrev dktX1_find_5 : List UInt8 := dkwX1_find_5 ++ dktX1_find_6
def dkwX1_find_4 : List UInt8 := [185, 0, 135, 1, 0, 16, 30, 162, 0, 7, 4, 167, 0, 4, 3, 184, 0, 150, 42, 180, 0, 120]
abbrev dktX1_find_4 : List UInt8 := dkwX1_find_4 ++ dktX1_find_5
def dkwX1_find_3 : List UInt8 := [17, 39, 15, 184, 0, 16, 153, 0, 7, 4, 167, 0, 4, 3, 184, 0, 143, 42, 180, 0, 120]
abbrev dktX1_find_3 : List UInt8 := dkwX1_find_3 ++ dktX1_find_4
def dkwX1_find_2 : List UInt8 := [153, 0, 35, 21, 5, 184, 0, 160, 153, 0, 27, 21, 4, 21, 5, 126, 154, 0, 19, 21, 6, 3]
abbrev dktX1_find_2 : List UInt8 := dkwX1_find_2 ++ dktX1_find_3
def dkwX1_find_1 : List UInt8 := [167, 0, 4, 3, 184, 0, 139, 29, 3, 42, 180, 0, 157, 184, 0, 16, 153, 0, 43, 21, 4, 184, 0, 160]
abbrev dktX1_find_1 : List UInt8 := dkwX1_find_1 ++ dktX1_find_2
def dkwX1_find_0 : List UInt8 := [27, 184, 0, 146, 28, 184, 0, 153, 153, 0, 17, 21, 7, 3, 8, 184, 0, 16, 153, 0, 7, 4]
abbrev dktX1_find_0 : List UInt8 := dkwX1_find_0 ++ dktX1_find_1
theorem dksX1_find_0 : cX1_find.data.toList.drop 0 = dktX1_find_0 := by decide +kernel
theorem dksX1_find_1 : cX1_find.data.toList.drop 22 = dktX1_find_1 := dk_seg dksX1_find_0 22 rfl rfl
theorem dksX1_find_2 : cX1_find.data.toList.drop 46 = dktX1_find_2 := dk_seg dksX1_find_1 24 rfl rfl
theorem dksX1_find_3 : cX1_find.data.toList.drop 68 = dktX1_find_3 := dk_seg dksX1_find_2 22 rfl rfl
theorem dksX1_find_4 : cX1_find.data.toList.drop 89 = dktX1_find_4 := dk_seg dksX1_find_3 21 rfl rfl
theorem dksX1_find_5 : cX1_find.data.toList.drop 111 = dktX1_find_5 := dk_seg dksX1_find_4 22 rfl rfl
theorem dksX1_find_6 : cX1_find.data.toList.drop 135 = dktX1_find_6 := dk_seg dksX1_find_5 24 rfl rfl
theorem dX1_find_0 : decode cX1_find 0 = .ok (.iload_n 1, 1) := dk_27 (dk_at dksX1_find_0 0 rfl rfl)
theorem dX1_find_1 : decode cX1_find 1 = .ok (.invokestatic 146, 3) := dk_184 0 146 (dk_at dksX1_find_0 1 rfl rfl)
theorem dX1_find_4 : decode cX1_find 4 = .ok (.iload_n 2, 1) := dk_28 (dk_at dksX1_find_0 4 rfl rfl)
theorem dX1_find_5 : decode cX1_find 5 = .ok (.invokestatic 153, 3) := dk_184 0 153 (dk_at dksX1_find_0 5 rfl rfl)
theorem dX1_find_8 : decode cX1_find 8 = .ok (.ifCond .eq 17, 3) := dk_153 0 17 (dk_at dksX1_find_0 8 rfl rfl)
theorem dX1_find_11 : decode cX1_find 11 = .ok (.iload 7, 2) := dk_21 7 (dk_at dksX1_find_0 11 rfl rfl)
theorem dX1_find_13 : decode cX1_find 13 = .ok (.iconst 0, 1) := dk_3 (dk_at dksX1_find_0 13 rfl rfl)
theorem dX1_find_14 : decode cX1_find 14 = .ok (.iconst 5, 1) := dk_8 (dk_at dksX1_find_0 14 rfl rfl)
theorem dX1_find_15 : decode cX1_find 15 = .ok (.invokestatic 16, 3) := dk_184 0 16 (dk_at dksX1_find_0 15 rfl rfl)
theorem dX1_find_18 : decode cX1_find 18 = .ok (.ifCond .eq 7, 3) := dk_153 0 7 (dk_at dksX1_find_0 18 rfl rfl)
theorem dX1_find_21 : decode cX1_find 21 = .ok (.iconst 1, 1) := dk_4 (dk_at dksX1_find_0 21 rfl rfl)
theorem dX1_find_22 : decode cX1_find 22 = .ok (.goto 4, 3) := dk_167 0 4 (dk_at dksX1_find_1 0 rfl rfl)
theorem dX1_find_25 : decode cX1_find 25 = .ok (.iconst 0, 1) := dk_3 (dk_at dksX1_find_1 3 rfl rfl)
theorem dX1_find_26 : decode cX1_find 26 = .ok (.invokestatic 139, 3) := dk_184 0 139 (dk_at dksX1_find_1 4 rfl rfl)
theorem dX1_find_29 : decode cX1_find 29 = .ok (.iload_n 3, 1) := dk_29 (dk_at dksX1_find_1 7 rfl rfl)
theorem dX1_find_30 : decode cX1_find 30 = .ok (.iconst 0, 1) := dk_3 (dk_at dksX1_find_1 8 rfl rfl)
theorem dX1_find_31 : decode cX1_find 31 = .ok (.aload_n 0, 1) := dk_42 (dk_at dksX1_find_1 9 rfl rfl)
theorem dX1_find_32 : decode cX1_find 32 = .ok (.getfield 157, 3) := dk_180 0 157 (dk_at dksX1_find_1 10 rfl rfl)
theorem dX1_find_35 : decode cX1_find 35 = .ok (.invokestatic 16, 3) := dk_184 0 16 (dk_at dksX1_find_1 13 rfl rfl)
theorem dX1_find_38 : decode cX1_find 38 = .ok (.ifCond .eq 43, 3) := dk_153 0 43 (dk_at dksX1_find_1 16 rfl rfl)
theorem dX1_find_41 : decode cX1_find 41 = .ok (.iload 4, 2) := dk_21 4 (dk_at dksX1_find_1 19 rfl rfl)
theorem dX1_find_43 : decode cX1_find 43 = .ok (.invokestatic 160, 3) := dk_184 0 160 (dk_at dksX1_find_1 21 rfl rfl)
theorem dX1_find_46 : decode cX1_find 46 = .ok (.ifCond .eq 35, 3) := dk_153 0 35 (dk_at dksX1_find_2 0 rfl rfl)
theorem dX1_find_49 : decode cX1_find 49 = .ok (.iload 5, 2) := dk_21 5 (dk_at dksX1_find_2 3 rfl rfl)
theorem dX1_find_51 : decode cX1_find 51 = .ok (.invokestatic 160, 3) := dk_184 0 160 (dk_at dksX1_find_2 5 rfl rfl)
theorem dX1_find_54 : decode cX1_find 54 = .ok (.ifCond .eq 27, 3) := dk_153 0 27 (dk_at dksX1_find_2 8 rfl rfl)
theorem dX1_find_57 : decode cX1_find 57 = .ok (.iload 4, 2) := dk_21 4 (dk_at dksX1_find_2 11 rfl rfl)
theorem dX1_find_59 : decode cX1_find 59 = .ok (.iload 5, 2) := dk_21 5 (dk_at dksX1_find_2 13 rfl rfl)
theorem dX1_find_61 : decode cX1_find 61 = .ok (.iand, 1) := dk_126 (dk_at dksX1_find_2 15 rfl rfl)
theorem dX1_find_62 : decode cX1_find 62 = .ok (.ifCond .ne 19, 3) := dk_154 0 19 (dk_at dksX1_find_2 16 rfl rfl)
theorem dX1_find_65 : decode cX1_find 65 = .ok (.iload 6, 2) := dk_21 6 (dk_at dksX1_find_2 19 rfl rfl)
theorem dX1_find_67 : decode cX1_find 67 = .ok (.iconst 0, 1) := dk_3 (dk_at dksX1_find_2 21 rfl rfl)
theorem dX1_find_68 : decode cX1_find 68 = .ok (.sipush 9999, 3) := dk_17 39 15 (dk_at dksX1_find_3 0 rfl rfl)
theorem dX1_find_71 : decode cX1_find 71 = .ok (.invokestatic 16, 3) := dk_184 0 16 (dk_at dksX1_find_3 3 rfl rfl)
theorem dX1_find_74 : decode cX1_find 74 = .ok (.ifCond .eq 7, 3) := dk_153 0 7 (dk_at dksX1_find_3 6 rfl rfl)
theorem dX1_find_77 : decode cX1_find 77 = .ok (.iconst 1, 1) := dk_4 (dk_at dksX1_find_3 9 rfl rfl)
theorem dX1_find_78 : decode cX1_find 78 = .ok (.goto 4, 3) := dk_167 0 4 (dk_at dksX1_find_3 10 rfl rfl)
theorem dX1_find_81 : decode cX1_find 81 = .ok (.iconst 0, 1) := dk_3 (dk_at dksX1_find_3 13 rfl rfl)
theorem dX1_find_82 : decode cX1_find 82 = .ok (.invokestatic 143, 3) := dk_184 0 143 (dk_at dksX1_find_3 14 rfl rfl)
theorem dX1_find_85 : decode cX1_find 85 = .ok (.aload_n 0, 1) := dk_42 (dk_at dksX1_find_3 17 rfl rfl)
theorem dX1_find_86 : decode cX1_find 86 = .ok (.getfield 120, 3) := dk_180 0 120 (dk_at dksX1_find_3 18 rfl rfl)
theorem dX1_find_89 : decode cX1_find 89 = .ok (.invokeinterface 135 1, 5) := by decide +kernel
theorem dX1_find_94 : decode cX1_find 94 = .ok (.bipush 30, 2) := dk_16 30 (dk_at dksX1_find_4 5 rfl rfl)
theorem dX1_find_96 : decode cX1_find 96 = .ok (.if_icmp .ge 7, 3) := dk_162 0 7 (dk_at dksX1_find_4 7 rfl rfl)
theorem dX1_find_99 : decode cX1_find 99 = .ok (.iconst 1, 1) := dk_4 (dk_at dksX1_find_4 10 rfl rfl)
theorem dX1_find_100 : decode cX1_find 100 = .ok (.goto 4, 3) := dk_167 0 4 (dk_at dksX1_find_4 11 rfl rfl)
theorem dX1_find_103 : decode cX1_find 103 = .ok (.iconst 0, 1) := dk_3 (dk_at dksX1_find_4 14 rfl rfl)
theorem dX1_find_104 : decode cX1_find 104 = .ok (.invokestatic 150, 3) := dk_184 0 150 (dk_at dksX1_find_4 15 rfl rfl)
theorem dX1_find_107 : decode cX1_find 107 = .ok (.aload_n 0, 1) := dk_42 (dk_at dksX1_find_4 18 rfl rfl)
theorem dX1_find_108 : decode cX1_find 108 = .ok (.getfield 120, 3) := dk_180 0 120 (dk_at dksX1_find_4 19 rfl rfl)
theorem dX1_find_111 : decode cX1_find 111 = .ok (.new 52, 3) := dk_187 0 52 (dk_at dksX1_find_5 0 rfl rfl)
theorem dX1_find_114 : decode cX1_find 114 = .ok (.dup, 1) := dk_89 (dk_at dksX1_find_5 3 rfl rfl)
theorem dX1_find_115 : decode cX1_find 115 = .ok (.aload_n 0, 1) := dk_42 (dk_at dksX1_find_5 4 rfl rfl)
theorem dX1_find_116 : decode cX1_find 116 = .ok (.iload_n 1, 1) := dk_27 (dk_at dksX1_find_5 5 rfl rfl)
theorem dX1_find_117 : decode cX1_find 117 = .ok (.iload_n 2, 1) := dk_28 (dk_at dksX1_find_5 6 rfl rfl)
theorem dX1_find_118 : decode cX1_find 118 = .ok (.aload_n 0, 1) := dk_42 (dk_at dksX1_find_5 7 rfl rfl)
theorem dX1_find_119 : decode cX1_find 119 = .ok (.getfield 157, 3) := dk_180 0 157 (dk_at dksX1_find_5 8 rfl rfl)
theorem dX1_find_122 : decode cX1_find 122 = .ok (.iload_n 3, 1) := dk_29 (dk_at dksX1_find_5 11 rfl rfl)
theorem dX1_find_123 : decode cX1_find 123 = .ok (.isub, 1) := dk_100 (dk_at dksX1_find_5 12 rfl rfl)
theorem dX1_find_124 : decode cX1_find 124 = .ok (.iload 4, 2) := dk_21 4 (dk_at dksX1_find_5 13 rfl rfl)
theorem dX1_find_126 : decode cX1_find 126 = .ok (.iload 5, 2) := dk_21 5 (dk_at dksX1_find_5 15 rfl rfl)
theorem dX1_find_128 : decode cX1_find 128 = .ok (.iload 6, 2) := dk_21 6 (dk_at dksX1_find_5 17 rfl rfl)
theorem dX1_find_130 : decode cX1_find 130 = .ok (.iload 7, 2) := dk_21 7 (dk_at dksX1_find_5 19 rfl rfl)
theorem dX1_find_132 : decode cX1_find 132 = .ok (.invokespecial 163, 3) := dk_183 0 163 (dk_at dksX1_find_5 21 rfl rfl)
theorem dX1_find_135 : decode cX1_find 135 = .ok (.invokeinterface 132 2, 5) := by decide +kernel
theorem dX1_find_140 : decode cX1_find 140 = .ok (.pop, 1) := dk_87 (dk_at dksX1_find_6 5 rfl rfl)
theorem dX1_find_141 : decode cX1_find 141 = .ok (.aload_n 0, 1) := dk_42 (dk_at dksX1_find_6 6 rfl rfl)
theorem dX1_find_142 : decode cX1_find 142 = .ok (.getfield 120, 3) := dk_180 0 120 (dk_at dksX1_find_6 7 rfl rfl)
theorem dX1_find_145 : decode cX1_find 145 = .ok (.invokeinterface 135 1, 5) := by decide +kernel
theorem dX1_find_150 : decode cX1_find 150 = .ok (.iconst 1, 1) := dk_4 (dk_at dksX1_find_6 15 rfl rfl)
theorem dX1_find_151 : decode cX1_find 151 = .ok (.isub, 1) := dk_100 (dk_at dksX1_find_6 16 rfl rfl)
theorem dX1_find_152 : decode cX1_find 152 = .ok (.ireturn, 1) := dk_172 (dk_at dksX1_find_6 17 rfl rfl)
abbrev cX1_isPlace : ByteArray := prog_1_method_16_code
def yX1_isPlace : MethodName := ⟨RX1, "isPlace", "(I)Z"⟩
def dkwX1_isPlace_0 : List UInt8 := [26, 3, 16, 9, 184, 0, 16, 172]
abbrev dktX1_isPlace_0 : List UInt8 := dkwX1_isPlace_0 ++ []
theorem dksX1_isPlace_0 : cX1_isPlace.data.toList.drop 0 = dktX1_isPlace_0 := by decide +kernel
theorem dX1_isPlace_0 : decode cX1_isPlace 0 = .ok (.iload_n 0, 1) := dk_26 (dk_at dksX1_isPlace_0 0 rfl rfl)
theorem dX1_isPlace_1 : decode cX1_isPlace 1 = .ok (.iconst 0, 1) := dk_3 (dk_at dksX1_isPlace_0 1 rfl rfl)
theorem dX1_isPlace_2 : decode cX1_isPlace 2 = .ok (.bipush 9, 2) := dk_16 9 (dk_at dksX1_isPlace_0 2 rfl rfl)
theorem dX1_isPlace_4 : decode cX1_isPlace 4 = .ok (.invokestatic 16, 3) := dk_184 0 16 (dk_at dksX1_isPlace_0 4 rfl rfl)
theorem dX1_isPlace_7 : decode cX1_isPlace 7 = .ok (.ireturn, 1) := dk_172 (dk_at dksX1_isPlace_0 7 rfl rfl)
abbrev cX1_isWords : ByteArray := prog_1_method_6_code
def yX1_isWords : MethodName := ⟨RX1, "isWords", "(I)Z"⟩
def dkwX1_isWords_0 : List UInt8 := [26, 3, 18, 15, 184, 0, 16, 172]
abbrev dktX1_isWords_0 : List UInt8 := dkwX1_isWords_0 ++ []
theorem dksX1_isWords_0 : cX1_isWords.data.toList.drop 0 = dktX1_isWords_0 := by decide +kernel
theorem dX1_isWords_0 : decode cX1_isWords 0 = .ok (.iload_n 0, 1) := dk_26 (dk_at dksX1_isWords_0 0 rfl rfl)
theorem dX1_isWords_1 : decode cX1_isWords 1 = .ok (.iconst 0, 1) := dk_3 (dk_at dksX1_isWords_0 1 rfl rfl)
theorem dX1_isWords_2 : decode cX1_isWords 2 = .ok (.ldc 15, 2) := dk_18 15 (dk_at dksX1_isWords_0 2 rfl rfl)
theorem dX1_isWords_4 : decode cX1_isWords 4 = .ok (.invokestatic 16, 3) := dk_184 0 16 (dk_at dksX1_isWords_0 4 rfl rfl)
theorem dX1_isWords_7 : decode cX1_isWords 7 = .ok (.ireturn, 1) := dk_172 (dk_at dksX1_isWords_0 7 rfl rfl)
abbrev cX1_see : ByteArray := prog_1_method_23_code
def yX1_see : MethodName := ⟨RX1, "see", "(II)I"⟩
def dkwX1_see_2 : List UInt8 := [180, 0, 88, 28, 128, 181, 0, 88, 45, 180, 0, 88, 184, 0, 171, 172]
abbrev dktX1_see_2 : List UInt8 := dkwX1_see_2 ++ []
def dkwX1_see_1 : List UInt8 := [167, 0, 4, 3, 184, 0, 143, 45, 180, 0, 170, 154, 0, 7, 4, 167, 0, 4, 3, 184, 0, 150, 45, 89]
abbrev dktX1_see_1 : List UInt8 := dkwX1_see_1 ++ dktX1_see_2
def dkwX1_see_0 : List UInt8 := [42, 27, 182, 0, 166, 78, 28, 184, 0, 160, 153, 0, 16, 28, 45, 180, 0, 89, 126, 154, 0, 7, 4]
abbrev dktX1_see_0 : List UInt8 := dkwX1_see_0 ++ dktX1_see_1
theorem dksX1_see_0 : cX1_see.data.toList.drop 0 = dktX1_see_0 := by decide +kernel
theorem dksX1_see_1 : cX1_see.data.toList.drop 23 = dktX1_see_1 := dk_seg dksX1_see_0 23 rfl rfl
theorem dksX1_see_2 : cX1_see.data.toList.drop 47 = dktX1_see_2 := dk_seg dksX1_see_1 24 rfl rfl
theorem dX1_see_0 : decode cX1_see 0 = .ok (.aload_n 0, 1) := dk_42 (dk_at dksX1_see_0 0 rfl rfl)
theorem dX1_see_1 : decode cX1_see 1 = .ok (.iload_n 1, 1) := dk_27 (dk_at dksX1_see_0 1 rfl rfl)
theorem dX1_see_2 : decode cX1_see 2 = .ok (.invokevirtual 166, 3) := dk_182 0 166 (dk_at dksX1_see_0 2 rfl rfl)
theorem dX1_see_5 : decode cX1_see 5 = .ok (.astore_n 3, 1) := dk_78 (dk_at dksX1_see_0 5 rfl rfl)
theorem dX1_see_6 : decode cX1_see 6 = .ok (.iload_n 2, 1) := dk_28 (dk_at dksX1_see_0 6 rfl rfl)
theorem dX1_see_7 : decode cX1_see 7 = .ok (.invokestatic 160, 3) := dk_184 0 160 (dk_at dksX1_see_0 7 rfl rfl)
theorem dX1_see_10 : decode cX1_see 10 = .ok (.ifCond .eq 16, 3) := dk_153 0 16 (dk_at dksX1_see_0 10 rfl rfl)
theorem dX1_see_13 : decode cX1_see 13 = .ok (.iload_n 2, 1) := dk_28 (dk_at dksX1_see_0 13 rfl rfl)
theorem dX1_see_14 : decode cX1_see 14 = .ok (.aload_n 3, 1) := dk_45 (dk_at dksX1_see_0 14 rfl rfl)
theorem dX1_see_15 : decode cX1_see 15 = .ok (.getfield 89, 3) := dk_180 0 89 (dk_at dksX1_see_0 15 rfl rfl)
theorem dX1_see_18 : decode cX1_see 18 = .ok (.iand, 1) := dk_126 (dk_at dksX1_see_0 18 rfl rfl)
theorem dX1_see_19 : decode cX1_see 19 = .ok (.ifCond .ne 7, 3) := dk_154 0 7 (dk_at dksX1_see_0 19 rfl rfl)
theorem dX1_see_22 : decode cX1_see 22 = .ok (.iconst 1, 1) := dk_4 (dk_at dksX1_see_0 22 rfl rfl)
theorem dX1_see_23 : decode cX1_see 23 = .ok (.goto 4, 3) := dk_167 0 4 (dk_at dksX1_see_1 0 rfl rfl)
theorem dX1_see_26 : decode cX1_see 26 = .ok (.iconst 0, 1) := dk_3 (dk_at dksX1_see_1 3 rfl rfl)
theorem dX1_see_27 : decode cX1_see 27 = .ok (.invokestatic 143, 3) := dk_184 0 143 (dk_at dksX1_see_1 4 rfl rfl)
theorem dX1_see_30 : decode cX1_see 30 = .ok (.aload_n 3, 1) := dk_45 (dk_at dksX1_see_1 7 rfl rfl)
theorem dX1_see_31 : decode cX1_see 31 = .ok (.getfield 170, 3) := dk_180 0 170 (dk_at dksX1_see_1 8 rfl rfl)
theorem dX1_see_34 : decode cX1_see 34 = .ok (.ifCond .ne 7, 3) := dk_154 0 7 (dk_at dksX1_see_1 11 rfl rfl)
theorem dX1_see_37 : decode cX1_see 37 = .ok (.iconst 1, 1) := dk_4 (dk_at dksX1_see_1 14 rfl rfl)
theorem dX1_see_38 : decode cX1_see 38 = .ok (.goto 4, 3) := dk_167 0 4 (dk_at dksX1_see_1 15 rfl rfl)
theorem dX1_see_41 : decode cX1_see 41 = .ok (.iconst 0, 1) := dk_3 (dk_at dksX1_see_1 18 rfl rfl)
theorem dX1_see_42 : decode cX1_see 42 = .ok (.invokestatic 150, 3) := dk_184 0 150 (dk_at dksX1_see_1 19 rfl rfl)
theorem dX1_see_45 : decode cX1_see 45 = .ok (.aload_n 3, 1) := dk_45 (dk_at dksX1_see_1 22 rfl rfl)
theorem dX1_see_46 : decode cX1_see 46 = .ok (.dup, 1) := dk_89 (dk_at dksX1_see_1 23 rfl rfl)
theorem dX1_see_47 : decode cX1_see 47 = .ok (.getfield 88, 3) := dk_180 0 88 (dk_at dksX1_see_2 0 rfl rfl)
theorem dX1_see_50 : decode cX1_see 50 = .ok (.iload_n 2, 1) := dk_28 (dk_at dksX1_see_2 3 rfl rfl)
theorem dX1_see_51 : decode cX1_see 51 = .ok (.ior, 1) := dk_128 (dk_at dksX1_see_2 4 rfl rfl)
theorem dX1_see_52 : decode cX1_see 52 = .ok (.putfield 88, 3) := dk_181 0 88 (dk_at dksX1_see_2 5 rfl rfl)
theorem dX1_see_55 : decode cX1_see 55 = .ok (.aload_n 3, 1) := dk_45 (dk_at dksX1_see_2 8 rfl rfl)
theorem dX1_see_56 : decode cX1_see 56 = .ok (.getfield 88, 3) := dk_180 0 88 (dk_at dksX1_see_2 9 rfl rfl)
theorem dX1_see_59 : decode cX1_see 59 = .ok (.invokestatic 171, 3) := dk_184 0 171 (dk_at dksX1_see_2 12 rfl rfl)
theorem dX1_see_62 : decode cX1_see 62 = .ok (.ireturn, 1) := dk_172 (dk_at dksX1_see_2 15 rfl rfl)
abbrev cX1_findAt : ByteArray := prog_1_method_13_code
def yX1_findAt : MethodName := ⟨RX1, "findAt", "(I)LLostroom$Find;"⟩
def dkwX1_findAt_1 : List UInt8 := [185, 0, 24, 2, 0, 192, 0, 52, 176]
abbrev dktX1_findAt_1 : List UInt8 := dkwX1_findAt_1 ++ []
def dkwX1_findAt_0 : List UInt8 := [27, 3, 42, 180, 0, 120, 185, 0, 135, 1, 0, 4, 100, 184, 0, 16, 184, 0, 139, 42, 180, 0, 120, 27]
abbrev dktX1_findAt_0 : List UInt8 := dkwX1_findAt_0 ++ dktX1_findAt_1
theorem dksX1_findAt_0 : cX1_findAt.data.toList.drop 0 = dktX1_findAt_0 := by decide +kernel
theorem dksX1_findAt_1 : cX1_findAt.data.toList.drop 24 = dktX1_findAt_1 := dk_seg dksX1_findAt_0 24 rfl rfl
theorem dX1_findAt_0 : decode cX1_findAt 0 = .ok (.iload_n 1, 1) := dk_27 (dk_at dksX1_findAt_0 0 rfl rfl)
theorem dX1_findAt_1 : decode cX1_findAt 1 = .ok (.iconst 0, 1) := dk_3 (dk_at dksX1_findAt_0 1 rfl rfl)
theorem dX1_findAt_2 : decode cX1_findAt 2 = .ok (.aload_n 0, 1) := dk_42 (dk_at dksX1_findAt_0 2 rfl rfl)
theorem dX1_findAt_3 : decode cX1_findAt 3 = .ok (.getfield 120, 3) := dk_180 0 120 (dk_at dksX1_findAt_0 3 rfl rfl)
theorem dX1_findAt_6 : decode cX1_findAt 6 = .ok (.invokeinterface 135 1, 5) := by decide +kernel
theorem dX1_findAt_11 : decode cX1_findAt 11 = .ok (.iconst 1, 1) := dk_4 (dk_at dksX1_findAt_0 11 rfl rfl)
theorem dX1_findAt_12 : decode cX1_findAt 12 = .ok (.isub, 1) := dk_100 (dk_at dksX1_findAt_0 12 rfl rfl)
theorem dX1_findAt_13 : decode cX1_findAt 13 = .ok (.invokestatic 16, 3) := dk_184 0 16 (dk_at dksX1_findAt_0 13 rfl rfl)
theorem dX1_findAt_16 : decode cX1_findAt 16 = .ok (.invokestatic 139, 3) := dk_184 0 139 (dk_at dksX1_findAt_0 16 rfl rfl)
theorem dX1_findAt_19 : decode cX1_findAt 19 = .ok (.aload_n 0, 1) := dk_42 (dk_at dksX1_findAt_0 19 rfl rfl)
theorem dX1_findAt_20 : decode cX1_findAt 20 = .ok (.getfield 120, 3) := dk_180 0 120 (dk_at dksX1_findAt_0 20 rfl rfl)
theorem dX1_findAt_23 : decode cX1_findAt 23 = .ok (.iload_n 1, 1) := dk_27 (dk_at dksX1_findAt_0 23 rfl rfl)
theorem dX1_findAt_24 : decode cX1_findAt 24 = .ok (.invokeinterface 24 2, 5) := by decide +kernel
theorem dX1_findAt_29 : decode cX1_findAt 29 = .ok (.checkcast 52, 3) := dk_192 0 52 (dk_at dksX1_findAt_1 5 rfl rfl)
theorem dX1_findAt_32 : decode cX1_findAt 32 = .ok (.areturn, 1) := dk_176 (dk_at dksX1_findAt_1 8 rfl rfl)
abbrev cX1_send : ByteArray := prog_1_method_24_code
def yX1_send : MethodName := ⟨RX1, "send", "(II)I"⟩
def dkwX1_send_2 : List UInt8 := [180, 0, 157, 4, 96, 181, 0, 178, 45, 180, 0, 175, 54, 4, 45, 28, 181, 0, 175, 21, 4, 172]
abbrev dktX1_send_2 : List UInt8 := dkwX1_send_2 ++ []
def dkwX1_send_1 : List UInt8 := [180, 0, 175, 28, 159, 0, 7, 4, 167, 0, 4, 3, 184, 0, 150, 45, 4, 181, 0, 170, 45, 42]
abbrev dktX1_send_1 : List UInt8 := dkwX1_send_1 ++ dktX1_send_2
def dkwX1_send_0 : List UInt8 := [42, 27, 182, 0, 166, 78, 28, 3, 8, 184, 0, 16, 184, 0, 139, 45, 180, 0, 170, 154, 0, 15, 45]
abbrev dktX1_send_0 : List UInt8 := dkwX1_send_0 ++ dktX1_send_1
theorem dksX1_send_0 : cX1_send.data.toList.drop 0 = dktX1_send_0 := by decide +kernel
theorem dksX1_send_1 : cX1_send.data.toList.drop 23 = dktX1_send_1 := dk_seg dksX1_send_0 23 rfl rfl
theorem dksX1_send_2 : cX1_send.data.toList.drop 45 = dktX1_send_2 := dk_seg dksX1_send_1 22 rfl rfl
theorem dX1_send_0 : decode cX1_send 0 = .ok (.aload_n 0, 1) := dk_42 (dk_at dksX1_send_0 0 rfl rfl)
theorem dX1_send_1 : decode cX1_send 1 = .ok (.iload_n 1, 1) := dk_27 (dk_at dksX1_send_0 1 rfl rfl)
theorem dX1_send_2 : decode cX1_send 2 = .ok (.invokevirtual 166, 3) := dk_182 0 166 (dk_at dksX1_send_0 2 rfl rfl)
theorem dX1_send_5 : decode cX1_send 5 = .ok (.astore_n 3, 1) := dk_78 (dk_at dksX1_send_0 5 rfl rfl)
theorem dX1_send_6 : decode cX1_send 6 = .ok (.iload_n 2, 1) := dk_28 (dk_at dksX1_send_0 6 rfl rfl)
theorem dX1_send_7 : decode cX1_send 7 = .ok (.iconst 0, 1) := dk_3 (dk_at dksX1_send_0 7 rfl rfl)
theorem dX1_send_8 : decode cX1_send 8 = .ok (.iconst 5, 1) := dk_8 (dk_at dksX1_send_0 8 rfl rfl)
theorem dX1_send_9 : decode cX1_send 9 = .ok (.invokestatic 16, 3) := dk_184 0 16 (dk_at dksX1_send_0 9 rfl rfl)
theorem dX1_send_12 : decode cX1_send 12 = .ok (.invokestatic 139, 3) := dk_184 0 139 (dk_at dksX1_send_0 12 rfl rfl)
theorem dX1_send_15 : decode cX1_send 15 = .ok (.aload_n 3, 1) := dk_45 (dk_at dksX1_send_0 15 rfl rfl)
theorem dX1_send_16 : decode cX1_send 16 = .ok (.getfield 170, 3) := dk_180 0 170 (dk_at dksX1_send_0 16 rfl rfl)
theorem dX1_send_19 : decode cX1_send 19 = .ok (.ifCond .ne 15, 3) := dk_154 0 15 (dk_at dksX1_send_0 19 rfl rfl)
theorem dX1_send_22 : decode cX1_send 22 = .ok (.aload_n 3, 1) := dk_45 (dk_at dksX1_send_0 22 rfl rfl)
theorem dX1_send_23 : decode cX1_send 23 = .ok (.getfield 175, 3) := dk_180 0 175 (dk_at dksX1_send_1 0 rfl rfl)
theorem dX1_send_26 : decode cX1_send 26 = .ok (.iload_n 2, 1) := dk_28 (dk_at dksX1_send_1 3 rfl rfl)
theorem dX1_send_27 : decode cX1_send 27 = .ok (.if_icmp .eq 7, 3) := dk_159 0 7 (dk_at dksX1_send_1 4 rfl rfl)
theorem dX1_send_30 : decode cX1_send 30 = .ok (.iconst 1, 1) := dk_4 (dk_at dksX1_send_1 7 rfl rfl)
theorem dX1_send_31 : decode cX1_send 31 = .ok (.goto 4, 3) := dk_167 0 4 (dk_at dksX1_send_1 8 rfl rfl)
theorem dX1_send_34 : decode cX1_send 34 = .ok (.iconst 0, 1) := dk_3 (dk_at dksX1_send_1 11 rfl rfl)
theorem dX1_send_35 : decode cX1_send 35 = .ok (.invokestatic 150, 3) := dk_184 0 150 (dk_at dksX1_send_1 12 rfl rfl)
theorem dX1_send_38 : decode cX1_send 38 = .ok (.aload_n 3, 1) := dk_45 (dk_at dksX1_send_1 15 rfl rfl)
theorem dX1_send_39 : decode cX1_send 39 = .ok (.iconst 1, 1) := dk_4 (dk_at dksX1_send_1 16 rfl rfl)
theorem dX1_send_40 : decode cX1_send 40 = .ok (.putfield 170, 3) := dk_181 0 170 (dk_at dksX1_send_1 17 rfl rfl)
theorem dX1_send_43 : decode cX1_send 43 = .ok (.aload_n 3, 1) := dk_45 (dk_at dksX1_send_1 20 rfl rfl)
theorem dX1_send_44 : decode cX1_send 44 = .ok (.aload_n 0, 1) := dk_42 (dk_at dksX1_send_1 21 rfl rfl)
theorem dX1_send_45 : decode cX1_send 45 = .ok (.getfield 157, 3) := dk_180 0 157 (dk_at dksX1_send_2 0 rfl rfl)
theorem dX1_send_48 : decode cX1_send 48 = .ok (.iconst 1, 1) := dk_4 (dk_at dksX1_send_2 3 rfl rfl)
theorem dX1_send_49 : decode cX1_send 49 = .ok (.iadd, 1) := dk_96 (dk_at dksX1_send_2 4 rfl rfl)
theorem dX1_send_50 : decode cX1_send 50 = .ok (.putfield 178, 3) := dk_181 0 178 (dk_at dksX1_send_2 5 rfl rfl)
theorem dX1_send_53 : decode cX1_send 53 = .ok (.aload_n 3, 1) := dk_45 (dk_at dksX1_send_2 8 rfl rfl)
theorem dX1_send_54 : decode cX1_send 54 = .ok (.getfield 175, 3) := dk_180 0 175 (dk_at dksX1_send_2 9 rfl rfl)
theorem dX1_send_57 : decode cX1_send 57 = .ok (.istore 4, 2) := dk_54 4 (dk_at dksX1_send_2 12 rfl rfl)
theorem dX1_send_59 : decode cX1_send 59 = .ok (.aload_n 3, 1) := dk_45 (dk_at dksX1_send_2 14 rfl rfl)
theorem dX1_send_60 : decode cX1_send 60 = .ok (.iload_n 2, 1) := dk_28 (dk_at dksX1_send_2 15 rfl rfl)
theorem dX1_send_61 : decode cX1_send 61 = .ok (.putfield 175, 3) := dk_181 0 175 (dk_at dksX1_send_2 16 rfl rfl)
theorem dX1_send_64 : decode cX1_send 64 = .ok (.iload 4, 2) := dk_21 4 (dk_at dksX1_send_2 19 rfl rfl)
theorem dX1_send_66 : decode cX1_send 66 = .ok (.ireturn, 1) := dk_172 (dk_at dksX1_send_2 21 rfl rfl)
abbrev cX1_lose : ByteArray := prog_1_method_25_code
def yX1_lose : MethodName := ⟨RX1, "lose", "(I)I"⟩
def dkwX1_lose_3 : List UInt8 := [167, 255, 209, 28, 172]
abbrev dktX1_lose_3 : List UInt8 := dkwX1_lose_3 ++ []
def dkwX1_lose_2 : List UInt8 := [4, 160, 0, 21, 25, 4, 180, 0, 175, 27, 160, 0, 12, 25, 4, 5, 181, 0, 170, 132, 2, 1]
abbrev dktX1_lose_2 : List UInt8 := dkwX1_lose_2 ++ dktX1_lose_3
def dkwX1_lose_1 : List UInt8 := [185, 0, 185, 1, 0, 153, 0, 44, 45, 185, 0, 191, 1, 0, 192, 0, 52, 58, 4, 25, 4, 180, 0, 170]
abbrev dktX1_lose_1 : List UInt8 := dkwX1_lose_1 ++ dktX1_lose_2
def dkwX1_lose_0 : List UInt8 := [27, 3, 8, 184, 0, 16, 184, 0, 139, 3, 61, 42, 180, 0, 120, 185, 0, 181, 1, 0, 78, 45]
abbrev dktX1_lose_0 : List UInt8 := dkwX1_lose_0 ++ dktX1_lose_1
theorem dksX1_lose_0 : cX1_lose.data.toList.drop 0 = dktX1_lose_0 := by decide +kernel
theorem dksX1_lose_1 : cX1_lose.data.toList.drop 22 = dktX1_lose_1 := dk_seg dksX1_lose_0 22 rfl rfl
theorem dksX1_lose_2 : cX1_lose.data.toList.drop 46 = dktX1_lose_2 := dk_seg dksX1_lose_1 24 rfl rfl
theorem dksX1_lose_3 : cX1_lose.data.toList.drop 68 = dktX1_lose_3 := dk_seg dksX1_lose_2 22 rfl rfl
theorem dX1_lose_0 : decode cX1_lose 0 = .ok (.iload_n 1, 1) := dk_27 (dk_at dksX1_lose_0 0 rfl rfl)
theorem dX1_lose_1 : decode cX1_lose 1 = .ok (.iconst 0, 1) := dk_3 (dk_at dksX1_lose_0 1 rfl rfl)
theorem dX1_lose_2 : decode cX1_lose 2 = .ok (.iconst 5, 1) := dk_8 (dk_at dksX1_lose_0 2 rfl rfl)
theorem dX1_lose_3 : decode cX1_lose 3 = .ok (.invokestatic 16, 3) := dk_184 0 16 (dk_at dksX1_lose_0 3 rfl rfl)
theorem dX1_lose_6 : decode cX1_lose 6 = .ok (.invokestatic 139, 3) := dk_184 0 139 (dk_at dksX1_lose_0 6 rfl rfl)
theorem dX1_lose_9 : decode cX1_lose 9 = .ok (.iconst 0, 1) := dk_3 (dk_at dksX1_lose_0 9 rfl rfl)
theorem dX1_lose_10 : decode cX1_lose 10 = .ok (.istore_n 2, 1) := dk_61 (dk_at dksX1_lose_0 10 rfl rfl)
theorem dX1_lose_11 : decode cX1_lose 11 = .ok (.aload_n 0, 1) := dk_42 (dk_at dksX1_lose_0 11 rfl rfl)
theorem dX1_lose_12 : decode cX1_lose 12 = .ok (.getfield 120, 3) := dk_180 0 120 (dk_at dksX1_lose_0 12 rfl rfl)
theorem dX1_lose_15 : decode cX1_lose 15 = .ok (.invokeinterface 181 1, 5) := by decide +kernel
theorem dX1_lose_20 : decode cX1_lose 20 = .ok (.astore_n 3, 1) := dk_78 (dk_at dksX1_lose_0 20 rfl rfl)
theorem dX1_lose_21 : decode cX1_lose 21 = .ok (.aload_n 3, 1) := dk_45 (dk_at dksX1_lose_0 21 rfl rfl)
theorem dX1_lose_22 : decode cX1_lose 22 = .ok (.invokeinterface 185 1, 5) := by decide +kernel
theorem dX1_lose_27 : decode cX1_lose 27 = .ok (.ifCond .eq 44, 3) := dk_153 0 44 (dk_at dksX1_lose_1 5 rfl rfl)
theorem dX1_lose_30 : decode cX1_lose 30 = .ok (.aload_n 3, 1) := dk_45 (dk_at dksX1_lose_1 8 rfl rfl)
theorem dX1_lose_31 : decode cX1_lose 31 = .ok (.invokeinterface 191 1, 5) := by decide +kernel
theorem dX1_lose_36 : decode cX1_lose 36 = .ok (.checkcast 52, 3) := dk_192 0 52 (dk_at dksX1_lose_1 14 rfl rfl)
theorem dX1_lose_39 : decode cX1_lose 39 = .ok (.astore 4, 2) := dk_58 4 (dk_at dksX1_lose_1 17 rfl rfl)
theorem dX1_lose_41 : decode cX1_lose 41 = .ok (.aload 4, 2) := dk_25 4 (dk_at dksX1_lose_1 19 rfl rfl)
theorem dX1_lose_43 : decode cX1_lose 43 = .ok (.getfield 170, 3) := dk_180 0 170 (dk_at dksX1_lose_1 21 rfl rfl)
theorem dX1_lose_46 : decode cX1_lose 46 = .ok (.iconst 1, 1) := dk_4 (dk_at dksX1_lose_2 0 rfl rfl)
theorem dX1_lose_47 : decode cX1_lose 47 = .ok (.if_icmp .ne 21, 3) := dk_160 0 21 (dk_at dksX1_lose_2 1 rfl rfl)
theorem dX1_lose_50 : decode cX1_lose 50 = .ok (.aload 4, 2) := dk_25 4 (dk_at dksX1_lose_2 4 rfl rfl)
theorem dX1_lose_52 : decode cX1_lose 52 = .ok (.getfield 175, 3) := dk_180 0 175 (dk_at dksX1_lose_2 6 rfl rfl)
theorem dX1_lose_55 : decode cX1_lose 55 = .ok (.iload_n 1, 1) := dk_27 (dk_at dksX1_lose_2 9 rfl rfl)
theorem dX1_lose_56 : decode cX1_lose 56 = .ok (.if_icmp .ne 12, 3) := dk_160 0 12 (dk_at dksX1_lose_2 10 rfl rfl)
theorem dX1_lose_59 : decode cX1_lose 59 = .ok (.aload 4, 2) := dk_25 4 (dk_at dksX1_lose_2 13 rfl rfl)
theorem dX1_lose_61 : decode cX1_lose 61 = .ok (.iconst 2, 1) := dk_5 (dk_at dksX1_lose_2 15 rfl rfl)
theorem dX1_lose_62 : decode cX1_lose 62 = .ok (.putfield 170, 3) := dk_181 0 170 (dk_at dksX1_lose_2 16 rfl rfl)
theorem dX1_lose_65 : decode cX1_lose 65 = .ok (.iinc 2 1, 3) := dk_132 2 1 (dk_at dksX1_lose_2 19 rfl rfl)
theorem dX1_lose_68 : decode cX1_lose 68 = .ok (.goto (-47), 3) := dk_167 255 209 (dk_at dksX1_lose_3 0 rfl rfl)
theorem dX1_lose_71 : decode cX1_lose 71 = .ok (.iload_n 2, 1) := dk_28 (dk_at dksX1_lose_3 3 rfl rfl)
theorem dX1_lose_72 : decode cX1_lose 72 = .ok (.ireturn, 1) := dk_172 (dk_at dksX1_lose_3 4 rfl rfl)
abbrev cX1_turnUp : ByteArray := prog_1_method_26_code
def yX1_turnUp : MethodName := ⟨RX1, "turnUp", "(II)I"⟩
def dkwX1_turnUp_1 : List UInt8 := [167, 0, 4, 3, 184, 0, 150, 45, 28, 182, 0, 195, 45, 180, 0, 198, 185, 0, 135, 1, 0, 172]
abbrev dktX1_turnUp_1 : List UInt8 := dkwX1_turnUp_1 ++ []
def dkwX1_turnUp_0 : List UInt8 := [42, 27, 182, 0, 166, 78, 28, 3, 8, 184, 0, 16, 184, 0, 139, 45, 180, 0, 170, 5, 160, 0, 7, 4]
abbrev dktX1_turnUp_0 : List UInt8 := dkwX1_turnUp_0 ++ dktX1_turnUp_1
theorem dksX1_turnUp_0 : cX1_turnUp.data.toList.drop 0 = dktX1_turnUp_0 := by decide +kernel
theorem dksX1_turnUp_1 : cX1_turnUp.data.toList.drop 24 = dktX1_turnUp_1 := dk_seg dksX1_turnUp_0 24 rfl rfl
theorem dX1_turnUp_0 : decode cX1_turnUp 0 = .ok (.aload_n 0, 1) := dk_42 (dk_at dksX1_turnUp_0 0 rfl rfl)
theorem dX1_turnUp_1 : decode cX1_turnUp 1 = .ok (.iload_n 1, 1) := dk_27 (dk_at dksX1_turnUp_0 1 rfl rfl)
theorem dX1_turnUp_2 : decode cX1_turnUp 2 = .ok (.invokevirtual 166, 3) := dk_182 0 166 (dk_at dksX1_turnUp_0 2 rfl rfl)
theorem dX1_turnUp_5 : decode cX1_turnUp 5 = .ok (.astore_n 3, 1) := dk_78 (dk_at dksX1_turnUp_0 5 rfl rfl)
theorem dX1_turnUp_6 : decode cX1_turnUp 6 = .ok (.iload_n 2, 1) := dk_28 (dk_at dksX1_turnUp_0 6 rfl rfl)
theorem dX1_turnUp_7 : decode cX1_turnUp 7 = .ok (.iconst 0, 1) := dk_3 (dk_at dksX1_turnUp_0 7 rfl rfl)
theorem dX1_turnUp_8 : decode cX1_turnUp 8 = .ok (.iconst 5, 1) := dk_8 (dk_at dksX1_turnUp_0 8 rfl rfl)
theorem dX1_turnUp_9 : decode cX1_turnUp 9 = .ok (.invokestatic 16, 3) := dk_184 0 16 (dk_at dksX1_turnUp_0 9 rfl rfl)
theorem dX1_turnUp_12 : decode cX1_turnUp 12 = .ok (.invokestatic 139, 3) := dk_184 0 139 (dk_at dksX1_turnUp_0 12 rfl rfl)
theorem dX1_turnUp_15 : decode cX1_turnUp 15 = .ok (.aload_n 3, 1) := dk_45 (dk_at dksX1_turnUp_0 15 rfl rfl)
theorem dX1_turnUp_16 : decode cX1_turnUp 16 = .ok (.getfield 170, 3) := dk_180 0 170 (dk_at dksX1_turnUp_0 16 rfl rfl)
theorem dX1_turnUp_19 : decode cX1_turnUp 19 = .ok (.iconst 2, 1) := dk_5 (dk_at dksX1_turnUp_0 19 rfl rfl)
theorem dX1_turnUp_20 : decode cX1_turnUp 20 = .ok (.if_icmp .ne 7, 3) := dk_160 0 7 (dk_at dksX1_turnUp_0 20 rfl rfl)
theorem dX1_turnUp_23 : decode cX1_turnUp 23 = .ok (.iconst 1, 1) := dk_4 (dk_at dksX1_turnUp_0 23 rfl rfl)
theorem dX1_turnUp_24 : decode cX1_turnUp 24 = .ok (.goto 4, 3) := dk_167 0 4 (dk_at dksX1_turnUp_1 0 rfl rfl)
theorem dX1_turnUp_27 : decode cX1_turnUp 27 = .ok (.iconst 0, 1) := dk_3 (dk_at dksX1_turnUp_1 3 rfl rfl)
theorem dX1_turnUp_28 : decode cX1_turnUp 28 = .ok (.invokestatic 150, 3) := dk_184 0 150 (dk_at dksX1_turnUp_1 4 rfl rfl)
theorem dX1_turnUp_31 : decode cX1_turnUp 31 = .ok (.aload_n 3, 1) := dk_45 (dk_at dksX1_turnUp_1 7 rfl rfl)
theorem dX1_turnUp_32 : decode cX1_turnUp 32 = .ok (.iload_n 2, 1) := dk_28 (dk_at dksX1_turnUp_1 8 rfl rfl)
theorem dX1_turnUp_33 : decode cX1_turnUp 33 = .ok (.invokevirtual 195, 3) := dk_182 0 195 (dk_at dksX1_turnUp_1 9 rfl rfl)
theorem dX1_turnUp_36 : decode cX1_turnUp 36 = .ok (.aload_n 3, 1) := dk_45 (dk_at dksX1_turnUp_1 12 rfl rfl)
theorem dX1_turnUp_37 : decode cX1_turnUp 37 = .ok (.getfield 198, 3) := dk_180 0 198 (dk_at dksX1_turnUp_1 13 rfl rfl)
theorem dX1_turnUp_40 : decode cX1_turnUp 40 = .ok (.invokeinterface 135 1, 5) := by decide +kernel
theorem dX1_turnUp_45 : decode cX1_turnUp 45 = .ok (.ireturn, 1) := dk_172 (dk_at dksX1_turnUp_1 21 rfl rfl)
abbrev cX1_hold : ByteArray := prog_1_method_27_code
def yX1_hold : MethodName := ⟨RX1, "hold", "(IZ)Z"⟩
def dkwX1_hold_1 : List UInt8 := [21, 4, 172]
abbrev dktX1_hold_1 : List UInt8 := dkwX1_hold_1 ++ []
def dkwX1_hold_0 : List UInt8 := [42, 27, 182, 0, 166, 78, 45, 182, 0, 201, 184, 0, 150, 45, 180, 0, 204, 54, 4, 45, 28, 181, 0, 204]
abbrev dktX1_hold_0 : List UInt8 := dkwX1_hold_0 ++ dktX1_hold_1
theorem dksX1_hold_0 : cX1_hold.data.toList.drop 0 = dktX1_hold_0 := by decide +kernel
theorem dksX1_hold_1 : cX1_hold.data.toList.drop 24 = dktX1_hold_1 := dk_seg dksX1_hold_0 24 rfl rfl
theorem dX1_hold_0 : decode cX1_hold 0 = .ok (.aload_n 0, 1) := dk_42 (dk_at dksX1_hold_0 0 rfl rfl)
theorem dX1_hold_1 : decode cX1_hold 1 = .ok (.iload_n 1, 1) := dk_27 (dk_at dksX1_hold_0 1 rfl rfl)
theorem dX1_hold_2 : decode cX1_hold 2 = .ok (.invokevirtual 166, 3) := dk_182 0 166 (dk_at dksX1_hold_0 2 rfl rfl)
theorem dX1_hold_5 : decode cX1_hold 5 = .ok (.astore_n 3, 1) := dk_78 (dk_at dksX1_hold_0 5 rfl rfl)
theorem dX1_hold_6 : decode cX1_hold 6 = .ok (.aload_n 3, 1) := dk_45 (dk_at dksX1_hold_0 6 rfl rfl)
theorem dX1_hold_7 : decode cX1_hold 7 = .ok (.invokevirtual 201, 3) := dk_182 0 201 (dk_at dksX1_hold_0 7 rfl rfl)
theorem dX1_hold_10 : decode cX1_hold 10 = .ok (.invokestatic 150, 3) := dk_184 0 150 (dk_at dksX1_hold_0 10 rfl rfl)
theorem dX1_hold_13 : decode cX1_hold 13 = .ok (.aload_n 3, 1) := dk_45 (dk_at dksX1_hold_0 13 rfl rfl)
theorem dX1_hold_14 : decode cX1_hold 14 = .ok (.getfield 204, 3) := dk_180 0 204 (dk_at dksX1_hold_0 14 rfl rfl)
theorem dX1_hold_17 : decode cX1_hold 17 = .ok (.istore 4, 2) := dk_54 4 (dk_at dksX1_hold_0 17 rfl rfl)
theorem dX1_hold_19 : decode cX1_hold 19 = .ok (.aload_n 3, 1) := dk_45 (dk_at dksX1_hold_0 19 rfl rfl)
theorem dX1_hold_20 : decode cX1_hold 20 = .ok (.iload_n 2, 1) := dk_28 (dk_at dksX1_hold_0 20 rfl rfl)
theorem dX1_hold_21 : decode cX1_hold 21 = .ok (.putfield 204, 3) := dk_181 0 204 (dk_at dksX1_hold_0 21 rfl rfl)
theorem dX1_hold_24 : decode cX1_hold 24 = .ok (.iload 4, 2) := dk_21 4 (dk_at dksX1_hold_1 0 rfl rfl)
theorem dX1_hold_26 : decode cX1_hold 26 = .ok (.ireturn, 1) := dk_172 (dk_at dksX1_hold_1 2 rfl rfl)
abbrev cX1_claim : ByteArray := prog_1_method_28_code
def yX1_claim : MethodName := ⟨RX1, "claim", "(IIIII)I"⟩
def dkwX1_claim_4 : List UInt8 := [183, 0, 208, 185, 0, 132, 2, 0, 87, 42, 180, 0, 123, 185, 0, 135, 1, 0, 4, 100, 172]
abbrev dktX1_claim_4 : List UInt8 := dkwX1_claim_4 ++ []
def dkwX1_claim_3 : List UInt8 := [167, 0, 4, 3, 184, 0, 150, 42, 180, 0, 123, 187, 0, 58, 89, 42, 27, 28, 29, 21, 4, 21, 5]
abbrev dktX1_claim_3 : List UInt8 := dkwX1_claim_3 ++ dktX1_claim_4
def dkwX1_claim_2 : List UInt8 := [167, 0, 4, 3, 184, 0, 143, 42, 180, 0, 123, 185, 0, 135, 1, 0, 16, 20, 162, 0, 7, 4]
abbrev dktX1_claim_2 : List UInt8 := dkwX1_claim_2 ++ dktX1_claim_3
def dkwX1_claim_1 : List UInt8 := [21, 4, 29, 42, 180, 0, 157, 184, 0, 16, 153, 0, 15, 21, 5, 184, 0, 160, 153, 0, 7, 4]
abbrev dktX1_claim_1 : List UInt8 := dkwX1_claim_1 ++ dktX1_claim_2
def dkwX1_claim_0 : List UInt8 := [27, 184, 0, 146, 28, 184, 0, 153, 184, 0, 139, 29, 3, 42, 180, 0, 157, 184, 0, 16, 153, 0, 28]
abbrev dktX1_claim_0 : List UInt8 := dkwX1_claim_0 ++ dktX1_claim_1
theorem dksX1_claim_0 : cX1_claim.data.toList.drop 0 = dktX1_claim_0 := by decide +kernel
theorem dksX1_claim_1 : cX1_claim.data.toList.drop 23 = dktX1_claim_1 := dk_seg dksX1_claim_0 23 rfl rfl
theorem dksX1_claim_2 : cX1_claim.data.toList.drop 45 = dktX1_claim_2 := dk_seg dksX1_claim_1 22 rfl rfl
theorem dksX1_claim_3 : cX1_claim.data.toList.drop 67 = dktX1_claim_3 := dk_seg dksX1_claim_2 22 rfl rfl
theorem dksX1_claim_4 : cX1_claim.data.toList.drop 90 = dktX1_claim_4 := dk_seg dksX1_claim_3 23 rfl rfl
theorem dX1_claim_0 : decode cX1_claim 0 = .ok (.iload_n 1, 1) := dk_27 (dk_at dksX1_claim_0 0 rfl rfl)
theorem dX1_claim_1 : decode cX1_claim 1 = .ok (.invokestatic 146, 3) := dk_184 0 146 (dk_at dksX1_claim_0 1 rfl rfl)
theorem dX1_claim_4 : decode cX1_claim 4 = .ok (.iload_n 2, 1) := dk_28 (dk_at dksX1_claim_0 4 rfl rfl)
theorem dX1_claim_5 : decode cX1_claim 5 = .ok (.invokestatic 153, 3) := dk_184 0 153 (dk_at dksX1_claim_0 5 rfl rfl)
theorem dX1_claim_8 : decode cX1_claim 8 = .ok (.invokestatic 139, 3) := dk_184 0 139 (dk_at dksX1_claim_0 8 rfl rfl)
theorem dX1_claim_11 : decode cX1_claim 11 = .ok (.iload_n 3, 1) := dk_29 (dk_at dksX1_claim_0 11 rfl rfl)
theorem dX1_claim_12 : decode cX1_claim 12 = .ok (.iconst 0, 1) := dk_3 (dk_at dksX1_claim_0 12 rfl rfl)
theorem dX1_claim_13 : decode cX1_claim 13 = .ok (.aload_n 0, 1) := dk_42 (dk_at dksX1_claim_0 13 rfl rfl)
theorem dX1_claim_14 : decode cX1_claim 14 = .ok (.getfield 157, 3) := dk_180 0 157 (dk_at dksX1_claim_0 14 rfl rfl)
theorem dX1_claim_17 : decode cX1_claim 17 = .ok (.invokestatic 16, 3) := dk_184 0 16 (dk_at dksX1_claim_0 17 rfl rfl)
theorem dX1_claim_20 : decode cX1_claim 20 = .ok (.ifCond .eq 28, 3) := dk_153 0 28 (dk_at dksX1_claim_0 20 rfl rfl)
theorem dX1_claim_23 : decode cX1_claim 23 = .ok (.iload 4, 2) := dk_21 4 (dk_at dksX1_claim_1 0 rfl rfl)
theorem dX1_claim_25 : decode cX1_claim 25 = .ok (.iload_n 3, 1) := dk_29 (dk_at dksX1_claim_1 2 rfl rfl)
theorem dX1_claim_26 : decode cX1_claim 26 = .ok (.aload_n 0, 1) := dk_42 (dk_at dksX1_claim_1 3 rfl rfl)
theorem dX1_claim_27 : decode cX1_claim 27 = .ok (.getfield 157, 3) := dk_180 0 157 (dk_at dksX1_claim_1 4 rfl rfl)
theorem dX1_claim_30 : decode cX1_claim 30 = .ok (.invokestatic 16, 3) := dk_184 0 16 (dk_at dksX1_claim_1 7 rfl rfl)
theorem dX1_claim_33 : decode cX1_claim 33 = .ok (.ifCond .eq 15, 3) := dk_153 0 15 (dk_at dksX1_claim_1 10 rfl rfl)
theorem dX1_claim_36 : decode cX1_claim 36 = .ok (.iload 5, 2) := dk_21 5 (dk_at dksX1_claim_1 13 rfl rfl)
theorem dX1_claim_38 : decode cX1_claim 38 = .ok (.invokestatic 160, 3) := dk_184 0 160 (dk_at dksX1_claim_1 15 rfl rfl)
theorem dX1_claim_41 : decode cX1_claim 41 = .ok (.ifCond .eq 7, 3) := dk_153 0 7 (dk_at dksX1_claim_1 18 rfl rfl)
theorem dX1_claim_44 : decode cX1_claim 44 = .ok (.iconst 1, 1) := dk_4 (dk_at dksX1_claim_1 21 rfl rfl)
theorem dX1_claim_45 : decode cX1_claim 45 = .ok (.goto 4, 3) := dk_167 0 4 (dk_at dksX1_claim_2 0 rfl rfl)
theorem dX1_claim_48 : decode cX1_claim 48 = .ok (.iconst 0, 1) := dk_3 (dk_at dksX1_claim_2 3 rfl rfl)
theorem dX1_claim_49 : decode cX1_claim 49 = .ok (.invokestatic 143, 3) := dk_184 0 143 (dk_at dksX1_claim_2 4 rfl rfl)
theorem dX1_claim_52 : decode cX1_claim 52 = .ok (.aload_n 0, 1) := dk_42 (dk_at dksX1_claim_2 7 rfl rfl)
theorem dX1_claim_53 : decode cX1_claim 53 = .ok (.getfield 123, 3) := dk_180 0 123 (dk_at dksX1_claim_2 8 rfl rfl)
theorem dX1_claim_56 : decode cX1_claim 56 = .ok (.invokeinterface 135 1, 5) := by decide +kernel
theorem dX1_claim_61 : decode cX1_claim 61 = .ok (.bipush 20, 2) := dk_16 20 (dk_at dksX1_claim_2 16 rfl rfl)
theorem dX1_claim_63 : decode cX1_claim 63 = .ok (.if_icmp .ge 7, 3) := dk_162 0 7 (dk_at dksX1_claim_2 18 rfl rfl)
theorem dX1_claim_66 : decode cX1_claim 66 = .ok (.iconst 1, 1) := dk_4 (dk_at dksX1_claim_2 21 rfl rfl)
theorem dX1_claim_67 : decode cX1_claim 67 = .ok (.goto 4, 3) := dk_167 0 4 (dk_at dksX1_claim_3 0 rfl rfl)
theorem dX1_claim_70 : decode cX1_claim 70 = .ok (.iconst 0, 1) := dk_3 (dk_at dksX1_claim_3 3 rfl rfl)
theorem dX1_claim_71 : decode cX1_claim 71 = .ok (.invokestatic 150, 3) := dk_184 0 150 (dk_at dksX1_claim_3 4 rfl rfl)
theorem dX1_claim_74 : decode cX1_claim 74 = .ok (.aload_n 0, 1) := dk_42 (dk_at dksX1_claim_3 7 rfl rfl)
theorem dX1_claim_75 : decode cX1_claim 75 = .ok (.getfield 123, 3) := dk_180 0 123 (dk_at dksX1_claim_3 8 rfl rfl)
theorem dX1_claim_78 : decode cX1_claim 78 = .ok (.new 58, 3) := dk_187 0 58 (dk_at dksX1_claim_3 11 rfl rfl)
theorem dX1_claim_81 : decode cX1_claim 81 = .ok (.dup, 1) := dk_89 (dk_at dksX1_claim_3 14 rfl rfl)
theorem dX1_claim_82 : decode cX1_claim 82 = .ok (.aload_n 0, 1) := dk_42 (dk_at dksX1_claim_3 15 rfl rfl)
theorem dX1_claim_83 : decode cX1_claim 83 = .ok (.iload_n 1, 1) := dk_27 (dk_at dksX1_claim_3 16 rfl rfl)
theorem dX1_claim_84 : decode cX1_claim 84 = .ok (.iload_n 2, 1) := dk_28 (dk_at dksX1_claim_3 17 rfl rfl)
theorem dX1_claim_85 : decode cX1_claim 85 = .ok (.iload_n 3, 1) := dk_29 (dk_at dksX1_claim_3 18 rfl rfl)
theorem dX1_claim_86 : decode cX1_claim 86 = .ok (.iload 4, 2) := dk_21 4 (dk_at dksX1_claim_3 19 rfl rfl)
theorem dX1_claim_88 : decode cX1_claim 88 = .ok (.iload 5, 2) := dk_21 5 (dk_at dksX1_claim_3 21 rfl rfl)
theorem dX1_claim_90 : decode cX1_claim 90 = .ok (.invokespecial 208, 3) := dk_183 0 208 (dk_at dksX1_claim_4 0 rfl rfl)
theorem dX1_claim_93 : decode cX1_claim 93 = .ok (.invokeinterface 132 2, 5) := by decide +kernel
theorem dX1_claim_98 : decode cX1_claim 98 = .ok (.pop, 1) := dk_87 (dk_at dksX1_claim_4 8 rfl rfl)
theorem dX1_claim_99 : decode cX1_claim 99 = .ok (.aload_n 0, 1) := dk_42 (dk_at dksX1_claim_4 9 rfl rfl)
theorem dX1_claim_100 : decode cX1_claim 100 = .ok (.getfield 123, 3) := dk_180 0 123 (dk_at dksX1_claim_4 10 rfl rfl)
theorem dX1_claim_103 : decode cX1_claim 103 = .ok (.invokeinterface 135 1, 5) := by decide +kernel
theorem dX1_claim_108 : decode cX1_claim 108 = .ok (.iconst 1, 1) := dk_4 (dk_at dksX1_claim_4 18 rfl rfl)
theorem dX1_claim_109 : decode cX1_claim 109 = .ok (.isub, 1) := dk_100 (dk_at dksX1_claim_4 19 rfl rfl)
theorem dX1_claim_110 : decode cX1_claim 110 = .ok (.ireturn, 1) := dk_172 (dk_at dksX1_claim_4 20 rfl rfl)
abbrev cX1_say : ByteArray := prog_1_method_29_code
def yX1_say : MethodName := ⟨RX1, "say", "(II)I"⟩
def dkwX1_say_1 : List UInt8 := [3, 184, 0, 150, 45, 89, 180, 0, 85, 28, 128, 181, 0, 85, 45, 180, 0, 85, 184, 0, 171, 172]
abbrev dktX1_say_1 : List UInt8 := dkwX1_say_1 ++ []
def dkwX1_say_0 : List UInt8 := [42, 27, 182, 0, 211, 78, 28, 184, 0, 160, 184, 0, 143, 45, 180, 0, 98, 154, 0, 7, 4, 167, 0, 4]
abbrev dktX1_say_0 : List UInt8 := dkwX1_say_0 ++ dktX1_say_1
theorem dksX1_say_0 : cX1_say.data.toList.drop 0 = dktX1_say_0 := by decide +kernel
theorem dksX1_say_1 : cX1_say.data.toList.drop 24 = dktX1_say_1 := dk_seg dksX1_say_0 24 rfl rfl
theorem dX1_say_0 : decode cX1_say 0 = .ok (.aload_n 0, 1) := dk_42 (dk_at dksX1_say_0 0 rfl rfl)
theorem dX1_say_1 : decode cX1_say 1 = .ok (.iload_n 1, 1) := dk_27 (dk_at dksX1_say_0 1 rfl rfl)
theorem dX1_say_2 : decode cX1_say 2 = .ok (.invokevirtual 211, 3) := dk_182 0 211 (dk_at dksX1_say_0 2 rfl rfl)
theorem dX1_say_5 : decode cX1_say 5 = .ok (.astore_n 3, 1) := dk_78 (dk_at dksX1_say_0 5 rfl rfl)
theorem dX1_say_6 : decode cX1_say 6 = .ok (.iload_n 2, 1) := dk_28 (dk_at dksX1_say_0 6 rfl rfl)
theorem dX1_say_7 : decode cX1_say 7 = .ok (.invokestatic 160, 3) := dk_184 0 160 (dk_at dksX1_say_0 7 rfl rfl)
theorem dX1_say_10 : decode cX1_say 10 = .ok (.invokestatic 143, 3) := dk_184 0 143 (dk_at dksX1_say_0 10 rfl rfl)
theorem dX1_say_13 : decode cX1_say 13 = .ok (.aload_n 3, 1) := dk_45 (dk_at dksX1_say_0 13 rfl rfl)
theorem dX1_say_14 : decode cX1_say 14 = .ok (.getfield 98, 3) := dk_180 0 98 (dk_at dksX1_say_0 14 rfl rfl)
theorem dX1_say_17 : decode cX1_say 17 = .ok (.ifCond .ne 7, 3) := dk_154 0 7 (dk_at dksX1_say_0 17 rfl rfl)
theorem dX1_say_20 : decode cX1_say 20 = .ok (.iconst 1, 1) := dk_4 (dk_at dksX1_say_0 20 rfl rfl)
theorem dX1_say_21 : decode cX1_say 21 = .ok (.goto 4, 3) := dk_167 0 4 (dk_at dksX1_say_0 21 rfl rfl)
theorem dX1_say_24 : decode cX1_say 24 = .ok (.iconst 0, 1) := dk_3 (dk_at dksX1_say_1 0 rfl rfl)
theorem dX1_say_25 : decode cX1_say 25 = .ok (.invokestatic 150, 3) := dk_184 0 150 (dk_at dksX1_say_1 1 rfl rfl)
theorem dX1_say_28 : decode cX1_say 28 = .ok (.aload_n 3, 1) := dk_45 (dk_at dksX1_say_1 4 rfl rfl)
theorem dX1_say_29 : decode cX1_say 29 = .ok (.dup, 1) := dk_89 (dk_at dksX1_say_1 5 rfl rfl)
theorem dX1_say_30 : decode cX1_say 30 = .ok (.getfield 85, 3) := dk_180 0 85 (dk_at dksX1_say_1 6 rfl rfl)
theorem dX1_say_33 : decode cX1_say 33 = .ok (.iload_n 2, 1) := dk_28 (dk_at dksX1_say_1 9 rfl rfl)
theorem dX1_say_34 : decode cX1_say 34 = .ok (.ior, 1) := dk_128 (dk_at dksX1_say_1 10 rfl rfl)
theorem dX1_say_35 : decode cX1_say 35 = .ok (.putfield 85, 3) := dk_181 0 85 (dk_at dksX1_say_1 11 rfl rfl)
theorem dX1_say_38 : decode cX1_say 38 = .ok (.aload_n 3, 1) := dk_45 (dk_at dksX1_say_1 14 rfl rfl)
theorem dX1_say_39 : decode cX1_say 39 = .ok (.getfield 85, 3) := dk_180 0 85 (dk_at dksX1_say_1 15 rfl rfl)
theorem dX1_say_42 : decode cX1_say 42 = .ok (.invokestatic 171, 3) := dk_184 0 171 (dk_at dksX1_say_1 18 rfl rfl)
theorem dX1_say_45 : decode cX1_say 45 = .ok (.ireturn, 1) := dk_172 (dk_at dksX1_say_1 21 rfl rfl)
abbrev cX1_claimAt : ByteArray := prog_1_method_14_code
def yX1_claimAt : MethodName := ⟨RX1, "claimAt", "(I)LLostroom$Claim;"⟩
def dkwX1_claimAt_1 : List UInt8 := [185, 0, 24, 2, 0, 192, 0, 58, 176]
abbrev dktX1_claimAt_1 : List UInt8 := dkwX1_claimAt_1 ++ []
def dkwX1_claimAt_0 : List UInt8 := [27, 3, 42, 180, 0, 123, 185, 0, 135, 1, 0, 4, 100, 184, 0, 16, 184, 0, 139, 42, 180, 0, 123, 27]
abbrev dktX1_claimAt_0 : List UInt8 := dkwX1_claimAt_0 ++ dktX1_claimAt_1
theorem dksX1_claimAt_0 : cX1_claimAt.data.toList.drop 0 = dktX1_claimAt_0 := by decide +kernel
theorem dksX1_claimAt_1 : cX1_claimAt.data.toList.drop 24 = dktX1_claimAt_1 := dk_seg dksX1_claimAt_0 24 rfl rfl
theorem dX1_claimAt_0 : decode cX1_claimAt 0 = .ok (.iload_n 1, 1) := dk_27 (dk_at dksX1_claimAt_0 0 rfl rfl)
theorem dX1_claimAt_1 : decode cX1_claimAt 1 = .ok (.iconst 0, 1) := dk_3 (dk_at dksX1_claimAt_0 1 rfl rfl)
theorem dX1_claimAt_2 : decode cX1_claimAt 2 = .ok (.aload_n 0, 1) := dk_42 (dk_at dksX1_claimAt_0 2 rfl rfl)
theorem dX1_claimAt_3 : decode cX1_claimAt 3 = .ok (.getfield 123, 3) := dk_180 0 123 (dk_at dksX1_claimAt_0 3 rfl rfl)
theorem dX1_claimAt_6 : decode cX1_claimAt 6 = .ok (.invokeinterface 135 1, 5) := by decide +kernel
theorem dX1_claimAt_11 : decode cX1_claimAt 11 = .ok (.iconst 1, 1) := dk_4 (dk_at dksX1_claimAt_0 11 rfl rfl)
theorem dX1_claimAt_12 : decode cX1_claimAt 12 = .ok (.isub, 1) := dk_100 (dk_at dksX1_claimAt_0 12 rfl rfl)
theorem dX1_claimAt_13 : decode cX1_claimAt 13 = .ok (.invokestatic 16, 3) := dk_184 0 16 (dk_at dksX1_claimAt_0 13 rfl rfl)
theorem dX1_claimAt_16 : decode cX1_claimAt 16 = .ok (.invokestatic 139, 3) := dk_184 0 139 (dk_at dksX1_claimAt_0 16 rfl rfl)
theorem dX1_claimAt_19 : decode cX1_claimAt 19 = .ok (.aload_n 0, 1) := dk_42 (dk_at dksX1_claimAt_0 19 rfl rfl)
theorem dX1_claimAt_20 : decode cX1_claimAt 20 = .ok (.getfield 123, 3) := dk_180 0 123 (dk_at dksX1_claimAt_0 20 rfl rfl)
theorem dX1_claimAt_23 : decode cX1_claimAt 23 = .ok (.iload_n 1, 1) := dk_27 (dk_at dksX1_claimAt_0 23 rfl rfl)
theorem dX1_claimAt_24 : decode cX1_claimAt 24 = .ok (.invokeinterface 24 2, 5) := by decide +kernel
theorem dX1_claimAt_29 : decode cX1_claimAt 29 = .ok (.checkcast 58, 3) := dk_192 0 58 (dk_at dksX1_claimAt_1 5 rfl rfl)
theorem dX1_claimAt_32 : decode cX1_claimAt 32 = .ok (.areturn, 1) := dk_176 (dk_at dksX1_claimAt_1 8 rfl rfl)
abbrev cX1_tell : ByteArray := prog_1_method_30_code
def yX1_tell : MethodName := ⟨RX1, "tell", "(II)I"⟩
def dkwX1_tell_2 : List UInt8 := [45, 180, 0, 92, 184, 0, 171, 172]
abbrev dktX1_tell_2 : List UInt8 := dkwX1_tell_2 ++ []
def dkwX1_tell_1 : List UInt8 := [3, 184, 0, 150, 45, 89, 180, 0, 92, 28, 128, 181, 0, 92, 45, 89, 180, 0, 85, 28, 128, 181, 0, 85]
abbrev dktX1_tell_1 : List UInt8 := dkwX1_tell_1 ++ dktX1_tell_2
def dkwX1_tell_0 : List UInt8 := [42, 27, 182, 0, 211, 78, 28, 184, 0, 160, 184, 0, 143, 45, 180, 0, 98, 154, 0, 7, 4, 167, 0, 4]
abbrev dktX1_tell_0 : List UInt8 := dkwX1_tell_0 ++ dktX1_tell_1
theorem dksX1_tell_0 : cX1_tell.data.toList.drop 0 = dktX1_tell_0 := by decide +kernel
theorem dksX1_tell_1 : cX1_tell.data.toList.drop 24 = dktX1_tell_1 := dk_seg dksX1_tell_0 24 rfl rfl
theorem dksX1_tell_2 : cX1_tell.data.toList.drop 48 = dktX1_tell_2 := dk_seg dksX1_tell_1 24 rfl rfl
theorem dX1_tell_0 : decode cX1_tell 0 = .ok (.aload_n 0, 1) := dk_42 (dk_at dksX1_tell_0 0 rfl rfl)
theorem dX1_tell_1 : decode cX1_tell 1 = .ok (.iload_n 1, 1) := dk_27 (dk_at dksX1_tell_0 1 rfl rfl)
theorem dX1_tell_2 : decode cX1_tell 2 = .ok (.invokevirtual 211, 3) := dk_182 0 211 (dk_at dksX1_tell_0 2 rfl rfl)
theorem dX1_tell_5 : decode cX1_tell 5 = .ok (.astore_n 3, 1) := dk_78 (dk_at dksX1_tell_0 5 rfl rfl)
theorem dX1_tell_6 : decode cX1_tell 6 = .ok (.iload_n 2, 1) := dk_28 (dk_at dksX1_tell_0 6 rfl rfl)
theorem dX1_tell_7 : decode cX1_tell 7 = .ok (.invokestatic 160, 3) := dk_184 0 160 (dk_at dksX1_tell_0 7 rfl rfl)
theorem dX1_tell_10 : decode cX1_tell 10 = .ok (.invokestatic 143, 3) := dk_184 0 143 (dk_at dksX1_tell_0 10 rfl rfl)
theorem dX1_tell_13 : decode cX1_tell 13 = .ok (.aload_n 3, 1) := dk_45 (dk_at dksX1_tell_0 13 rfl rfl)
theorem dX1_tell_14 : decode cX1_tell 14 = .ok (.getfield 98, 3) := dk_180 0 98 (dk_at dksX1_tell_0 14 rfl rfl)
theorem dX1_tell_17 : decode cX1_tell 17 = .ok (.ifCond .ne 7, 3) := dk_154 0 7 (dk_at dksX1_tell_0 17 rfl rfl)
theorem dX1_tell_20 : decode cX1_tell 20 = .ok (.iconst 1, 1) := dk_4 (dk_at dksX1_tell_0 20 rfl rfl)
theorem dX1_tell_21 : decode cX1_tell 21 = .ok (.goto 4, 3) := dk_167 0 4 (dk_at dksX1_tell_0 21 rfl rfl)
theorem dX1_tell_24 : decode cX1_tell 24 = .ok (.iconst 0, 1) := dk_3 (dk_at dksX1_tell_1 0 rfl rfl)
theorem dX1_tell_25 : decode cX1_tell 25 = .ok (.invokestatic 150, 3) := dk_184 0 150 (dk_at dksX1_tell_1 1 rfl rfl)
theorem dX1_tell_28 : decode cX1_tell 28 = .ok (.aload_n 3, 1) := dk_45 (dk_at dksX1_tell_1 4 rfl rfl)
theorem dX1_tell_29 : decode cX1_tell 29 = .ok (.dup, 1) := dk_89 (dk_at dksX1_tell_1 5 rfl rfl)
theorem dX1_tell_30 : decode cX1_tell 30 = .ok (.getfield 92, 3) := dk_180 0 92 (dk_at dksX1_tell_1 6 rfl rfl)
theorem dX1_tell_33 : decode cX1_tell 33 = .ok (.iload_n 2, 1) := dk_28 (dk_at dksX1_tell_1 9 rfl rfl)
theorem dX1_tell_34 : decode cX1_tell 34 = .ok (.ior, 1) := dk_128 (dk_at dksX1_tell_1 10 rfl rfl)
theorem dX1_tell_35 : decode cX1_tell 35 = .ok (.putfield 92, 3) := dk_181 0 92 (dk_at dksX1_tell_1 11 rfl rfl)
theorem dX1_tell_38 : decode cX1_tell 38 = .ok (.aload_n 3, 1) := dk_45 (dk_at dksX1_tell_1 14 rfl rfl)
theorem dX1_tell_39 : decode cX1_tell 39 = .ok (.dup, 1) := dk_89 (dk_at dksX1_tell_1 15 rfl rfl)
theorem dX1_tell_40 : decode cX1_tell 40 = .ok (.getfield 85, 3) := dk_180 0 85 (dk_at dksX1_tell_1 16 rfl rfl)
theorem dX1_tell_43 : decode cX1_tell 43 = .ok (.iload_n 2, 1) := dk_28 (dk_at dksX1_tell_1 19 rfl rfl)
theorem dX1_tell_44 : decode cX1_tell 44 = .ok (.ior, 1) := dk_128 (dk_at dksX1_tell_1 20 rfl rfl)
theorem dX1_tell_45 : decode cX1_tell 45 = .ok (.putfield 85, 3) := dk_181 0 85 (dk_at dksX1_tell_1 21 rfl rfl)
theorem dX1_tell_48 : decode cX1_tell 48 = .ok (.aload_n 3, 1) := dk_45 (dk_at dksX1_tell_2 0 rfl rfl)
theorem dX1_tell_49 : decode cX1_tell 49 = .ok (.getfield 92, 3) := dk_180 0 92 (dk_at dksX1_tell_2 1 rfl rfl)
theorem dX1_tell_52 : decode cX1_tell 52 = .ok (.invokestatic 171, 3) := dk_184 0 171 (dk_at dksX1_tell_2 4 rfl rfl)
theorem dX1_tell_55 : decode cX1_tell 55 = .ok (.ireturn, 1) := dk_172 (dk_at dksX1_tell_2 7 rfl rfl)
abbrev cX1_withdraw : ByteArray := prog_1_method_31_code
def yX1_withdraw : MethodName := ⟨RX1, "withdraw", "(I)I"⟩
def dkwX1_withdraw_1 : List UInt8 := [182, 0, 215, 42, 180, 0, 157, 172]
abbrev dktX1_withdraw_1 : List UInt8 := dkwX1_withdraw_1 ++ []
def dkwX1_withdraw_0 : List UInt8 := [42, 27, 182, 0, 211, 77, 44, 180, 0, 98, 154, 0, 7, 4, 167, 0, 4, 3, 184, 0, 150, 44, 5]
abbrev dktX1_withdraw_0 : List UInt8 := dkwX1_withdraw_0 ++ dktX1_withdraw_1
theorem dksX1_withdraw_0 : cX1_withdraw.data.toList.drop 0 = dktX1_withdraw_0 := by decide +kernel
theorem dksX1_withdraw_1 : cX1_withdraw.data.toList.drop 23 = dktX1_withdraw_1 := dk_seg dksX1_withdraw_0 23 rfl rfl
theorem dX1_withdraw_0 : decode cX1_withdraw 0 = .ok (.aload_n 0, 1) := dk_42 (dk_at dksX1_withdraw_0 0 rfl rfl)
theorem dX1_withdraw_1 : decode cX1_withdraw 1 = .ok (.iload_n 1, 1) := dk_27 (dk_at dksX1_withdraw_0 1 rfl rfl)
theorem dX1_withdraw_2 : decode cX1_withdraw 2 = .ok (.invokevirtual 211, 3) := dk_182 0 211 (dk_at dksX1_withdraw_0 2 rfl rfl)
theorem dX1_withdraw_5 : decode cX1_withdraw 5 = .ok (.astore_n 2, 1) := dk_77 (dk_at dksX1_withdraw_0 5 rfl rfl)
theorem dX1_withdraw_6 : decode cX1_withdraw 6 = .ok (.aload_n 2, 1) := dk_44 (dk_at dksX1_withdraw_0 6 rfl rfl)
theorem dX1_withdraw_7 : decode cX1_withdraw 7 = .ok (.getfield 98, 3) := dk_180 0 98 (dk_at dksX1_withdraw_0 7 rfl rfl)
theorem dX1_withdraw_10 : decode cX1_withdraw 10 = .ok (.ifCond .ne 7, 3) := dk_154 0 7 (dk_at dksX1_withdraw_0 10 rfl rfl)
theorem dX1_withdraw_13 : decode cX1_withdraw 13 = .ok (.iconst 1, 1) := dk_4 (dk_at dksX1_withdraw_0 13 rfl rfl)
theorem dX1_withdraw_14 : decode cX1_withdraw 14 = .ok (.goto 4, 3) := dk_167 0 4 (dk_at dksX1_withdraw_0 14 rfl rfl)
theorem dX1_withdraw_17 : decode cX1_withdraw 17 = .ok (.iconst 0, 1) := dk_3 (dk_at dksX1_withdraw_0 17 rfl rfl)
theorem dX1_withdraw_18 : decode cX1_withdraw 18 = .ok (.invokestatic 150, 3) := dk_184 0 150 (dk_at dksX1_withdraw_0 18 rfl rfl)
theorem dX1_withdraw_21 : decode cX1_withdraw 21 = .ok (.aload_n 2, 1) := dk_44 (dk_at dksX1_withdraw_0 21 rfl rfl)
theorem dX1_withdraw_22 : decode cX1_withdraw 22 = .ok (.iconst 2, 1) := dk_5 (dk_at dksX1_withdraw_0 22 rfl rfl)
theorem dX1_withdraw_23 : decode cX1_withdraw 23 = .ok (.invokevirtual 215, 3) := dk_182 0 215 (dk_at dksX1_withdraw_1 0 rfl rfl)
theorem dX1_withdraw_26 : decode cX1_withdraw 26 = .ok (.aload_n 0, 1) := dk_42 (dk_at dksX1_withdraw_1 3 rfl rfl)
theorem dX1_withdraw_27 : decode cX1_withdraw 27 = .ok (.getfield 157, 3) := dk_180 0 157 (dk_at dksX1_withdraw_1 4 rfl rfl)
theorem dX1_withdraw_30 : decode cX1_withdraw 30 = .ok (.ireturn, 1) := dk_172 (dk_at dksX1_withdraw_1 7 rfl rfl)
abbrev cX1_release : ByteArray := prog_1_method_33_code
def yX1_release : MethodName := ⟨RX1, "release", "(II)I"⟩
def dkwX1_release_5 : List UInt8 := [181, 0, 238, 8, 21, 5, 96, 172]
abbrev dktX1_release_5 : List UInt8 := dkwX1_release_5 ++ []
def dkwX1_release_4 : List UInt8 := [4, 182, 0, 215, 42, 89, 180, 0, 235, 8, 96, 181, 0, 235, 42, 89, 180, 0, 238, 21, 5, 96]
abbrev dktX1_release_4 : List UInt8 := dkwX1_release_4 ++ dktX1_release_5
def dkwX1_release_3 : List UInt8 := [45, 180, 0, 51, 46, 104, 16, 100, 108, 54, 5, 45, 6, 181, 0, 170, 25, 4, 27, 181, 0, 232, 25, 4]
abbrev dktX1_release_3 : List UInt8 := dkwX1_release_3 ++ dktX1_release_4
def dkwX1_release_2 : List UInt8 := [25, 4, 182, 0, 226, 154, 0, 7, 4, 167, 0, 4, 3, 184, 0, 150, 45, 180, 0, 229, 42, 180, 0, 114]
abbrev dktX1_release_2 : List UInt8 := dkwX1_release_2 ++ dktX1_release_3
def dkwX1_release_1 : List UInt8 := [154, 0, 36, 42, 45, 25, 4, 182, 0, 222, 153, 0, 26, 25, 4, 45, 182, 0, 218, 153, 0, 17, 42, 45]
abbrev dktX1_release_1 : List UInt8 := dkwX1_release_1 ++ dktX1_release_2
def dkwX1_release_0 : List UInt8 := [42, 27, 182, 0, 166, 78, 42, 28, 182, 0, 211, 58, 4, 45, 180, 0, 170, 154, 0, 43, 45, 180, 0, 204]
abbrev dktX1_release_0 : List UInt8 := dkwX1_release_0 ++ dktX1_release_1
theorem dksX1_release_0 : cX1_release.data.toList.drop 0 = dktX1_release_0 := by decide +kernel
theorem dksX1_release_1 : cX1_release.data.toList.drop 24 = dktX1_release_1 := dk_seg dksX1_release_0 24 rfl rfl
theorem dksX1_release_2 : cX1_release.data.toList.drop 48 = dktX1_release_2 := dk_seg dksX1_release_1 24 rfl rfl
theorem dksX1_release_3 : cX1_release.data.toList.drop 72 = dktX1_release_3 := dk_seg dksX1_release_2 24 rfl rfl
theorem dksX1_release_4 : cX1_release.data.toList.drop 96 = dktX1_release_4 := dk_seg dksX1_release_3 24 rfl rfl
theorem dksX1_release_5 : cX1_release.data.toList.drop 118 = dktX1_release_5 := dk_seg dksX1_release_4 22 rfl rfl
theorem dX1_release_0 : decode cX1_release 0 = .ok (.aload_n 0, 1) := dk_42 (dk_at dksX1_release_0 0 rfl rfl)
theorem dX1_release_1 : decode cX1_release 1 = .ok (.iload_n 1, 1) := dk_27 (dk_at dksX1_release_0 1 rfl rfl)
theorem dX1_release_2 : decode cX1_release 2 = .ok (.invokevirtual 166, 3) := dk_182 0 166 (dk_at dksX1_release_0 2 rfl rfl)
theorem dX1_release_5 : decode cX1_release 5 = .ok (.astore_n 3, 1) := dk_78 (dk_at dksX1_release_0 5 rfl rfl)
theorem dX1_release_6 : decode cX1_release 6 = .ok (.aload_n 0, 1) := dk_42 (dk_at dksX1_release_0 6 rfl rfl)
theorem dX1_release_7 : decode cX1_release 7 = .ok (.iload_n 2, 1) := dk_28 (dk_at dksX1_release_0 7 rfl rfl)
theorem dX1_release_8 : decode cX1_release 8 = .ok (.invokevirtual 211, 3) := dk_182 0 211 (dk_at dksX1_release_0 8 rfl rfl)
theorem dX1_release_11 : decode cX1_release 11 = .ok (.astore 4, 2) := dk_58 4 (dk_at dksX1_release_0 11 rfl rfl)
theorem dX1_release_13 : decode cX1_release 13 = .ok (.aload_n 3, 1) := dk_45 (dk_at dksX1_release_0 13 rfl rfl)
theorem dX1_release_14 : decode cX1_release 14 = .ok (.getfield 170, 3) := dk_180 0 170 (dk_at dksX1_release_0 14 rfl rfl)
theorem dX1_release_17 : decode cX1_release 17 = .ok (.ifCond .ne 43, 3) := dk_154 0 43 (dk_at dksX1_release_0 17 rfl rfl)
theorem dX1_release_20 : decode cX1_release 20 = .ok (.aload_n 3, 1) := dk_45 (dk_at dksX1_release_0 20 rfl rfl)
theorem dX1_release_21 : decode cX1_release 21 = .ok (.getfield 204, 3) := dk_180 0 204 (dk_at dksX1_release_0 21 rfl rfl)
theorem dX1_release_24 : decode cX1_release 24 = .ok (.ifCond .ne 36, 3) := dk_154 0 36 (dk_at dksX1_release_1 0 rfl rfl)
theorem dX1_release_27 : decode cX1_release 27 = .ok (.aload_n 0, 1) := dk_42 (dk_at dksX1_release_1 3 rfl rfl)
theorem dX1_release_28 : decode cX1_release 28 = .ok (.aload_n 3, 1) := dk_45 (dk_at dksX1_release_1 4 rfl rfl)
theorem dX1_release_29 : decode cX1_release 29 = .ok (.aload 4, 2) := dk_25 4 (dk_at dksX1_release_1 5 rfl rfl)
theorem dX1_release_31 : decode cX1_release 31 = .ok (.invokevirtual 222, 3) := dk_182 0 222 (dk_at dksX1_release_1 7 rfl rfl)
theorem dX1_release_34 : decode cX1_release 34 = .ok (.ifCond .eq 26, 3) := dk_153 0 26 (dk_at dksX1_release_1 10 rfl rfl)
theorem dX1_release_37 : decode cX1_release 37 = .ok (.aload 4, 2) := dk_25 4 (dk_at dksX1_release_1 13 rfl rfl)
theorem dX1_release_39 : decode cX1_release 39 = .ok (.aload_n 3, 1) := dk_45 (dk_at dksX1_release_1 15 rfl rfl)
theorem dX1_release_40 : decode cX1_release 40 = .ok (.invokevirtual 218, 3) := dk_182 0 218 (dk_at dksX1_release_1 16 rfl rfl)
theorem dX1_release_43 : decode cX1_release 43 = .ok (.ifCond .eq 17, 3) := dk_153 0 17 (dk_at dksX1_release_1 19 rfl rfl)
theorem dX1_release_46 : decode cX1_release 46 = .ok (.aload_n 0, 1) := dk_42 (dk_at dksX1_release_1 22 rfl rfl)
theorem dX1_release_47 : decode cX1_release 47 = .ok (.aload_n 3, 1) := dk_45 (dk_at dksX1_release_1 23 rfl rfl)
theorem dX1_release_48 : decode cX1_release 48 = .ok (.aload 4, 2) := dk_25 4 (dk_at dksX1_release_2 0 rfl rfl)
theorem dX1_release_50 : decode cX1_release 50 = .ok (.invokevirtual 226, 3) := dk_182 0 226 (dk_at dksX1_release_2 2 rfl rfl)
theorem dX1_release_53 : decode cX1_release 53 = .ok (.ifCond .ne 7, 3) := dk_154 0 7 (dk_at dksX1_release_2 5 rfl rfl)
theorem dX1_release_56 : decode cX1_release 56 = .ok (.iconst 1, 1) := dk_4 (dk_at dksX1_release_2 8 rfl rfl)
theorem dX1_release_57 : decode cX1_release 57 = .ok (.goto 4, 3) := dk_167 0 4 (dk_at dksX1_release_2 9 rfl rfl)
theorem dX1_release_60 : decode cX1_release 60 = .ok (.iconst 0, 1) := dk_3 (dk_at dksX1_release_2 12 rfl rfl)
theorem dX1_release_61 : decode cX1_release 61 = .ok (.invokestatic 150, 3) := dk_184 0 150 (dk_at dksX1_release_2 13 rfl rfl)
theorem dX1_release_64 : decode cX1_release 64 = .ok (.aload_n 3, 1) := dk_45 (dk_at dksX1_release_2 16 rfl rfl)
theorem dX1_release_65 : decode cX1_release 65 = .ok (.getfield 229, 3) := dk_180 0 229 (dk_at dksX1_release_2 17 rfl rfl)
theorem dX1_release_68 : decode cX1_release 68 = .ok (.aload_n 0, 1) := dk_42 (dk_at dksX1_release_2 20 rfl rfl)
theorem dX1_release_69 : decode cX1_release 69 = .ok (.getfield 114, 3) := dk_180 0 114 (dk_at dksX1_release_2 21 rfl rfl)
theorem dX1_release_72 : decode cX1_release 72 = .ok (.aload_n 3, 1) := dk_45 (dk_at dksX1_release_3 0 rfl rfl)
theorem dX1_release_73 : decode cX1_release 73 = .ok (.getfield 51, 3) := dk_180 0 51 (dk_at dksX1_release_3 1 rfl rfl)
theorem dX1_release_76 : decode cX1_release 76 = .ok (.iaload, 1) := dk_46 (dk_at dksX1_release_3 4 rfl rfl)
theorem dX1_release_77 : decode cX1_release 77 = .ok (.imul, 1) := dk_104 (dk_at dksX1_release_3 5 rfl rfl)
theorem dX1_release_78 : decode cX1_release 78 = .ok (.bipush 100, 2) := dk_16 100 (dk_at dksX1_release_3 6 rfl rfl)
theorem dX1_release_80 : decode cX1_release 80 = .ok (.idiv, 1) := dk_108 (dk_at dksX1_release_3 8 rfl rfl)
theorem dX1_release_81 : decode cX1_release 81 = .ok (.istore 5, 2) := dk_54 5 (dk_at dksX1_release_3 9 rfl rfl)
theorem dX1_release_83 : decode cX1_release 83 = .ok (.aload_n 3, 1) := dk_45 (dk_at dksX1_release_3 11 rfl rfl)
theorem dX1_release_84 : decode cX1_release 84 = .ok (.iconst 3, 1) := dk_6 (dk_at dksX1_release_3 12 rfl rfl)
theorem dX1_release_85 : decode cX1_release 85 = .ok (.putfield 170, 3) := dk_181 0 170 (dk_at dksX1_release_3 13 rfl rfl)
theorem dX1_release_88 : decode cX1_release 88 = .ok (.aload 4, 2) := dk_25 4 (dk_at dksX1_release_3 16 rfl rfl)
theorem dX1_release_90 : decode cX1_release 90 = .ok (.iload_n 1, 1) := dk_27 (dk_at dksX1_release_3 18 rfl rfl)
theorem dX1_release_91 : decode cX1_release 91 = .ok (.putfield 232, 3) := dk_181 0 232 (dk_at dksX1_release_3 19 rfl rfl)
theorem dX1_release_94 : decode cX1_release 94 = .ok (.aload 4, 2) := dk_25 4 (dk_at dksX1_release_3 22 rfl rfl)
theorem dX1_release_96 : decode cX1_release 96 = .ok (.iconst 1, 1) := dk_4 (dk_at dksX1_release_4 0 rfl rfl)
theorem dX1_release_97 : decode cX1_release 97 = .ok (.invokevirtual 215, 3) := dk_182 0 215 (dk_at dksX1_release_4 1 rfl rfl)
theorem dX1_release_100 : decode cX1_release 100 = .ok (.aload_n 0, 1) := dk_42 (dk_at dksX1_release_4 4 rfl rfl)
theorem dX1_release_101 : decode cX1_release 101 = .ok (.dup, 1) := dk_89 (dk_at dksX1_release_4 5 rfl rfl)
theorem dX1_release_102 : decode cX1_release 102 = .ok (.getfield 235, 3) := dk_180 0 235 (dk_at dksX1_release_4 6 rfl rfl)
theorem dX1_release_105 : decode cX1_release 105 = .ok (.iconst 5, 1) := dk_8 (dk_at dksX1_release_4 9 rfl rfl)
theorem dX1_release_106 : decode cX1_release 106 = .ok (.iadd, 1) := dk_96 (dk_at dksX1_release_4 10 rfl rfl)
theorem dX1_release_107 : decode cX1_release 107 = .ok (.putfield 235, 3) := dk_181 0 235 (dk_at dksX1_release_4 11 rfl rfl)
theorem dX1_release_110 : decode cX1_release 110 = .ok (.aload_n 0, 1) := dk_42 (dk_at dksX1_release_4 14 rfl rfl)
theorem dX1_release_111 : decode cX1_release 111 = .ok (.dup, 1) := dk_89 (dk_at dksX1_release_4 15 rfl rfl)
theorem dX1_release_112 : decode cX1_release 112 = .ok (.getfield 238, 3) := dk_180 0 238 (dk_at dksX1_release_4 16 rfl rfl)
theorem dX1_release_115 : decode cX1_release 115 = .ok (.iload 5, 2) := dk_21 5 (dk_at dksX1_release_4 19 rfl rfl)
theorem dX1_release_117 : decode cX1_release 117 = .ok (.iadd, 1) := dk_96 (dk_at dksX1_release_4 21 rfl rfl)
theorem dX1_release_118 : decode cX1_release 118 = .ok (.putfield 238, 3) := dk_181 0 238 (dk_at dksX1_release_5 0 rfl rfl)
theorem dX1_release_121 : decode cX1_release 121 = .ok (.iconst 5, 1) := dk_8 (dk_at dksX1_release_5 3 rfl rfl)
theorem dX1_release_122 : decode cX1_release 122 = .ok (.iload 5, 2) := dk_21 5 (dk_at dksX1_release_5 4 rfl rfl)
theorem dX1_release_124 : decode cX1_release 124 = .ok (.iadd, 1) := dk_96 (dk_at dksX1_release_5 6 rfl rfl)
theorem dX1_release_125 : decode cX1_release 125 = .ok (.ireturn, 1) := dk_172 (dk_at dksX1_release_5 7 rfl rfl)
abbrev cX1_isCandidate : ByteArray := prog_1_method_11_code
def yX1_isCandidate : MethodName := ⟨RX1, "isCandidate", "(LLostroom$Find;LLostroom$Claim;)Z"⟩
def dkwX1_isCandidate_1 : List UInt8 := [3, 172]
abbrev dktX1_isCandidate_1 : List UInt8 := dkwX1_isCandidate_1 ++ []
def dkwX1_isCandidate_0 : List UInt8 := [44, 180, 0, 98, 154, 0, 20, 42, 43, 44, 182, 0, 101, 42, 180, 0, 105, 161, 0, 7, 4, 167, 0, 4]
abbrev dktX1_isCandidate_0 : List UInt8 := dkwX1_isCandidate_0 ++ dktX1_isCandidate_1
theorem dksX1_isCandidate_0 : cX1_isCandidate.data.toList.drop 0 = dktX1_isCandidate_0 := by decide +kernel
theorem dksX1_isCandidate_1 : cX1_isCandidate.data.toList.drop 24 = dktX1_isCandidate_1 := dk_seg dksX1_isCandidate_0 24 rfl rfl
theorem dX1_isCandidate_0 : decode cX1_isCandidate 0 = .ok (.aload_n 2, 1) := dk_44 (dk_at dksX1_isCandidate_0 0 rfl rfl)
theorem dX1_isCandidate_1 : decode cX1_isCandidate 1 = .ok (.getfield 98, 3) := dk_180 0 98 (dk_at dksX1_isCandidate_0 1 rfl rfl)
theorem dX1_isCandidate_4 : decode cX1_isCandidate 4 = .ok (.ifCond .ne 20, 3) := dk_154 0 20 (dk_at dksX1_isCandidate_0 4 rfl rfl)
theorem dX1_isCandidate_7 : decode cX1_isCandidate 7 = .ok (.aload_n 0, 1) := dk_42 (dk_at dksX1_isCandidate_0 7 rfl rfl)
theorem dX1_isCandidate_8 : decode cX1_isCandidate 8 = .ok (.aload_n 1, 1) := dk_43 (dk_at dksX1_isCandidate_0 8 rfl rfl)
theorem dX1_isCandidate_9 : decode cX1_isCandidate 9 = .ok (.aload_n 2, 1) := dk_44 (dk_at dksX1_isCandidate_0 9 rfl rfl)
theorem dX1_isCandidate_10 : decode cX1_isCandidate 10 = .ok (.invokevirtual 101, 3) := dk_182 0 101 (dk_at dksX1_isCandidate_0 10 rfl rfl)
theorem dX1_isCandidate_13 : decode cX1_isCandidate 13 = .ok (.aload_n 0, 1) := dk_42 (dk_at dksX1_isCandidate_0 13 rfl rfl)
theorem dX1_isCandidate_14 : decode cX1_isCandidate 14 = .ok (.getfield 105, 3) := dk_180 0 105 (dk_at dksX1_isCandidate_0 14 rfl rfl)
theorem dX1_isCandidate_17 : decode cX1_isCandidate 17 = .ok (.if_icmp .lt 7, 3) := dk_161 0 7 (dk_at dksX1_isCandidate_0 17 rfl rfl)
theorem dX1_isCandidate_20 : decode cX1_isCandidate 20 = .ok (.iconst 1, 1) := dk_4 (dk_at dksX1_isCandidate_0 20 rfl rfl)
theorem dX1_isCandidate_21 : decode cX1_isCandidate 21 = .ok (.goto 4, 3) := dk_167 0 4 (dk_at dksX1_isCandidate_0 21 rfl rfl)
theorem dX1_isCandidate_24 : decode cX1_isCandidate 24 = .ok (.iconst 0, 1) := dk_3 (dk_at dksX1_isCandidate_1 0 rfl rfl)
theorem dX1_isCandidate_25 : decode cX1_isCandidate 25 = .ok (.ireturn, 1) := dk_172 (dk_at dksX1_isCandidate_1 1 rfl rfl)
abbrev cX1_score : ByteArray := prog_1_method_10_code
def yX1_score : MethodName := ⟨RX1, "score", "(LLostroom$Find;LLostroom$Claim;)I"⟩
def dkwX1_score_5 : List UInt8 := [180, 0, 89, 44, 180, 0, 92, 126, 128, 182, 0, 95, 96, 184, 0, 72, 172]
abbrev dktX1_score_5 : List UInt8 := dkwX1_score_5 ++ []
def dkwX1_score_4 : List UInt8 := [180, 0, 78, 44, 180, 0, 81, 182, 0, 82, 96, 21, 4, 96, 42, 44, 180, 0, 85, 43, 180, 0, 88, 43]
abbrev dktX1_score_4 : List UInt8 := dkwX1_score_4 ++ dktX1_score_5
def dkwX1_score_3 : List UInt8 := [180, 0, 63, 44, 180, 0, 69, 100, 184, 0, 72, 104, 100, 184, 0, 72, 54, 4, 3, 29, 42, 43]
abbrev dktX1_score_3 : List UInt8 := dkwX1_score_3 ++ dktX1_score_4
def dkwX1_score_2 : List UInt8 := [172, 43, 180, 0, 63, 44, 180, 0, 66, 162, 0, 7, 3, 167, 0, 25, 3, 16, 20, 5, 3, 43]
abbrev dktX1_score_2 : List UInt8 := dkwX1_score_2 ++ dktX1_score_3
def dkwX1_score_1 : List UInt8 := [46, 44, 180, 0, 57, 184, 0, 44, 153, 0, 8, 16, 15, 167, 0, 4, 2, 62, 29, 2, 160, 0, 5, 2]
abbrev dktX1_score_1 : List UInt8 := dkwX1_score_1 ++ dktX1_score_2
def dkwX1_score_0 : List UInt8 := [43, 180, 0, 51, 44, 180, 0, 57, 160, 0, 8, 16, 40, 167, 0, 28, 42, 180, 0, 60, 43, 180, 0, 51]
abbrev dktX1_score_0 : List UInt8 := dkwX1_score_0 ++ dktX1_score_1
theorem dksX1_score_0 : cX1_score.data.toList.drop 0 = dktX1_score_0 := by decide +kernel
theorem dksX1_score_1 : cX1_score.data.toList.drop 24 = dktX1_score_1 := dk_seg dksX1_score_0 24 rfl rfl
theorem dksX1_score_2 : cX1_score.data.toList.drop 48 = dktX1_score_2 := dk_seg dksX1_score_1 24 rfl rfl
theorem dksX1_score_3 : cX1_score.data.toList.drop 70 = dktX1_score_3 := dk_seg dksX1_score_2 22 rfl rfl
theorem dksX1_score_4 : cX1_score.data.toList.drop 92 = dktX1_score_4 := dk_seg dksX1_score_3 22 rfl rfl
theorem dksX1_score_5 : cX1_score.data.toList.drop 116 = dktX1_score_5 := dk_seg dksX1_score_4 24 rfl rfl
theorem dX1_score_0 : decode cX1_score 0 = .ok (.aload_n 1, 1) := dk_43 (dk_at dksX1_score_0 0 rfl rfl)
theorem dX1_score_1 : decode cX1_score 1 = .ok (.getfield 51, 3) := dk_180 0 51 (dk_at dksX1_score_0 1 rfl rfl)
theorem dX1_score_4 : decode cX1_score 4 = .ok (.aload_n 2, 1) := dk_44 (dk_at dksX1_score_0 4 rfl rfl)
theorem dX1_score_5 : decode cX1_score 5 = .ok (.getfield 57, 3) := dk_180 0 57 (dk_at dksX1_score_0 5 rfl rfl)
theorem dX1_score_8 : decode cX1_score 8 = .ok (.if_icmp .ne 8, 3) := dk_160 0 8 (dk_at dksX1_score_0 8 rfl rfl)
theorem dX1_score_11 : decode cX1_score 11 = .ok (.bipush 40, 2) := dk_16 40 (dk_at dksX1_score_0 11 rfl rfl)
theorem dX1_score_13 : decode cX1_score 13 = .ok (.goto 28, 3) := dk_167 0 28 (dk_at dksX1_score_0 13 rfl rfl)
theorem dX1_score_16 : decode cX1_score 16 = .ok (.aload_n 0, 1) := dk_42 (dk_at dksX1_score_0 16 rfl rfl)
theorem dX1_score_17 : decode cX1_score 17 = .ok (.getfield 60, 3) := dk_180 0 60 (dk_at dksX1_score_0 17 rfl rfl)
theorem dX1_score_20 : decode cX1_score 20 = .ok (.aload_n 1, 1) := dk_43 (dk_at dksX1_score_0 20 rfl rfl)
theorem dX1_score_21 : decode cX1_score 21 = .ok (.getfield 51, 3) := dk_180 0 51 (dk_at dksX1_score_0 21 rfl rfl)
theorem dX1_score_24 : decode cX1_score 24 = .ok (.iaload, 1) := dk_46 (dk_at dksX1_score_1 0 rfl rfl)
theorem dX1_score_25 : decode cX1_score 25 = .ok (.aload_n 2, 1) := dk_44 (dk_at dksX1_score_1 1 rfl rfl)
theorem dX1_score_26 : decode cX1_score 26 = .ok (.getfield 57, 3) := dk_180 0 57 (dk_at dksX1_score_1 2 rfl rfl)
theorem dX1_score_29 : decode cX1_score 29 = .ok (.invokestatic 44, 3) := dk_184 0 44 (dk_at dksX1_score_1 5 rfl rfl)
theorem dX1_score_32 : decode cX1_score 32 = .ok (.ifCond .eq 8, 3) := dk_153 0 8 (dk_at dksX1_score_1 8 rfl rfl)
theorem dX1_score_35 : decode cX1_score 35 = .ok (.bipush 15, 2) := dk_16 15 (dk_at dksX1_score_1 11 rfl rfl)
theorem dX1_score_37 : decode cX1_score 37 = .ok (.goto 4, 3) := dk_167 0 4 (dk_at dksX1_score_1 13 rfl rfl)
theorem dX1_score_40 : decode cX1_score 40 = .ok (.iconst (-1), 1) := dk_2 (dk_at dksX1_score_1 16 rfl rfl)
theorem dX1_score_41 : decode cX1_score 41 = .ok (.istore_n 3, 1) := dk_62 (dk_at dksX1_score_1 17 rfl rfl)
theorem dX1_score_42 : decode cX1_score 42 = .ok (.iload_n 3, 1) := dk_29 (dk_at dksX1_score_1 18 rfl rfl)
theorem dX1_score_43 : decode cX1_score 43 = .ok (.iconst (-1), 1) := dk_2 (dk_at dksX1_score_1 19 rfl rfl)
theorem dX1_score_44 : decode cX1_score 44 = .ok (.if_icmp .ne 5, 3) := dk_160 0 5 (dk_at dksX1_score_1 20 rfl rfl)
theorem dX1_score_47 : decode cX1_score 47 = .ok (.iconst (-1), 1) := dk_2 (dk_at dksX1_score_1 23 rfl rfl)
theorem dX1_score_48 : decode cX1_score 48 = .ok (.ireturn, 1) := dk_172 (dk_at dksX1_score_2 0 rfl rfl)
theorem dX1_score_49 : decode cX1_score 49 = .ok (.aload_n 1, 1) := dk_43 (dk_at dksX1_score_2 1 rfl rfl)
theorem dX1_score_50 : decode cX1_score 50 = .ok (.getfield 63, 3) := dk_180 0 63 (dk_at dksX1_score_2 2 rfl rfl)
theorem dX1_score_53 : decode cX1_score 53 = .ok (.aload_n 2, 1) := dk_44 (dk_at dksX1_score_2 5 rfl rfl)
theorem dX1_score_54 : decode cX1_score 54 = .ok (.getfield 66, 3) := dk_180 0 66 (dk_at dksX1_score_2 6 rfl rfl)
theorem dX1_score_57 : decode cX1_score 57 = .ok (.if_icmp .ge 7, 3) := dk_162 0 7 (dk_at dksX1_score_2 9 rfl rfl)
theorem dX1_score_60 : decode cX1_score 60 = .ok (.iconst 0, 1) := dk_3 (dk_at dksX1_score_2 12 rfl rfl)
theorem dX1_score_61 : decode cX1_score 61 = .ok (.goto 25, 3) := dk_167 0 25 (dk_at dksX1_score_2 13 rfl rfl)
theorem dX1_score_64 : decode cX1_score 64 = .ok (.iconst 0, 1) := dk_3 (dk_at dksX1_score_2 16 rfl rfl)
theorem dX1_score_65 : decode cX1_score 65 = .ok (.bipush 20, 2) := dk_16 20 (dk_at dksX1_score_2 17 rfl rfl)
theorem dX1_score_67 : decode cX1_score 67 = .ok (.iconst 2, 1) := dk_5 (dk_at dksX1_score_2 19 rfl rfl)
theorem dX1_score_68 : decode cX1_score 68 = .ok (.iconst 0, 1) := dk_3 (dk_at dksX1_score_2 20 rfl rfl)
theorem dX1_score_69 : decode cX1_score 69 = .ok (.aload_n 1, 1) := dk_43 (dk_at dksX1_score_2 21 rfl rfl)
theorem dX1_score_70 : decode cX1_score 70 = .ok (.getfield 63, 3) := dk_180 0 63 (dk_at dksX1_score_3 0 rfl rfl)
theorem dX1_score_73 : decode cX1_score 73 = .ok (.aload_n 2, 1) := dk_44 (dk_at dksX1_score_3 3 rfl rfl)
theorem dX1_score_74 : decode cX1_score 74 = .ok (.getfield 69, 3) := dk_180 0 69 (dk_at dksX1_score_3 4 rfl rfl)
theorem dX1_score_77 : decode cX1_score 77 = .ok (.isub, 1) := dk_100 (dk_at dksX1_score_3 7 rfl rfl)
theorem dX1_score_78 : decode cX1_score 78 = .ok (.invokestatic 72, 3) := dk_184 0 72 (dk_at dksX1_score_3 8 rfl rfl)
theorem dX1_score_81 : decode cX1_score 81 = .ok (.imul, 1) := dk_104 (dk_at dksX1_score_3 11 rfl rfl)
theorem dX1_score_82 : decode cX1_score 82 = .ok (.isub, 1) := dk_100 (dk_at dksX1_score_3 12 rfl rfl)
theorem dX1_score_83 : decode cX1_score 83 = .ok (.invokestatic 72, 3) := dk_184 0 72 (dk_at dksX1_score_3 13 rfl rfl)
theorem dX1_score_86 : decode cX1_score 86 = .ok (.istore 4, 2) := dk_54 4 (dk_at dksX1_score_3 16 rfl rfl)
theorem dX1_score_88 : decode cX1_score 88 = .ok (.iconst 0, 1) := dk_3 (dk_at dksX1_score_3 18 rfl rfl)
theorem dX1_score_89 : decode cX1_score 89 = .ok (.iload_n 3, 1) := dk_29 (dk_at dksX1_score_3 19 rfl rfl)
theorem dX1_score_90 : decode cX1_score 90 = .ok (.aload_n 0, 1) := dk_42 (dk_at dksX1_score_3 20 rfl rfl)
theorem dX1_score_91 : decode cX1_score 91 = .ok (.aload_n 1, 1) := dk_43 (dk_at dksX1_score_3 21 rfl rfl)
theorem dX1_score_92 : decode cX1_score 92 = .ok (.getfield 78, 3) := dk_180 0 78 (dk_at dksX1_score_4 0 rfl rfl)
theorem dX1_score_95 : decode cX1_score 95 = .ok (.aload_n 2, 1) := dk_44 (dk_at dksX1_score_4 3 rfl rfl)
theorem dX1_score_96 : decode cX1_score 96 = .ok (.getfield 81, 3) := dk_180 0 81 (dk_at dksX1_score_4 4 rfl rfl)
theorem dX1_score_99 : decode cX1_score 99 = .ok (.invokevirtual 82, 3) := dk_182 0 82 (dk_at dksX1_score_4 7 rfl rfl)
theorem dX1_score_102 : decode cX1_score 102 = .ok (.iadd, 1) := dk_96 (dk_at dksX1_score_4 10 rfl rfl)
theorem dX1_score_103 : decode cX1_score 103 = .ok (.iload 4, 2) := dk_21 4 (dk_at dksX1_score_4 11 rfl rfl)
theorem dX1_score_105 : decode cX1_score 105 = .ok (.iadd, 1) := dk_96 (dk_at dksX1_score_4 13 rfl rfl)
theorem dX1_score_106 : decode cX1_score 106 = .ok (.aload_n 0, 1) := dk_42 (dk_at dksX1_score_4 14 rfl rfl)
theorem dX1_score_107 : decode cX1_score 107 = .ok (.aload_n 2, 1) := dk_44 (dk_at dksX1_score_4 15 rfl rfl)
theorem dX1_score_108 : decode cX1_score 108 = .ok (.getfield 85, 3) := dk_180 0 85 (dk_at dksX1_score_4 16 rfl rfl)
theorem dX1_score_111 : decode cX1_score 111 = .ok (.aload_n 1, 1) := dk_43 (dk_at dksX1_score_4 19 rfl rfl)
theorem dX1_score_112 : decode cX1_score 112 = .ok (.getfield 88, 3) := dk_180 0 88 (dk_at dksX1_score_4 20 rfl rfl)
theorem dX1_score_115 : decode cX1_score 115 = .ok (.aload_n 1, 1) := dk_43 (dk_at dksX1_score_4 23 rfl rfl)
theorem dX1_score_116 : decode cX1_score 116 = .ok (.getfield 89, 3) := dk_180 0 89 (dk_at dksX1_score_5 0 rfl rfl)
theorem dX1_score_119 : decode cX1_score 119 = .ok (.aload_n 2, 1) := dk_44 (dk_at dksX1_score_5 3 rfl rfl)
theorem dX1_score_120 : decode cX1_score 120 = .ok (.getfield 92, 3) := dk_180 0 92 (dk_at dksX1_score_5 4 rfl rfl)
theorem dX1_score_123 : decode cX1_score 123 = .ok (.iand, 1) := dk_126 (dk_at dksX1_score_5 7 rfl rfl)
theorem dX1_score_124 : decode cX1_score 124 = .ok (.ior, 1) := dk_128 (dk_at dksX1_score_5 8 rfl rfl)
theorem dX1_score_125 : decode cX1_score 125 = .ok (.invokevirtual 95, 3) := dk_182 0 95 (dk_at dksX1_score_5 9 rfl rfl)
theorem dX1_score_128 : decode cX1_score 128 = .ok (.iadd, 1) := dk_96 (dk_at dksX1_score_5 12 rfl rfl)
theorem dX1_score_129 : decode cX1_score 129 = .ok (.invokestatic 72, 3) := dk_184 0 72 (dk_at dksX1_score_5 13 rfl rfl)
theorem dX1_score_132 : decode cX1_score 132 = .ok (.ireturn, 1) := dk_172 (dk_at dksX1_score_5 16 rfl rfl)
abbrev cX1_placeScore : ByteArray := prog_1_method_8_code
def yX1_placeScore : MethodName := ⟨RX1, "placeScore", "(II)I"⟩
def dkwX1_placeScore_2 : List UInt8 := [3, 62, 132, 4, 1, 167, 255, 216, 29, 153, 0, 8, 16, 10, 167, 0, 4, 3, 172]
abbrev dktX1_placeScore_2 : List UInt8 := dkwX1_placeScore_2 ++ []
def dkwX1_placeScore_1 : List UInt8 := [42, 27, 21, 4, 182, 0, 40, 153, 0, 17, 42, 28, 21, 4, 182, 0, 40, 153, 0, 7, 4, 167, 0, 4]
abbrev dktX1_placeScore_1 : List UInt8 := dkwX1_placeScore_1 ++ dktX1_placeScore_2
def dkwX1_placeScore_0 : List UInt8 := [27, 28, 160, 0, 6, 16, 20, 172, 3, 62, 3, 54, 4, 21, 4, 16, 6, 162, 0, 39, 29, 154, 0, 23]
abbrev dktX1_placeScore_0 : List UInt8 := dkwX1_placeScore_0 ++ dktX1_placeScore_1
theorem dksX1_placeScore_0 : cX1_placeScore.data.toList.drop 0 = dktX1_placeScore_0 := by decide +kernel
theorem dksX1_placeScore_1 : cX1_placeScore.data.toList.drop 24 = dktX1_placeScore_1 := dk_seg dksX1_placeScore_0 24 rfl rfl
theorem dksX1_placeScore_2 : cX1_placeScore.data.toList.drop 48 = dktX1_placeScore_2 := dk_seg dksX1_placeScore_1 24 rfl rfl
theorem dX1_placeScore_0 : decode cX1_placeScore 0 = .ok (.iload_n 1, 1) := dk_27 (dk_at dksX1_placeScore_0 0 rfl rfl)
theorem dX1_placeScore_1 : decode cX1_placeScore 1 = .ok (.iload_n 2, 1) := dk_28 (dk_at dksX1_placeScore_0 1 rfl rfl)
theorem dX1_placeScore_2 : decode cX1_placeScore 2 = .ok (.if_icmp .ne 6, 3) := dk_160 0 6 (dk_at dksX1_placeScore_0 2 rfl rfl)
theorem dX1_placeScore_5 : decode cX1_placeScore 5 = .ok (.bipush 20, 2) := dk_16 20 (dk_at dksX1_placeScore_0 5 rfl rfl)
theorem dX1_placeScore_7 : decode cX1_placeScore 7 = .ok (.ireturn, 1) := dk_172 (dk_at dksX1_placeScore_0 7 rfl rfl)
theorem dX1_placeScore_8 : decode cX1_placeScore 8 = .ok (.iconst 0, 1) := dk_3 (dk_at dksX1_placeScore_0 8 rfl rfl)
theorem dX1_placeScore_9 : decode cX1_placeScore 9 = .ok (.istore_n 3, 1) := dk_62 (dk_at dksX1_placeScore_0 9 rfl rfl)
theorem dX1_placeScore_10 : decode cX1_placeScore 10 = .ok (.iconst 0, 1) := dk_3 (dk_at dksX1_placeScore_0 10 rfl rfl)
theorem dX1_placeScore_11 : decode cX1_placeScore 11 = .ok (.istore 4, 2) := dk_54 4 (dk_at dksX1_placeScore_0 11 rfl rfl)
theorem dX1_placeScore_13 : decode cX1_placeScore 13 = .ok (.iload 4, 2) := dk_21 4 (dk_at dksX1_placeScore_0 13 rfl rfl)
theorem dX1_placeScore_15 : decode cX1_placeScore 15 = .ok (.bipush 6, 2) := dk_16 6 (dk_at dksX1_placeScore_0 15 rfl rfl)
theorem dX1_placeScore_17 : decode cX1_placeScore 17 = .ok (.if_icmp .ge 39, 3) := dk_162 0 39 (dk_at dksX1_placeScore_0 17 rfl rfl)
theorem dX1_placeScore_20 : decode cX1_placeScore 20 = .ok (.iload_n 3, 1) := dk_29 (dk_at dksX1_placeScore_0 20 rfl rfl)
theorem dX1_placeScore_21 : decode cX1_placeScore 21 = .ok (.ifCond .ne 23, 3) := dk_154 0 23 (dk_at dksX1_placeScore_0 21 rfl rfl)
theorem dX1_placeScore_24 : decode cX1_placeScore 24 = .ok (.aload_n 0, 1) := dk_42 (dk_at dksX1_placeScore_1 0 rfl rfl)
theorem dX1_placeScore_25 : decode cX1_placeScore 25 = .ok (.iload_n 1, 1) := dk_27 (dk_at dksX1_placeScore_1 1 rfl rfl)
theorem dX1_placeScore_26 : decode cX1_placeScore 26 = .ok (.iload 4, 2) := dk_21 4 (dk_at dksX1_placeScore_1 2 rfl rfl)
theorem dX1_placeScore_28 : decode cX1_placeScore 28 = .ok (.invokevirtual 40, 3) := dk_182 0 40 (dk_at dksX1_placeScore_1 4 rfl rfl)
theorem dX1_placeScore_31 : decode cX1_placeScore 31 = .ok (.ifCond .eq 17, 3) := dk_153 0 17 (dk_at dksX1_placeScore_1 7 rfl rfl)
theorem dX1_placeScore_34 : decode cX1_placeScore 34 = .ok (.aload_n 0, 1) := dk_42 (dk_at dksX1_placeScore_1 10 rfl rfl)
theorem dX1_placeScore_35 : decode cX1_placeScore 35 = .ok (.iload_n 2, 1) := dk_28 (dk_at dksX1_placeScore_1 11 rfl rfl)
theorem dX1_placeScore_36 : decode cX1_placeScore 36 = .ok (.iload 4, 2) := dk_21 4 (dk_at dksX1_placeScore_1 12 rfl rfl)
theorem dX1_placeScore_38 : decode cX1_placeScore 38 = .ok (.invokevirtual 40, 3) := dk_182 0 40 (dk_at dksX1_placeScore_1 14 rfl rfl)
theorem dX1_placeScore_41 : decode cX1_placeScore 41 = .ok (.ifCond .eq 7, 3) := dk_153 0 7 (dk_at dksX1_placeScore_1 17 rfl rfl)
theorem dX1_placeScore_44 : decode cX1_placeScore 44 = .ok (.iconst 1, 1) := dk_4 (dk_at dksX1_placeScore_1 20 rfl rfl)
theorem dX1_placeScore_45 : decode cX1_placeScore 45 = .ok (.goto 4, 3) := dk_167 0 4 (dk_at dksX1_placeScore_1 21 rfl rfl)
theorem dX1_placeScore_48 : decode cX1_placeScore 48 = .ok (.iconst 0, 1) := dk_3 (dk_at dksX1_placeScore_2 0 rfl rfl)
theorem dX1_placeScore_49 : decode cX1_placeScore 49 = .ok (.istore_n 3, 1) := dk_62 (dk_at dksX1_placeScore_2 1 rfl rfl)
theorem dX1_placeScore_50 : decode cX1_placeScore 50 = .ok (.iinc 4 1, 3) := dk_132 4 1 (dk_at dksX1_placeScore_2 2 rfl rfl)
theorem dX1_placeScore_53 : decode cX1_placeScore 53 = .ok (.goto (-40), 3) := dk_167 255 216 (dk_at dksX1_placeScore_2 5 rfl rfl)
theorem dX1_placeScore_56 : decode cX1_placeScore 56 = .ok (.iload_n 3, 1) := dk_29 (dk_at dksX1_placeScore_2 8 rfl rfl)
theorem dX1_placeScore_57 : decode cX1_placeScore 57 = .ok (.ifCond .eq 8, 3) := dk_153 0 8 (dk_at dksX1_placeScore_2 9 rfl rfl)
theorem dX1_placeScore_60 : decode cX1_placeScore 60 = .ok (.bipush 10, 2) := dk_16 10 (dk_at dksX1_placeScore_2 12 rfl rfl)
theorem dX1_placeScore_62 : decode cX1_placeScore 62 = .ok (.goto 4, 3) := dk_167 0 4 (dk_at dksX1_placeScore_2 14 rfl rfl)
theorem dX1_placeScore_65 : decode cX1_placeScore 65 = .ok (.iconst 0, 1) := dk_3 (dk_at dksX1_placeScore_2 17 rfl rfl)
theorem dX1_placeScore_66 : decode cX1_placeScore 66 = .ok (.ireturn, 1) := dk_172 (dk_at dksX1_placeScore_2 18 rfl rfl)
abbrev cX1_stopsAt : ByteArray := prog_1_method_7_code
def yX1_stopsAt : MethodName := ⟨RX1, "stopsAt", "(II)Z"⟩
def dkwX1_stopsAt_1 : List UInt8 := [192, 0, 25, 28, 184, 0, 30, 185, 0, 36, 2, 0, 153, 0, 7, 4, 167, 0, 4, 3, 172]
abbrev dktX1_stopsAt_1 : List UInt8 := dkwX1_stopsAt_1 ++ []
def dkwX1_stopsAt_0 : List UInt8 := [27, 28, 159, 0, 37, 27, 16, 6, 161, 0, 35, 42, 180, 0, 20, 27, 16, 6, 100, 185, 0, 24, 2, 0]
abbrev dktX1_stopsAt_0 : List UInt8 := dkwX1_stopsAt_0 ++ dktX1_stopsAt_1
theorem dksX1_stopsAt_0 : cX1_stopsAt.data.toList.drop 0 = dktX1_stopsAt_0 := by decide +kernel
theorem dksX1_stopsAt_1 : cX1_stopsAt.data.toList.drop 24 = dktX1_stopsAt_1 := dk_seg dksX1_stopsAt_0 24 rfl rfl
theorem dX1_stopsAt_0 : decode cX1_stopsAt 0 = .ok (.iload_n 1, 1) := dk_27 (dk_at dksX1_stopsAt_0 0 rfl rfl)
theorem dX1_stopsAt_1 : decode cX1_stopsAt 1 = .ok (.iload_n 2, 1) := dk_28 (dk_at dksX1_stopsAt_0 1 rfl rfl)
theorem dX1_stopsAt_2 : decode cX1_stopsAt 2 = .ok (.if_icmp .eq 37, 3) := dk_159 0 37 (dk_at dksX1_stopsAt_0 2 rfl rfl)
theorem dX1_stopsAt_5 : decode cX1_stopsAt 5 = .ok (.iload_n 1, 1) := dk_27 (dk_at dksX1_stopsAt_0 5 rfl rfl)
theorem dX1_stopsAt_6 : decode cX1_stopsAt 6 = .ok (.bipush 6, 2) := dk_16 6 (dk_at dksX1_stopsAt_0 6 rfl rfl)
theorem dX1_stopsAt_8 : decode cX1_stopsAt 8 = .ok (.if_icmp .lt 35, 3) := dk_161 0 35 (dk_at dksX1_stopsAt_0 8 rfl rfl)
theorem dX1_stopsAt_11 : decode cX1_stopsAt 11 = .ok (.aload_n 0, 1) := dk_42 (dk_at dksX1_stopsAt_0 11 rfl rfl)
theorem dX1_stopsAt_12 : decode cX1_stopsAt 12 = .ok (.getfield 20, 3) := dk_180 0 20 (dk_at dksX1_stopsAt_0 12 rfl rfl)
theorem dX1_stopsAt_15 : decode cX1_stopsAt 15 = .ok (.iload_n 1, 1) := dk_27 (dk_at dksX1_stopsAt_0 15 rfl rfl)
theorem dX1_stopsAt_16 : decode cX1_stopsAt 16 = .ok (.bipush 6, 2) := dk_16 6 (dk_at dksX1_stopsAt_0 16 rfl rfl)
theorem dX1_stopsAt_18 : decode cX1_stopsAt 18 = .ok (.isub, 1) := dk_100 (dk_at dksX1_stopsAt_0 18 rfl rfl)
theorem dX1_stopsAt_19 : decode cX1_stopsAt 19 = .ok (.invokeinterface 24 2, 5) := by decide +kernel
theorem dX1_stopsAt_24 : decode cX1_stopsAt 24 = .ok (.checkcast 25, 3) := dk_192 0 25 (dk_at dksX1_stopsAt_1 0 rfl rfl)
theorem dX1_stopsAt_27 : decode cX1_stopsAt 27 = .ok (.iload_n 2, 1) := dk_28 (dk_at dksX1_stopsAt_1 3 rfl rfl)
theorem dX1_stopsAt_28 : decode cX1_stopsAt 28 = .ok (.invokestatic 30, 3) := dk_184 0 30 (dk_at dksX1_stopsAt_1 4 rfl rfl)
theorem dX1_stopsAt_31 : decode cX1_stopsAt 31 = .ok (.invokeinterface 36 2, 5) := by decide +kernel
theorem dX1_stopsAt_36 : decode cX1_stopsAt 36 = .ok (.ifCond .eq 7, 3) := dk_153 0 7 (dk_at dksX1_stopsAt_1 12 rfl rfl)
theorem dX1_stopsAt_39 : decode cX1_stopsAt 39 = .ok (.iconst 1, 1) := dk_4 (dk_at dksX1_stopsAt_1 15 rfl rfl)
theorem dX1_stopsAt_40 : decode cX1_stopsAt 40 = .ok (.goto 4, 3) := dk_167 0 4 (dk_at dksX1_stopsAt_1 16 rfl rfl)
theorem dX1_stopsAt_43 : decode cX1_stopsAt 43 = .ok (.iconst 0, 1) := dk_3 (dk_at dksX1_stopsAt_1 19 rfl rfl)
theorem dX1_stopsAt_44 : decode cX1_stopsAt 44 = .ok (.ireturn, 1) := dk_172 (dk_at dksX1_stopsAt_1 20 rfl rfl)
abbrev cX1_wordScore : ByteArray := prog_1_method_9_code
def yX1_wordScore : MethodName := ⟨RX1, "wordScore", "(II)I"⟩
def dkwX1_wordScore_2 : List UInt8 := [28, 126, 153, 0, 7, 6, 167, 0, 4, 2, 96, 62, 132, 4, 1, 167, 255, 199, 29, 172]
abbrev dktX1_wordScore_2 : List UInt8 := dkwX1_wordScore_2 ++ []
def dkwX1_wordScore_1 : List UInt8 := [167, 0, 34, 28, 21, 4, 184, 0, 44, 153, 0, 8, 16, 6, 167, 0, 20, 42, 180, 0, 47, 21, 4, 46]
abbrev dktX1_wordScore_1 : List UInt8 := dkwX1_wordScore_1 ++ dktX1_wordScore_2
def dkwX1_wordScore_0 : List UInt8 := [3, 62, 3, 54, 4, 21, 4, 16, 24, 162, 0, 56, 29, 27, 21, 4, 184, 0, 44, 154, 0, 7, 3]
abbrev dktX1_wordScore_0 : List UInt8 := dkwX1_wordScore_0 ++ dktX1_wordScore_1
theorem dksX1_wordScore_0 : cX1_wordScore.data.toList.drop 0 = dktX1_wordScore_0 := by decide +kernel
theorem dksX1_wordScore_1 : cX1_wordScore.data.toList.drop 23 = dktX1_wordScore_1 := dk_seg dksX1_wordScore_0 23 rfl rfl
theorem dksX1_wordScore_2 : cX1_wordScore.data.toList.drop 47 = dktX1_wordScore_2 := dk_seg dksX1_wordScore_1 24 rfl rfl
theorem dX1_wordScore_0 : decode cX1_wordScore 0 = .ok (.iconst 0, 1) := dk_3 (dk_at dksX1_wordScore_0 0 rfl rfl)
theorem dX1_wordScore_1 : decode cX1_wordScore 1 = .ok (.istore_n 3, 1) := dk_62 (dk_at dksX1_wordScore_0 1 rfl rfl)
theorem dX1_wordScore_2 : decode cX1_wordScore 2 = .ok (.iconst 0, 1) := dk_3 (dk_at dksX1_wordScore_0 2 rfl rfl)
theorem dX1_wordScore_3 : decode cX1_wordScore 3 = .ok (.istore 4, 2) := dk_54 4 (dk_at dksX1_wordScore_0 3 rfl rfl)
theorem dX1_wordScore_5 : decode cX1_wordScore 5 = .ok (.iload 4, 2) := dk_21 4 (dk_at dksX1_wordScore_0 5 rfl rfl)
theorem dX1_wordScore_7 : decode cX1_wordScore 7 = .ok (.bipush 24, 2) := dk_16 24 (dk_at dksX1_wordScore_0 7 rfl rfl)
theorem dX1_wordScore_9 : decode cX1_wordScore 9 = .ok (.if_icmp .ge 56, 3) := dk_162 0 56 (dk_at dksX1_wordScore_0 9 rfl rfl)
theorem dX1_wordScore_12 : decode cX1_wordScore 12 = .ok (.iload_n 3, 1) := dk_29 (dk_at dksX1_wordScore_0 12 rfl rfl)
theorem dX1_wordScore_13 : decode cX1_wordScore 13 = .ok (.iload_n 1, 1) := dk_27 (dk_at dksX1_wordScore_0 13 rfl rfl)
theorem dX1_wordScore_14 : decode cX1_wordScore 14 = .ok (.iload 4, 2) := dk_21 4 (dk_at dksX1_wordScore_0 14 rfl rfl)
theorem dX1_wordScore_16 : decode cX1_wordScore 16 = .ok (.invokestatic 44, 3) := dk_184 0 44 (dk_at dksX1_wordScore_0 16 rfl rfl)
theorem dX1_wordScore_19 : decode cX1_wordScore 19 = .ok (.ifCond .ne 7, 3) := dk_154 0 7 (dk_at dksX1_wordScore_0 19 rfl rfl)
theorem dX1_wordScore_22 : decode cX1_wordScore 22 = .ok (.iconst 0, 1) := dk_3 (dk_at dksX1_wordScore_0 22 rfl rfl)
theorem dX1_wordScore_23 : decode cX1_wordScore 23 = .ok (.goto 34, 3) := dk_167 0 34 (dk_at dksX1_wordScore_1 0 rfl rfl)
theorem dX1_wordScore_26 : decode cX1_wordScore 26 = .ok (.iload_n 2, 1) := dk_28 (dk_at dksX1_wordScore_1 3 rfl rfl)
theorem dX1_wordScore_27 : decode cX1_wordScore 27 = .ok (.iload 4, 2) := dk_21 4 (dk_at dksX1_wordScore_1 4 rfl rfl)
theorem dX1_wordScore_29 : decode cX1_wordScore 29 = .ok (.invokestatic 44, 3) := dk_184 0 44 (dk_at dksX1_wordScore_1 6 rfl rfl)
theorem dX1_wordScore_32 : decode cX1_wordScore 32 = .ok (.ifCond .eq 8, 3) := dk_153 0 8 (dk_at dksX1_wordScore_1 9 rfl rfl)
theorem dX1_wordScore_35 : decode cX1_wordScore 35 = .ok (.bipush 6, 2) := dk_16 6 (dk_at dksX1_wordScore_1 12 rfl rfl)
theorem dX1_wordScore_37 : decode cX1_wordScore 37 = .ok (.goto 20, 3) := dk_167 0 20 (dk_at dksX1_wordScore_1 14 rfl rfl)
theorem dX1_wordScore_40 : decode cX1_wordScore 40 = .ok (.aload_n 0, 1) := dk_42 (dk_at dksX1_wordScore_1 17 rfl rfl)
theorem dX1_wordScore_41 : decode cX1_wordScore 41 = .ok (.getfield 47, 3) := dk_180 0 47 (dk_at dksX1_wordScore_1 18 rfl rfl)
theorem dX1_wordScore_44 : decode cX1_wordScore 44 = .ok (.iload 4, 2) := dk_21 4 (dk_at dksX1_wordScore_1 21 rfl rfl)
theorem dX1_wordScore_46 : decode cX1_wordScore 46 = .ok (.iaload, 1) := dk_46 (dk_at dksX1_wordScore_1 23 rfl rfl)
theorem dX1_wordScore_47 : decode cX1_wordScore 47 = .ok (.iload_n 2, 1) := dk_28 (dk_at dksX1_wordScore_2 0 rfl rfl)
theorem dX1_wordScore_48 : decode cX1_wordScore 48 = .ok (.iand, 1) := dk_126 (dk_at dksX1_wordScore_2 1 rfl rfl)
theorem dX1_wordScore_49 : decode cX1_wordScore 49 = .ok (.ifCond .eq 7, 3) := dk_153 0 7 (dk_at dksX1_wordScore_2 2 rfl rfl)
theorem dX1_wordScore_52 : decode cX1_wordScore 52 = .ok (.iconst 3, 1) := dk_6 (dk_at dksX1_wordScore_2 5 rfl rfl)
theorem dX1_wordScore_53 : decode cX1_wordScore 53 = .ok (.goto 4, 3) := dk_167 0 4 (dk_at dksX1_wordScore_2 6 rfl rfl)
theorem dX1_wordScore_56 : decode cX1_wordScore 56 = .ok (.iconst (-1), 1) := dk_2 (dk_at dksX1_wordScore_2 9 rfl rfl)
theorem dX1_wordScore_57 : decode cX1_wordScore 57 = .ok (.iadd, 1) := dk_96 (dk_at dksX1_wordScore_2 10 rfl rfl)
theorem dX1_wordScore_58 : decode cX1_wordScore 58 = .ok (.istore_n 3, 1) := dk_62 (dk_at dksX1_wordScore_2 11 rfl rfl)
theorem dX1_wordScore_59 : decode cX1_wordScore 59 = .ok (.iinc 4 1, 3) := dk_132 4 1 (dk_at dksX1_wordScore_2 12 rfl rfl)
theorem dX1_wordScore_62 : decode cX1_wordScore 62 = .ok (.goto (-57), 3) := dk_167 255 199 (dk_at dksX1_wordScore_2 15 rfl rfl)
theorem dX1_wordScore_65 : decode cX1_wordScore 65 = .ok (.iload_n 3, 1) := dk_29 (dk_at dksX1_wordScore_2 18 rfl rfl)
theorem dX1_wordScore_66 : decode cX1_wordScore 66 = .ok (.ireturn, 1) := dk_172 (dk_at dksX1_wordScore_2 19 rfl rfl)
abbrev cX1_isBeaten : ByteArray := prog_1_method_32_code
def yX1_isBeaten : MethodName := ⟨RX1, "isBeaten", "(LLostroom$Find;LLostroom$Claim;)Z"⟩
def dkwX1_isBeaten_5 : List UInt8 := [182, 0, 101, 21, 4, 160, 0, 12, 21, 5, 153, 0, 7, 4, 167, 0, 4, 3, 62, 167, 255, 142, 29, 172]
abbrev dktX1_isBeaten_5 : List UInt8 := dkwX1_isBeaten_5 ++ []
def dkwX1_isBeaten_4 : List UInt8 := [154, 0, 37, 21, 8, 153, 0, 36, 42, 43, 25, 7, 182, 0, 101, 21, 4, 163, 0, 20, 42, 43, 25, 7]
abbrev dktX1_isBeaten_4 : List UInt8 := dkwX1_isBeaten_4 ++ dktX1_isBeaten_5
def dkwX1_isBeaten_3 : List UInt8 := [180, 0, 98, 154, 0, 16, 25, 7, 43, 182, 0, 218, 153, 0, 7, 4, 167, 0, 4, 3, 54, 8, 29]
abbrev dktX1_isBeaten_3 : List UInt8 := dkwX1_isBeaten_3 ++ dktX1_isBeaten_4
def dkwX1_isBeaten_2 : List UInt8 := [153, 0, 13, 25, 7, 44, 165, 0, 7, 4, 167, 0, 4, 3, 54, 5, 25, 7, 44, 165, 0, 24, 25, 7]
abbrev dktX1_isBeaten_2 : List UInt8 := dkwX1_isBeaten_2 ++ dktX1_isBeaten_3
def dkwX1_isBeaten_1 : List UInt8 := [25, 6, 185, 0, 185, 1, 0, 153, 0, 110, 25, 6, 185, 0, 191, 1, 0, 192, 0, 58, 58, 7, 21, 5]
abbrev dktX1_isBeaten_1 : List UInt8 := dkwX1_isBeaten_1 ++ dktX1_isBeaten_2
def dkwX1_isBeaten_0 : List UInt8 := [3, 62, 42, 43, 44, 182, 0, 101, 54, 4, 4, 54, 5, 42, 180, 0, 123, 185, 0, 181, 1, 0, 58, 6]
abbrev dktX1_isBeaten_0 : List UInt8 := dkwX1_isBeaten_0 ++ dktX1_isBeaten_1
theorem dksX1_isBeaten_0 : cX1_isBeaten.data.toList.drop 0 = dktX1_isBeaten_0 := by decide +kernel
theorem dksX1_isBeaten_1 : cX1_isBeaten.data.toList.drop 24 = dktX1_isBeaten_1 := dk_seg dksX1_isBeaten_0 24 rfl rfl
theorem dksX1_isBeaten_2 : cX1_isBeaten.data.toList.drop 48 = dktX1_isBeaten_2 := dk_seg dksX1_isBeaten_1 24 rfl rfl
theorem dksX1_isBeaten_3 : cX1_isBeaten.data.toList.drop 72 = dktX1_isBeaten_3 := dk_seg dksX1_isBeaten_2 24 rfl rfl
theorem dksX1_isBeaten_4 : cX1_isBeaten.data.toList.drop 95 = dktX1_isBeaten_4 := dk_seg dksX1_isBeaten_3 23 rfl rfl
theorem dksX1_isBeaten_5 : cX1_isBeaten.data.toList.drop 119 = dktX1_isBeaten_5 := dk_seg dksX1_isBeaten_4 24 rfl rfl
theorem dX1_isBeaten_0 : decode cX1_isBeaten 0 = .ok (.iconst 0, 1) := dk_3 (dk_at dksX1_isBeaten_0 0 rfl rfl)
theorem dX1_isBeaten_1 : decode cX1_isBeaten 1 = .ok (.istore_n 3, 1) := dk_62 (dk_at dksX1_isBeaten_0 1 rfl rfl)
theorem dX1_isBeaten_2 : decode cX1_isBeaten 2 = .ok (.aload_n 0, 1) := dk_42 (dk_at dksX1_isBeaten_0 2 rfl rfl)
theorem dX1_isBeaten_3 : decode cX1_isBeaten 3 = .ok (.aload_n 1, 1) := dk_43 (dk_at dksX1_isBeaten_0 3 rfl rfl)
theorem dX1_isBeaten_4 : decode cX1_isBeaten 4 = .ok (.aload_n 2, 1) := dk_44 (dk_at dksX1_isBeaten_0 4 rfl rfl)
theorem dX1_isBeaten_5 : decode cX1_isBeaten 5 = .ok (.invokevirtual 101, 3) := dk_182 0 101 (dk_at dksX1_isBeaten_0 5 rfl rfl)
theorem dX1_isBeaten_8 : decode cX1_isBeaten 8 = .ok (.istore 4, 2) := dk_54 4 (dk_at dksX1_isBeaten_0 8 rfl rfl)
theorem dX1_isBeaten_10 : decode cX1_isBeaten 10 = .ok (.iconst 1, 1) := dk_4 (dk_at dksX1_isBeaten_0 10 rfl rfl)
theorem dX1_isBeaten_11 : decode cX1_isBeaten 11 = .ok (.istore 5, 2) := dk_54 5 (dk_at dksX1_isBeaten_0 11 rfl rfl)
theorem dX1_isBeaten_13 : decode cX1_isBeaten 13 = .ok (.aload_n 0, 1) := dk_42 (dk_at dksX1_isBeaten_0 13 rfl rfl)
theorem dX1_isBeaten_14 : decode cX1_isBeaten 14 = .ok (.getfield 123, 3) := dk_180 0 123 (dk_at dksX1_isBeaten_0 14 rfl rfl)
theorem dX1_isBeaten_17 : decode cX1_isBeaten 17 = .ok (.invokeinterface 181 1, 5) := by decide +kernel
theorem dX1_isBeaten_22 : decode cX1_isBeaten 22 = .ok (.astore 6, 2) := dk_58 6 (dk_at dksX1_isBeaten_0 22 rfl rfl)
theorem dX1_isBeaten_24 : decode cX1_isBeaten 24 = .ok (.aload 6, 2) := dk_25 6 (dk_at dksX1_isBeaten_1 0 rfl rfl)
theorem dX1_isBeaten_26 : decode cX1_isBeaten 26 = .ok (.invokeinterface 185 1, 5) := by decide +kernel
theorem dX1_isBeaten_31 : decode cX1_isBeaten 31 = .ok (.ifCond .eq 110, 3) := dk_153 0 110 (dk_at dksX1_isBeaten_1 7 rfl rfl)
theorem dX1_isBeaten_34 : decode cX1_isBeaten 34 = .ok (.aload 6, 2) := dk_25 6 (dk_at dksX1_isBeaten_1 10 rfl rfl)
theorem dX1_isBeaten_36 : decode cX1_isBeaten 36 = .ok (.invokeinterface 191 1, 5) := by decide +kernel
theorem dX1_isBeaten_41 : decode cX1_isBeaten 41 = .ok (.checkcast 58, 3) := dk_192 0 58 (dk_at dksX1_isBeaten_1 17 rfl rfl)
theorem dX1_isBeaten_44 : decode cX1_isBeaten 44 = .ok (.astore 7, 2) := dk_58 7 (dk_at dksX1_isBeaten_1 20 rfl rfl)
theorem dX1_isBeaten_46 : decode cX1_isBeaten 46 = .ok (.iload 5, 2) := dk_21 5 (dk_at dksX1_isBeaten_1 22 rfl rfl)
theorem dX1_isBeaten_48 : decode cX1_isBeaten 48 = .ok (.ifCond .eq 13, 3) := dk_153 0 13 (dk_at dksX1_isBeaten_2 0 rfl rfl)
theorem dX1_isBeaten_51 : decode cX1_isBeaten 51 = .ok (.aload 7, 2) := dk_25 7 (dk_at dksX1_isBeaten_2 3 rfl rfl)
theorem dX1_isBeaten_53 : decode cX1_isBeaten 53 = .ok (.aload_n 2, 1) := dk_44 (dk_at dksX1_isBeaten_2 5 rfl rfl)
theorem dX1_isBeaten_54 : decode cX1_isBeaten 54 = .ok (.if_acmp .eq 7, 3) := dk_165 0 7 (dk_at dksX1_isBeaten_2 6 rfl rfl)
theorem dX1_isBeaten_57 : decode cX1_isBeaten 57 = .ok (.iconst 1, 1) := dk_4 (dk_at dksX1_isBeaten_2 9 rfl rfl)
theorem dX1_isBeaten_58 : decode cX1_isBeaten 58 = .ok (.goto 4, 3) := dk_167 0 4 (dk_at dksX1_isBeaten_2 10 rfl rfl)
theorem dX1_isBeaten_61 : decode cX1_isBeaten 61 = .ok (.iconst 0, 1) := dk_3 (dk_at dksX1_isBeaten_2 13 rfl rfl)
theorem dX1_isBeaten_62 : decode cX1_isBeaten 62 = .ok (.istore 5, 2) := dk_54 5 (dk_at dksX1_isBeaten_2 14 rfl rfl)
theorem dX1_isBeaten_64 : decode cX1_isBeaten 64 = .ok (.aload 7, 2) := dk_25 7 (dk_at dksX1_isBeaten_2 16 rfl rfl)
theorem dX1_isBeaten_66 : decode cX1_isBeaten 66 = .ok (.aload_n 2, 1) := dk_44 (dk_at dksX1_isBeaten_2 18 rfl rfl)
theorem dX1_isBeaten_67 : decode cX1_isBeaten 67 = .ok (.if_acmp .eq 24, 3) := dk_165 0 24 (dk_at dksX1_isBeaten_2 19 rfl rfl)
theorem dX1_isBeaten_70 : decode cX1_isBeaten 70 = .ok (.aload 7, 2) := dk_25 7 (dk_at dksX1_isBeaten_2 22 rfl rfl)
theorem dX1_isBeaten_72 : decode cX1_isBeaten 72 = .ok (.getfield 98, 3) := dk_180 0 98 (dk_at dksX1_isBeaten_3 0 rfl rfl)
theorem dX1_isBeaten_75 : decode cX1_isBeaten 75 = .ok (.ifCond .ne 16, 3) := dk_154 0 16 (dk_at dksX1_isBeaten_3 3 rfl rfl)
theorem dX1_isBeaten_78 : decode cX1_isBeaten 78 = .ok (.aload 7, 2) := dk_25 7 (dk_at dksX1_isBeaten_3 6 rfl rfl)
theorem dX1_isBeaten_80 : decode cX1_isBeaten 80 = .ok (.aload_n 1, 1) := dk_43 (dk_at dksX1_isBeaten_3 8 rfl rfl)
theorem dX1_isBeaten_81 : decode cX1_isBeaten 81 = .ok (.invokevirtual 218, 3) := dk_182 0 218 (dk_at dksX1_isBeaten_3 9 rfl rfl)
theorem dX1_isBeaten_84 : decode cX1_isBeaten 84 = .ok (.ifCond .eq 7, 3) := dk_153 0 7 (dk_at dksX1_isBeaten_3 12 rfl rfl)
theorem dX1_isBeaten_87 : decode cX1_isBeaten 87 = .ok (.iconst 1, 1) := dk_4 (dk_at dksX1_isBeaten_3 15 rfl rfl)
theorem dX1_isBeaten_88 : decode cX1_isBeaten 88 = .ok (.goto 4, 3) := dk_167 0 4 (dk_at dksX1_isBeaten_3 16 rfl rfl)
theorem dX1_isBeaten_91 : decode cX1_isBeaten 91 = .ok (.iconst 0, 1) := dk_3 (dk_at dksX1_isBeaten_3 19 rfl rfl)
theorem dX1_isBeaten_92 : decode cX1_isBeaten 92 = .ok (.istore 8, 2) := dk_54 8 (dk_at dksX1_isBeaten_3 20 rfl rfl)
theorem dX1_isBeaten_94 : decode cX1_isBeaten 94 = .ok (.iload_n 3, 1) := dk_29 (dk_at dksX1_isBeaten_3 22 rfl rfl)
theorem dX1_isBeaten_95 : decode cX1_isBeaten 95 = .ok (.ifCond .ne 37, 3) := dk_154 0 37 (dk_at dksX1_isBeaten_4 0 rfl rfl)
theorem dX1_isBeaten_98 : decode cX1_isBeaten 98 = .ok (.iload 8, 2) := dk_21 8 (dk_at dksX1_isBeaten_4 3 rfl rfl)
theorem dX1_isBeaten_100 : decode cX1_isBeaten 100 = .ok (.ifCond .eq 36, 3) := dk_153 0 36 (dk_at dksX1_isBeaten_4 5 rfl rfl)
theorem dX1_isBeaten_103 : decode cX1_isBeaten 103 = .ok (.aload_n 0, 1) := dk_42 (dk_at dksX1_isBeaten_4 8 rfl rfl)
theorem dX1_isBeaten_104 : decode cX1_isBeaten 104 = .ok (.aload_n 1, 1) := dk_43 (dk_at dksX1_isBeaten_4 9 rfl rfl)
theorem dX1_isBeaten_105 : decode cX1_isBeaten 105 = .ok (.aload 7, 2) := dk_25 7 (dk_at dksX1_isBeaten_4 10 rfl rfl)
theorem dX1_isBeaten_107 : decode cX1_isBeaten 107 = .ok (.invokevirtual 101, 3) := dk_182 0 101 (dk_at dksX1_isBeaten_4 12 rfl rfl)
theorem dX1_isBeaten_110 : decode cX1_isBeaten 110 = .ok (.iload 4, 2) := dk_21 4 (dk_at dksX1_isBeaten_4 15 rfl rfl)
theorem dX1_isBeaten_112 : decode cX1_isBeaten 112 = .ok (.if_icmp .gt 20, 3) := dk_163 0 20 (dk_at dksX1_isBeaten_4 17 rfl rfl)
theorem dX1_isBeaten_115 : decode cX1_isBeaten 115 = .ok (.aload_n 0, 1) := dk_42 (dk_at dksX1_isBeaten_4 20 rfl rfl)
theorem dX1_isBeaten_116 : decode cX1_isBeaten 116 = .ok (.aload_n 1, 1) := dk_43 (dk_at dksX1_isBeaten_4 21 rfl rfl)
theorem dX1_isBeaten_117 : decode cX1_isBeaten 117 = .ok (.aload 7, 2) := dk_25 7 (dk_at dksX1_isBeaten_4 22 rfl rfl)
theorem dX1_isBeaten_119 : decode cX1_isBeaten 119 = .ok (.invokevirtual 101, 3) := dk_182 0 101 (dk_at dksX1_isBeaten_5 0 rfl rfl)
theorem dX1_isBeaten_122 : decode cX1_isBeaten 122 = .ok (.iload 4, 2) := dk_21 4 (dk_at dksX1_isBeaten_5 3 rfl rfl)
theorem dX1_isBeaten_124 : decode cX1_isBeaten 124 = .ok (.if_icmp .ne 12, 3) := dk_160 0 12 (dk_at dksX1_isBeaten_5 5 rfl rfl)
theorem dX1_isBeaten_127 : decode cX1_isBeaten 127 = .ok (.iload 5, 2) := dk_21 5 (dk_at dksX1_isBeaten_5 8 rfl rfl)
theorem dX1_isBeaten_129 : decode cX1_isBeaten 129 = .ok (.ifCond .eq 7, 3) := dk_153 0 7 (dk_at dksX1_isBeaten_5 10 rfl rfl)
theorem dX1_isBeaten_132 : decode cX1_isBeaten 132 = .ok (.iconst 1, 1) := dk_4 (dk_at dksX1_isBeaten_5 13 rfl rfl)
theorem dX1_isBeaten_133 : decode cX1_isBeaten 133 = .ok (.goto 4, 3) := dk_167 0 4 (dk_at dksX1_isBeaten_5 14 rfl rfl)
theorem dX1_isBeaten_136 : decode cX1_isBeaten 136 = .ok (.iconst 0, 1) := dk_3 (dk_at dksX1_isBeaten_5 17 rfl rfl)
theorem dX1_isBeaten_137 : decode cX1_isBeaten 137 = .ok (.istore_n 3, 1) := dk_62 (dk_at dksX1_isBeaten_5 18 rfl rfl)
theorem dX1_isBeaten_138 : decode cX1_isBeaten 138 = .ok (.goto (-114), 3) := dk_167 255 142 (dk_at dksX1_isBeaten_5 19 rfl rfl)
theorem dX1_isBeaten_141 : decode cX1_isBeaten 141 = .ok (.iload_n 3, 1) := dk_29 (dk_at dksX1_isBeaten_5 22 rfl rfl)
theorem dX1_isBeaten_142 : decode cX1_isBeaten 142 = .ok (.ireturn, 1) := dk_172 (dk_at dksX1_isBeaten_5 23 rfl rfl)
abbrev cX1_extend : ByteArray := prog_1_method_35_code
def yX1_extend : MethodName := ⟨RX1, "extend", "(II)I"⟩
def dkwX1_extend_2 : List UInt8 := [180, 0, 157, 28, 96, 184, 0, 72, 181, 0, 241, 45, 180, 0, 241, 172]
abbrev dktX1_extend_2 : List UInt8 := dkwX1_extend_2 ++ []
def dkwX1_extend_1 : List UInt8 := [45, 180, 0, 51, 16, 7, 159, 0, 7, 4, 167, 0, 4, 3, 184, 0, 150, 45, 45, 180, 0, 241, 42]
abbrev dktX1_extend_1 : List UInt8 := dkwX1_extend_1 ++ dktX1_extend_2
def dkwX1_extend_0 : List UInt8 := [42, 27, 182, 0, 166, 78, 28, 4, 17, 1, 109, 184, 0, 16, 184, 0, 143, 45, 182, 0, 201, 153, 0, 16]
abbrev dktX1_extend_0 : List UInt8 := dkwX1_extend_0 ++ dktX1_extend_1
theorem dksX1_extend_0 : cX1_extend.data.toList.drop 0 = dktX1_extend_0 := by decide +kernel
theorem dksX1_extend_1 : cX1_extend.data.toList.drop 24 = dktX1_extend_1 := dk_seg dksX1_extend_0 24 rfl rfl
theorem dksX1_extend_2 : cX1_extend.data.toList.drop 47 = dktX1_extend_2 := dk_seg dksX1_extend_1 23 rfl rfl
theorem dX1_extend_0 : decode cX1_extend 0 = .ok (.aload_n 0, 1) := dk_42 (dk_at dksX1_extend_0 0 rfl rfl)
theorem dX1_extend_1 : decode cX1_extend 1 = .ok (.iload_n 1, 1) := dk_27 (dk_at dksX1_extend_0 1 rfl rfl)
theorem dX1_extend_2 : decode cX1_extend 2 = .ok (.invokevirtual 166, 3) := dk_182 0 166 (dk_at dksX1_extend_0 2 rfl rfl)
theorem dX1_extend_5 : decode cX1_extend 5 = .ok (.astore_n 3, 1) := dk_78 (dk_at dksX1_extend_0 5 rfl rfl)
theorem dX1_extend_6 : decode cX1_extend 6 = .ok (.iload_n 2, 1) := dk_28 (dk_at dksX1_extend_0 6 rfl rfl)
theorem dX1_extend_7 : decode cX1_extend 7 = .ok (.iconst 1, 1) := dk_4 (dk_at dksX1_extend_0 7 rfl rfl)
theorem dX1_extend_8 : decode cX1_extend 8 = .ok (.sipush 365, 3) := dk_17 1 109 (dk_at dksX1_extend_0 8 rfl rfl)
theorem dX1_extend_11 : decode cX1_extend 11 = .ok (.invokestatic 16, 3) := dk_184 0 16 (dk_at dksX1_extend_0 11 rfl rfl)
theorem dX1_extend_14 : decode cX1_extend 14 = .ok (.invokestatic 143, 3) := dk_184 0 143 (dk_at dksX1_extend_0 14 rfl rfl)
theorem dX1_extend_17 : decode cX1_extend 17 = .ok (.aload_n 3, 1) := dk_45 (dk_at dksX1_extend_0 17 rfl rfl)
theorem dX1_extend_18 : decode cX1_extend 18 = .ok (.invokevirtual 201, 3) := dk_182 0 201 (dk_at dksX1_extend_0 18 rfl rfl)
theorem dX1_extend_21 : decode cX1_extend 21 = .ok (.ifCond .eq 16, 3) := dk_153 0 16 (dk_at dksX1_extend_0 21 rfl rfl)
theorem dX1_extend_24 : decode cX1_extend 24 = .ok (.aload_n 3, 1) := dk_45 (dk_at dksX1_extend_1 0 rfl rfl)
theorem dX1_extend_25 : decode cX1_extend 25 = .ok (.getfield 51, 3) := dk_180 0 51 (dk_at dksX1_extend_1 1 rfl rfl)
theorem dX1_extend_28 : decode cX1_extend 28 = .ok (.bipush 7, 2) := dk_16 7 (dk_at dksX1_extend_1 4 rfl rfl)
theorem dX1_extend_30 : decode cX1_extend 30 = .ok (.if_icmp .eq 7, 3) := dk_159 0 7 (dk_at dksX1_extend_1 6 rfl rfl)
theorem dX1_extend_33 : decode cX1_extend 33 = .ok (.iconst 1, 1) := dk_4 (dk_at dksX1_extend_1 9 rfl rfl)
theorem dX1_extend_34 : decode cX1_extend 34 = .ok (.goto 4, 3) := dk_167 0 4 (dk_at dksX1_extend_1 10 rfl rfl)
theorem dX1_extend_37 : decode cX1_extend 37 = .ok (.iconst 0, 1) := dk_3 (dk_at dksX1_extend_1 13 rfl rfl)
theorem dX1_extend_38 : decode cX1_extend 38 = .ok (.invokestatic 150, 3) := dk_184 0 150 (dk_at dksX1_extend_1 14 rfl rfl)
theorem dX1_extend_41 : decode cX1_extend 41 = .ok (.aload_n 3, 1) := dk_45 (dk_at dksX1_extend_1 17 rfl rfl)
theorem dX1_extend_42 : decode cX1_extend 42 = .ok (.aload_n 3, 1) := dk_45 (dk_at dksX1_extend_1 18 rfl rfl)
theorem dX1_extend_43 : decode cX1_extend 43 = .ok (.getfield 241, 3) := dk_180 0 241 (dk_at dksX1_extend_1 19 rfl rfl)
theorem dX1_extend_46 : decode cX1_extend 46 = .ok (.aload_n 0, 1) := dk_42 (dk_at dksX1_extend_1 22 rfl rfl)
theorem dX1_extend_47 : decode cX1_extend 47 = .ok (.getfield 157, 3) := dk_180 0 157 (dk_at dksX1_extend_2 0 rfl rfl)
theorem dX1_extend_50 : decode cX1_extend 50 = .ok (.iload_n 2, 1) := dk_28 (dk_at dksX1_extend_2 3 rfl rfl)
theorem dX1_extend_51 : decode cX1_extend 51 = .ok (.iadd, 1) := dk_96 (dk_at dksX1_extend_2 4 rfl rfl)
theorem dX1_extend_52 : decode cX1_extend 52 = .ok (.invokestatic 72, 3) := dk_184 0 72 (dk_at dksX1_extend_2 5 rfl rfl)
theorem dX1_extend_55 : decode cX1_extend 55 = .ok (.putfield 241, 3) := dk_181 0 241 (dk_at dksX1_extend_2 8 rfl rfl)
theorem dX1_extend_58 : decode cX1_extend 58 = .ok (.aload_n 3, 1) := dk_45 (dk_at dksX1_extend_2 11 rfl rfl)
theorem dX1_extend_59 : decode cX1_extend 59 = .ok (.getfield 241, 3) := dk_180 0 241 (dk_at dksX1_extend_2 12 rfl rfl)
theorem dX1_extend_62 : decode cX1_extend 62 = .ok (.ireturn, 1) := dk_172 (dk_at dksX1_extend_2 15 rfl rfl)
abbrev cX1_sell : ByteArray := prog_1_method_36_code
def yX1_sell : MethodName := ⟨RX1, "sell", "(II)I"⟩
def dkwX1_sell_3 : List UInt8 := [181, 0, 253, 42, 180, 0, 253, 172]
abbrev dktX1_sell_3 : List UInt8 := dkwX1_sell_3 ++ []
def dkwX1_sell_2 : List UInt8 := [181, 0, 170, 45, 28, 181, 0, 247, 45, 42, 180, 0, 157, 181, 0, 250, 42, 89, 180, 0, 253, 28, 96]
abbrev dktX1_sell_2 : List UInt8 := dkwX1_sell_2 ++ dktX1_sell_3
def dkwX1_sell_1 : List UInt8 := [153, 0, 16, 45, 180, 0, 51, 16, 7, 159, 0, 7, 4, 167, 0, 4, 3, 184, 0, 150, 45, 7]
abbrev dktX1_sell_1 : List UInt8 := dkwX1_sell_1 ++ dktX1_sell_2
def dkwX1_sell_0 : List UInt8 := [42, 27, 182, 0, 166, 78, 28, 4, 17, 39, 15, 184, 0, 16, 184, 0, 143, 42, 45, 182, 0, 244]
abbrev dktX1_sell_0 : List UInt8 := dkwX1_sell_0 ++ dktX1_sell_1
theorem dksX1_sell_0 : cX1_sell.data.toList.drop 0 = dktX1_sell_0 := by decide +kernel
theorem dksX1_sell_1 : cX1_sell.data.toList.drop 22 = dktX1_sell_1 := dk_seg dksX1_sell_0 22 rfl rfl
theorem dksX1_sell_2 : cX1_sell.data.toList.drop 44 = dktX1_sell_2 := dk_seg dksX1_sell_1 22 rfl rfl
theorem dksX1_sell_3 : cX1_sell.data.toList.drop 67 = dktX1_sell_3 := dk_seg dksX1_sell_2 23 rfl rfl
theorem dX1_sell_0 : decode cX1_sell 0 = .ok (.aload_n 0, 1) := dk_42 (dk_at dksX1_sell_0 0 rfl rfl)
theorem dX1_sell_1 : decode cX1_sell 1 = .ok (.iload_n 1, 1) := dk_27 (dk_at dksX1_sell_0 1 rfl rfl)
theorem dX1_sell_2 : decode cX1_sell 2 = .ok (.invokevirtual 166, 3) := dk_182 0 166 (dk_at dksX1_sell_0 2 rfl rfl)
theorem dX1_sell_5 : decode cX1_sell 5 = .ok (.astore_n 3, 1) := dk_78 (dk_at dksX1_sell_0 5 rfl rfl)
theorem dX1_sell_6 : decode cX1_sell 6 = .ok (.iload_n 2, 1) := dk_28 (dk_at dksX1_sell_0 6 rfl rfl)
theorem dX1_sell_7 : decode cX1_sell 7 = .ok (.iconst 1, 1) := dk_4 (dk_at dksX1_sell_0 7 rfl rfl)
theorem dX1_sell_8 : decode cX1_sell 8 = .ok (.sipush 9999, 3) := dk_17 39 15 (dk_at dksX1_sell_0 8 rfl rfl)
theorem dX1_sell_11 : decode cX1_sell 11 = .ok (.invokestatic 16, 3) := dk_184 0 16 (dk_at dksX1_sell_0 11 rfl rfl)
theorem dX1_sell_14 : decode cX1_sell 14 = .ok (.invokestatic 143, 3) := dk_184 0 143 (dk_at dksX1_sell_0 14 rfl rfl)
theorem dX1_sell_17 : decode cX1_sell 17 = .ok (.aload_n 0, 1) := dk_42 (dk_at dksX1_sell_0 17 rfl rfl)
theorem dX1_sell_18 : decode cX1_sell 18 = .ok (.aload_n 3, 1) := dk_45 (dk_at dksX1_sell_0 18 rfl rfl)
theorem dX1_sell_19 : decode cX1_sell 19 = .ok (.invokevirtual 244, 3) := dk_182 0 244 (dk_at dksX1_sell_0 19 rfl rfl)
theorem dX1_sell_22 : decode cX1_sell 22 = .ok (.ifCond .eq 16, 3) := dk_153 0 16 (dk_at dksX1_sell_1 0 rfl rfl)
theorem dX1_sell_25 : decode cX1_sell 25 = .ok (.aload_n 3, 1) := dk_45 (dk_at dksX1_sell_1 3 rfl rfl)
theorem dX1_sell_26 : decode cX1_sell 26 = .ok (.getfield 51, 3) := dk_180 0 51 (dk_at dksX1_sell_1 4 rfl rfl)
theorem dX1_sell_29 : decode cX1_sell 29 = .ok (.bipush 7, 2) := dk_16 7 (dk_at dksX1_sell_1 7 rfl rfl)
theorem dX1_sell_31 : decode cX1_sell 31 = .ok (.if_icmp .eq 7, 3) := dk_159 0 7 (dk_at dksX1_sell_1 9 rfl rfl)
theorem dX1_sell_34 : decode cX1_sell 34 = .ok (.iconst 1, 1) := dk_4 (dk_at dksX1_sell_1 12 rfl rfl)
theorem dX1_sell_35 : decode cX1_sell 35 = .ok (.goto 4, 3) := dk_167 0 4 (dk_at dksX1_sell_1 13 rfl rfl)
theorem dX1_sell_38 : decode cX1_sell 38 = .ok (.iconst 0, 1) := dk_3 (dk_at dksX1_sell_1 16 rfl rfl)
theorem dX1_sell_39 : decode cX1_sell 39 = .ok (.invokestatic 150, 3) := dk_184 0 150 (dk_at dksX1_sell_1 17 rfl rfl)
theorem dX1_sell_42 : decode cX1_sell 42 = .ok (.aload_n 3, 1) := dk_45 (dk_at dksX1_sell_1 20 rfl rfl)
theorem dX1_sell_43 : decode cX1_sell 43 = .ok (.iconst 4, 1) := dk_7 (dk_at dksX1_sell_1 21 rfl rfl)
theorem dX1_sell_44 : decode cX1_sell 44 = .ok (.putfield 170, 3) := dk_181 0 170 (dk_at dksX1_sell_2 0 rfl rfl)
theorem dX1_sell_47 : decode cX1_sell 47 = .ok (.aload_n 3, 1) := dk_45 (dk_at dksX1_sell_2 3 rfl rfl)
theorem dX1_sell_48 : decode cX1_sell 48 = .ok (.iload_n 2, 1) := dk_28 (dk_at dksX1_sell_2 4 rfl rfl)
theorem dX1_sell_49 : decode cX1_sell 49 = .ok (.putfield 247, 3) := dk_181 0 247 (dk_at dksX1_sell_2 5 rfl rfl)
theorem dX1_sell_52 : decode cX1_sell 52 = .ok (.aload_n 3, 1) := dk_45 (dk_at dksX1_sell_2 8 rfl rfl)
theorem dX1_sell_53 : decode cX1_sell 53 = .ok (.aload_n 0, 1) := dk_42 (dk_at dksX1_sell_2 9 rfl rfl)
theorem dX1_sell_54 : decode cX1_sell 54 = .ok (.getfield 157, 3) := dk_180 0 157 (dk_at dksX1_sell_2 10 rfl rfl)
theorem dX1_sell_57 : decode cX1_sell 57 = .ok (.putfield 250, 3) := dk_181 0 250 (dk_at dksX1_sell_2 13 rfl rfl)
theorem dX1_sell_60 : decode cX1_sell 60 = .ok (.aload_n 0, 1) := dk_42 (dk_at dksX1_sell_2 16 rfl rfl)
theorem dX1_sell_61 : decode cX1_sell 61 = .ok (.dup, 1) := dk_89 (dk_at dksX1_sell_2 17 rfl rfl)
theorem dX1_sell_62 : decode cX1_sell 62 = .ok (.getfield 253, 3) := dk_180 0 253 (dk_at dksX1_sell_2 18 rfl rfl)
theorem dX1_sell_65 : decode cX1_sell 65 = .ok (.iload_n 2, 1) := dk_28 (dk_at dksX1_sell_2 21 rfl rfl)
theorem dX1_sell_66 : decode cX1_sell 66 = .ok (.iadd, 1) := dk_96 (dk_at dksX1_sell_2 22 rfl rfl)
theorem dX1_sell_67 : decode cX1_sell 67 = .ok (.putfield 253, 3) := dk_181 0 253 (dk_at dksX1_sell_3 0 rfl rfl)
theorem dX1_sell_70 : decode cX1_sell 70 = .ok (.aload_n 0, 1) := dk_42 (dk_at dksX1_sell_3 3 rfl rfl)
theorem dX1_sell_71 : decode cX1_sell 71 = .ok (.getfield 253, 3) := dk_180 0 253 (dk_at dksX1_sell_3 4 rfl rfl)
theorem dX1_sell_74 : decode cX1_sell 74 = .ok (.ireturn, 1) := dk_172 (dk_at dksX1_sell_3 7 rfl rfl)
abbrev cX1_isOver : ByteArray := prog_1_method_34_code
def yX1_isOver : MethodName := ⟨RX1, "isOver", "(LLostroom$Find;)Z"⟩
def dkwX1_isOver_3 : List UInt8 := [43, 25, 4, 182, 0, 222, 154, 0, 7, 4, 167, 0, 4, 3, 61, 167, 255, 216, 28, 172]
abbrev dktX1_isOver_3 : List UInt8 := dkwX1_isOver_3 ++ []
def dkwX1_isOver_2 : List UInt8 := [185, 0, 185, 1, 0, 153, 0, 37, 45, 185, 0, 191, 1, 0, 192, 0, 58, 58, 4, 28, 153, 0, 17, 42]
abbrev dktX1_isOver_2 : List UInt8 := dkwX1_isOver_2 ++ dktX1_isOver_3
def dkwX1_isOver_1 : List UInt8 := [154, 0, 7, 4, 167, 0, 4, 3, 61, 42, 180, 0, 123, 185, 0, 181, 1, 0, 78, 45]
abbrev dktX1_isOver_1 : List UInt8 := dkwX1_isOver_1 ++ dktX1_isOver_2
def dkwX1_isOver_0 : List UInt8 := [43, 180, 0, 170, 154, 0, 25, 42, 180, 0, 157, 43, 180, 0, 241, 164, 0, 14, 43, 180, 0, 204]
abbrev dktX1_isOver_0 : List UInt8 := dkwX1_isOver_0 ++ dktX1_isOver_1
theorem dksX1_isOver_0 : cX1_isOver.data.toList.drop 0 = dktX1_isOver_0 := by decide +kernel
theorem dksX1_isOver_1 : cX1_isOver.data.toList.drop 22 = dktX1_isOver_1 := dk_seg dksX1_isOver_0 22 rfl rfl
theorem dksX1_isOver_2 : cX1_isOver.data.toList.drop 42 = dktX1_isOver_2 := dk_seg dksX1_isOver_1 20 rfl rfl
theorem dksX1_isOver_3 : cX1_isOver.data.toList.drop 66 = dktX1_isOver_3 := dk_seg dksX1_isOver_2 24 rfl rfl
theorem dX1_isOver_0 : decode cX1_isOver 0 = .ok (.aload_n 1, 1) := dk_43 (dk_at dksX1_isOver_0 0 rfl rfl)
theorem dX1_isOver_1 : decode cX1_isOver 1 = .ok (.getfield 170, 3) := dk_180 0 170 (dk_at dksX1_isOver_0 1 rfl rfl)
theorem dX1_isOver_4 : decode cX1_isOver 4 = .ok (.ifCond .ne 25, 3) := dk_154 0 25 (dk_at dksX1_isOver_0 4 rfl rfl)
theorem dX1_isOver_7 : decode cX1_isOver 7 = .ok (.aload_n 0, 1) := dk_42 (dk_at dksX1_isOver_0 7 rfl rfl)
theorem dX1_isOver_8 : decode cX1_isOver 8 = .ok (.getfield 157, 3) := dk_180 0 157 (dk_at dksX1_isOver_0 8 rfl rfl)
theorem dX1_isOver_11 : decode cX1_isOver 11 = .ok (.aload_n 1, 1) := dk_43 (dk_at dksX1_isOver_0 11 rfl rfl)
theorem dX1_isOver_12 : decode cX1_isOver 12 = .ok (.getfield 241, 3) := dk_180 0 241 (dk_at dksX1_isOver_0 12 rfl rfl)
theorem dX1_isOver_15 : decode cX1_isOver 15 = .ok (.if_icmp .le 14, 3) := dk_164 0 14 (dk_at dksX1_isOver_0 15 rfl rfl)
theorem dX1_isOver_18 : decode cX1_isOver 18 = .ok (.aload_n 1, 1) := dk_43 (dk_at dksX1_isOver_0 18 rfl rfl)
theorem dX1_isOver_19 : decode cX1_isOver 19 = .ok (.getfield 204, 3) := dk_180 0 204 (dk_at dksX1_isOver_0 19 rfl rfl)
theorem dX1_isOver_22 : decode cX1_isOver 22 = .ok (.ifCond .ne 7, 3) := dk_154 0 7 (dk_at dksX1_isOver_1 0 rfl rfl)
theorem dX1_isOver_25 : decode cX1_isOver 25 = .ok (.iconst 1, 1) := dk_4 (dk_at dksX1_isOver_1 3 rfl rfl)
theorem dX1_isOver_26 : decode cX1_isOver 26 = .ok (.goto 4, 3) := dk_167 0 4 (dk_at dksX1_isOver_1 4 rfl rfl)
theorem dX1_isOver_29 : decode cX1_isOver 29 = .ok (.iconst 0, 1) := dk_3 (dk_at dksX1_isOver_1 7 rfl rfl)
theorem dX1_isOver_30 : decode cX1_isOver 30 = .ok (.istore_n 2, 1) := dk_61 (dk_at dksX1_isOver_1 8 rfl rfl)
theorem dX1_isOver_31 : decode cX1_isOver 31 = .ok (.aload_n 0, 1) := dk_42 (dk_at dksX1_isOver_1 9 rfl rfl)
theorem dX1_isOver_32 : decode cX1_isOver 32 = .ok (.getfield 123, 3) := dk_180 0 123 (dk_at dksX1_isOver_1 10 rfl rfl)
theorem dX1_isOver_35 : decode cX1_isOver 35 = .ok (.invokeinterface 181 1, 5) := by decide +kernel
theorem dX1_isOver_40 : decode cX1_isOver 40 = .ok (.astore_n 3, 1) := dk_78 (dk_at dksX1_isOver_1 18 rfl rfl)
theorem dX1_isOver_41 : decode cX1_isOver 41 = .ok (.aload_n 3, 1) := dk_45 (dk_at dksX1_isOver_1 19 rfl rfl)
theorem dX1_isOver_42 : decode cX1_isOver 42 = .ok (.invokeinterface 185 1, 5) := by decide +kernel
theorem dX1_isOver_47 : decode cX1_isOver 47 = .ok (.ifCond .eq 37, 3) := dk_153 0 37 (dk_at dksX1_isOver_2 5 rfl rfl)
theorem dX1_isOver_50 : decode cX1_isOver 50 = .ok (.aload_n 3, 1) := dk_45 (dk_at dksX1_isOver_2 8 rfl rfl)
theorem dX1_isOver_51 : decode cX1_isOver 51 = .ok (.invokeinterface 191 1, 5) := by decide +kernel
theorem dX1_isOver_56 : decode cX1_isOver 56 = .ok (.checkcast 58, 3) := dk_192 0 58 (dk_at dksX1_isOver_2 14 rfl rfl)
theorem dX1_isOver_59 : decode cX1_isOver 59 = .ok (.astore 4, 2) := dk_58 4 (dk_at dksX1_isOver_2 17 rfl rfl)
theorem dX1_isOver_61 : decode cX1_isOver 61 = .ok (.iload_n 2, 1) := dk_28 (dk_at dksX1_isOver_2 19 rfl rfl)
theorem dX1_isOver_62 : decode cX1_isOver 62 = .ok (.ifCond .eq 17, 3) := dk_153 0 17 (dk_at dksX1_isOver_2 20 rfl rfl)
theorem dX1_isOver_65 : decode cX1_isOver 65 = .ok (.aload_n 0, 1) := dk_42 (dk_at dksX1_isOver_2 23 rfl rfl)
theorem dX1_isOver_66 : decode cX1_isOver 66 = .ok (.aload_n 1, 1) := dk_43 (dk_at dksX1_isOver_3 0 rfl rfl)
theorem dX1_isOver_67 : decode cX1_isOver 67 = .ok (.aload 4, 2) := dk_25 4 (dk_at dksX1_isOver_3 1 rfl rfl)
theorem dX1_isOver_69 : decode cX1_isOver 69 = .ok (.invokevirtual 222, 3) := dk_182 0 222 (dk_at dksX1_isOver_3 3 rfl rfl)
theorem dX1_isOver_72 : decode cX1_isOver 72 = .ok (.ifCond .ne 7, 3) := dk_154 0 7 (dk_at dksX1_isOver_3 6 rfl rfl)
theorem dX1_isOver_75 : decode cX1_isOver 75 = .ok (.iconst 1, 1) := dk_4 (dk_at dksX1_isOver_3 9 rfl rfl)
theorem dX1_isOver_76 : decode cX1_isOver 76 = .ok (.goto 4, 3) := dk_167 0 4 (dk_at dksX1_isOver_3 10 rfl rfl)
theorem dX1_isOver_79 : decode cX1_isOver 79 = .ok (.iconst 0, 1) := dk_3 (dk_at dksX1_isOver_3 13 rfl rfl)
theorem dX1_isOver_80 : decode cX1_isOver 80 = .ok (.istore_n 2, 1) := dk_61 (dk_at dksX1_isOver_3 14 rfl rfl)
theorem dX1_isOver_81 : decode cX1_isOver 81 = .ok (.goto (-40), 3) := dk_167 255 216 (dk_at dksX1_isOver_3 15 rfl rfl)
theorem dX1_isOver_84 : decode cX1_isOver 84 = .ok (.iload_n 2, 1) := dk_28 (dk_at dksX1_isOver_3 18 rfl rfl)
theorem dX1_isOver_85 : decode cX1_isOver 85 = .ok (.ireturn, 1) := dk_172 (dk_at dksX1_isOver_3 19 rfl rfl)
abbrev cX1_destroy : ByteArray := prog_1_method_37_code
def yX1_destroy : MethodName := ⟨RX1, "destroy", "(I)I"⟩
def dkwX1_destroy_0 : List UInt8 := [42, 27, 182, 0, 166, 77, 42, 44, 182, 0, 244, 184, 0, 150, 44, 8, 181, 0, 170, 44, 180, 0, 175, 172]
abbrev dktX1_destroy_0 : List UInt8 := dkwX1_destroy_0 ++ []
theorem dksX1_destroy_0 : cX1_destroy.data.toList.drop 0 = dktX1_destroy_0 := by decide +kernel
theorem dX1_destroy_0 : decode cX1_destroy 0 = .ok (.aload_n 0, 1) := dk_42 (dk_at dksX1_destroy_0 0 rfl rfl)
theorem dX1_destroy_1 : decode cX1_destroy 1 = .ok (.iload_n 1, 1) := dk_27 (dk_at dksX1_destroy_0 1 rfl rfl)
theorem dX1_destroy_2 : decode cX1_destroy 2 = .ok (.invokevirtual 166, 3) := dk_182 0 166 (dk_at dksX1_destroy_0 2 rfl rfl)
theorem dX1_destroy_5 : decode cX1_destroy 5 = .ok (.astore_n 2, 1) := dk_77 (dk_at dksX1_destroy_0 5 rfl rfl)
theorem dX1_destroy_6 : decode cX1_destroy 6 = .ok (.aload_n 0, 1) := dk_42 (dk_at dksX1_destroy_0 6 rfl rfl)
theorem dX1_destroy_7 : decode cX1_destroy 7 = .ok (.aload_n 2, 1) := dk_44 (dk_at dksX1_destroy_0 7 rfl rfl)
theorem dX1_destroy_8 : decode cX1_destroy 8 = .ok (.invokevirtual 244, 3) := dk_182 0 244 (dk_at dksX1_destroy_0 8 rfl rfl)
theorem dX1_destroy_11 : decode cX1_destroy 11 = .ok (.invokestatic 150, 3) := dk_184 0 150 (dk_at dksX1_destroy_0 11 rfl rfl)
theorem dX1_destroy_14 : decode cX1_destroy 14 = .ok (.aload_n 2, 1) := dk_44 (dk_at dksX1_destroy_0 14 rfl rfl)
theorem dX1_destroy_15 : decode cX1_destroy 15 = .ok (.iconst 5, 1) := dk_8 (dk_at dksX1_destroy_0 15 rfl rfl)
theorem dX1_destroy_16 : decode cX1_destroy 16 = .ok (.putfield 170, 3) := dk_181 0 170 (dk_at dksX1_destroy_0 16 rfl rfl)
theorem dX1_destroy_19 : decode cX1_destroy 19 = .ok (.aload_n 2, 1) := dk_44 (dk_at dksX1_destroy_0 19 rfl rfl)
theorem dX1_destroy_20 : decode cX1_destroy 20 = .ok (.getfield 175, 3) := dk_180 0 175 (dk_at dksX1_destroy_0 20 rfl rfl)
theorem dX1_destroy_23 : decode cX1_destroy 23 = .ok (.ireturn, 1) := dk_172 (dk_at dksX1_destroy_0 23 rfl rfl)
abbrev cX1_payOut : ByteArray := prog_1_method_38_code
def yX1_payOut : MethodName := ⟨RX1, "payOut", "(II)I"⟩
def dkwX1_payOut_5 : List UInt8 := [180, 0, 253, 45, 180, 0, 247, 100, 181, 0, 253, 45, 180, 0, 247, 21, 5, 100, 172]
abbrev dktX1_payOut_5 : List UInt8 := dkwX1_payOut_5 ++ []
def dkwX1_payOut_4 : List UInt8 := [181, 0, 232, 25, 4, 4, 182, 0, 215, 42, 89, 180, 0, 235, 21, 5, 96, 181, 0, 235, 42, 89]
abbrev dktX1_payOut_4 : List UInt8 := dkwX1_payOut_4 ++ dktX1_payOut_5
def dkwX1_payOut_3 : List UInt8 := [184, 0, 150, 8, 45, 180, 0, 247, 184, 1, 0, 54, 5, 45, 16, 6, 181, 0, 170, 25, 4, 27]
abbrev dktX1_payOut_3 : List UInt8 := dkwX1_payOut_3 ++ dktX1_payOut_4
def dkwX1_payOut_2 : List UInt8 := [25, 4, 45, 182, 0, 218, 153, 0, 17, 42, 45, 25, 4, 182, 0, 226, 154, 0, 7, 4, 167, 0, 4, 3]
abbrev dktX1_payOut_2 : List UInt8 := dkwX1_payOut_2 ++ dktX1_payOut_3
def dkwX1_payOut_1 : List UInt8 := [180, 0, 157, 45, 180, 0, 250, 100, 17, 1, 109, 163, 0, 36, 42, 45, 25, 4, 182, 0, 222, 153, 0, 26]
abbrev dktX1_payOut_1 : List UInt8 := dkwX1_payOut_1 ++ dktX1_payOut_2
def dkwX1_payOut_0 : List UInt8 := [42, 27, 182, 0, 166, 78, 42, 28, 182, 0, 211, 58, 4, 45, 180, 0, 170, 7, 160, 0, 51, 42]
abbrev dktX1_payOut_0 : List UInt8 := dkwX1_payOut_0 ++ dktX1_payOut_1
theorem dksX1_payOut_0 : cX1_payOut.data.toList.drop 0 = dktX1_payOut_0 := by decide +kernel
theorem dksX1_payOut_1 : cX1_payOut.data.toList.drop 22 = dktX1_payOut_1 := dk_seg dksX1_payOut_0 22 rfl rfl
theorem dksX1_payOut_2 : cX1_payOut.data.toList.drop 46 = dktX1_payOut_2 := dk_seg dksX1_payOut_1 24 rfl rfl
theorem dksX1_payOut_3 : cX1_payOut.data.toList.drop 70 = dktX1_payOut_3 := dk_seg dksX1_payOut_2 24 rfl rfl
theorem dksX1_payOut_4 : cX1_payOut.data.toList.drop 92 = dktX1_payOut_4 := dk_seg dksX1_payOut_3 22 rfl rfl
theorem dksX1_payOut_5 : cX1_payOut.data.toList.drop 114 = dktX1_payOut_5 := dk_seg dksX1_payOut_4 22 rfl rfl
theorem dX1_payOut_0 : decode cX1_payOut 0 = .ok (.aload_n 0, 1) := dk_42 (dk_at dksX1_payOut_0 0 rfl rfl)
theorem dX1_payOut_1 : decode cX1_payOut 1 = .ok (.iload_n 1, 1) := dk_27 (dk_at dksX1_payOut_0 1 rfl rfl)
theorem dX1_payOut_2 : decode cX1_payOut 2 = .ok (.invokevirtual 166, 3) := dk_182 0 166 (dk_at dksX1_payOut_0 2 rfl rfl)
theorem dX1_payOut_5 : decode cX1_payOut 5 = .ok (.astore_n 3, 1) := dk_78 (dk_at dksX1_payOut_0 5 rfl rfl)
theorem dX1_payOut_6 : decode cX1_payOut 6 = .ok (.aload_n 0, 1) := dk_42 (dk_at dksX1_payOut_0 6 rfl rfl)
theorem dX1_payOut_7 : decode cX1_payOut 7 = .ok (.iload_n 2, 1) := dk_28 (dk_at dksX1_payOut_0 7 rfl rfl)
theorem dX1_payOut_8 : decode cX1_payOut 8 = .ok (.invokevirtual 211, 3) := dk_182 0 211 (dk_at dksX1_payOut_0 8 rfl rfl)
theorem dX1_payOut_11 : decode cX1_payOut 11 = .ok (.astore 4, 2) := dk_58 4 (dk_at dksX1_payOut_0 11 rfl rfl)
theorem dX1_payOut_13 : decode cX1_payOut 13 = .ok (.aload_n 3, 1) := dk_45 (dk_at dksX1_payOut_0 13 rfl rfl)
theorem dX1_payOut_14 : decode cX1_payOut 14 = .ok (.getfield 170, 3) := dk_180 0 170 (dk_at dksX1_payOut_0 14 rfl rfl)
theorem dX1_payOut_17 : decode cX1_payOut 17 = .ok (.iconst 4, 1) := dk_7 (dk_at dksX1_payOut_0 17 rfl rfl)
theorem dX1_payOut_18 : decode cX1_payOut 18 = .ok (.if_icmp .ne 51, 3) := dk_160 0 51 (dk_at dksX1_payOut_0 18 rfl rfl)
theorem dX1_payOut_21 : decode cX1_payOut 21 = .ok (.aload_n 0, 1) := dk_42 (dk_at dksX1_payOut_0 21 rfl rfl)
theorem dX1_payOut_22 : decode cX1_payOut 22 = .ok (.getfield 157, 3) := dk_180 0 157 (dk_at dksX1_payOut_1 0 rfl rfl)
theorem dX1_payOut_25 : decode cX1_payOut 25 = .ok (.aload_n 3, 1) := dk_45 (dk_at dksX1_payOut_1 3 rfl rfl)
theorem dX1_payOut_26 : decode cX1_payOut 26 = .ok (.getfield 250, 3) := dk_180 0 250 (dk_at dksX1_payOut_1 4 rfl rfl)
theorem dX1_payOut_29 : decode cX1_payOut 29 = .ok (.isub, 1) := dk_100 (dk_at dksX1_payOut_1 7 rfl rfl)
theorem dX1_payOut_30 : decode cX1_payOut 30 = .ok (.sipush 365, 3) := dk_17 1 109 (dk_at dksX1_payOut_1 8 rfl rfl)
theorem dX1_payOut_33 : decode cX1_payOut 33 = .ok (.if_icmp .gt 36, 3) := dk_163 0 36 (dk_at dksX1_payOut_1 11 rfl rfl)
theorem dX1_payOut_36 : decode cX1_payOut 36 = .ok (.aload_n 0, 1) := dk_42 (dk_at dksX1_payOut_1 14 rfl rfl)
theorem dX1_payOut_37 : decode cX1_payOut 37 = .ok (.aload_n 3, 1) := dk_45 (dk_at dksX1_payOut_1 15 rfl rfl)
theorem dX1_payOut_38 : decode cX1_payOut 38 = .ok (.aload 4, 2) := dk_25 4 (dk_at dksX1_payOut_1 16 rfl rfl)
theorem dX1_payOut_40 : decode cX1_payOut 40 = .ok (.invokevirtual 222, 3) := dk_182 0 222 (dk_at dksX1_payOut_1 18 rfl rfl)
theorem dX1_payOut_43 : decode cX1_payOut 43 = .ok (.ifCond .eq 26, 3) := dk_153 0 26 (dk_at dksX1_payOut_1 21 rfl rfl)
theorem dX1_payOut_46 : decode cX1_payOut 46 = .ok (.aload 4, 2) := dk_25 4 (dk_at dksX1_payOut_2 0 rfl rfl)
theorem dX1_payOut_48 : decode cX1_payOut 48 = .ok (.aload_n 3, 1) := dk_45 (dk_at dksX1_payOut_2 2 rfl rfl)
theorem dX1_payOut_49 : decode cX1_payOut 49 = .ok (.invokevirtual 218, 3) := dk_182 0 218 (dk_at dksX1_payOut_2 3 rfl rfl)
theorem dX1_payOut_52 : decode cX1_payOut 52 = .ok (.ifCond .eq 17, 3) := dk_153 0 17 (dk_at dksX1_payOut_2 6 rfl rfl)
theorem dX1_payOut_55 : decode cX1_payOut 55 = .ok (.aload_n 0, 1) := dk_42 (dk_at dksX1_payOut_2 9 rfl rfl)
theorem dX1_payOut_56 : decode cX1_payOut 56 = .ok (.aload_n 3, 1) := dk_45 (dk_at dksX1_payOut_2 10 rfl rfl)
theorem dX1_payOut_57 : decode cX1_payOut 57 = .ok (.aload 4, 2) := dk_25 4 (dk_at dksX1_payOut_2 11 rfl rfl)
theorem dX1_payOut_59 : decode cX1_payOut 59 = .ok (.invokevirtual 226, 3) := dk_182 0 226 (dk_at dksX1_payOut_2 13 rfl rfl)
theorem dX1_payOut_62 : decode cX1_payOut 62 = .ok (.ifCond .ne 7, 3) := dk_154 0 7 (dk_at dksX1_payOut_2 16 rfl rfl)
theorem dX1_payOut_65 : decode cX1_payOut 65 = .ok (.iconst 1, 1) := dk_4 (dk_at dksX1_payOut_2 19 rfl rfl)
theorem dX1_payOut_66 : decode cX1_payOut 66 = .ok (.goto 4, 3) := dk_167 0 4 (dk_at dksX1_payOut_2 20 rfl rfl)
theorem dX1_payOut_69 : decode cX1_payOut 69 = .ok (.iconst 0, 1) := dk_3 (dk_at dksX1_payOut_2 23 rfl rfl)
theorem dX1_payOut_70 : decode cX1_payOut 70 = .ok (.invokestatic 150, 3) := dk_184 0 150 (dk_at dksX1_payOut_3 0 rfl rfl)
theorem dX1_payOut_73 : decode cX1_payOut 73 = .ok (.iconst 5, 1) := dk_8 (dk_at dksX1_payOut_3 3 rfl rfl)
theorem dX1_payOut_74 : decode cX1_payOut 74 = .ok (.aload_n 3, 1) := dk_45 (dk_at dksX1_payOut_3 4 rfl rfl)
theorem dX1_payOut_75 : decode cX1_payOut 75 = .ok (.getfield 247, 3) := dk_180 0 247 (dk_at dksX1_payOut_3 5 rfl rfl)
theorem dX1_payOut_78 : decode cX1_payOut 78 = .ok (.invokestatic 256, 3) := dk_184 1 0 (dk_at dksX1_payOut_3 8 rfl rfl)
theorem dX1_payOut_81 : decode cX1_payOut 81 = .ok (.istore 5, 2) := dk_54 5 (dk_at dksX1_payOut_3 11 rfl rfl)
theorem dX1_payOut_83 : decode cX1_payOut 83 = .ok (.aload_n 3, 1) := dk_45 (dk_at dksX1_payOut_3 13 rfl rfl)
theorem dX1_payOut_84 : decode cX1_payOut 84 = .ok (.bipush 6, 2) := dk_16 6 (dk_at dksX1_payOut_3 14 rfl rfl)
theorem dX1_payOut_86 : decode cX1_payOut 86 = .ok (.putfield 170, 3) := dk_181 0 170 (dk_at dksX1_payOut_3 16 rfl rfl)
theorem dX1_payOut_89 : decode cX1_payOut 89 = .ok (.aload 4, 2) := dk_25 4 (dk_at dksX1_payOut_3 19 rfl rfl)
theorem dX1_payOut_91 : decode cX1_payOut 91 = .ok (.iload_n 1, 1) := dk_27 (dk_at dksX1_payOut_3 21 rfl rfl)
theorem dX1_payOut_92 : decode cX1_payOut 92 = .ok (.putfield 232, 3) := dk_181 0 232 (dk_at dksX1_payOut_4 0 rfl rfl)
theorem dX1_payOut_95 : decode cX1_payOut 95 = .ok (.aload 4, 2) := dk_25 4 (dk_at dksX1_payOut_4 3 rfl rfl)
theorem dX1_payOut_97 : decode cX1_payOut 97 = .ok (.iconst 1, 1) := dk_4 (dk_at dksX1_payOut_4 5 rfl rfl)
theorem dX1_payOut_98 : decode cX1_payOut 98 = .ok (.invokevirtual 215, 3) := dk_182 0 215 (dk_at dksX1_payOut_4 6 rfl rfl)
theorem dX1_payOut_101 : decode cX1_payOut 101 = .ok (.aload_n 0, 1) := dk_42 (dk_at dksX1_payOut_4 9 rfl rfl)
theorem dX1_payOut_102 : decode cX1_payOut 102 = .ok (.dup, 1) := dk_89 (dk_at dksX1_payOut_4 10 rfl rfl)
theorem dX1_payOut_103 : decode cX1_payOut 103 = .ok (.getfield 235, 3) := dk_180 0 235 (dk_at dksX1_payOut_4 11 rfl rfl)
theorem dX1_payOut_106 : decode cX1_payOut 106 = .ok (.iload 5, 2) := dk_21 5 (dk_at dksX1_payOut_4 14 rfl rfl)
theorem dX1_payOut_108 : decode cX1_payOut 108 = .ok (.iadd, 1) := dk_96 (dk_at dksX1_payOut_4 16 rfl rfl)
theorem dX1_payOut_109 : decode cX1_payOut 109 = .ok (.putfield 235, 3) := dk_181 0 235 (dk_at dksX1_payOut_4 17 rfl rfl)
theorem dX1_payOut_112 : decode cX1_payOut 112 = .ok (.aload_n 0, 1) := dk_42 (dk_at dksX1_payOut_4 20 rfl rfl)
theorem dX1_payOut_113 : decode cX1_payOut 113 = .ok (.dup, 1) := dk_89 (dk_at dksX1_payOut_4 21 rfl rfl)
theorem dX1_payOut_114 : decode cX1_payOut 114 = .ok (.getfield 253, 3) := dk_180 0 253 (dk_at dksX1_payOut_5 0 rfl rfl)
theorem dX1_payOut_117 : decode cX1_payOut 117 = .ok (.aload_n 3, 1) := dk_45 (dk_at dksX1_payOut_5 3 rfl rfl)
theorem dX1_payOut_118 : decode cX1_payOut 118 = .ok (.getfield 247, 3) := dk_180 0 247 (dk_at dksX1_payOut_5 4 rfl rfl)
theorem dX1_payOut_121 : decode cX1_payOut 121 = .ok (.isub, 1) := dk_100 (dk_at dksX1_payOut_5 7 rfl rfl)
theorem dX1_payOut_122 : decode cX1_payOut 122 = .ok (.putfield 253, 3) := dk_181 0 253 (dk_at dksX1_payOut_5 8 rfl rfl)
theorem dX1_payOut_125 : decode cX1_payOut 125 = .ok (.aload_n 3, 1) := dk_45 (dk_at dksX1_payOut_5 11 rfl rfl)
theorem dX1_payOut_126 : decode cX1_payOut 126 = .ok (.getfield 247, 3) := dk_180 0 247 (dk_at dksX1_payOut_5 12 rfl rfl)
theorem dX1_payOut_129 : decode cX1_payOut 129 = .ok (.iload 5, 2) := dk_21 5 (dk_at dksX1_payOut_5 15 rfl rfl)
theorem dX1_payOut_131 : decode cX1_payOut 131 = .ok (.isub, 1) := dk_100 (dk_at dksX1_payOut_5 17 rfl rfl)
theorem dX1_payOut_132 : decode cX1_payOut 132 = .ok (.ireturn, 1) := dk_172 (dk_at dksX1_payOut_5 18 rfl rfl)
abbrev cX1_pass : ByteArray := prog_1_method_39_code
def yX1_pass : MethodName := ⟨RX1, "pass", "(I)I"⟩
def dkwX1_pass_8 : List UInt8 := [25, 4, 3, 181, 0, 92, 167, 255, 185, 132, 2, 1, 167, 255, 90, 42, 180, 0, 157, 172]
abbrev dktX1_pass_8 : List UInt8 := dkwX1_pass_8 ++ []
def dkwX1_pass_7 : List UInt8 := [25, 4, 180, 1, 3, 100, 16, 90, 160, 0, 21, 25, 4, 6, 181, 0, 98, 25, 4, 3, 181, 0, 85]
abbrev dktX1_pass_7 : List UInt8 := dkwX1_pass_7 ++ dktX1_pass_8
def dkwX1_pass_6 : List UInt8 := [58, 4, 25, 4, 180, 0, 98, 4, 159, 0, 12, 25, 4, 180, 0, 98, 5, 160, 0, 36, 42, 180, 0, 157]
abbrev dktX1_pass_6 : List UInt8 := dkwX1_pass_6 ++ dktX1_pass_7
def dkwX1_pass_5 : List UInt8 := [185, 0, 181, 1, 0, 78, 45, 185, 0, 185, 1, 0, 153, 0, 68, 45, 185, 0, 191, 1, 0, 192, 0, 58]
abbrev dktX1_pass_5 : List UInt8 := dkwX1_pass_5 ++ dktX1_pass_6
def dkwX1_pass_4 : List UInt8 := [42, 180, 0, 157, 160, 0, 13, 25, 4, 25, 4, 180, 0, 175, 182, 0, 195, 167, 255, 205, 42, 180, 0, 123]
abbrev dktX1_pass_4 : List UInt8 := dkwX1_pass_4 ++ dktX1_pass_5
def dkwX1_pass_3 : List UInt8 := [185, 0, 191, 1, 0, 192, 0, 52, 58, 4, 25, 4, 180, 0, 170, 4, 160, 0, 25, 25, 4, 180, 0, 178]
abbrev dktX1_pass_3 : List UInt8 := dkwX1_pass_3 ++ dktX1_pass_4
def dkwX1_pass_2 : List UInt8 := [42, 180, 0, 120, 185, 0, 181, 1, 0, 78, 45, 185, 0, 185, 1, 0, 153, 0, 48, 45]
abbrev dktX1_pass_2 : List UInt8 := dkwX1_pass_2 ++ dktX1_pass_3
def dkwX1_pass_1 : List UInt8 := [167, 0, 4, 3, 184, 0, 150, 3, 61, 28, 27, 162, 0, 167, 42, 89, 180, 0, 157, 4, 96, 181, 0, 157]
abbrev dktX1_pass_1 : List UInt8 := dkwX1_pass_1 ++ dktX1_pass_2
def dkwX1_pass_0 : List UInt8 := [27, 4, 17, 1, 144, 184, 0, 16, 184, 0, 143, 42, 180, 0, 157, 27, 96, 17, 39, 15, 163, 0, 7, 4]
abbrev dktX1_pass_0 : List UInt8 := dkwX1_pass_0 ++ dktX1_pass_1
theorem dksX1_pass_0 : cX1_pass.data.toList.drop 0 = dktX1_pass_0 := by decide +kernel
theorem dksX1_pass_1 : cX1_pass.data.toList.drop 24 = dktX1_pass_1 := dk_seg dksX1_pass_0 24 rfl rfl
theorem dksX1_pass_2 : cX1_pass.data.toList.drop 48 = dktX1_pass_2 := dk_seg dksX1_pass_1 24 rfl rfl
theorem dksX1_pass_3 : cX1_pass.data.toList.drop 68 = dktX1_pass_3 := dk_seg dksX1_pass_2 20 rfl rfl
theorem dksX1_pass_4 : cX1_pass.data.toList.drop 92 = dktX1_pass_4 := dk_seg dksX1_pass_3 24 rfl rfl
theorem dksX1_pass_5 : cX1_pass.data.toList.drop 116 = dktX1_pass_5 := dk_seg dksX1_pass_4 24 rfl rfl
theorem dksX1_pass_6 : cX1_pass.data.toList.drop 140 = dktX1_pass_6 := dk_seg dksX1_pass_5 24 rfl rfl
theorem dksX1_pass_7 : cX1_pass.data.toList.drop 164 = dktX1_pass_7 := dk_seg dksX1_pass_6 24 rfl rfl
theorem dksX1_pass_8 : cX1_pass.data.toList.drop 187 = dktX1_pass_8 := dk_seg dksX1_pass_7 23 rfl rfl
theorem dX1_pass_0 : decode cX1_pass 0 = .ok (.iload_n 1, 1) := dk_27 (dk_at dksX1_pass_0 0 rfl rfl)
theorem dX1_pass_1 : decode cX1_pass 1 = .ok (.iconst 1, 1) := dk_4 (dk_at dksX1_pass_0 1 rfl rfl)
theorem dX1_pass_2 : decode cX1_pass 2 = .ok (.sipush 400, 3) := dk_17 1 144 (dk_at dksX1_pass_0 2 rfl rfl)
theorem dX1_pass_5 : decode cX1_pass 5 = .ok (.invokestatic 16, 3) := dk_184 0 16 (dk_at dksX1_pass_0 5 rfl rfl)
theorem dX1_pass_8 : decode cX1_pass 8 = .ok (.invokestatic 143, 3) := dk_184 0 143 (dk_at dksX1_pass_0 8 rfl rfl)
theorem dX1_pass_11 : decode cX1_pass 11 = .ok (.aload_n 0, 1) := dk_42 (dk_at dksX1_pass_0 11 rfl rfl)
theorem dX1_pass_12 : decode cX1_pass 12 = .ok (.getfield 157, 3) := dk_180 0 157 (dk_at dksX1_pass_0 12 rfl rfl)
theorem dX1_pass_15 : decode cX1_pass 15 = .ok (.iload_n 1, 1) := dk_27 (dk_at dksX1_pass_0 15 rfl rfl)
theorem dX1_pass_16 : decode cX1_pass 16 = .ok (.iadd, 1) := dk_96 (dk_at dksX1_pass_0 16 rfl rfl)
theorem dX1_pass_17 : decode cX1_pass 17 = .ok (.sipush 9999, 3) := dk_17 39 15 (dk_at dksX1_pass_0 17 rfl rfl)
theorem dX1_pass_20 : decode cX1_pass 20 = .ok (.if_icmp .gt 7, 3) := dk_163 0 7 (dk_at dksX1_pass_0 20 rfl rfl)
theorem dX1_pass_23 : decode cX1_pass 23 = .ok (.iconst 1, 1) := dk_4 (dk_at dksX1_pass_0 23 rfl rfl)
theorem dX1_pass_24 : decode cX1_pass 24 = .ok (.goto 4, 3) := dk_167 0 4 (dk_at dksX1_pass_1 0 rfl rfl)
theorem dX1_pass_27 : decode cX1_pass 27 = .ok (.iconst 0, 1) := dk_3 (dk_at dksX1_pass_1 3 rfl rfl)
theorem dX1_pass_28 : decode cX1_pass 28 = .ok (.invokestatic 150, 3) := dk_184 0 150 (dk_at dksX1_pass_1 4 rfl rfl)
theorem dX1_pass_31 : decode cX1_pass 31 = .ok (.iconst 0, 1) := dk_3 (dk_at dksX1_pass_1 7 rfl rfl)
theorem dX1_pass_32 : decode cX1_pass 32 = .ok (.istore_n 2, 1) := dk_61 (dk_at dksX1_pass_1 8 rfl rfl)
theorem dX1_pass_33 : decode cX1_pass 33 = .ok (.iload_n 2, 1) := dk_28 (dk_at dksX1_pass_1 9 rfl rfl)
theorem dX1_pass_34 : decode cX1_pass 34 = .ok (.iload_n 1, 1) := dk_27 (dk_at dksX1_pass_1 10 rfl rfl)
theorem dX1_pass_35 : decode cX1_pass 35 = .ok (.if_icmp .ge 167, 3) := dk_162 0 167 (dk_at dksX1_pass_1 11 rfl rfl)
theorem dX1_pass_38 : decode cX1_pass 38 = .ok (.aload_n 0, 1) := dk_42 (dk_at dksX1_pass_1 14 rfl rfl)
theorem dX1_pass_39 : decode cX1_pass 39 = .ok (.dup, 1) := dk_89 (dk_at dksX1_pass_1 15 rfl rfl)
theorem dX1_pass_40 : decode cX1_pass 40 = .ok (.getfield 157, 3) := dk_180 0 157 (dk_at dksX1_pass_1 16 rfl rfl)
theorem dX1_pass_43 : decode cX1_pass 43 = .ok (.iconst 1, 1) := dk_4 (dk_at dksX1_pass_1 19 rfl rfl)
theorem dX1_pass_44 : decode cX1_pass 44 = .ok (.iadd, 1) := dk_96 (dk_at dksX1_pass_1 20 rfl rfl)
theorem dX1_pass_45 : decode cX1_pass 45 = .ok (.putfield 157, 3) := dk_181 0 157 (dk_at dksX1_pass_1 21 rfl rfl)
theorem dX1_pass_48 : decode cX1_pass 48 = .ok (.aload_n 0, 1) := dk_42 (dk_at dksX1_pass_2 0 rfl rfl)
theorem dX1_pass_49 : decode cX1_pass 49 = .ok (.getfield 120, 3) := dk_180 0 120 (dk_at dksX1_pass_2 1 rfl rfl)
theorem dX1_pass_52 : decode cX1_pass 52 = .ok (.invokeinterface 181 1, 5) := by decide +kernel
theorem dX1_pass_57 : decode cX1_pass 57 = .ok (.astore_n 3, 1) := dk_78 (dk_at dksX1_pass_2 9 rfl rfl)
theorem dX1_pass_58 : decode cX1_pass 58 = .ok (.aload_n 3, 1) := dk_45 (dk_at dksX1_pass_2 10 rfl rfl)
theorem dX1_pass_59 : decode cX1_pass 59 = .ok (.invokeinterface 185 1, 5) := by decide +kernel
theorem dX1_pass_64 : decode cX1_pass 64 = .ok (.ifCond .eq 48, 3) := dk_153 0 48 (dk_at dksX1_pass_2 16 rfl rfl)
theorem dX1_pass_67 : decode cX1_pass 67 = .ok (.aload_n 3, 1) := dk_45 (dk_at dksX1_pass_2 19 rfl rfl)
theorem dX1_pass_68 : decode cX1_pass 68 = .ok (.invokeinterface 191 1, 5) := by decide +kernel
theorem dX1_pass_73 : decode cX1_pass 73 = .ok (.checkcast 52, 3) := dk_192 0 52 (dk_at dksX1_pass_3 5 rfl rfl)
theorem dX1_pass_76 : decode cX1_pass 76 = .ok (.astore 4, 2) := dk_58 4 (dk_at dksX1_pass_3 8 rfl rfl)
theorem dX1_pass_78 : decode cX1_pass 78 = .ok (.aload 4, 2) := dk_25 4 (dk_at dksX1_pass_3 10 rfl rfl)
theorem dX1_pass_80 : decode cX1_pass 80 = .ok (.getfield 170, 3) := dk_180 0 170 (dk_at dksX1_pass_3 12 rfl rfl)
theorem dX1_pass_83 : decode cX1_pass 83 = .ok (.iconst 1, 1) := dk_4 (dk_at dksX1_pass_3 15 rfl rfl)
theorem dX1_pass_84 : decode cX1_pass 84 = .ok (.if_icmp .ne 25, 3) := dk_160 0 25 (dk_at dksX1_pass_3 16 rfl rfl)
theorem dX1_pass_87 : decode cX1_pass 87 = .ok (.aload 4, 2) := dk_25 4 (dk_at dksX1_pass_3 19 rfl rfl)
theorem dX1_pass_89 : decode cX1_pass 89 = .ok (.getfield 178, 3) := dk_180 0 178 (dk_at dksX1_pass_3 21 rfl rfl)
theorem dX1_pass_92 : decode cX1_pass 92 = .ok (.aload_n 0, 1) := dk_42 (dk_at dksX1_pass_4 0 rfl rfl)
theorem dX1_pass_93 : decode cX1_pass 93 = .ok (.getfield 157, 3) := dk_180 0 157 (dk_at dksX1_pass_4 1 rfl rfl)
theorem dX1_pass_96 : decode cX1_pass 96 = .ok (.if_icmp .ne 13, 3) := dk_160 0 13 (dk_at dksX1_pass_4 4 rfl rfl)
theorem dX1_pass_99 : decode cX1_pass 99 = .ok (.aload 4, 2) := dk_25 4 (dk_at dksX1_pass_4 7 rfl rfl)
theorem dX1_pass_101 : decode cX1_pass 101 = .ok (.aload 4, 2) := dk_25 4 (dk_at dksX1_pass_4 9 rfl rfl)
theorem dX1_pass_103 : decode cX1_pass 103 = .ok (.getfield 175, 3) := dk_180 0 175 (dk_at dksX1_pass_4 11 rfl rfl)
theorem dX1_pass_106 : decode cX1_pass 106 = .ok (.invokevirtual 195, 3) := dk_182 0 195 (dk_at dksX1_pass_4 14 rfl rfl)
theorem dX1_pass_109 : decode cX1_pass 109 = .ok (.goto (-51), 3) := dk_167 255 205 (dk_at dksX1_pass_4 17 rfl rfl)
theorem dX1_pass_112 : decode cX1_pass 112 = .ok (.aload_n 0, 1) := dk_42 (dk_at dksX1_pass_4 20 rfl rfl)
theorem dX1_pass_113 : decode cX1_pass 113 = .ok (.getfield 123, 3) := dk_180 0 123 (dk_at dksX1_pass_4 21 rfl rfl)
theorem dX1_pass_116 : decode cX1_pass 116 = .ok (.invokeinterface 181 1, 5) := by decide +kernel
theorem dX1_pass_121 : decode cX1_pass 121 = .ok (.astore_n 3, 1) := dk_78 (dk_at dksX1_pass_5 5 rfl rfl)
theorem dX1_pass_122 : decode cX1_pass 122 = .ok (.aload_n 3, 1) := dk_45 (dk_at dksX1_pass_5 6 rfl rfl)
theorem dX1_pass_123 : decode cX1_pass 123 = .ok (.invokeinterface 185 1, 5) := by decide +kernel
theorem dX1_pass_128 : decode cX1_pass 128 = .ok (.ifCond .eq 68, 3) := dk_153 0 68 (dk_at dksX1_pass_5 12 rfl rfl)
theorem dX1_pass_131 : decode cX1_pass 131 = .ok (.aload_n 3, 1) := dk_45 (dk_at dksX1_pass_5 15 rfl rfl)
theorem dX1_pass_132 : decode cX1_pass 132 = .ok (.invokeinterface 191 1, 5) := by decide +kernel
theorem dX1_pass_137 : decode cX1_pass 137 = .ok (.checkcast 58, 3) := dk_192 0 58 (dk_at dksX1_pass_5 21 rfl rfl)
theorem dX1_pass_140 : decode cX1_pass 140 = .ok (.astore 4, 2) := dk_58 4 (dk_at dksX1_pass_6 0 rfl rfl)
theorem dX1_pass_142 : decode cX1_pass 142 = .ok (.aload 4, 2) := dk_25 4 (dk_at dksX1_pass_6 2 rfl rfl)
theorem dX1_pass_144 : decode cX1_pass 144 = .ok (.getfield 98, 3) := dk_180 0 98 (dk_at dksX1_pass_6 4 rfl rfl)
theorem dX1_pass_147 : decode cX1_pass 147 = .ok (.iconst 1, 1) := dk_4 (dk_at dksX1_pass_6 7 rfl rfl)
theorem dX1_pass_148 : decode cX1_pass 148 = .ok (.if_icmp .eq 12, 3) := dk_159 0 12 (dk_at dksX1_pass_6 8 rfl rfl)
theorem dX1_pass_151 : decode cX1_pass 151 = .ok (.aload 4, 2) := dk_25 4 (dk_at dksX1_pass_6 11 rfl rfl)
theorem dX1_pass_153 : decode cX1_pass 153 = .ok (.getfield 98, 3) := dk_180 0 98 (dk_at dksX1_pass_6 13 rfl rfl)
theorem dX1_pass_156 : decode cX1_pass 156 = .ok (.iconst 2, 1) := dk_5 (dk_at dksX1_pass_6 16 rfl rfl)
theorem dX1_pass_157 : decode cX1_pass 157 = .ok (.if_icmp .ne 36, 3) := dk_160 0 36 (dk_at dksX1_pass_6 17 rfl rfl)
theorem dX1_pass_160 : decode cX1_pass 160 = .ok (.aload_n 0, 1) := dk_42 (dk_at dksX1_pass_6 20 rfl rfl)
theorem dX1_pass_161 : decode cX1_pass 161 = .ok (.getfield 157, 3) := dk_180 0 157 (dk_at dksX1_pass_6 21 rfl rfl)
theorem dX1_pass_164 : decode cX1_pass 164 = .ok (.aload 4, 2) := dk_25 4 (dk_at dksX1_pass_7 0 rfl rfl)
theorem dX1_pass_166 : decode cX1_pass 166 = .ok (.getfield 259, 3) := dk_180 1 3 (dk_at dksX1_pass_7 2 rfl rfl)
theorem dX1_pass_169 : decode cX1_pass 169 = .ok (.isub, 1) := dk_100 (dk_at dksX1_pass_7 5 rfl rfl)
theorem dX1_pass_170 : decode cX1_pass 170 = .ok (.bipush 90, 2) := dk_16 90 (dk_at dksX1_pass_7 6 rfl rfl)
theorem dX1_pass_172 : decode cX1_pass 172 = .ok (.if_icmp .ne 21, 3) := dk_160 0 21 (dk_at dksX1_pass_7 8 rfl rfl)
theorem dX1_pass_175 : decode cX1_pass 175 = .ok (.aload 4, 2) := dk_25 4 (dk_at dksX1_pass_7 11 rfl rfl)
theorem dX1_pass_177 : decode cX1_pass 177 = .ok (.iconst 3, 1) := dk_6 (dk_at dksX1_pass_7 13 rfl rfl)
theorem dX1_pass_178 : decode cX1_pass 178 = .ok (.putfield 98, 3) := dk_181 0 98 (dk_at dksX1_pass_7 14 rfl rfl)
theorem dX1_pass_181 : decode cX1_pass 181 = .ok (.aload 4, 2) := dk_25 4 (dk_at dksX1_pass_7 17 rfl rfl)
theorem dX1_pass_183 : decode cX1_pass 183 = .ok (.iconst 0, 1) := dk_3 (dk_at dksX1_pass_7 19 rfl rfl)
theorem dX1_pass_184 : decode cX1_pass 184 = .ok (.putfield 85, 3) := dk_181 0 85 (dk_at dksX1_pass_7 20 rfl rfl)
theorem dX1_pass_187 : decode cX1_pass 187 = .ok (.aload 4, 2) := dk_25 4 (dk_at dksX1_pass_8 0 rfl rfl)
theorem dX1_pass_189 : decode cX1_pass 189 = .ok (.iconst 0, 1) := dk_3 (dk_at dksX1_pass_8 2 rfl rfl)
theorem dX1_pass_190 : decode cX1_pass 190 = .ok (.putfield 92, 3) := dk_181 0 92 (dk_at dksX1_pass_8 3 rfl rfl)
theorem dX1_pass_193 : decode cX1_pass 193 = .ok (.goto (-71), 3) := dk_167 255 185 (dk_at dksX1_pass_8 6 rfl rfl)
theorem dX1_pass_196 : decode cX1_pass 196 = .ok (.iinc 2 1, 3) := dk_132 2 1 (dk_at dksX1_pass_8 9 rfl rfl)
theorem dX1_pass_199 : decode cX1_pass 199 = .ok (.goto (-166), 3) := dk_167 255 90 (dk_at dksX1_pass_8 12 rfl rfl)
theorem dX1_pass_202 : decode cX1_pass 202 = .ok (.aload_n 0, 1) := dk_42 (dk_at dksX1_pass_8 15 rfl rfl)
theorem dX1_pass_203 : decode cX1_pass 203 = .ok (.getfield 157, 3) := dk_180 0 157 (dk_at dksX1_pass_8 16 rfl rfl)
theorem dX1_pass_206 : decode cX1_pass 206 = .ok (.ireturn, 1) := dk_172 (dk_at dksX1_pass_8 19 rfl rfl)
abbrev cX1_fit : ByteArray := prog_1_method_41_code
def yX1_fit : MethodName := ⟨RX1, "fit", "(II)I"⟩
def dkwX1_fit_0 : List UInt8 := [42, 27, 182, 0, 166, 78, 42, 45, 42, 28, 182, 0, 211, 182, 0, 101, 172]
abbrev dktX1_fit_0 : List UInt8 := dkwX1_fit_0 ++ []
theorem dksX1_fit_0 : cX1_fit.data.toList.drop 0 = dktX1_fit_0 := by decide +kernel
theorem dX1_fit_0 : decode cX1_fit 0 = .ok (.aload_n 0, 1) := dk_42 (dk_at dksX1_fit_0 0 rfl rfl)
theorem dX1_fit_1 : decode cX1_fit 1 = .ok (.iload_n 1, 1) := dk_27 (dk_at dksX1_fit_0 1 rfl rfl)
theorem dX1_fit_2 : decode cX1_fit 2 = .ok (.invokevirtual 166, 3) := dk_182 0 166 (dk_at dksX1_fit_0 2 rfl rfl)
theorem dX1_fit_5 : decode cX1_fit 5 = .ok (.astore_n 3, 1) := dk_78 (dk_at dksX1_fit_0 5 rfl rfl)
theorem dX1_fit_6 : decode cX1_fit 6 = .ok (.aload_n 0, 1) := dk_42 (dk_at dksX1_fit_0 6 rfl rfl)
theorem dX1_fit_7 : decode cX1_fit 7 = .ok (.aload_n 3, 1) := dk_45 (dk_at dksX1_fit_0 7 rfl rfl)
theorem dX1_fit_8 : decode cX1_fit 8 = .ok (.aload_n 0, 1) := dk_42 (dk_at dksX1_fit_0 8 rfl rfl)
theorem dX1_fit_9 : decode cX1_fit 9 = .ok (.iload_n 2, 1) := dk_28 (dk_at dksX1_fit_0 9 rfl rfl)
theorem dX1_fit_10 : decode cX1_fit 10 = .ok (.invokevirtual 211, 3) := dk_182 0 211 (dk_at dksX1_fit_0 10 rfl rfl)
theorem dX1_fit_13 : decode cX1_fit 13 = .ok (.invokevirtual 101, 3) := dk_182 0 101 (dk_at dksX1_fit_0 13 rfl rfl)
theorem dX1_fit_16 : decode cX1_fit 16 = .ok (.ireturn, 1) := dk_172 (dk_at dksX1_fit_0 16 rfl rfl)
abbrev cX1_candidate : ByteArray := prog_1_method_43_code
def yX1_candidate : MethodName := ⟨RX1, "candidate", "(II)I"⟩
def dkwX1_candidate_7 : List UInt8 := [21, 5, 172]
abbrev dktX1_candidate_7 : List UInt8 := dkwX1_candidate_7 ++ []
def dkwX1_candidate_6 : List UInt8 := [160, 0, 8, 21, 4, 167, 0, 9, 4, 21, 5, 120, 2, 130, 126, 54, 4, 132, 6, 1, 167, 255, 126]
abbrev dktX1_candidate_6 : List UInt8 := dkwX1_candidate_6 ++ dktX1_candidate_7
def dkwX1_candidate_5 : List UInt8 := [164, 0, 8, 21, 7, 167, 0, 5, 21, 5, 54, 5, 132, 7, 1, 167, 255, 173, 21, 4, 21, 5, 2]
abbrev dktX1_candidate_5 : List UInt8 := dkwX1_candidate_5 ++ dktX1_candidate_6
def dkwX1_candidate_4 : List UInt8 := [45, 182, 0, 101, 42, 42, 180, 0, 120, 21, 5, 185, 0, 24, 2, 0, 192, 0, 52, 45, 182, 0, 101]
abbrev dktX1_candidate_4 : List UInt8 := dkwX1_candidate_4 ++ dktX1_candidate_5
def dkwX1_candidate_3 : List UInt8 := [153, 0, 55, 21, 5, 2, 159, 0, 44, 42, 42, 180, 0, 120, 21, 7, 185, 0, 24, 2, 0, 192, 0, 52]
abbrev dktX1_candidate_3 : List UInt8 := dkwX1_candidate_3 ++ dktX1_candidate_4
def dkwX1_candidate_2 : List UInt8 := [3, 54, 7, 21, 7, 42, 180, 0, 120, 185, 0, 135, 1, 0, 162, 0, 75, 21, 4, 21, 7, 184, 0, 44]
abbrev dktX1_candidate_2 : List UInt8 := dkwX1_candidate_2 ++ dktX1_candidate_3
def dkwX1_candidate_1 : List UInt8 := [54, 4, 2, 54, 5, 3, 54, 6, 21, 6, 28, 163, 0, 130, 21, 6, 16, 30, 163, 0, 123, 2, 54, 5]
abbrev dktX1_candidate_1 : List UInt8 := dkwX1_candidate_1 ++ dktX1_candidate_2
def dkwX1_candidate_0 : List UInt8 := [42, 27, 182, 0, 211, 78, 28, 155, 0, 7, 4, 167, 0, 4, 3, 184, 0, 139, 42, 45, 182, 1, 6]
abbrev dktX1_candidate_0 : List UInt8 := dkwX1_candidate_0 ++ dktX1_candidate_1
theorem dksX1_candidate_0 : cX1_candidate.data.toList.drop 0 = dktX1_candidate_0 := by decide +kernel
theorem dksX1_candidate_1 : cX1_candidate.data.toList.drop 23 = dktX1_candidate_1 := dk_seg dksX1_candidate_0 23 rfl rfl
theorem dksX1_candidate_2 : cX1_candidate.data.toList.drop 47 = dktX1_candidate_2 := dk_seg dksX1_candidate_1 24 rfl rfl
theorem dksX1_candidate_3 : cX1_candidate.data.toList.drop 71 = dktX1_candidate_3 := dk_seg dksX1_candidate_2 24 rfl rfl
theorem dksX1_candidate_4 : cX1_candidate.data.toList.drop 95 = dktX1_candidate_4 := dk_seg dksX1_candidate_3 24 rfl rfl
theorem dksX1_candidate_5 : cX1_candidate.data.toList.drop 118 = dktX1_candidate_5 := dk_seg dksX1_candidate_4 23 rfl rfl
theorem dksX1_candidate_6 : cX1_candidate.data.toList.drop 141 = dktX1_candidate_6 := dk_seg dksX1_candidate_5 23 rfl rfl
theorem dksX1_candidate_7 : cX1_candidate.data.toList.drop 164 = dktX1_candidate_7 := dk_seg dksX1_candidate_6 23 rfl rfl
theorem dX1_candidate_0 : decode cX1_candidate 0 = .ok (.aload_n 0, 1) := dk_42 (dk_at dksX1_candidate_0 0 rfl rfl)
theorem dX1_candidate_1 : decode cX1_candidate 1 = .ok (.iload_n 1, 1) := dk_27 (dk_at dksX1_candidate_0 1 rfl rfl)
theorem dX1_candidate_2 : decode cX1_candidate 2 = .ok (.invokevirtual 211, 3) := dk_182 0 211 (dk_at dksX1_candidate_0 2 rfl rfl)
theorem dX1_candidate_5 : decode cX1_candidate 5 = .ok (.astore_n 3, 1) := dk_78 (dk_at dksX1_candidate_0 5 rfl rfl)
theorem dX1_candidate_6 : decode cX1_candidate 6 = .ok (.iload_n 2, 1) := dk_28 (dk_at dksX1_candidate_0 6 rfl rfl)
theorem dX1_candidate_7 : decode cX1_candidate 7 = .ok (.ifCond .lt 7, 3) := dk_155 0 7 (dk_at dksX1_candidate_0 7 rfl rfl)
theorem dX1_candidate_10 : decode cX1_candidate 10 = .ok (.iconst 1, 1) := dk_4 (dk_at dksX1_candidate_0 10 rfl rfl)
theorem dX1_candidate_11 : decode cX1_candidate 11 = .ok (.goto 4, 3) := dk_167 0 4 (dk_at dksX1_candidate_0 11 rfl rfl)
theorem dX1_candidate_14 : decode cX1_candidate 14 = .ok (.iconst 0, 1) := dk_3 (dk_at dksX1_candidate_0 14 rfl rfl)
theorem dX1_candidate_15 : decode cX1_candidate 15 = .ok (.invokestatic 139, 3) := dk_184 0 139 (dk_at dksX1_candidate_0 15 rfl rfl)
theorem dX1_candidate_18 : decode cX1_candidate 18 = .ok (.aload_n 0, 1) := dk_42 (dk_at dksX1_candidate_0 18 rfl rfl)
theorem dX1_candidate_19 : decode cX1_candidate 19 = .ok (.aload_n 3, 1) := dk_45 (dk_at dksX1_candidate_0 19 rfl rfl)
theorem dX1_candidate_20 : decode cX1_candidate 20 = .ok (.invokevirtual 262, 3) := dk_182 1 6 (dk_at dksX1_candidate_0 20 rfl rfl)
theorem dX1_candidate_23 : decode cX1_candidate 23 = .ok (.istore 4, 2) := dk_54 4 (dk_at dksX1_candidate_1 0 rfl rfl)
theorem dX1_candidate_25 : decode cX1_candidate 25 = .ok (.iconst (-1), 1) := dk_2 (dk_at dksX1_candidate_1 2 rfl rfl)
theorem dX1_candidate_26 : decode cX1_candidate 26 = .ok (.istore 5, 2) := dk_54 5 (dk_at dksX1_candidate_1 3 rfl rfl)
theorem dX1_candidate_28 : decode cX1_candidate 28 = .ok (.iconst 0, 1) := dk_3 (dk_at dksX1_candidate_1 5 rfl rfl)
theorem dX1_candidate_29 : decode cX1_candidate 29 = .ok (.istore 6, 2) := dk_54 6 (dk_at dksX1_candidate_1 6 rfl rfl)
theorem dX1_candidate_31 : decode cX1_candidate 31 = .ok (.iload 6, 2) := dk_21 6 (dk_at dksX1_candidate_1 8 rfl rfl)
theorem dX1_candidate_33 : decode cX1_candidate 33 = .ok (.iload_n 2, 1) := dk_28 (dk_at dksX1_candidate_1 10 rfl rfl)
theorem dX1_candidate_34 : decode cX1_candidate 34 = .ok (.if_icmp .gt 130, 3) := dk_163 0 130 (dk_at dksX1_candidate_1 11 rfl rfl)
theorem dX1_candidate_37 : decode cX1_candidate 37 = .ok (.iload 6, 2) := dk_21 6 (dk_at dksX1_candidate_1 14 rfl rfl)
theorem dX1_candidate_39 : decode cX1_candidate 39 = .ok (.bipush 30, 2) := dk_16 30 (dk_at dksX1_candidate_1 16 rfl rfl)
theorem dX1_candidate_41 : decode cX1_candidate 41 = .ok (.if_icmp .gt 123, 3) := dk_163 0 123 (dk_at dksX1_candidate_1 18 rfl rfl)
theorem dX1_candidate_44 : decode cX1_candidate 44 = .ok (.iconst (-1), 1) := dk_2 (dk_at dksX1_candidate_1 21 rfl rfl)
theorem dX1_candidate_45 : decode cX1_candidate 45 = .ok (.istore 5, 2) := dk_54 5 (dk_at dksX1_candidate_1 22 rfl rfl)
theorem dX1_candidate_47 : decode cX1_candidate 47 = .ok (.iconst 0, 1) := dk_3 (dk_at dksX1_candidate_2 0 rfl rfl)
theorem dX1_candidate_48 : decode cX1_candidate 48 = .ok (.istore 7, 2) := dk_54 7 (dk_at dksX1_candidate_2 1 rfl rfl)
theorem dX1_candidate_50 : decode cX1_candidate 50 = .ok (.iload 7, 2) := dk_21 7 (dk_at dksX1_candidate_2 3 rfl rfl)
theorem dX1_candidate_52 : decode cX1_candidate 52 = .ok (.aload_n 0, 1) := dk_42 (dk_at dksX1_candidate_2 5 rfl rfl)
theorem dX1_candidate_53 : decode cX1_candidate 53 = .ok (.getfield 120, 3) := dk_180 0 120 (dk_at dksX1_candidate_2 6 rfl rfl)
theorem dX1_candidate_56 : decode cX1_candidate 56 = .ok (.invokeinterface 135 1, 5) := by decide +kernel
theorem dX1_candidate_61 : decode cX1_candidate 61 = .ok (.if_icmp .ge 75, 3) := dk_162 0 75 (dk_at dksX1_candidate_2 14 rfl rfl)
theorem dX1_candidate_64 : decode cX1_candidate 64 = .ok (.iload 4, 2) := dk_21 4 (dk_at dksX1_candidate_2 17 rfl rfl)
theorem dX1_candidate_66 : decode cX1_candidate 66 = .ok (.iload 7, 2) := dk_21 7 (dk_at dksX1_candidate_2 19 rfl rfl)
theorem dX1_candidate_68 : decode cX1_candidate 68 = .ok (.invokestatic 44, 3) := dk_184 0 44 (dk_at dksX1_candidate_2 21 rfl rfl)
theorem dX1_candidate_71 : decode cX1_candidate 71 = .ok (.ifCond .eq 55, 3) := dk_153 0 55 (dk_at dksX1_candidate_3 0 rfl rfl)
theorem dX1_candidate_74 : decode cX1_candidate 74 = .ok (.iload 5, 2) := dk_21 5 (dk_at dksX1_candidate_3 3 rfl rfl)
theorem dX1_candidate_76 : decode cX1_candidate 76 = .ok (.iconst (-1), 1) := dk_2 (dk_at dksX1_candidate_3 5 rfl rfl)
theorem dX1_candidate_77 : decode cX1_candidate 77 = .ok (.if_icmp .eq 44, 3) := dk_159 0 44 (dk_at dksX1_candidate_3 6 rfl rfl)
theorem dX1_candidate_80 : decode cX1_candidate 80 = .ok (.aload_n 0, 1) := dk_42 (dk_at dksX1_candidate_3 9 rfl rfl)
theorem dX1_candidate_81 : decode cX1_candidate 81 = .ok (.aload_n 0, 1) := dk_42 (dk_at dksX1_candidate_3 10 rfl rfl)
theorem dX1_candidate_82 : decode cX1_candidate 82 = .ok (.getfield 120, 3) := dk_180 0 120 (dk_at dksX1_candidate_3 11 rfl rfl)
theorem dX1_candidate_85 : decode cX1_candidate 85 = .ok (.iload 7, 2) := dk_21 7 (dk_at dksX1_candidate_3 14 rfl rfl)
theorem dX1_candidate_87 : decode cX1_candidate 87 = .ok (.invokeinterface 24 2, 5) := by decide +kernel
theorem dX1_candidate_92 : decode cX1_candidate 92 = .ok (.checkcast 52, 3) := dk_192 0 52 (dk_at dksX1_candidate_3 21 rfl rfl)
theorem dX1_candidate_95 : decode cX1_candidate 95 = .ok (.aload_n 3, 1) := dk_45 (dk_at dksX1_candidate_4 0 rfl rfl)
theorem dX1_candidate_96 : decode cX1_candidate 96 = .ok (.invokevirtual 101, 3) := dk_182 0 101 (dk_at dksX1_candidate_4 1 rfl rfl)
theorem dX1_candidate_99 : decode cX1_candidate 99 = .ok (.aload_n 0, 1) := dk_42 (dk_at dksX1_candidate_4 4 rfl rfl)
theorem dX1_candidate_100 : decode cX1_candidate 100 = .ok (.aload_n 0, 1) := dk_42 (dk_at dksX1_candidate_4 5 rfl rfl)
theorem dX1_candidate_101 : decode cX1_candidate 101 = .ok (.getfield 120, 3) := dk_180 0 120 (dk_at dksX1_candidate_4 6 rfl rfl)
theorem dX1_candidate_104 : decode cX1_candidate 104 = .ok (.iload 5, 2) := dk_21 5 (dk_at dksX1_candidate_4 9 rfl rfl)
theorem dX1_candidate_106 : decode cX1_candidate 106 = .ok (.invokeinterface 24 2, 5) := by decide +kernel
theorem dX1_candidate_111 : decode cX1_candidate 111 = .ok (.checkcast 52, 3) := dk_192 0 52 (dk_at dksX1_candidate_4 16 rfl rfl)
theorem dX1_candidate_114 : decode cX1_candidate 114 = .ok (.aload_n 3, 1) := dk_45 (dk_at dksX1_candidate_4 19 rfl rfl)
theorem dX1_candidate_115 : decode cX1_candidate 115 = .ok (.invokevirtual 101, 3) := dk_182 0 101 (dk_at dksX1_candidate_4 20 rfl rfl)
theorem dX1_candidate_118 : decode cX1_candidate 118 = .ok (.if_icmp .le 8, 3) := dk_164 0 8 (dk_at dksX1_candidate_5 0 rfl rfl)
theorem dX1_candidate_121 : decode cX1_candidate 121 = .ok (.iload 7, 2) := dk_21 7 (dk_at dksX1_candidate_5 3 rfl rfl)
theorem dX1_candidate_123 : decode cX1_candidate 123 = .ok (.goto 5, 3) := dk_167 0 5 (dk_at dksX1_candidate_5 5 rfl rfl)
theorem dX1_candidate_126 : decode cX1_candidate 126 = .ok (.iload 5, 2) := dk_21 5 (dk_at dksX1_candidate_5 8 rfl rfl)
theorem dX1_candidate_128 : decode cX1_candidate 128 = .ok (.istore 5, 2) := dk_54 5 (dk_at dksX1_candidate_5 10 rfl rfl)
theorem dX1_candidate_130 : decode cX1_candidate 130 = .ok (.iinc 7 1, 3) := dk_132 7 1 (dk_at dksX1_candidate_5 12 rfl rfl)
theorem dX1_candidate_133 : decode cX1_candidate 133 = .ok (.goto (-83), 3) := dk_167 255 173 (dk_at dksX1_candidate_5 15 rfl rfl)
theorem dX1_candidate_136 : decode cX1_candidate 136 = .ok (.iload 4, 2) := dk_21 4 (dk_at dksX1_candidate_5 18 rfl rfl)
theorem dX1_candidate_138 : decode cX1_candidate 138 = .ok (.iload 5, 2) := dk_21 5 (dk_at dksX1_candidate_5 20 rfl rfl)
theorem dX1_candidate_140 : decode cX1_candidate 140 = .ok (.iconst (-1), 1) := dk_2 (dk_at dksX1_candidate_5 22 rfl rfl)
theorem dX1_candidate_141 : decode cX1_candidate 141 = .ok (.if_icmp .ne 8, 3) := dk_160 0 8 (dk_at dksX1_candidate_6 0 rfl rfl)
theorem dX1_candidate_144 : decode cX1_candidate 144 = .ok (.iload 4, 2) := dk_21 4 (dk_at dksX1_candidate_6 3 rfl rfl)
theorem dX1_candidate_146 : decode cX1_candidate 146 = .ok (.goto 9, 3) := dk_167 0 9 (dk_at dksX1_candidate_6 5 rfl rfl)
theorem dX1_candidate_149 : decode cX1_candidate 149 = .ok (.iconst 1, 1) := dk_4 (dk_at dksX1_candidate_6 8 rfl rfl)
theorem dX1_candidate_150 : decode cX1_candidate 150 = .ok (.iload 5, 2) := dk_21 5 (dk_at dksX1_candidate_6 9 rfl rfl)
theorem dX1_candidate_152 : decode cX1_candidate 152 = .ok (.ishl, 1) := dk_120 (dk_at dksX1_candidate_6 11 rfl rfl)
theorem dX1_candidate_153 : decode cX1_candidate 153 = .ok (.iconst (-1), 1) := dk_2 (dk_at dksX1_candidate_6 12 rfl rfl)
theorem dX1_candidate_154 : decode cX1_candidate 154 = .ok (.ixor, 1) := dk_130 (dk_at dksX1_candidate_6 13 rfl rfl)
theorem dX1_candidate_155 : decode cX1_candidate 155 = .ok (.iand, 1) := dk_126 (dk_at dksX1_candidate_6 14 rfl rfl)
theorem dX1_candidate_156 : decode cX1_candidate 156 = .ok (.istore 4, 2) := dk_54 4 (dk_at dksX1_candidate_6 15 rfl rfl)
theorem dX1_candidate_158 : decode cX1_candidate 158 = .ok (.iinc 6 1, 3) := dk_132 6 1 (dk_at dksX1_candidate_6 17 rfl rfl)
theorem dX1_candidate_161 : decode cX1_candidate 161 = .ok (.goto (-130), 3) := dk_167 255 126 (dk_at dksX1_candidate_6 20 rfl rfl)
theorem dX1_candidate_164 : decode cX1_candidate 164 = .ok (.iload 5, 2) := dk_21 5 (dk_at dksX1_candidate_7 0 rfl rfl)
theorem dX1_candidate_166 : decode cX1_candidate 166 = .ok (.ireturn, 1) := dk_172 (dk_at dksX1_candidate_7 2 rfl rfl)
abbrev cX1_candidates : ByteArray := prog_1_method_42_code
def yX1_candidates : MethodName := ⟨RX1, "candidates", "(LLostroom$Claim;)I"⟩
def dkwX1_candidates_3 : List UInt8 := [132, 3, 1, 167, 255, 190, 28, 172]
abbrev dktX1_candidates_3 : List UInt8 := dkwX1_candidates_3 ++ []
def dkwX1_candidates_2 : List UInt8 := [185, 0, 24, 2, 0, 192, 0, 52, 43, 182, 0, 222, 153, 0, 9, 4, 29, 120, 167, 0, 4, 3, 128, 61]
abbrev dktX1_candidates_2 : List UInt8 := dkwX1_candidates_2 ++ dktX1_candidates_3
def dkwX1_candidates_1 : List UInt8 := [185, 0, 24, 2, 0, 192, 0, 52, 182, 0, 201, 153, 0, 30, 42, 42, 180, 0, 120, 29]
abbrev dktX1_candidates_1 : List UInt8 := dkwX1_candidates_1 ++ dktX1_candidates_2
def dkwX1_candidates_0 : List UInt8 := [3, 61, 3, 62, 29, 42, 180, 0, 120, 185, 0, 135, 1, 0, 162, 0, 59, 28, 42, 180, 0, 120, 29]
abbrev dktX1_candidates_0 : List UInt8 := dkwX1_candidates_0 ++ dktX1_candidates_1
theorem dksX1_candidates_0 : cX1_candidates.data.toList.drop 0 = dktX1_candidates_0 := by decide +kernel
theorem dksX1_candidates_1 : cX1_candidates.data.toList.drop 23 = dktX1_candidates_1 := dk_seg dksX1_candidates_0 23 rfl rfl
theorem dksX1_candidates_2 : cX1_candidates.data.toList.drop 43 = dktX1_candidates_2 := dk_seg dksX1_candidates_1 20 rfl rfl
theorem dksX1_candidates_3 : cX1_candidates.data.toList.drop 67 = dktX1_candidates_3 := dk_seg dksX1_candidates_2 24 rfl rfl
theorem dX1_candidates_0 : decode cX1_candidates 0 = .ok (.iconst 0, 1) := dk_3 (dk_at dksX1_candidates_0 0 rfl rfl)
theorem dX1_candidates_1 : decode cX1_candidates 1 = .ok (.istore_n 2, 1) := dk_61 (dk_at dksX1_candidates_0 1 rfl rfl)
theorem dX1_candidates_2 : decode cX1_candidates 2 = .ok (.iconst 0, 1) := dk_3 (dk_at dksX1_candidates_0 2 rfl rfl)
theorem dX1_candidates_3 : decode cX1_candidates 3 = .ok (.istore_n 3, 1) := dk_62 (dk_at dksX1_candidates_0 3 rfl rfl)
theorem dX1_candidates_4 : decode cX1_candidates 4 = .ok (.iload_n 3, 1) := dk_29 (dk_at dksX1_candidates_0 4 rfl rfl)
theorem dX1_candidates_5 : decode cX1_candidates 5 = .ok (.aload_n 0, 1) := dk_42 (dk_at dksX1_candidates_0 5 rfl rfl)
theorem dX1_candidates_6 : decode cX1_candidates 6 = .ok (.getfield 120, 3) := dk_180 0 120 (dk_at dksX1_candidates_0 6 rfl rfl)
theorem dX1_candidates_9 : decode cX1_candidates 9 = .ok (.invokeinterface 135 1, 5) := by decide +kernel
theorem dX1_candidates_14 : decode cX1_candidates 14 = .ok (.if_icmp .ge 59, 3) := dk_162 0 59 (dk_at dksX1_candidates_0 14 rfl rfl)
theorem dX1_candidates_17 : decode cX1_candidates 17 = .ok (.iload_n 2, 1) := dk_28 (dk_at dksX1_candidates_0 17 rfl rfl)
theorem dX1_candidates_18 : decode cX1_candidates 18 = .ok (.aload_n 0, 1) := dk_42 (dk_at dksX1_candidates_0 18 rfl rfl)
theorem dX1_candidates_19 : decode cX1_candidates 19 = .ok (.getfield 120, 3) := dk_180 0 120 (dk_at dksX1_candidates_0 19 rfl rfl)
theorem dX1_candidates_22 : decode cX1_candidates 22 = .ok (.iload_n 3, 1) := dk_29 (dk_at dksX1_candidates_0 22 rfl rfl)
theorem dX1_candidates_23 : decode cX1_candidates 23 = .ok (.invokeinterface 24 2, 5) := by decide +kernel
theorem dX1_candidates_28 : decode cX1_candidates 28 = .ok (.checkcast 52, 3) := dk_192 0 52 (dk_at dksX1_candidates_1 5 rfl rfl)
theorem dX1_candidates_31 : decode cX1_candidates 31 = .ok (.invokevirtual 201, 3) := dk_182 0 201 (dk_at dksX1_candidates_1 8 rfl rfl)
theorem dX1_candidates_34 : decode cX1_candidates 34 = .ok (.ifCond .eq 30, 3) := dk_153 0 30 (dk_at dksX1_candidates_1 11 rfl rfl)
theorem dX1_candidates_37 : decode cX1_candidates 37 = .ok (.aload_n 0, 1) := dk_42 (dk_at dksX1_candidates_1 14 rfl rfl)
theorem dX1_candidates_38 : decode cX1_candidates 38 = .ok (.aload_n 0, 1) := dk_42 (dk_at dksX1_candidates_1 15 rfl rfl)
theorem dX1_candidates_39 : decode cX1_candidates 39 = .ok (.getfield 120, 3) := dk_180 0 120 (dk_at dksX1_candidates_1 16 rfl rfl)
theorem dX1_candidates_42 : decode cX1_candidates 42 = .ok (.iload_n 3, 1) := dk_29 (dk_at dksX1_candidates_1 19 rfl rfl)
theorem dX1_candidates_43 : decode cX1_candidates 43 = .ok (.invokeinterface 24 2, 5) := by decide +kernel
theorem dX1_candidates_48 : decode cX1_candidates 48 = .ok (.checkcast 52, 3) := dk_192 0 52 (dk_at dksX1_candidates_2 5 rfl rfl)
theorem dX1_candidates_51 : decode cX1_candidates 51 = .ok (.aload_n 1, 1) := dk_43 (dk_at dksX1_candidates_2 8 rfl rfl)
theorem dX1_candidates_52 : decode cX1_candidates 52 = .ok (.invokevirtual 222, 3) := dk_182 0 222 (dk_at dksX1_candidates_2 9 rfl rfl)
theorem dX1_candidates_55 : decode cX1_candidates 55 = .ok (.ifCond .eq 9, 3) := dk_153 0 9 (dk_at dksX1_candidates_2 12 rfl rfl)
theorem dX1_candidates_58 : decode cX1_candidates 58 = .ok (.iconst 1, 1) := dk_4 (dk_at dksX1_candidates_2 15 rfl rfl)
theorem dX1_candidates_59 : decode cX1_candidates 59 = .ok (.iload_n 3, 1) := dk_29 (dk_at dksX1_candidates_2 16 rfl rfl)
theorem dX1_candidates_60 : decode cX1_candidates 60 = .ok (.ishl, 1) := dk_120 (dk_at dksX1_candidates_2 17 rfl rfl)
theorem dX1_candidates_61 : decode cX1_candidates 61 = .ok (.goto 4, 3) := dk_167 0 4 (dk_at dksX1_candidates_2 18 rfl rfl)
theorem dX1_candidates_64 : decode cX1_candidates 64 = .ok (.iconst 0, 1) := dk_3 (dk_at dksX1_candidates_2 21 rfl rfl)
theorem dX1_candidates_65 : decode cX1_candidates 65 = .ok (.ior, 1) := dk_128 (dk_at dksX1_candidates_2 22 rfl rfl)
theorem dX1_candidates_66 : decode cX1_candidates 66 = .ok (.istore_n 2, 1) := dk_61 (dk_at dksX1_candidates_2 23 rfl rfl)
theorem dX1_candidates_67 : decode cX1_candidates 67 = .ok (.iinc 3 1, 3) := dk_132 3 1 (dk_at dksX1_candidates_3 0 rfl rfl)
theorem dX1_candidates_70 : decode cX1_candidates 70 = .ok (.goto (-66), 3) := dk_167 255 190 (dk_at dksX1_candidates_3 3 rfl rfl)
theorem dX1_candidates_73 : decode cX1_candidates 73 = .ok (.iload_n 2, 1) := dk_28 (dk_at dksX1_candidates_3 6 rfl rfl)
theorem dX1_candidates_74 : decode cX1_candidates 74 = .ok (.ireturn, 1) := dk_172 (dk_at dksX1_candidates_3 7 rfl rfl)
abbrev cX1_question : ByteArray := prog_1_method_44_code
def yX1_question : MethodName := ⟨RX1, "question", "(I)I"⟩
def dkwX1_question_7 : List UInt8 := [21, 9, 54, 6, 132, 7, 1, 167, 255, 114, 21, 5, 172]
abbrev dktX1_question_7 : List UInt8 := dkwX1_question_7 ++ []
def dkwX1_question_6 : List UInt8 := [180, 0, 92, 128, 21, 7, 184, 0, 44, 154, 0, 18, 21, 9, 21, 6, 162, 0, 11, 21, 7, 54, 5]
abbrev dktX1_question_6 : List UInt8 := dkwX1_question_6 ++ dktX1_question_7
def dkwX1_question_5 : List UInt8 := [132, 9, 1, 167, 255, 177, 21, 4, 5, 21, 8, 104, 100, 184, 1, 10, 54, 9, 44, 180, 0, 85, 44]
abbrev dktX1_question_5 : List UInt8 := dkwX1_question_5 ++ dktX1_question_6
def dkwX1_question_4 : List UInt8 := [192, 0, 52, 180, 0, 89, 128, 21, 7, 184, 0, 44, 153, 0, 7, 4, 167, 0, 4, 3, 96, 54, 8]
abbrev dktX1_question_4 : List UInt8 := dkwX1_question_4 ++ dktX1_question_5
def dkwX1_question_3 : List UInt8 := [21, 9, 185, 0, 24, 2, 0, 192, 0, 52, 180, 0, 88, 42, 180, 0, 120, 21, 9, 185, 0, 24, 2, 0]
abbrev dktX1_question_3 : List UInt8 := dkwX1_question_3 ++ dktX1_question_4
def dkwX1_question_2 : List UInt8 := [185, 0, 135, 1, 0, 162, 0, 71, 21, 8, 29, 21, 9, 184, 0, 44, 153, 0, 50, 42, 180, 0, 120]
abbrev dktX1_question_2 : List UInt8 := dkwX1_question_2 ++ dktX1_question_3
def dkwX1_question_1 : List UInt8 := [54, 6, 3, 54, 7, 21, 7, 16, 24, 162, 0, 141, 3, 54, 8, 3, 54, 9, 21, 9, 42, 180, 0, 120]
abbrev dktX1_question_1 : List UInt8 := dkwX1_question_1 ++ dktX1_question_2
def dkwX1_question_0 : List UInt8 := [42, 27, 182, 0, 211, 77, 42, 44, 182, 1, 6, 62, 29, 184, 0, 171, 54, 4, 2, 54, 5, 21, 4]
abbrev dktX1_question_0 : List UInt8 := dkwX1_question_0 ++ dktX1_question_1
theorem dksX1_question_0 : cX1_question.data.toList.drop 0 = dktX1_question_0 := by decide +kernel
theorem dksX1_question_1 : cX1_question.data.toList.drop 23 = dktX1_question_1 := dk_seg dksX1_question_0 23 rfl rfl
theorem dksX1_question_2 : cX1_question.data.toList.drop 47 = dktX1_question_2 := dk_seg dksX1_question_1 24 rfl rfl
theorem dksX1_question_3 : cX1_question.data.toList.drop 70 = dktX1_question_3 := dk_seg dksX1_question_2 23 rfl rfl
theorem dksX1_question_4 : cX1_question.data.toList.drop 94 = dktX1_question_4 := dk_seg dksX1_question_3 24 rfl rfl
theorem dksX1_question_5 : cX1_question.data.toList.drop 117 = dktX1_question_5 := dk_seg dksX1_question_4 23 rfl rfl
theorem dksX1_question_6 : cX1_question.data.toList.drop 140 = dktX1_question_6 := dk_seg dksX1_question_5 23 rfl rfl
theorem dksX1_question_7 : cX1_question.data.toList.drop 163 = dktX1_question_7 := dk_seg dksX1_question_6 23 rfl rfl
theorem dX1_question_0 : decode cX1_question 0 = .ok (.aload_n 0, 1) := dk_42 (dk_at dksX1_question_0 0 rfl rfl)
theorem dX1_question_1 : decode cX1_question 1 = .ok (.iload_n 1, 1) := dk_27 (dk_at dksX1_question_0 1 rfl rfl)
theorem dX1_question_2 : decode cX1_question 2 = .ok (.invokevirtual 211, 3) := dk_182 0 211 (dk_at dksX1_question_0 2 rfl rfl)
theorem dX1_question_5 : decode cX1_question 5 = .ok (.astore_n 2, 1) := dk_77 (dk_at dksX1_question_0 5 rfl rfl)
theorem dX1_question_6 : decode cX1_question 6 = .ok (.aload_n 0, 1) := dk_42 (dk_at dksX1_question_0 6 rfl rfl)
theorem dX1_question_7 : decode cX1_question 7 = .ok (.aload_n 2, 1) := dk_44 (dk_at dksX1_question_0 7 rfl rfl)
theorem dX1_question_8 : decode cX1_question 8 = .ok (.invokevirtual 262, 3) := dk_182 1 6 (dk_at dksX1_question_0 8 rfl rfl)
theorem dX1_question_11 : decode cX1_question 11 = .ok (.istore_n 3, 1) := dk_62 (dk_at dksX1_question_0 11 rfl rfl)
theorem dX1_question_12 : decode cX1_question 12 = .ok (.iload_n 3, 1) := dk_29 (dk_at dksX1_question_0 12 rfl rfl)
theorem dX1_question_13 : decode cX1_question 13 = .ok (.invokestatic 171, 3) := dk_184 0 171 (dk_at dksX1_question_0 13 rfl rfl)
theorem dX1_question_16 : decode cX1_question 16 = .ok (.istore 4, 2) := dk_54 4 (dk_at dksX1_question_0 16 rfl rfl)
theorem dX1_question_18 : decode cX1_question 18 = .ok (.iconst (-1), 1) := dk_2 (dk_at dksX1_question_0 18 rfl rfl)
theorem dX1_question_19 : decode cX1_question 19 = .ok (.istore 5, 2) := dk_54 5 (dk_at dksX1_question_0 19 rfl rfl)
theorem dX1_question_21 : decode cX1_question 21 = .ok (.iload 4, 2) := dk_21 4 (dk_at dksX1_question_0 21 rfl rfl)
theorem dX1_question_23 : decode cX1_question 23 = .ok (.istore 6, 2) := dk_54 6 (dk_at dksX1_question_1 0 rfl rfl)
theorem dX1_question_25 : decode cX1_question 25 = .ok (.iconst 0, 1) := dk_3 (dk_at dksX1_question_1 2 rfl rfl)
theorem dX1_question_26 : decode cX1_question 26 = .ok (.istore 7, 2) := dk_54 7 (dk_at dksX1_question_1 3 rfl rfl)
theorem dX1_question_28 : decode cX1_question 28 = .ok (.iload 7, 2) := dk_21 7 (dk_at dksX1_question_1 5 rfl rfl)
theorem dX1_question_30 : decode cX1_question 30 = .ok (.bipush 24, 2) := dk_16 24 (dk_at dksX1_question_1 7 rfl rfl)
theorem dX1_question_32 : decode cX1_question 32 = .ok (.if_icmp .ge 141, 3) := dk_162 0 141 (dk_at dksX1_question_1 9 rfl rfl)
theorem dX1_question_35 : decode cX1_question 35 = .ok (.iconst 0, 1) := dk_3 (dk_at dksX1_question_1 12 rfl rfl)
theorem dX1_question_36 : decode cX1_question 36 = .ok (.istore 8, 2) := dk_54 8 (dk_at dksX1_question_1 13 rfl rfl)
theorem dX1_question_38 : decode cX1_question 38 = .ok (.iconst 0, 1) := dk_3 (dk_at dksX1_question_1 15 rfl rfl)
theorem dX1_question_39 : decode cX1_question 39 = .ok (.istore 9, 2) := dk_54 9 (dk_at dksX1_question_1 16 rfl rfl)
theorem dX1_question_41 : decode cX1_question 41 = .ok (.iload 9, 2) := dk_21 9 (dk_at dksX1_question_1 18 rfl rfl)
theorem dX1_question_43 : decode cX1_question 43 = .ok (.aload_n 0, 1) := dk_42 (dk_at dksX1_question_1 20 rfl rfl)
theorem dX1_question_44 : decode cX1_question 44 = .ok (.getfield 120, 3) := dk_180 0 120 (dk_at dksX1_question_1 21 rfl rfl)
theorem dX1_question_47 : decode cX1_question 47 = .ok (.invokeinterface 135 1, 5) := by decide +kernel
theorem dX1_question_52 : decode cX1_question 52 = .ok (.if_icmp .ge 71, 3) := dk_162 0 71 (dk_at dksX1_question_2 5 rfl rfl)
theorem dX1_question_55 : decode cX1_question 55 = .ok (.iload 8, 2) := dk_21 8 (dk_at dksX1_question_2 8 rfl rfl)
theorem dX1_question_57 : decode cX1_question 57 = .ok (.iload_n 3, 1) := dk_29 (dk_at dksX1_question_2 10 rfl rfl)
theorem dX1_question_58 : decode cX1_question 58 = .ok (.iload 9, 2) := dk_21 9 (dk_at dksX1_question_2 11 rfl rfl)
theorem dX1_question_60 : decode cX1_question 60 = .ok (.invokestatic 44, 3) := dk_184 0 44 (dk_at dksX1_question_2 13 rfl rfl)
theorem dX1_question_63 : decode cX1_question 63 = .ok (.ifCond .eq 50, 3) := dk_153 0 50 (dk_at dksX1_question_2 16 rfl rfl)
theorem dX1_question_66 : decode cX1_question 66 = .ok (.aload_n 0, 1) := dk_42 (dk_at dksX1_question_2 19 rfl rfl)
theorem dX1_question_67 : decode cX1_question 67 = .ok (.getfield 120, 3) := dk_180 0 120 (dk_at dksX1_question_2 20 rfl rfl)
theorem dX1_question_70 : decode cX1_question 70 = .ok (.iload 9, 2) := dk_21 9 (dk_at dksX1_question_3 0 rfl rfl)
theorem dX1_question_72 : decode cX1_question 72 = .ok (.invokeinterface 24 2, 5) := by decide +kernel
theorem dX1_question_77 : decode cX1_question 77 = .ok (.checkcast 52, 3) := dk_192 0 52 (dk_at dksX1_question_3 7 rfl rfl)
theorem dX1_question_80 : decode cX1_question 80 = .ok (.getfield 88, 3) := dk_180 0 88 (dk_at dksX1_question_3 10 rfl rfl)
theorem dX1_question_83 : decode cX1_question 83 = .ok (.aload_n 0, 1) := dk_42 (dk_at dksX1_question_3 13 rfl rfl)
theorem dX1_question_84 : decode cX1_question 84 = .ok (.getfield 120, 3) := dk_180 0 120 (dk_at dksX1_question_3 14 rfl rfl)
theorem dX1_question_87 : decode cX1_question 87 = .ok (.iload 9, 2) := dk_21 9 (dk_at dksX1_question_3 17 rfl rfl)
theorem dX1_question_89 : decode cX1_question 89 = .ok (.invokeinterface 24 2, 5) := by decide +kernel
theorem dX1_question_94 : decode cX1_question 94 = .ok (.checkcast 52, 3) := dk_192 0 52 (dk_at dksX1_question_4 0 rfl rfl)
theorem dX1_question_97 : decode cX1_question 97 = .ok (.getfield 89, 3) := dk_180 0 89 (dk_at dksX1_question_4 3 rfl rfl)
theorem dX1_question_100 : decode cX1_question 100 = .ok (.ior, 1) := dk_128 (dk_at dksX1_question_4 6 rfl rfl)
theorem dX1_question_101 : decode cX1_question 101 = .ok (.iload 7, 2) := dk_21 7 (dk_at dksX1_question_4 7 rfl rfl)
theorem dX1_question_103 : decode cX1_question 103 = .ok (.invokestatic 44, 3) := dk_184 0 44 (dk_at dksX1_question_4 9 rfl rfl)
theorem dX1_question_106 : decode cX1_question 106 = .ok (.ifCond .eq 7, 3) := dk_153 0 7 (dk_at dksX1_question_4 12 rfl rfl)
theorem dX1_question_109 : decode cX1_question 109 = .ok (.iconst 1, 1) := dk_4 (dk_at dksX1_question_4 15 rfl rfl)
theorem dX1_question_110 : decode cX1_question 110 = .ok (.goto 4, 3) := dk_167 0 4 (dk_at dksX1_question_4 16 rfl rfl)
theorem dX1_question_113 : decode cX1_question 113 = .ok (.iconst 0, 1) := dk_3 (dk_at dksX1_question_4 19 rfl rfl)
theorem dX1_question_114 : decode cX1_question 114 = .ok (.iadd, 1) := dk_96 (dk_at dksX1_question_4 20 rfl rfl)
theorem dX1_question_115 : decode cX1_question 115 = .ok (.istore 8, 2) := dk_54 8 (dk_at dksX1_question_4 21 rfl rfl)
theorem dX1_question_117 : decode cX1_question 117 = .ok (.iinc 9 1, 3) := dk_132 9 1 (dk_at dksX1_question_5 0 rfl rfl)
theorem dX1_question_120 : decode cX1_question 120 = .ok (.goto (-79), 3) := dk_167 255 177 (dk_at dksX1_question_5 3 rfl rfl)
theorem dX1_question_123 : decode cX1_question 123 = .ok (.iload 4, 2) := dk_21 4 (dk_at dksX1_question_5 6 rfl rfl)
theorem dX1_question_125 : decode cX1_question 125 = .ok (.iconst 2, 1) := dk_5 (dk_at dksX1_question_5 8 rfl rfl)
theorem dX1_question_126 : decode cX1_question 126 = .ok (.iload 8, 2) := dk_21 8 (dk_at dksX1_question_5 9 rfl rfl)
theorem dX1_question_128 : decode cX1_question 128 = .ok (.imul, 1) := dk_104 (dk_at dksX1_question_5 11 rfl rfl)
theorem dX1_question_129 : decode cX1_question 129 = .ok (.isub, 1) := dk_100 (dk_at dksX1_question_5 12 rfl rfl)
theorem dX1_question_130 : decode cX1_question 130 = .ok (.invokestatic 266, 3) := dk_184 1 10 (dk_at dksX1_question_5 13 rfl rfl)
theorem dX1_question_133 : decode cX1_question 133 = .ok (.istore 9, 2) := dk_54 9 (dk_at dksX1_question_5 16 rfl rfl)
theorem dX1_question_135 : decode cX1_question 135 = .ok (.aload_n 2, 1) := dk_44 (dk_at dksX1_question_5 18 rfl rfl)
theorem dX1_question_136 : decode cX1_question 136 = .ok (.getfield 85, 3) := dk_180 0 85 (dk_at dksX1_question_5 19 rfl rfl)
theorem dX1_question_139 : decode cX1_question 139 = .ok (.aload_n 2, 1) := dk_44 (dk_at dksX1_question_5 22 rfl rfl)
theorem dX1_question_140 : decode cX1_question 140 = .ok (.getfield 92, 3) := dk_180 0 92 (dk_at dksX1_question_6 0 rfl rfl)
theorem dX1_question_143 : decode cX1_question 143 = .ok (.ior, 1) := dk_128 (dk_at dksX1_question_6 3 rfl rfl)
theorem dX1_question_144 : decode cX1_question 144 = .ok (.iload 7, 2) := dk_21 7 (dk_at dksX1_question_6 4 rfl rfl)
theorem dX1_question_146 : decode cX1_question 146 = .ok (.invokestatic 44, 3) := dk_184 0 44 (dk_at dksX1_question_6 6 rfl rfl)
theorem dX1_question_149 : decode cX1_question 149 = .ok (.ifCond .ne 18, 3) := dk_154 0 18 (dk_at dksX1_question_6 9 rfl rfl)
theorem dX1_question_152 : decode cX1_question 152 = .ok (.iload 9, 2) := dk_21 9 (dk_at dksX1_question_6 12 rfl rfl)
theorem dX1_question_154 : decode cX1_question 154 = .ok (.iload 6, 2) := dk_21 6 (dk_at dksX1_question_6 14 rfl rfl)
theorem dX1_question_156 : decode cX1_question 156 = .ok (.if_icmp .ge 11, 3) := dk_162 0 11 (dk_at dksX1_question_6 16 rfl rfl)
theorem dX1_question_159 : decode cX1_question 159 = .ok (.iload 7, 2) := dk_21 7 (dk_at dksX1_question_6 19 rfl rfl)
theorem dX1_question_161 : decode cX1_question 161 = .ok (.istore 5, 2) := dk_54 5 (dk_at dksX1_question_6 21 rfl rfl)
theorem dX1_question_163 : decode cX1_question 163 = .ok (.iload 9, 2) := dk_21 9 (dk_at dksX1_question_7 0 rfl rfl)
theorem dX1_question_165 : decode cX1_question 165 = .ok (.istore 6, 2) := dk_54 6 (dk_at dksX1_question_7 2 rfl rfl)
theorem dX1_question_167 : decode cX1_question 167 = .ok (.iinc 7 1, 3) := dk_132 7 1 (dk_at dksX1_question_7 4 rfl rfl)
theorem dX1_question_170 : decode cX1_question 170 = .ok (.goto (-142), 3) := dk_167 255 114 (dk_at dksX1_question_7 7 rfl rfl)
theorem dX1_question_173 : decode cX1_question 173 = .ok (.iload 5, 2) := dk_21 5 (dk_at dksX1_question_7 10 rfl rfl)
theorem dX1_question_175 : decode cX1_question 175 = .ok (.ireturn, 1) := dk_172 (dk_at dksX1_question_7 12 rfl rfl)
abbrev cX1_isProven : ByteArray := prog_1_method_45_code
def yX1_isProven : MethodName := ⟨RX1, "isProven", "(II)Z"⟩
def dkwX1_isProven_0 : List UInt8 := [42, 27, 182, 0, 166, 78, 42, 28, 182, 0, 211, 45, 182, 0, 218, 172]
abbrev dktX1_isProven_0 : List UInt8 := dkwX1_isProven_0 ++ []
theorem dksX1_isProven_0 : cX1_isProven.data.toList.drop 0 = dktX1_isProven_0 := by decide +kernel
theorem dX1_isProven_0 : decode cX1_isProven 0 = .ok (.aload_n 0, 1) := dk_42 (dk_at dksX1_isProven_0 0 rfl rfl)
theorem dX1_isProven_1 : decode cX1_isProven 1 = .ok (.iload_n 1, 1) := dk_27 (dk_at dksX1_isProven_0 1 rfl rfl)
theorem dX1_isProven_2 : decode cX1_isProven 2 = .ok (.invokevirtual 166, 3) := dk_182 0 166 (dk_at dksX1_isProven_0 2 rfl rfl)
theorem dX1_isProven_5 : decode cX1_isProven 5 = .ok (.astore_n 3, 1) := dk_78 (dk_at dksX1_isProven_0 5 rfl rfl)
theorem dX1_isProven_6 : decode cX1_isProven 6 = .ok (.aload_n 0, 1) := dk_42 (dk_at dksX1_isProven_0 6 rfl rfl)
theorem dX1_isProven_7 : decode cX1_isProven 7 = .ok (.iload_n 2, 1) := dk_28 (dk_at dksX1_isProven_0 7 rfl rfl)
theorem dX1_isProven_8 : decode cX1_isProven 8 = .ok (.invokevirtual 211, 3) := dk_182 0 211 (dk_at dksX1_isProven_0 8 rfl rfl)
theorem dX1_isProven_11 : decode cX1_isProven 11 = .ok (.aload_n 3, 1) := dk_45 (dk_at dksX1_isProven_0 11 rfl rfl)
theorem dX1_isProven_12 : decode cX1_isProven 12 = .ok (.invokevirtual 218, 3) := dk_182 0 218 (dk_at dksX1_isProven_0 12 rfl rfl)
theorem dX1_isProven_15 : decode cX1_isProven 15 = .ok (.ireturn, 1) := dk_172 (dk_at dksX1_isProven_0 15 rfl rfl)
abbrev cX1_isDue : ByteArray := prog_1_method_46_code
def yX1_isDue : MethodName := ⟨RX1, "isDue", "(I)Z"⟩
def dkwX1_isDue_0 : List UInt8 := [42, 42, 27, 182, 0, 166, 182, 0, 244, 172]
abbrev dktX1_isDue_0 : List UInt8 := dkwX1_isDue_0 ++ []
theorem dksX1_isDue_0 : cX1_isDue.data.toList.drop 0 = dktX1_isDue_0 := by decide +kernel
theorem dX1_isDue_0 : decode cX1_isDue 0 = .ok (.aload_n 0, 1) := dk_42 (dk_at dksX1_isDue_0 0 rfl rfl)
theorem dX1_isDue_1 : decode cX1_isDue 1 = .ok (.aload_n 0, 1) := dk_42 (dk_at dksX1_isDue_0 1 rfl rfl)
theorem dX1_isDue_2 : decode cX1_isDue 2 = .ok (.iload_n 1, 1) := dk_27 (dk_at dksX1_isDue_0 2 rfl rfl)
theorem dX1_isDue_3 : decode cX1_isDue 3 = .ok (.invokevirtual 166, 3) := dk_182 0 166 (dk_at dksX1_isDue_0 3 rfl rfl)
theorem dX1_isDue_6 : decode cX1_isDue 6 = .ok (.invokevirtual 244, 3) := dk_182 0 244 (dk_at dksX1_isDue_0 6 rfl rfl)
theorem dX1_isDue_9 : decode cX1_isDue 9 = .ok (.ireturn, 1) := dk_172 (dk_at dksX1_isDue_0 9 rfl rfl)
abbrev cX1_ofFind : ByteArray := prog_1_method_47_code
def yX1_ofFind : MethodName := ⟨RX1, "ofFind", "(II)I"⟩
def dkwX1_ofFind_3 : List UInt8 := [185, 0, 135, 1, 0, 172]
abbrev dktX1_ofFind_3 : List UInt8 := dkwX1_ofFind_3 ++ []
def dkwX1_ofFind_2 : List UInt8 := [45, 180, 0, 170, 172, 45, 180, 0, 175, 172, 45, 180, 0, 241, 172, 45, 180, 0, 88, 172, 45, 180, 0, 198]
abbrev dktX1_ofFind_2 : List UInt8 := dkwX1_ofFind_2 ++ dktX1_ofFind_3
def dkwX1_ofFind_1 : List UInt8 := [170, 0, 0, 0, 0, 0, 0, 52, 0, 0, 0, 0, 0, 0, 0, 3, 0, 0, 0, 32, 0, 0, 0, 37, 0, 0, 0, 42, 0, 0, 0, 47]
abbrev dktX1_ofFind_1 : List UInt8 := dkwX1_ofFind_1 ++ dktX1_ofFind_2
def dkwX1_ofFind_0 : List UInt8 := [42, 27, 182, 0, 166, 78, 28, 3, 7, 184, 0, 16, 184, 0, 143, 28]
abbrev dktX1_ofFind_0 : List UInt8 := dkwX1_ofFind_0 ++ dktX1_ofFind_1
theorem dksX1_ofFind_0 : cX1_ofFind.data.toList.drop 0 = dktX1_ofFind_0 := by decide +kernel
theorem dksX1_ofFind_1 : cX1_ofFind.data.toList.drop 16 = dktX1_ofFind_1 := dk_seg dksX1_ofFind_0 16 rfl rfl
theorem dksX1_ofFind_2 : cX1_ofFind.data.toList.drop 48 = dktX1_ofFind_2 := dk_seg dksX1_ofFind_1 32 rfl rfl
theorem dksX1_ofFind_3 : cX1_ofFind.data.toList.drop 72 = dktX1_ofFind_3 := dk_seg dksX1_ofFind_2 24 rfl rfl
theorem dX1_ofFind_0 : decode cX1_ofFind 0 = .ok (.aload_n 0, 1) := dk_42 (dk_at dksX1_ofFind_0 0 rfl rfl)
theorem dX1_ofFind_1 : decode cX1_ofFind 1 = .ok (.iload_n 1, 1) := dk_27 (dk_at dksX1_ofFind_0 1 rfl rfl)
theorem dX1_ofFind_2 : decode cX1_ofFind 2 = .ok (.invokevirtual 166, 3) := dk_182 0 166 (dk_at dksX1_ofFind_0 2 rfl rfl)
theorem dX1_ofFind_5 : decode cX1_ofFind 5 = .ok (.astore_n 3, 1) := dk_78 (dk_at dksX1_ofFind_0 5 rfl rfl)
theorem dX1_ofFind_6 : decode cX1_ofFind 6 = .ok (.iload_n 2, 1) := dk_28 (dk_at dksX1_ofFind_0 6 rfl rfl)
theorem dX1_ofFind_7 : decode cX1_ofFind 7 = .ok (.iconst 0, 1) := dk_3 (dk_at dksX1_ofFind_0 7 rfl rfl)
theorem dX1_ofFind_8 : decode cX1_ofFind 8 = .ok (.iconst 4, 1) := dk_7 (dk_at dksX1_ofFind_0 8 rfl rfl)
theorem dX1_ofFind_9 : decode cX1_ofFind 9 = .ok (.invokestatic 16, 3) := dk_184 0 16 (dk_at dksX1_ofFind_0 9 rfl rfl)
theorem dX1_ofFind_12 : decode cX1_ofFind 12 = .ok (.invokestatic 143, 3) := dk_184 0 143 (dk_at dksX1_ofFind_0 12 rfl rfl)
theorem dX1_ofFind_15 : decode cX1_ofFind 15 = .ok (.iload_n 2, 1) := dk_28 (dk_at dksX1_ofFind_0 15 rfl rfl)
theorem dX1_ofFind_16 : decode cX1_ofFind 16 = .ok (.tableswitch 52 0 3 #[32, 37, 42, 47], 32) := by decide +kernel
theorem dX1_ofFind_48 : decode cX1_ofFind 48 = .ok (.aload_n 3, 1) := dk_45 (dk_at dksX1_ofFind_2 0 rfl rfl)
theorem dX1_ofFind_49 : decode cX1_ofFind 49 = .ok (.getfield 170, 3) := dk_180 0 170 (dk_at dksX1_ofFind_2 1 rfl rfl)
theorem dX1_ofFind_52 : decode cX1_ofFind 52 = .ok (.ireturn, 1) := dk_172 (dk_at dksX1_ofFind_2 4 rfl rfl)
theorem dX1_ofFind_53 : decode cX1_ofFind 53 = .ok (.aload_n 3, 1) := dk_45 (dk_at dksX1_ofFind_2 5 rfl rfl)
theorem dX1_ofFind_54 : decode cX1_ofFind 54 = .ok (.getfield 175, 3) := dk_180 0 175 (dk_at dksX1_ofFind_2 6 rfl rfl)
theorem dX1_ofFind_57 : decode cX1_ofFind 57 = .ok (.ireturn, 1) := dk_172 (dk_at dksX1_ofFind_2 9 rfl rfl)
theorem dX1_ofFind_58 : decode cX1_ofFind 58 = .ok (.aload_n 3, 1) := dk_45 (dk_at dksX1_ofFind_2 10 rfl rfl)
theorem dX1_ofFind_59 : decode cX1_ofFind 59 = .ok (.getfield 241, 3) := dk_180 0 241 (dk_at dksX1_ofFind_2 11 rfl rfl)
theorem dX1_ofFind_62 : decode cX1_ofFind 62 = .ok (.ireturn, 1) := dk_172 (dk_at dksX1_ofFind_2 14 rfl rfl)
theorem dX1_ofFind_63 : decode cX1_ofFind 63 = .ok (.aload_n 3, 1) := dk_45 (dk_at dksX1_ofFind_2 15 rfl rfl)
theorem dX1_ofFind_64 : decode cX1_ofFind 64 = .ok (.getfield 88, 3) := dk_180 0 88 (dk_at dksX1_ofFind_2 16 rfl rfl)
theorem dX1_ofFind_67 : decode cX1_ofFind 67 = .ok (.ireturn, 1) := dk_172 (dk_at dksX1_ofFind_2 19 rfl rfl)
theorem dX1_ofFind_68 : decode cX1_ofFind 68 = .ok (.aload_n 3, 1) := dk_45 (dk_at dksX1_ofFind_2 20 rfl rfl)
theorem dX1_ofFind_69 : decode cX1_ofFind 69 = .ok (.getfield 198, 3) := dk_180 0 198 (dk_at dksX1_ofFind_2 21 rfl rfl)
theorem dX1_ofFind_72 : decode cX1_ofFind 72 = .ok (.invokeinterface 135 1, 5) := by decide +kernel
theorem dX1_ofFind_77 : decode cX1_ofFind 77 = .ok (.ireturn, 1) := dk_172 (dk_at dksX1_ofFind_3 5 rfl rfl)
abbrev cX1_hand : ByteArray := prog_1_method_48_code
def yX1_hand : MethodName := ⟨RX1, "hand", "(IIZ)I"⟩
def dkwX1_hand_2 : List UInt8 := [25, 5, 182, 1, 15, 167, 0, 8, 25, 5, 182, 1, 17, 172]
abbrev dktX1_hand_2 : List UInt8 := dkwX1_hand_2 ++ []
def dkwX1_hand_1 : List UInt8 := [184, 0, 139, 25, 4, 180, 0, 198, 28, 185, 0, 24, 2, 0, 192, 1, 13, 58, 5, 29, 153, 0, 11]
abbrev dktX1_hand_1 : List UInt8 := dkwX1_hand_1 ++ dktX1_hand_2
def dkwX1_hand_0 : List UInt8 := [42, 27, 182, 0, 166, 58, 4, 28, 3, 25, 4, 180, 0, 198, 185, 0, 135, 1, 0, 4, 100, 184, 0, 16]
abbrev dktX1_hand_0 : List UInt8 := dkwX1_hand_0 ++ dktX1_hand_1
theorem dksX1_hand_0 : cX1_hand.data.toList.drop 0 = dktX1_hand_0 := by decide +kernel
theorem dksX1_hand_1 : cX1_hand.data.toList.drop 24 = dktX1_hand_1 := dk_seg dksX1_hand_0 24 rfl rfl
theorem dksX1_hand_2 : cX1_hand.data.toList.drop 47 = dktX1_hand_2 := dk_seg dksX1_hand_1 23 rfl rfl
theorem dX1_hand_0 : decode cX1_hand 0 = .ok (.aload_n 0, 1) := dk_42 (dk_at dksX1_hand_0 0 rfl rfl)
theorem dX1_hand_1 : decode cX1_hand 1 = .ok (.iload_n 1, 1) := dk_27 (dk_at dksX1_hand_0 1 rfl rfl)
theorem dX1_hand_2 : decode cX1_hand 2 = .ok (.invokevirtual 166, 3) := dk_182 0 166 (dk_at dksX1_hand_0 2 rfl rfl)
theorem dX1_hand_5 : decode cX1_hand 5 = .ok (.astore 4, 2) := dk_58 4 (dk_at dksX1_hand_0 5 rfl rfl)
theorem dX1_hand_7 : decode cX1_hand 7 = .ok (.iload_n 2, 1) := dk_28 (dk_at dksX1_hand_0 7 rfl rfl)
theorem dX1_hand_8 : decode cX1_hand 8 = .ok (.iconst 0, 1) := dk_3 (dk_at dksX1_hand_0 8 rfl rfl)
theorem dX1_hand_9 : decode cX1_hand 9 = .ok (.aload 4, 2) := dk_25 4 (dk_at dksX1_hand_0 9 rfl rfl)
theorem dX1_hand_11 : decode cX1_hand 11 = .ok (.getfield 198, 3) := dk_180 0 198 (dk_at dksX1_hand_0 11 rfl rfl)
theorem dX1_hand_14 : decode cX1_hand 14 = .ok (.invokeinterface 135 1, 5) := by decide +kernel
theorem dX1_hand_19 : decode cX1_hand 19 = .ok (.iconst 1, 1) := dk_4 (dk_at dksX1_hand_0 19 rfl rfl)
theorem dX1_hand_20 : decode cX1_hand 20 = .ok (.isub, 1) := dk_100 (dk_at dksX1_hand_0 20 rfl rfl)
theorem dX1_hand_21 : decode cX1_hand 21 = .ok (.invokestatic 16, 3) := dk_184 0 16 (dk_at dksX1_hand_0 21 rfl rfl)
theorem dX1_hand_24 : decode cX1_hand 24 = .ok (.invokestatic 139, 3) := dk_184 0 139 (dk_at dksX1_hand_1 0 rfl rfl)
theorem dX1_hand_27 : decode cX1_hand 27 = .ok (.aload 4, 2) := dk_25 4 (dk_at dksX1_hand_1 3 rfl rfl)
theorem dX1_hand_29 : decode cX1_hand 29 = .ok (.getfield 198, 3) := dk_180 0 198 (dk_at dksX1_hand_1 5 rfl rfl)
theorem dX1_hand_32 : decode cX1_hand 32 = .ok (.iload_n 2, 1) := dk_28 (dk_at dksX1_hand_1 8 rfl rfl)
theorem dX1_hand_33 : decode cX1_hand 33 = .ok (.invokeinterface 24 2, 5) := by decide +kernel
theorem dX1_hand_38 : decode cX1_hand 38 = .ok (.checkcast 269, 3) := dk_192 1 13 (dk_at dksX1_hand_1 14 rfl rfl)
theorem dX1_hand_41 : decode cX1_hand 41 = .ok (.astore 5, 2) := dk_58 5 (dk_at dksX1_hand_1 17 rfl rfl)
theorem dX1_hand_43 : decode cX1_hand 43 = .ok (.iload_n 3, 1) := dk_29 (dk_at dksX1_hand_1 19 rfl rfl)
theorem dX1_hand_44 : decode cX1_hand 44 = .ok (.ifCond .eq 11, 3) := dk_153 0 11 (dk_at dksX1_hand_1 20 rfl rfl)
theorem dX1_hand_47 : decode cX1_hand 47 = .ok (.aload 5, 2) := dk_25 5 (dk_at dksX1_hand_2 0 rfl rfl)
theorem dX1_hand_49 : decode cX1_hand 49 = .ok (.invokevirtual 271, 3) := dk_182 1 15 (dk_at dksX1_hand_2 2 rfl rfl)
theorem dX1_hand_52 : decode cX1_hand 52 = .ok (.goto 8, 3) := dk_167 0 8 (dk_at dksX1_hand_2 5 rfl rfl)
theorem dX1_hand_55 : decode cX1_hand 55 = .ok (.aload 5, 2) := dk_25 5 (dk_at dksX1_hand_2 8 rfl rfl)
theorem dX1_hand_57 : decode cX1_hand 57 = .ok (.invokevirtual 273, 3) := dk_182 1 17 (dk_at dksX1_hand_2 10 rfl rfl)
theorem dX1_hand_60 : decode cX1_hand 60 = .ok (.ireturn, 1) := dk_172 (dk_at dksX1_hand_2 13 rfl rfl)
abbrev cX1_ofClaim : ByteArray := prog_1_method_49_code
def yX1_ofClaim : MethodName := ⟨RX1, "ofClaim", "(II)I"⟩
def dkwX1_ofClaim_2 : List UInt8 := [167, 0, 7, 45, 180, 0, 232, 172]
abbrev dktX1_ofClaim_2 : List UInt8 := dkwX1_ofClaim_2 ++ []
def dkwX1_ofClaim_1 : List UInt8 := [167, 0, 31, 28, 4, 160, 0, 10, 45, 180, 0, 85, 167, 0, 19, 28, 5, 160, 0, 10, 45, 180, 0, 92]
abbrev dktX1_ofClaim_1 : List UInt8 := dkwX1_ofClaim_1 ++ dktX1_ofClaim_2
def dkwX1_ofClaim_0 : List UInt8 := [42, 27, 182, 0, 211, 78, 28, 3, 6, 184, 0, 16, 184, 0, 143, 28, 154, 0, 10, 45, 180, 0, 98]
abbrev dktX1_ofClaim_0 : List UInt8 := dkwX1_ofClaim_0 ++ dktX1_ofClaim_1
theorem dksX1_ofClaim_0 : cX1_ofClaim.data.toList.drop 0 = dktX1_ofClaim_0 := by decide +kernel
theorem dksX1_ofClaim_1 : cX1_ofClaim.data.toList.drop 23 = dktX1_ofClaim_1 := dk_seg dksX1_ofClaim_0 23 rfl rfl
theorem dksX1_ofClaim_2 : cX1_ofClaim.data.toList.drop 47 = dktX1_ofClaim_2 := dk_seg dksX1_ofClaim_1 24 rfl rfl
theorem dX1_ofClaim_0 : decode cX1_ofClaim 0 = .ok (.aload_n 0, 1) := dk_42 (dk_at dksX1_ofClaim_0 0 rfl rfl)
theorem dX1_ofClaim_1 : decode cX1_ofClaim 1 = .ok (.iload_n 1, 1) := dk_27 (dk_at dksX1_ofClaim_0 1 rfl rfl)
theorem dX1_ofClaim_2 : decode cX1_ofClaim 2 = .ok (.invokevirtual 211, 3) := dk_182 0 211 (dk_at dksX1_ofClaim_0 2 rfl rfl)
theorem dX1_ofClaim_5 : decode cX1_ofClaim 5 = .ok (.astore_n 3, 1) := dk_78 (dk_at dksX1_ofClaim_0 5 rfl rfl)
theorem dX1_ofClaim_6 : decode cX1_ofClaim 6 = .ok (.iload_n 2, 1) := dk_28 (dk_at dksX1_ofClaim_0 6 rfl rfl)
theorem dX1_ofClaim_7 : decode cX1_ofClaim 7 = .ok (.iconst 0, 1) := dk_3 (dk_at dksX1_ofClaim_0 7 rfl rfl)
theorem dX1_ofClaim_8 : decode cX1_ofClaim 8 = .ok (.iconst 3, 1) := dk_6 (dk_at dksX1_ofClaim_0 8 rfl rfl)
theorem dX1_ofClaim_9 : decode cX1_ofClaim 9 = .ok (.invokestatic 16, 3) := dk_184 0 16 (dk_at dksX1_ofClaim_0 9 rfl rfl)
theorem dX1_ofClaim_12 : decode cX1_ofClaim 12 = .ok (.invokestatic 143, 3) := dk_184 0 143 (dk_at dksX1_ofClaim_0 12 rfl rfl)
theorem dX1_ofClaim_15 : decode cX1_ofClaim 15 = .ok (.iload_n 2, 1) := dk_28 (dk_at dksX1_ofClaim_0 15 rfl rfl)
theorem dX1_ofClaim_16 : decode cX1_ofClaim 16 = .ok (.ifCond .ne 10, 3) := dk_154 0 10 (dk_at dksX1_ofClaim_0 16 rfl rfl)
theorem dX1_ofClaim_19 : decode cX1_ofClaim 19 = .ok (.aload_n 3, 1) := dk_45 (dk_at dksX1_ofClaim_0 19 rfl rfl)
theorem dX1_ofClaim_20 : decode cX1_ofClaim 20 = .ok (.getfield 98, 3) := dk_180 0 98 (dk_at dksX1_ofClaim_0 20 rfl rfl)
theorem dX1_ofClaim_23 : decode cX1_ofClaim 23 = .ok (.goto 31, 3) := dk_167 0 31 (dk_at dksX1_ofClaim_1 0 rfl rfl)
theorem dX1_ofClaim_26 : decode cX1_ofClaim 26 = .ok (.iload_n 2, 1) := dk_28 (dk_at dksX1_ofClaim_1 3 rfl rfl)
theorem dX1_ofClaim_27 : decode cX1_ofClaim 27 = .ok (.iconst 1, 1) := dk_4 (dk_at dksX1_ofClaim_1 4 rfl rfl)
theorem dX1_ofClaim_28 : decode cX1_ofClaim 28 = .ok (.if_icmp .ne 10, 3) := dk_160 0 10 (dk_at dksX1_ofClaim_1 5 rfl rfl)
theorem dX1_ofClaim_31 : decode cX1_ofClaim 31 = .ok (.aload_n 3, 1) := dk_45 (dk_at dksX1_ofClaim_1 8 rfl rfl)
theorem dX1_ofClaim_32 : decode cX1_ofClaim 32 = .ok (.getfield 85, 3) := dk_180 0 85 (dk_at dksX1_ofClaim_1 9 rfl rfl)
theorem dX1_ofClaim_35 : decode cX1_ofClaim 35 = .ok (.goto 19, 3) := dk_167 0 19 (dk_at dksX1_ofClaim_1 12 rfl rfl)
theorem dX1_ofClaim_38 : decode cX1_ofClaim 38 = .ok (.iload_n 2, 1) := dk_28 (dk_at dksX1_ofClaim_1 15 rfl rfl)
theorem dX1_ofClaim_39 : decode cX1_ofClaim 39 = .ok (.iconst 2, 1) := dk_5 (dk_at dksX1_ofClaim_1 16 rfl rfl)
theorem dX1_ofClaim_40 : decode cX1_ofClaim 40 = .ok (.if_icmp .ne 10, 3) := dk_160 0 10 (dk_at dksX1_ofClaim_1 17 rfl rfl)
theorem dX1_ofClaim_43 : decode cX1_ofClaim 43 = .ok (.aload_n 3, 1) := dk_45 (dk_at dksX1_ofClaim_1 20 rfl rfl)
theorem dX1_ofClaim_44 : decode cX1_ofClaim 44 = .ok (.getfield 92, 3) := dk_180 0 92 (dk_at dksX1_ofClaim_1 21 rfl rfl)
theorem dX1_ofClaim_47 : decode cX1_ofClaim 47 = .ok (.goto 7, 3) := dk_167 0 7 (dk_at dksX1_ofClaim_2 0 rfl rfl)
theorem dX1_ofClaim_50 : decode cX1_ofClaim 50 = .ok (.aload_n 3, 1) := dk_45 (dk_at dksX1_ofClaim_2 3 rfl rfl)
theorem dX1_ofClaim_51 : decode cX1_ofClaim 51 = .ok (.getfield 232, 3) := dk_180 0 232 (dk_at dksX1_ofClaim_2 4 rfl rfl)
theorem dX1_ofClaim_54 : decode cX1_ofClaim 54 = .ok (.ireturn, 1) := dk_172 (dk_at dksX1_ofClaim_2 7 rfl rfl)
abbrev cX1_money : ByteArray := prog_1_method_50_code
def yX1_money : MethodName := ⟨RX1, "money", "(I)I"⟩
def dkwX1_money_1 : List UInt8 := [160, 0, 10, 42, 180, 0, 238, 167, 0, 7, 42, 180, 0, 253, 172]
abbrev dktX1_money_1 : List UInt8 := dkwX1_money_1 ++ []
def dkwX1_money_0 : List UInt8 := [27, 3, 5, 184, 0, 16, 184, 0, 143, 27, 154, 0, 10, 42, 180, 0, 235, 167, 0, 19, 27, 4]
abbrev dktX1_money_0 : List UInt8 := dkwX1_money_0 ++ dktX1_money_1
theorem dksX1_money_0 : cX1_money.data.toList.drop 0 = dktX1_money_0 := by decide +kernel
theorem dksX1_money_1 : cX1_money.data.toList.drop 22 = dktX1_money_1 := dk_seg dksX1_money_0 22 rfl rfl
theorem dX1_money_0 : decode cX1_money 0 = .ok (.iload_n 1, 1) := dk_27 (dk_at dksX1_money_0 0 rfl rfl)
theorem dX1_money_1 : decode cX1_money 1 = .ok (.iconst 0, 1) := dk_3 (dk_at dksX1_money_0 1 rfl rfl)
theorem dX1_money_2 : decode cX1_money 2 = .ok (.iconst 2, 1) := dk_5 (dk_at dksX1_money_0 2 rfl rfl)
theorem dX1_money_3 : decode cX1_money 3 = .ok (.invokestatic 16, 3) := dk_184 0 16 (dk_at dksX1_money_0 3 rfl rfl)
theorem dX1_money_6 : decode cX1_money 6 = .ok (.invokestatic 143, 3) := dk_184 0 143 (dk_at dksX1_money_0 6 rfl rfl)
theorem dX1_money_9 : decode cX1_money 9 = .ok (.iload_n 1, 1) := dk_27 (dk_at dksX1_money_0 9 rfl rfl)
theorem dX1_money_10 : decode cX1_money 10 = .ok (.ifCond .ne 10, 3) := dk_154 0 10 (dk_at dksX1_money_0 10 rfl rfl)
theorem dX1_money_13 : decode cX1_money 13 = .ok (.aload_n 0, 1) := dk_42 (dk_at dksX1_money_0 13 rfl rfl)
theorem dX1_money_14 : decode cX1_money 14 = .ok (.getfield 235, 3) := dk_180 0 235 (dk_at dksX1_money_0 14 rfl rfl)
theorem dX1_money_17 : decode cX1_money 17 = .ok (.goto 19, 3) := dk_167 0 19 (dk_at dksX1_money_0 17 rfl rfl)
theorem dX1_money_20 : decode cX1_money 20 = .ok (.iload_n 1, 1) := dk_27 (dk_at dksX1_money_0 20 rfl rfl)
theorem dX1_money_21 : decode cX1_money 21 = .ok (.iconst 1, 1) := dk_4 (dk_at dksX1_money_0 21 rfl rfl)
theorem dX1_money_22 : decode cX1_money 22 = .ok (.if_icmp .ne 10, 3) := dk_160 0 10 (dk_at dksX1_money_1 0 rfl rfl)
theorem dX1_money_25 : decode cX1_money 25 = .ok (.aload_n 0, 1) := dk_42 (dk_at dksX1_money_1 3 rfl rfl)
theorem dX1_money_26 : decode cX1_money 26 = .ok (.getfield 238, 3) := dk_180 0 238 (dk_at dksX1_money_1 4 rfl rfl)
theorem dX1_money_29 : decode cX1_money 29 = .ok (.goto 7, 3) := dk_167 0 7 (dk_at dksX1_money_1 7 rfl rfl)
theorem dX1_money_32 : decode cX1_money 32 = .ok (.aload_n 0, 1) := dk_42 (dk_at dksX1_money_1 10 rfl rfl)
theorem dX1_money_33 : decode cX1_money 33 = .ok (.getfield 253, 3) := dk_180 0 253 (dk_at dksX1_money_1 11 rfl rfl)
theorem dX1_money_36 : decode cX1_money 36 = .ok (.ireturn, 1) := dk_172 (dk_at dksX1_money_1 14 rfl rfl)
abbrev cX1_audit : ByteArray := prog_1_method_51_code
def yX1_audit : MethodName := ⟨RX1, "audit", "(I)I"⟩
def dkwX1_audit_3 : List UInt8 := [167, 0, 4, 3, 128, 61, 132, 3, 1, 167, 255, 191, 28, 172]
abbrev dktX1_audit_3 : List UInt8 := dkwX1_audit_3 ++ []
def dkwX1_audit_2 : List UInt8 := [180, 0, 120, 29, 185, 0, 24, 2, 0, 192, 0, 52, 180, 0, 175, 27, 160, 0, 9, 4, 29, 120]
abbrev dktX1_audit_2 : List UInt8 := dkwX1_audit_2 ++ dktX1_audit_3
def dkwX1_audit_1 : List UInt8 := [162, 0, 58, 28, 42, 180, 0, 120, 29, 185, 0, 24, 2, 0, 192, 0, 52, 180, 0, 170, 154, 0, 29, 42]
abbrev dktX1_audit_1 : List UInt8 := dkwX1_audit_1 ++ dktX1_audit_2
def dkwX1_audit_0 : List UInt8 := [27, 3, 8, 184, 0, 16, 184, 0, 139, 3, 61, 3, 62, 29, 42, 180, 0, 120, 185, 0, 135, 1, 0]
abbrev dktX1_audit_0 : List UInt8 := dkwX1_audit_0 ++ dktX1_audit_1
theorem dksX1_audit_0 : cX1_audit.data.toList.drop 0 = dktX1_audit_0 := by decide +kernel
theorem dksX1_audit_1 : cX1_audit.data.toList.drop 23 = dktX1_audit_1 := dk_seg dksX1_audit_0 23 rfl rfl
theorem dksX1_audit_2 : cX1_audit.data.toList.drop 47 = dktX1_audit_2 := dk_seg dksX1_audit_1 24 rfl rfl
theorem dksX1_audit_3 : cX1_audit.data.toList.drop 69 = dktX1_audit_3 := dk_seg dksX1_audit_2 22 rfl rfl
theorem dX1_audit_0 : decode cX1_audit 0 = .ok (.iload_n 1, 1) := dk_27 (dk_at dksX1_audit_0 0 rfl rfl)
theorem dX1_audit_1 : decode cX1_audit 1 = .ok (.iconst 0, 1) := dk_3 (dk_at dksX1_audit_0 1 rfl rfl)
theorem dX1_audit_2 : decode cX1_audit 2 = .ok (.iconst 5, 1) := dk_8 (dk_at dksX1_audit_0 2 rfl rfl)
theorem dX1_audit_3 : decode cX1_audit 3 = .ok (.invokestatic 16, 3) := dk_184 0 16 (dk_at dksX1_audit_0 3 rfl rfl)
theorem dX1_audit_6 : decode cX1_audit 6 = .ok (.invokestatic 139, 3) := dk_184 0 139 (dk_at dksX1_audit_0 6 rfl rfl)
theorem dX1_audit_9 : decode cX1_audit 9 = .ok (.iconst 0, 1) := dk_3 (dk_at dksX1_audit_0 9 rfl rfl)
theorem dX1_audit_10 : decode cX1_audit 10 = .ok (.istore_n 2, 1) := dk_61 (dk_at dksX1_audit_0 10 rfl rfl)
theorem dX1_audit_11 : decode cX1_audit 11 = .ok (.iconst 0, 1) := dk_3 (dk_at dksX1_audit_0 11 rfl rfl)
theorem dX1_audit_12 : decode cX1_audit 12 = .ok (.istore_n 3, 1) := dk_62 (dk_at dksX1_audit_0 12 rfl rfl)
theorem dX1_audit_13 : decode cX1_audit 13 = .ok (.iload_n 3, 1) := dk_29 (dk_at dksX1_audit_0 13 rfl rfl)
theorem dX1_audit_14 : decode cX1_audit 14 = .ok (.aload_n 0, 1) := dk_42 (dk_at dksX1_audit_0 14 rfl rfl)
theorem dX1_audit_15 : decode cX1_audit 15 = .ok (.getfield 120, 3) := dk_180 0 120 (dk_at dksX1_audit_0 15 rfl rfl)
theorem dX1_audit_18 : decode cX1_audit 18 = .ok (.invokeinterface 135 1, 5) := by decide +kernel
theorem dX1_audit_23 : decode cX1_audit 23 = .ok (.if_icmp .ge 58, 3) := dk_162 0 58 (dk_at dksX1_audit_1 0 rfl rfl)
theorem dX1_audit_26 : decode cX1_audit 26 = .ok (.iload_n 2, 1) := dk_28 (dk_at dksX1_audit_1 3 rfl rfl)
theorem dX1_audit_27 : decode cX1_audit 27 = .ok (.aload_n 0, 1) := dk_42 (dk_at dksX1_audit_1 4 rfl rfl)
theorem dX1_audit_28 : decode cX1_audit 28 = .ok (.getfield 120, 3) := dk_180 0 120 (dk_at dksX1_audit_1 5 rfl rfl)
theorem dX1_audit_31 : decode cX1_audit 31 = .ok (.iload_n 3, 1) := dk_29 (dk_at dksX1_audit_1 8 rfl rfl)
theorem dX1_audit_32 : decode cX1_audit 32 = .ok (.invokeinterface 24 2, 5) := by decide +kernel
theorem dX1_audit_37 : decode cX1_audit 37 = .ok (.checkcast 52, 3) := dk_192 0 52 (dk_at dksX1_audit_1 14 rfl rfl)
theorem dX1_audit_40 : decode cX1_audit 40 = .ok (.getfield 170, 3) := dk_180 0 170 (dk_at dksX1_audit_1 17 rfl rfl)
theorem dX1_audit_43 : decode cX1_audit 43 = .ok (.ifCond .ne 29, 3) := dk_154 0 29 (dk_at dksX1_audit_1 20 rfl rfl)
theorem dX1_audit_46 : decode cX1_audit 46 = .ok (.aload_n 0, 1) := dk_42 (dk_at dksX1_audit_1 23 rfl rfl)
theorem dX1_audit_47 : decode cX1_audit 47 = .ok (.getfield 120, 3) := dk_180 0 120 (dk_at dksX1_audit_2 0 rfl rfl)
theorem dX1_audit_50 : decode cX1_audit 50 = .ok (.iload_n 3, 1) := dk_29 (dk_at dksX1_audit_2 3 rfl rfl)
theorem dX1_audit_51 : decode cX1_audit 51 = .ok (.invokeinterface 24 2, 5) := by decide +kernel
theorem dX1_audit_56 : decode cX1_audit 56 = .ok (.checkcast 52, 3) := dk_192 0 52 (dk_at dksX1_audit_2 9 rfl rfl)
theorem dX1_audit_59 : decode cX1_audit 59 = .ok (.getfield 175, 3) := dk_180 0 175 (dk_at dksX1_audit_2 12 rfl rfl)
theorem dX1_audit_62 : decode cX1_audit 62 = .ok (.iload_n 1, 1) := dk_27 (dk_at dksX1_audit_2 15 rfl rfl)
theorem dX1_audit_63 : decode cX1_audit 63 = .ok (.if_icmp .ne 9, 3) := dk_160 0 9 (dk_at dksX1_audit_2 16 rfl rfl)
theorem dX1_audit_66 : decode cX1_audit 66 = .ok (.iconst 1, 1) := dk_4 (dk_at dksX1_audit_2 19 rfl rfl)
theorem dX1_audit_67 : decode cX1_audit 67 = .ok (.iload_n 3, 1) := dk_29 (dk_at dksX1_audit_2 20 rfl rfl)
theorem dX1_audit_68 : decode cX1_audit 68 = .ok (.ishl, 1) := dk_120 (dk_at dksX1_audit_2 21 rfl rfl)
theorem dX1_audit_69 : decode cX1_audit 69 = .ok (.goto 4, 3) := dk_167 0 4 (dk_at dksX1_audit_3 0 rfl rfl)
theorem dX1_audit_72 : decode cX1_audit 72 = .ok (.iconst 0, 1) := dk_3 (dk_at dksX1_audit_3 3 rfl rfl)
theorem dX1_audit_73 : decode cX1_audit 73 = .ok (.ior, 1) := dk_128 (dk_at dksX1_audit_3 4 rfl rfl)
theorem dX1_audit_74 : decode cX1_audit 74 = .ok (.istore_n 2, 1) := dk_61 (dk_at dksX1_audit_3 5 rfl rfl)
theorem dX1_audit_75 : decode cX1_audit 75 = .ok (.iinc 3 1, 3) := dk_132 3 1 (dk_at dksX1_audit_3 6 rfl rfl)
theorem dX1_audit_78 : decode cX1_audit 78 = .ok (.goto (-65), 3) := dk_167 255 191 (dk_at dksX1_audit_3 9 rfl rfl)
theorem dX1_audit_81 : decode cX1_audit 81 = .ok (.iload_n 2, 1) := dk_28 (dk_at dksX1_audit_3 12 rfl rfl)
theorem dX1_audit_82 : decode cX1_audit 82 = .ok (.ireturn, 1) := dk_172 (dk_at dksX1_audit_3 13 rfl rfl)
theorem q33 : (Jvm.Cond.initialized "Lostroom") ∈ lw_all := lw_g (lw_at lw_m1 1 rfl) rfl
theorem q61 : (Jvm.Cond.instantiable "Lostroom" (12 : Nat)) ∈ lw_all := lw_g (lw_at lw_m1 29 rfl) rfl
theorem q63 : (Jvm.Cond.instanceMethod ({ cls := "Lostroom", name := "<init>", desc := "()V" } : Jvm.MethodName)) ∈ lw_all := lw_g (lw_at lw_m1 31 rfl) rfl
theorem q64 : (Jvm.Cond.code ({ cls := "Lostroom", name := "<init>", desc := "()V" } : Jvm.MethodName) prog_1_method_12_code (2 : Nat) (Option.none : Option Jvm.ClassFile.FieldType)) ∈ lw_all := lw_g (lw_at lw_m1 32 rfl) rfl
theorem q65 : (Jvm.Cond.methodLink "Lostroom" (108 : Nat) ({ cls := "java/lang/Object", name := "<init>", desc := "()V" } : Jvm.MethodName)) ∈ lw_all := lw_g (lw_at lw_m1 33 rfl) rfl
theorem q68 : (Jvm.Cond.classLink "Lostroom" (117 : Nat) "java/util/ArrayList") ∈ lw_all := lw_g (lw_at lw_m1 36 rfl) rfl
theorem q70 : (Jvm.Cond.methodLink "Lostroom" (119 : Nat) ({ cls := "java/util/ArrayList", name := "<init>", desc := "()V" } : Jvm.MethodName)) ∈ lw_all := lw_g (lw_at lw_m1 38 rfl) rfl
theorem q98 : (Jvm.Cond.methodLink "Lostroom" (126 : Nat) ({ cls := "java/util/Arrays", name := "fill", desc := "([II)V" } : Jvm.MethodName)) ∈ lw_all := lw_g (lw_at lw_m1 66 rfl) rfl
theorem q101 : (Jvm.Cond.interfaceEntry "Lostroom" (132 : Nat)) ∈ lw_tbl := lw_at lw_m1 69 rfl
theorem q102 : (Jvm.Cond.methodLink "Lostroom" (132 : Nat) ({ cls := "java/util/List", name := "add", desc := "(Ljava/lang/Object;)Z" } : Jvm.MethodName)) ∈ lw_all := lw_g (lw_at lw_m1 70 rfl) rfl
theorem q139 : (Jvm.Cond.selects "Lostroom" ({ cls := "java/lang/Object", name := "getClass", desc := "()Ljava/lang/Class;" } : Jvm.MethodName) ({ cls := "java/lang/Object", name := "getClass", desc := "()Ljava/lang/Class;" } : Jvm.MethodName)) ∈ lw_all := lw_g (lw_at lw_m1 107 rfl) rfl
theorem q168 : (Jvm.Cond.fieldLink "Lostroom" (157 : Nat) "Lostroom" "today" "I") ∈ lw_all := lw_g (lw_at lw_m1 136 rfl) rfl
theorem q169 : (Jvm.Cond.fieldLink "Lostroom" (47 : Nat) "Lostroom" "near" "[I") ∈ lw_all := lw_g (lw_at lw_m1 137 rfl) rfl
theorem q170 : (Jvm.Cond.fieldLink "Lostroom" (60 : Nat) "Lostroom" "alike" "[I") ∈ lw_all := lw_g (lw_at lw_m1 138 rfl) rfl
theorem q172 : (Jvm.Cond.fieldLink "Lostroom" (111 : Nat) "Lostroom" "terms" "[I") ∈ lw_all := lw_g (lw_at lw_m1 140 rfl) rfl
theorem q173 : (Jvm.Cond.fieldLink "Lostroom" (114 : Nat) "Lostroom" "reward" "[I") ∈ lw_all := lw_g (lw_at lw_m1 141 rfl) rfl
theorem q174 : (Jvm.Cond.fieldLink "Lostroom" (20 : Nat) "Lostroom" "trains" "Ljava/util/List;") ∈ lw_all := lw_g (lw_at lw_m1 142 rfl) rfl
theorem q175 : (Jvm.Cond.fieldLink "Lostroom" (105 : Nat) "Lostroom" "threshold" "I") ∈ lw_all := lw_g (lw_at lw_m1 143 rfl) rfl
theorem q176 : (Jvm.Cond.fieldLink "Lostroom" (120 : Nat) "Lostroom" "finds" "Ljava/util/List;") ∈ lw_all := lw_g (lw_at lw_m1 144 rfl) rfl
theorem q177 : (Jvm.Cond.fieldLink "Lostroom" (123 : Nat) "Lostroom" "claims" "Ljava/util/List;") ∈ lw_all := lw_g (lw_at lw_m1 145 rfl) rfl
theorem q178 : (Jvm.Cond.fieldLink "Lostroom" (235 : Nat) "Lostroom" "fees" "I") ∈ lw_all := lw_g (lw_at lw_m1 146 rfl) rfl
theorem q179 : (Jvm.Cond.fieldLink "Lostroom" (238 : Nat) "Lostroom" "rewards" "I") ∈ lw_all := lw_g (lw_at lw_m1 147 rfl) rfl
theorem q180 : (Jvm.Cond.fieldLink "Lostroom" (253 : Nat) "Lostroom" "proceeds" "I") ∈ lw_all := lw_g (lw_at lw_m1 148 rfl) rfl
theorem q181 : (Jvm.Cond.lays "Lostroom" "Lostroom" "today" "I") ∈ lw_all := lw_g (lw_at lw_m1 149 rfl) rfl
theorem q182 : (Jvm.Cond.soleField "Lostroom" "today") ∈ lw_all := lw_g (lw_at lw_m1 150 rfl) rfl
theorem q183 : (Jvm.Cond.laysFinal "Lostroom" "Lostroom" "near" "[I") ∈ lw_all := lw_g (lw_at lw_m1 151 rfl) rfl
theorem q184 : (Jvm.Cond.soleField "Lostroom" "near") ∈ lw_all := lw_g (lw_at lw_m1 152 rfl) rfl
theorem q185 : (Jvm.Cond.laysFinal "Lostroom" "Lostroom" "alike" "[I") ∈ lw_all := lw_g (lw_at lw_m1 153 rfl) rfl
theorem q186 : (Jvm.Cond.soleField "Lostroom" "alike") ∈ lw_all := lw_g (lw_at lw_m1 154 rfl) rfl
theorem q187 : (Jvm.Cond.laysFinal "Lostroom" "Lostroom" "terms" "[I") ∈ lw_all := lw_g (lw_at lw_m1 155 rfl) rfl
theorem q188 : (Jvm.Cond.soleField "Lostroom" "terms") ∈ lw_all := lw_g (lw_at lw_m1 156 rfl) rfl
theorem q189 : (Jvm.Cond.laysFinal "Lostroom" "Lostroom" "reward" "[I") ∈ lw_all := lw_g (lw_at lw_m1 157 rfl) rfl
theorem q190 : (Jvm.Cond.soleField "Lostroom" "reward") ∈ lw_all := lw_g (lw_at lw_m1 158 rfl) rfl
theorem q191 : (Jvm.Cond.laysFinal "Lostroom" "Lostroom" "trains" "Ljava/util/List;") ∈ lw_all := lw_g (lw_at lw_m1 159 rfl) rfl
theorem q192 : (Jvm.Cond.soleField "Lostroom" "trains") ∈ lw_all := lw_g (lw_at lw_m1 160 rfl) rfl
theorem q193 : (Jvm.Cond.lays "Lostroom" "Lostroom" "threshold" "I") ∈ lw_all := lw_g (lw_at lw_m1 161 rfl) rfl
theorem q194 : (Jvm.Cond.soleField "Lostroom" "threshold") ∈ lw_all := lw_g (lw_at lw_m1 162 rfl) rfl
theorem q195 : (Jvm.Cond.laysFinal "Lostroom" "Lostroom" "finds" "Ljava/util/List;") ∈ lw_all := lw_g (lw_at lw_m1 163 rfl) rfl
theorem q196 : (Jvm.Cond.soleField "Lostroom" "finds") ∈ lw_all := lw_g (lw_at lw_m1 164 rfl) rfl
theorem q197 : (Jvm.Cond.laysFinal "Lostroom" "Lostroom" "claims" "Ljava/util/List;") ∈ lw_all := lw_g (lw_at lw_m1 165 rfl) rfl
theorem q198 : (Jvm.Cond.soleField "Lostroom" "claims") ∈ lw_all := lw_g (lw_at lw_m1 166 rfl) rfl
theorem q199 : (Jvm.Cond.lays "Lostroom" "Lostroom" "fees" "I") ∈ lw_all := lw_g (lw_at lw_m1 167 rfl) rfl
theorem q200 : (Jvm.Cond.soleField "Lostroom" "fees") ∈ lw_all := lw_g (lw_at lw_m1 168 rfl) rfl
theorem q201 : (Jvm.Cond.lays "Lostroom" "Lostroom" "rewards" "I") ∈ lw_all := lw_g (lw_at lw_m1 169 rfl) rfl
theorem q202 : (Jvm.Cond.soleField "Lostroom" "rewards") ∈ lw_all := lw_g (lw_at lw_m1 170 rfl) rfl
theorem q203 : (Jvm.Cond.lays "Lostroom" "Lostroom" "proceeds" "I") ∈ lw_all := lw_g (lw_at lw_m1 171 rfl) rfl
theorem q204 : (Jvm.Cond.soleField "Lostroom" "proceeds") ∈ lw_all := lw_g (lw_at lw_m1 172 rfl) rfl
theorem q205 : (Jvm.Cond.superclass "Lostroom" "java/lang/Object") ∈ lw_all := lw_g (lw_at lw_m1 173 rfl) rfl
theorem q207 : (Jvm.Cond.instanceMethod ({ cls := "Lostroom", name := "today", desc := "()I" } : Jvm.MethodName)) ∈ lw_all := lw_g (lw_at lw_m1 175 rfl) rfl
theorem q208 : (Jvm.Cond.selects "Lostroom" ({ cls := "Lostroom", name := "today", desc := "()I" } : Jvm.MethodName) ({ cls := "Lostroom", name := "today", desc := "()I" } : Jvm.MethodName)) ∈ lw_all := lw_g (lw_at lw_m1 176 rfl) rfl
theorem q209 : (Jvm.Cond.code ({ cls := "Lostroom", name := "today", desc := "()I" } : Jvm.MethodName) prog_1_method_40_code (1 : Nat) (Option.some Jvm.ClassFile.FieldType.int)) ∈ lw_all := lw_g (lw_at lw_m1 177 rfl) rfl
theorem q292 : (Jvm.Cond.instanceMethod ({ cls := "Lostroom", name := "near", desc := "(II)Z" } : Jvm.MethodName)) ∈ lw_all := lw_g (lw_at lw_m2 20 rfl) rfl
theorem q293 : (Jvm.Cond.selects "Lostroom" ({ cls := "Lostroom", name := "near", desc := "(II)Z" } : Jvm.MethodName) ({ cls := "Lostroom", name := "near", desc := "(II)Z" } : Jvm.MethodName)) ∈ lw_all := lw_g (lw_at lw_m2 21 rfl) rfl
theorem q294 : (Jvm.Cond.code ({ cls := "Lostroom", name := "near", desc := "(II)Z" } : Jvm.MethodName) prog_1_method_17_code (3 : Nat) (Option.some Jvm.ClassFile.FieldType.boolean)) ∈ lw_all := lw_g (lw_at lw_m2 22 rfl) rfl
theorem q295 : (Jvm.Cond.methodLink "Lostroom" (16 : Nat) ({ cls := "Lostroom", name := "isIn", desc := "(III)Z" } : Jvm.MethodName)) ∈ lw_all := lw_g (lw_at lw_m2 23 rfl) rfl
theorem q296 : (Jvm.Cond.static ({ cls := "Lostroom", name := "isIn", desc := "(III)Z" } : Jvm.MethodName)) ∈ lw_all := lw_g (lw_at lw_m2 24 rfl) rfl
theorem q297 : (Jvm.Cond.code ({ cls := "Lostroom", name := "isIn", desc := "(III)Z" } : Jvm.MethodName) prog_1_method_4_code (3 : Nat) (Option.some Jvm.ClassFile.FieldType.boolean)) ∈ lw_all := lw_g (lw_at lw_m2 25 rfl) rfl
theorem q298 : (Jvm.Cond.methodLink "Lostroom" (139 : Nat) ({ cls := "Lostroom", name := "requireIndex", desc := "(Z)V" } : Jvm.MethodName)) ∈ lw_all := lw_g (lw_at lw_m2 26 rfl) rfl
theorem q299 : (Jvm.Cond.static ({ cls := "Lostroom", name := "requireIndex", desc := "(Z)V" } : Jvm.MethodName)) ∈ lw_all := lw_g (lw_at lw_m2 27 rfl) rfl
theorem q300 : (Jvm.Cond.code ({ cls := "Lostroom", name := "requireIndex", desc := "(Z)V" } : Jvm.MethodName) prog_1_method_1_code (1 : Nat) (Option.none : Option Jvm.ClassFile.FieldType)) ∈ lw_all := lw_g (lw_at lw_m2 28 rfl) rfl
theorem q301 : (Jvm.Cond.classLink "Lostroom" (1 : Nat) "java/lang/IndexOutOfBoundsException") ∈ lw_all := lw_g (lw_at lw_m2 29 rfl) rfl
theorem q310 : (Jvm.Cond.methodLink "Lostroom" (3 : Nat) ({ cls := "java/lang/IndexOutOfBoundsException", name := "<init>", desc := "()V" } : Jvm.MethodName)) ∈ lw_all := lw_g (lw_at lw_m2 38 rfl) rfl
theorem q322 : (Jvm.Cond.methodLink "Lostroom" (143 : Nat) ({ cls := "Lostroom", name := "requireArgument", desc := "(Z)V" } : Jvm.MethodName)) ∈ lw_all := lw_g (lw_at lw_m2 50 rfl) rfl
theorem q323 : (Jvm.Cond.static ({ cls := "Lostroom", name := "requireArgument", desc := "(Z)V" } : Jvm.MethodName)) ∈ lw_all := lw_g (lw_at lw_m2 51 rfl) rfl
theorem q324 : (Jvm.Cond.code ({ cls := "Lostroom", name := "requireArgument", desc := "(Z)V" } : Jvm.MethodName) prog_1_method_2_code (1 : Nat) (Option.none : Option Jvm.ClassFile.FieldType)) ∈ lw_all := lw_g (lw_at lw_m2 52 rfl) rfl
theorem q325 : (Jvm.Cond.classLink "Lostroom" (7 : Nat) "java/lang/IllegalArgumentException") ∈ lw_all := lw_g (lw_at lw_m2 53 rfl) rfl
theorem q334 : (Jvm.Cond.methodLink "Lostroom" (9 : Nat) ({ cls := "java/lang/IllegalArgumentException", name := "<init>", desc := "()V" } : Jvm.MethodName)) ∈ lw_all := lw_g (lw_at lw_m2 62 rfl) rfl
theorem q340 : (Jvm.Cond.methodLink "Lostroom" (44 : Nat) ({ cls := "Lostroom", name := "has", desc := "(II)Z" } : Jvm.MethodName)) ∈ lw_all := lw_g (lw_at lw_m2 68 rfl) rfl
theorem q341 : (Jvm.Cond.static ({ cls := "Lostroom", name := "has", desc := "(II)Z" } : Jvm.MethodName)) ∈ lw_all := lw_g (lw_at lw_m2 69 rfl) rfl
theorem q342 : (Jvm.Cond.code ({ cls := "Lostroom", name := "has", desc := "(II)Z" } : Jvm.MethodName) prog_1_method_5_code (2 : Nat) (Option.some Jvm.ClassFile.FieldType.boolean)) ∈ lw_all := lw_g (lw_at lw_m2 70 rfl) rfl
theorem q347 : (Jvm.Cond.instanceMethod ({ cls := "Lostroom", name := "alike", desc := "(II)Z" } : Jvm.MethodName)) ∈ lw_all := lw_g (lw_at lw_m2 75 rfl) rfl
theorem q348 : (Jvm.Cond.selects "Lostroom" ({ cls := "Lostroom", name := "alike", desc := "(II)Z" } : Jvm.MethodName) ({ cls := "Lostroom", name := "alike", desc := "(II)Z" } : Jvm.MethodName)) ∈ lw_all := lw_g (lw_at lw_m2 76 rfl) rfl
theorem q349 : (Jvm.Cond.code ({ cls := "Lostroom", name := "alike", desc := "(II)Z" } : Jvm.MethodName) prog_1_method_18_code (3 : Nat) (Option.some Jvm.ClassFile.FieldType.boolean)) ∈ lw_all := lw_g (lw_at lw_m2 77 rfl) rfl
theorem q350 : (Jvm.Cond.methodLink "Lostroom" (146 : Nat) ({ cls := "Lostroom", name := "requireKind", desc := "(I)V" } : Jvm.MethodName)) ∈ lw_all := lw_g (lw_at lw_m2 78 rfl) rfl
theorem q351 : (Jvm.Cond.static ({ cls := "Lostroom", name := "requireKind", desc := "(I)V" } : Jvm.MethodName)) ∈ lw_all := lw_g (lw_at lw_m2 79 rfl) rfl
theorem q352 : (Jvm.Cond.code ({ cls := "Lostroom", name := "requireKind", desc := "(I)V" } : Jvm.MethodName) prog_1_method_15_code (1 : Nat) (Option.none : Option Jvm.ClassFile.FieldType)) ∈ lw_all := lw_g (lw_at lw_m2 80 rfl) rfl
theorem q357 : (Jvm.Cond.instanceMethod ({ cls := "Lostroom", name := "rule", desc := "(III)I" } : Jvm.MethodName)) ∈ lw_all := lw_g (lw_at lw_m2 85 rfl) rfl
theorem q358 : (Jvm.Cond.selects "Lostroom" ({ cls := "Lostroom", name := "rule", desc := "(III)I" } : Jvm.MethodName) ({ cls := "Lostroom", name := "rule", desc := "(III)I" } : Jvm.MethodName)) ∈ lw_all := lw_g (lw_at lw_m2 86 rfl) rfl
theorem q359 : (Jvm.Cond.code ({ cls := "Lostroom", name := "rule", desc := "(III)I" } : Jvm.MethodName) prog_1_method_19_code (5 : Nat) (Option.some Jvm.ClassFile.FieldType.int)) ∈ lw_all := lw_g (lw_at lw_m2 87 rfl) rfl
theorem q365 : (Jvm.Cond.instanceMethod ({ cls := "Lostroom", name := "stop", desc := "(II)I" } : Jvm.MethodName)) ∈ lw_all := lw_g (lw_at lw_m2 93 rfl) rfl
theorem q366 : (Jvm.Cond.selects "Lostroom" ({ cls := "Lostroom", name := "stop", desc := "(II)I" } : Jvm.MethodName) ({ cls := "Lostroom", name := "stop", desc := "(II)I" } : Jvm.MethodName)) ∈ lw_all := lw_g (lw_at lw_m2 94 rfl) rfl
theorem q367 : (Jvm.Cond.code ({ cls := "Lostroom", name := "stop", desc := "(II)I" } : Jvm.MethodName) prog_1_method_20_code (3 : Nat) (Option.some Jvm.ClassFile.FieldType.int)) ∈ lw_all := lw_g (lw_at lw_m2 95 rfl) rfl
theorem q368 : (Jvm.Cond.interfaceEntry "Lostroom" (24 : Nat)) ∈ lw_tbl := lw_at lw_m2 96 rfl
theorem q369 : (Jvm.Cond.methodLink "Lostroom" (24 : Nat) ({ cls := "java/util/List", name := "get", desc := "(I)Ljava/lang/Object;" } : Jvm.MethodName)) ∈ lw_all := lw_g (lw_at lw_m2 97 rfl) rfl
theorem q387 : (Jvm.Cond.classLink "Lostroom" (25 : Nat) "java/util/List") ∈ lw_all := lw_g (lw_at lw_m2 115 rfl) rfl
theorem q388 : (Jvm.Cond.interfaceEntry "Lostroom" (135 : Nat)) ∈ lw_tbl := lw_at lw_m2 116 rfl
theorem q389 : (Jvm.Cond.methodLink "Lostroom" (135 : Nat) ({ cls := "java/util/List", name := "size", desc := "()I" } : Jvm.MethodName)) ∈ lw_all := lw_g (lw_at lw_m2 117 rfl) rfl
theorem q397 : (Jvm.Cond.methodLink "Lostroom" (30 : Nat) ({ cls := "java/lang/Integer", name := "valueOf", desc := "(I)Ljava/lang/Integer;" } : Jvm.MethodName)) ∈ lw_all := lw_g (lw_at lw_m2 125 rfl) rfl
theorem q417 : (Jvm.Cond.interfaceEntry "Lostroom" (36 : Nat)) ∈ lw_tbl := lw_at lw_m2 145 rfl
theorem q418 : (Jvm.Cond.methodLink "Lostroom" (36 : Nat) ({ cls := "java/util/List", name := "contains", desc := "(Ljava/lang/Object;)Z" } : Jvm.MethodName)) ∈ lw_all := lw_g (lw_at lw_m2 146 rfl) rfl
theorem q438 : (Jvm.Cond.selects "Lostroom" ({ cls := "java/lang/Object", name := "equals", desc := "(Ljava/lang/Object;)Z" } : Jvm.MethodName) ({ cls := "java/lang/Object", name := "equals", desc := "(Ljava/lang/Object;)Z" } : Jvm.MethodName)) ∈ lw_all := lw_g (lw_at lw_m2 166 rfl) rfl
theorem q457 : (Jvm.Cond.methodLink "Lostroom" (150 : Nat) ({ cls := "Lostroom", name := "requireState", desc := "(Z)V" } : Jvm.MethodName)) ∈ lw_all := lw_g (lw_at lw_m2 185 rfl) rfl
theorem q458 : (Jvm.Cond.static ({ cls := "Lostroom", name := "requireState", desc := "(Z)V" } : Jvm.MethodName)) ∈ lw_all := lw_g (lw_at lw_m2 186 rfl) rfl
theorem q459 : (Jvm.Cond.code ({ cls := "Lostroom", name := "requireState", desc := "(Z)V" } : Jvm.MethodName) prog_1_method_3_code (1 : Nat) (Option.none : Option Jvm.ClassFile.FieldType)) ∈ lw_all := lw_g (lw_at lw_m2 187 rfl) rfl
theorem q460 : (Jvm.Cond.classLink "Lostroom" (10 : Nat) "java/lang/IllegalStateException") ∈ lw_all := lw_g (lw_at lw_m2 188 rfl) rfl
theorem q469 : (Jvm.Cond.methodLink "Lostroom" (12 : Nat) ({ cls := "java/lang/IllegalStateException", name := "<init>", desc := "()V" } : Jvm.MethodName)) ∈ lw_all := lw_g (lw_at lw_m2 197 rfl) rfl
theorem q479 : (Jvm.Cond.instanceMethod ({ cls := "Lostroom", name := "threshold", desc := "(I)I" } : Jvm.MethodName)) ∈ lw_all := lw_g (lw_at lw_m2 207 rfl) rfl
theorem q480 : (Jvm.Cond.selects "Lostroom" ({ cls := "Lostroom", name := "threshold", desc := "(I)I" } : Jvm.MethodName) ({ cls := "Lostroom", name := "threshold", desc := "(I)I" } : Jvm.MethodName)) ∈ lw_all := lw_g (lw_at lw_m2 208 rfl) rfl
theorem q481 : (Jvm.Cond.code ({ cls := "Lostroom", name := "threshold", desc := "(I)I" } : Jvm.MethodName) prog_1_method_21_code (3 : Nat) (Option.some Jvm.ClassFile.FieldType.int)) ∈ lw_all := lw_g (lw_at lw_m2 209 rfl) rfl
theorem q486 : (Jvm.Cond.instanceMethod ({ cls := "Lostroom", name := "find", desc := "(IIIIIII)I" } : Jvm.MethodName)) ∈ lw_all := lw_g (lw_at lw_m2 214 rfl) rfl
theorem q487 : (Jvm.Cond.selects "Lostroom" ({ cls := "Lostroom", name := "find", desc := "(IIIIIII)I" } : Jvm.MethodName) ({ cls := "Lostroom", name := "find", desc := "(IIIIIII)I" } : Jvm.MethodName)) ∈ lw_all := lw_g (lw_at lw_m2 215 rfl) rfl
theorem q488 : (Jvm.Cond.code ({ cls := "Lostroom", name := "find", desc := "(IIIIIII)I" } : Jvm.MethodName) prog_1_method_22_code (8 : Nat) (Option.some Jvm.ClassFile.FieldType.int)) ∈ lw_all := lw_g (lw_at lw_m2 216 rfl) rfl
theorem q489 : (Jvm.Cond.methodLink "Lostroom" (153 : Nat) ({ cls := "Lostroom", name := "isPlace", desc := "(I)Z" } : Jvm.MethodName)) ∈ lw_all := lw_g (lw_at lw_m2 217 rfl) rfl
theorem q490 : (Jvm.Cond.static ({ cls := "Lostroom", name := "isPlace", desc := "(I)Z" } : Jvm.MethodName)) ∈ lw_all := lw_g (lw_at lw_m2 218 rfl) rfl
theorem q491 : (Jvm.Cond.code ({ cls := "Lostroom", name := "isPlace", desc := "(I)Z" } : Jvm.MethodName) prog_1_method_16_code (1 : Nat) (Option.some Jvm.ClassFile.FieldType.boolean)) ∈ lw_all := lw_g (lw_at lw_m2 219 rfl) rfl
theorem q492 : (Jvm.Cond.methodLink "Lostroom" (160 : Nat) ({ cls := "Lostroom", name := "isWords", desc := "(I)Z" } : Jvm.MethodName)) ∈ lw_all := lw_g (lw_at lw_m2 220 rfl) rfl
theorem q493 : (Jvm.Cond.static ({ cls := "Lostroom", name := "isWords", desc := "(I)Z" } : Jvm.MethodName)) ∈ lw_all := lw_g (lw_at lw_m2 221 rfl) rfl
theorem q494 : (Jvm.Cond.code ({ cls := "Lostroom", name := "isWords", desc := "(I)Z" } : Jvm.MethodName) prog_1_method_6_code (1 : Nat) (Option.some Jvm.ClassFile.FieldType.boolean)) ∈ lw_all := lw_g (lw_at lw_m2 222 rfl) rfl
theorem q495 : (Jvm.Cond.constant "Lostroom" (15 : Nat) (16777215 : Int32)) ∈ lw_all := lw_g (lw_at lw_m2 223 rfl) rfl
theorem q496 : (Jvm.Cond.classLink "Lostroom" (52 : Nat) "Lostroom$Find") ∈ lw_all := lw_g (lw_at lw_m2 224 rfl) rfl
theorem q498 : (Jvm.Cond.methodLink "Lostroom" (163 : Nat) ({ cls := "Lostroom$Find", name := "<init>", desc := "(LLostroom;IIIIIII)V" } : Jvm.MethodName)) ∈ lw_all := lw_g (lw_at lw_m2 226 rfl) rfl
theorem q523 : (Jvm.Cond.fieldLinkNest "Lostroom" (51 : Nat) "Lostroom$Find" "kind" "I" "Lostroom") ∈ lw_tbl := lw_at lw_m3 11 rfl
theorem q525 : (Jvm.Cond.fieldLinkNest "Lostroom" (78 : Nat) "Lostroom$Find" "place" "I" "Lostroom") ∈ lw_tbl := lw_at lw_m3 13 rfl
theorem q527 : (Jvm.Cond.fieldLinkNest "Lostroom" (63 : Nat) "Lostroom$Find" "day" "I" "Lostroom") ∈ lw_tbl := lw_at lw_m3 15 rfl
theorem q529 : (Jvm.Cond.fieldLinkNest "Lostroom" (88 : Nat) "Lostroom$Find" "words" "I" "Lostroom") ∈ lw_tbl := lw_at lw_m3 17 rfl
theorem q532 : (Jvm.Cond.fieldLinkNest "Lostroom" (89 : Nat) "Lostroom$Find" "secret" "I" "Lostroom") ∈ lw_tbl := lw_at lw_m3 20 rfl
theorem q534 : (Jvm.Cond.fieldLinkNest "Lostroom" (229 : Nat) "Lostroom$Find" "value" "I" "Lostroom") ∈ lw_tbl := lw_at lw_m3 22 rfl
theorem q536 : (Jvm.Cond.fieldLinkNest "Lostroom" (170 : Nat) "Lostroom$Find" "state" "I" "Lostroom") ∈ lw_tbl := lw_at lw_m3 24 rfl
theorem q538 : (Jvm.Cond.fieldLinkNest "Lostroom" (241 : Nat) "Lostroom$Find" "until" "I" "Lostroom") ∈ lw_tbl := lw_at lw_m3 26 rfl
theorem q539 : (Jvm.Cond.fieldLinkNest "Lostroom" (204 : Nat) "Lostroom$Find" "isHeld" "Z" "Lostroom") ∈ lw_tbl := lw_at lw_m3 27 rfl
theorem q541 : (Jvm.Cond.fieldLinkNest "Lostroom" (175 : Nat) "Lostroom$Find" "room" "I" "Lostroom") ∈ lw_tbl := lw_at lw_m3 29 rfl
theorem q542 : (Jvm.Cond.fieldLinkNest "Lostroom" (178 : Nat) "Lostroom$Find" "arrives" "I" "Lostroom") ∈ lw_tbl := lw_at lw_m3 30 rfl
theorem q543 : (Jvm.Cond.fieldLinkNest "Lostroom" (247 : Nat) "Lostroom$Find" "price" "I" "Lostroom") ∈ lw_tbl := lw_at lw_m3 31 rfl
theorem q544 : (Jvm.Cond.fieldLinkNest "Lostroom" (250 : Nat) "Lostroom$Find" "soldOn" "I" "Lostroom") ∈ lw_tbl := lw_at lw_m3 32 rfl
theorem q546 : (Jvm.Cond.fieldLinkNest "Lostroom" (198 : Nat) "Lostroom$Find" "hands" "Ljava/util/List;" "Lostroom") ∈ lw_tbl := lw_at lw_m3 34 rfl
theorem q583 : (Jvm.Cond.instanceMethod ({ cls := "Lostroom", name := "see", desc := "(II)I" } : Jvm.MethodName)) ∈ lw_all := lw_g (lw_at lw_m3 71 rfl) rfl
theorem q584 : (Jvm.Cond.selects "Lostroom" ({ cls := "Lostroom", name := "see", desc := "(II)I" } : Jvm.MethodName) ({ cls := "Lostroom", name := "see", desc := "(II)I" } : Jvm.MethodName)) ∈ lw_all := lw_g (lw_at lw_m3 72 rfl) rfl
theorem q585 : (Jvm.Cond.code ({ cls := "Lostroom", name := "see", desc := "(II)I" } : Jvm.MethodName) prog_1_method_23_code (4 : Nat) (Option.some Jvm.ClassFile.FieldType.int)) ∈ lw_all := lw_g (lw_at lw_m3 73 rfl) rfl
theorem q586 : (Jvm.Cond.methodLink "Lostroom" (166 : Nat) ({ cls := "Lostroom", name := "findAt", desc := "(I)LLostroom$Find;" } : Jvm.MethodName)) ∈ lw_all := lw_g (lw_at lw_m3 74 rfl) rfl
theorem q587 : (Jvm.Cond.privateMethod ({ cls := "Lostroom", name := "findAt", desc := "(I)LLostroom$Find;" } : Jvm.MethodName)) ∈ lw_tbl := lw_at lw_m3 75 rfl
theorem q588 : (Jvm.Cond.instanceMethod ({ cls := "Lostroom", name := "findAt", desc := "(I)LLostroom$Find;" } : Jvm.MethodName)) ∈ lw_all := lw_g (lw_at lw_m3 76 rfl) rfl
theorem q589 : (Jvm.Cond.code ({ cls := "Lostroom", name := "findAt", desc := "(I)LLostroom$Find;" } : Jvm.MethodName) prog_1_method_13_code (2 : Nat) (Option.some (Jvm.ClassFile.FieldType.object "Lostroom$Find"))) ∈ lw_all := lw_g (lw_at lw_m3 77 rfl) rfl
theorem q590 : (Jvm.Cond.methodLink "Lostroom" (171 : Nat) ({ cls := "java/lang/Integer", name := "bitCount", desc := "(I)I" } : Jvm.MethodName)) ∈ lw_all := lw_g (lw_at lw_m3 78 rfl) rfl
theorem q600 : (Jvm.Cond.instanceMethod ({ cls := "Lostroom", name := "send", desc := "(II)I" } : Jvm.MethodName)) ∈ lw_all := lw_g (lw_at lw_m3 88 rfl) rfl
theorem q601 : (Jvm.Cond.selects "Lostroom" ({ cls := "Lostroom", name := "send", desc := "(II)I" } : Jvm.MethodName) ({ cls := "Lostroom", name := "send", desc := "(II)I" } : Jvm.MethodName)) ∈ lw_all := lw_g (lw_at lw_m3 89 rfl) rfl
theorem q602 : (Jvm.Cond.code ({ cls := "Lostroom", name := "send", desc := "(II)I" } : Jvm.MethodName) prog_1_method_24_code (5 : Nat) (Option.some Jvm.ClassFile.FieldType.int)) ∈ lw_all := lw_g (lw_at lw_m3 90 rfl) rfl
theorem q607 : (Jvm.Cond.instanceMethod ({ cls := "Lostroom", name := "lose", desc := "(I)I" } : Jvm.MethodName)) ∈ lw_all := lw_g (lw_at lw_m3 95 rfl) rfl
theorem q608 : (Jvm.Cond.selects "Lostroom" ({ cls := "Lostroom", name := "lose", desc := "(I)I" } : Jvm.MethodName) ({ cls := "Lostroom", name := "lose", desc := "(I)I" } : Jvm.MethodName)) ∈ lw_all := lw_g (lw_at lw_m3 96 rfl) rfl
theorem q609 : (Jvm.Cond.code ({ cls := "Lostroom", name := "lose", desc := "(I)I" } : Jvm.MethodName) prog_1_method_25_code (5 : Nat) (Option.some Jvm.ClassFile.FieldType.int)) ∈ lw_all := lw_g (lw_at lw_m3 97 rfl) rfl
theorem q610 : (Jvm.Cond.interfaceEntry "Lostroom" (181 : Nat)) ∈ lw_tbl := lw_at lw_m3 98 rfl
theorem q611 : (Jvm.Cond.methodLink "Lostroom" (181 : Nat) ({ cls := "java/util/List", name := "iterator", desc := "()Ljava/util/Iterator;" } : Jvm.MethodName)) ∈ lw_all := lw_g (lw_at lw_m3 99 rfl) rfl
theorem q638 : (Jvm.Cond.interfaceEntry "Lostroom" (185 : Nat)) ∈ lw_tbl := lw_at lw_m3 126 rfl
theorem q639 : (Jvm.Cond.methodLink "Lostroom" (185 : Nat) ({ cls := "java/util/Iterator", name := "hasNext", desc := "()Z" } : Jvm.MethodName)) ∈ lw_all := lw_g (lw_at lw_m3 127 rfl) rfl
theorem q648 : (Jvm.Cond.interfaceEntry "Lostroom" (191 : Nat)) ∈ lw_tbl := lw_at lw_m3 136 rfl
theorem q649 : (Jvm.Cond.methodLink "Lostroom" (191 : Nat) ({ cls := "java/util/Iterator", name := "next", desc := "()Ljava/lang/Object;" } : Jvm.MethodName)) ∈ lw_all := lw_g (lw_at lw_m3 137 rfl) rfl
theorem q665 : (Jvm.Cond.instanceMethod ({ cls := "Lostroom", name := "turnUp", desc := "(II)I" } : Jvm.MethodName)) ∈ lw_all := lw_g (lw_at lw_m3 153 rfl) rfl
theorem q666 : (Jvm.Cond.selects "Lostroom" ({ cls := "Lostroom", name := "turnUp", desc := "(II)I" } : Jvm.MethodName) ({ cls := "Lostroom", name := "turnUp", desc := "(II)I" } : Jvm.MethodName)) ∈ lw_all := lw_g (lw_at lw_m3 154 rfl) rfl
theorem q667 : (Jvm.Cond.code ({ cls := "Lostroom", name := "turnUp", desc := "(II)I" } : Jvm.MethodName) prog_1_method_26_code (4 : Nat) (Option.some Jvm.ClassFile.FieldType.int)) ∈ lw_all := lw_g (lw_at lw_m3 155 rfl) rfl
theorem q668 : (Jvm.Cond.methodLink "Lostroom" (195 : Nat) ({ cls := "Lostroom$Find", name := "come", desc := "(I)V" } : Jvm.MethodName)) ∈ lw_all := lw_g (lw_at lw_m3 156 rfl) rfl
theorem q692 : (Jvm.Cond.instanceMethod ({ cls := "Lostroom", name := "hold", desc := "(IZ)Z" } : Jvm.MethodName)) ∈ lw_all := lw_g (lw_at lw_m3 180 rfl) rfl
theorem q693 : (Jvm.Cond.selects "Lostroom" ({ cls := "Lostroom", name := "hold", desc := "(IZ)Z" } : Jvm.MethodName) ({ cls := "Lostroom", name := "hold", desc := "(IZ)Z" } : Jvm.MethodName)) ∈ lw_all := lw_g (lw_at lw_m3 181 rfl) rfl
theorem q694 : (Jvm.Cond.code ({ cls := "Lostroom", name := "hold", desc := "(IZ)Z" } : Jvm.MethodName) prog_1_method_27_code (5 : Nat) (Option.some Jvm.ClassFile.FieldType.boolean)) ∈ lw_all := lw_g (lw_at lw_m3 182 rfl) rfl
theorem q695 : (Jvm.Cond.methodLink "Lostroom" (201 : Nat) ({ cls := "Lostroom$Find", name := "isHere", desc := "()Z" } : Jvm.MethodName)) ∈ lw_all := lw_g (lw_at lw_m3 183 rfl) rfl
theorem q703 : (Jvm.Cond.instanceMethod ({ cls := "Lostroom", name := "claim", desc := "(IIIII)I" } : Jvm.MethodName)) ∈ lw_all := lw_g (lw_at lw_m3 191 rfl) rfl
theorem q704 : (Jvm.Cond.selects "Lostroom" ({ cls := "Lostroom", name := "claim", desc := "(IIIII)I" } : Jvm.MethodName) ({ cls := "Lostroom", name := "claim", desc := "(IIIII)I" } : Jvm.MethodName)) ∈ lw_all := lw_g (lw_at lw_m3 192 rfl) rfl
theorem q705 : (Jvm.Cond.code ({ cls := "Lostroom", name := "claim", desc := "(IIIII)I" } : Jvm.MethodName) prog_1_method_28_code (6 : Nat) (Option.some Jvm.ClassFile.FieldType.int)) ∈ lw_all := lw_g (lw_at lw_m3 193 rfl) rfl
theorem q706 : (Jvm.Cond.classLink "Lostroom" (58 : Nat) "Lostroom$Claim") ∈ lw_all := lw_g (lw_at lw_m3 194 rfl) rfl
theorem q708 : (Jvm.Cond.methodLink "Lostroom" (208 : Nat) ({ cls := "Lostroom$Claim", name := "<init>", desc := "(LLostroom;IIIII)V" } : Jvm.MethodName)) ∈ lw_all := lw_g (lw_at lw_m3 196 rfl) rfl
theorem q713 : (Jvm.Cond.fieldLinkNest "Lostroom" (57 : Nat) "Lostroom$Claim" "kind" "I" "Lostroom") ∈ lw_tbl := lw_at lw_m3 201 rfl
theorem q715 : (Jvm.Cond.fieldLinkNest "Lostroom" (81 : Nat) "Lostroom$Claim" "place" "I" "Lostroom") ∈ lw_tbl := lw_at lw_m3 203 rfl
theorem q717 : (Jvm.Cond.fieldLinkNest "Lostroom" (66 : Nat) "Lostroom$Claim" "from" "I" "Lostroom") ∈ lw_tbl := lw_at lw_m3 205 rfl
theorem q719 : (Jvm.Cond.fieldLinkNest "Lostroom" (69 : Nat) "Lostroom$Claim" "to" "I" "Lostroom") ∈ lw_tbl := lw_at lw_m3 207 rfl
theorem q721 : (Jvm.Cond.fieldLinkNest "Lostroom" (85 : Nat) "Lostroom$Claim" "words" "I" "Lostroom") ∈ lw_tbl := lw_at lw_m3 209 rfl
theorem q723 : (Jvm.Cond.fieldLinkNest "Lostroom" (92 : Nat) "Lostroom$Claim" "told" "I" "Lostroom") ∈ lw_tbl := lw_at lw_m3 211 rfl
theorem q725 : (Jvm.Cond.fieldLinkNest "Lostroom" (98 : Nat) "Lostroom$Claim" "state" "I" "Lostroom") ∈ lw_tbl := lw_at lw_m3 213 rfl
theorem q727 : (Jvm.Cond.fieldLinkNest "Lostroom" (259 : Nat) "Lostroom$Claim" "since" "I" "Lostroom") ∈ lw_tbl := lw_at lw_m3 215 rfl
theorem q729 : (Jvm.Cond.fieldLinkNest "Lostroom" (232 : Nat) "Lostroom$Claim" "served" "I" "Lostroom") ∈ lw_tbl := lw_at lw_m3 217 rfl
theorem q756 : (Jvm.Cond.instanceMethod ({ cls := "Lostroom", name := "say", desc := "(II)I" } : Jvm.MethodName)) ∈ lw_all := lw_g (lw_at lw_m4 4 rfl) rfl
theorem q757 : (Jvm.Cond.selects "Lostroom" ({ cls := "Lostroom", name := "say", desc := "(II)I" } : Jvm.MethodName) ({ cls := "Lostroom", name := "say", desc := "(II)I" } : Jvm.MethodName)) ∈ lw_all := lw_g (lw_at lw_m4 5 rfl) rfl
theorem q758 : (Jvm.Cond.code ({ cls := "Lostroom", name := "say", desc := "(II)I" } : Jvm.MethodName) prog_1_method_29_code (4 : Nat) (Option.some Jvm.ClassFile.FieldType.int)) ∈ lw_all := lw_g (lw_at lw_m4 6 rfl) rfl
theorem q759 : (Jvm.Cond.methodLink "Lostroom" (211 : Nat) ({ cls := "Lostroom", name := "claimAt", desc := "(I)LLostroom$Claim;" } : Jvm.MethodName)) ∈ lw_all := lw_g (lw_at lw_m4 7 rfl) rfl
theorem q760 : (Jvm.Cond.privateMethod ({ cls := "Lostroom", name := "claimAt", desc := "(I)LLostroom$Claim;" } : Jvm.MethodName)) ∈ lw_tbl := lw_at lw_m4 8 rfl
theorem q761 : (Jvm.Cond.instanceMethod ({ cls := "Lostroom", name := "claimAt", desc := "(I)LLostroom$Claim;" } : Jvm.MethodName)) ∈ lw_all := lw_g (lw_at lw_m4 9 rfl) rfl
theorem q762 : (Jvm.Cond.code ({ cls := "Lostroom", name := "claimAt", desc := "(I)LLostroom$Claim;" } : Jvm.MethodName) prog_1_method_14_code (2 : Nat) (Option.some (Jvm.ClassFile.FieldType.object "Lostroom$Claim"))) ∈ lw_all := lw_g (lw_at lw_m4 10 rfl) rfl
theorem q767 : (Jvm.Cond.instanceMethod ({ cls := "Lostroom", name := "tell", desc := "(II)I" } : Jvm.MethodName)) ∈ lw_all := lw_g (lw_at lw_m4 15 rfl) rfl
theorem q768 : (Jvm.Cond.selects "Lostroom" ({ cls := "Lostroom", name := "tell", desc := "(II)I" } : Jvm.MethodName) ({ cls := "Lostroom", name := "tell", desc := "(II)I" } : Jvm.MethodName)) ∈ lw_all := lw_g (lw_at lw_m4 16 rfl) rfl
theorem q769 : (Jvm.Cond.code ({ cls := "Lostroom", name := "tell", desc := "(II)I" } : Jvm.MethodName) prog_1_method_30_code (4 : Nat) (Option.some Jvm.ClassFile.FieldType.int)) ∈ lw_all := lw_g (lw_at lw_m4 17 rfl) rfl
theorem q774 : (Jvm.Cond.instanceMethod ({ cls := "Lostroom", name := "withdraw", desc := "(I)I" } : Jvm.MethodName)) ∈ lw_all := lw_g (lw_at lw_m4 22 rfl) rfl
theorem q775 : (Jvm.Cond.selects "Lostroom" ({ cls := "Lostroom", name := "withdraw", desc := "(I)I" } : Jvm.MethodName) ({ cls := "Lostroom", name := "withdraw", desc := "(I)I" } : Jvm.MethodName)) ∈ lw_all := lw_g (lw_at lw_m4 23 rfl) rfl
theorem q776 : (Jvm.Cond.code ({ cls := "Lostroom", name := "withdraw", desc := "(I)I" } : Jvm.MethodName) prog_1_method_31_code (3 : Nat) (Option.some Jvm.ClassFile.FieldType.int)) ∈ lw_all := lw_g (lw_at lw_m4 24 rfl) rfl
theorem q777 : (Jvm.Cond.methodLink "Lostroom" (215 : Nat) ({ cls := "Lostroom$Claim", name := "end", desc := "(I)V" } : Jvm.MethodName)) ∈ lw_all := lw_g (lw_at lw_m4 25 rfl) rfl
theorem q785 : (Jvm.Cond.instanceMethod ({ cls := "Lostroom", name := "release", desc := "(II)I" } : Jvm.MethodName)) ∈ lw_all := lw_g (lw_at lw_m4 33 rfl) rfl
theorem q786 : (Jvm.Cond.selects "Lostroom" ({ cls := "Lostroom", name := "release", desc := "(II)I" } : Jvm.MethodName) ({ cls := "Lostroom", name := "release", desc := "(II)I" } : Jvm.MethodName)) ∈ lw_all := lw_g (lw_at lw_m4 34 rfl) rfl
theorem q787 : (Jvm.Cond.code ({ cls := "Lostroom", name := "release", desc := "(II)I" } : Jvm.MethodName) prog_1_method_33_code (6 : Nat) (Option.some Jvm.ClassFile.FieldType.int)) ∈ lw_all := lw_g (lw_at lw_m4 35 rfl) rfl
theorem q788 : (Jvm.Cond.methodLink "Lostroom" (222 : Nat) ({ cls := "Lostroom", name := "isCandidate", desc := "(LLostroom$Find;LLostroom$Claim;)Z" } : Jvm.MethodName)) ∈ lw_all := lw_g (lw_at lw_m4 36 rfl) rfl
theorem q789 : (Jvm.Cond.privateMethod ({ cls := "Lostroom", name := "isCandidate", desc := "(LLostroom$Find;LLostroom$Claim;)Z" } : Jvm.MethodName)) ∈ lw_tbl := lw_at lw_m4 37 rfl
theorem q790 : (Jvm.Cond.instanceMethod ({ cls := "Lostroom", name := "isCandidate", desc := "(LLostroom$Find;LLostroom$Claim;)Z" } : Jvm.MethodName)) ∈ lw_all := lw_g (lw_at lw_m4 38 rfl) rfl
theorem q791 : (Jvm.Cond.code ({ cls := "Lostroom", name := "isCandidate", desc := "(LLostroom$Find;LLostroom$Claim;)Z" } : Jvm.MethodName) prog_1_method_11_code (3 : Nat) (Option.some Jvm.ClassFile.FieldType.boolean)) ∈ lw_all := lw_g (lw_at lw_m4 39 rfl) rfl
theorem q792 : (Jvm.Cond.methodLink "Lostroom" (101 : Nat) ({ cls := "Lostroom", name := "score", desc := "(LLostroom$Find;LLostroom$Claim;)I" } : Jvm.MethodName)) ∈ lw_all := lw_g (lw_at lw_m4 40 rfl) rfl
theorem q793 : (Jvm.Cond.privateMethod ({ cls := "Lostroom", name := "score", desc := "(LLostroom$Find;LLostroom$Claim;)I" } : Jvm.MethodName)) ∈ lw_tbl := lw_at lw_m4 41 rfl
theorem q794 : (Jvm.Cond.instanceMethod ({ cls := "Lostroom", name := "score", desc := "(LLostroom$Find;LLostroom$Claim;)I" } : Jvm.MethodName)) ∈ lw_all := lw_g (lw_at lw_m4 42 rfl) rfl
theorem q795 : (Jvm.Cond.code ({ cls := "Lostroom", name := "score", desc := "(LLostroom$Find;LLostroom$Claim;)I" } : Jvm.MethodName) prog_1_method_10_code (5 : Nat) (Option.some Jvm.ClassFile.FieldType.int)) ∈ lw_all := lw_g (lw_at lw_m4 43 rfl) rfl
theorem q796 : (Jvm.Cond.methodLink "Lostroom" (72 : Nat) ({ cls := "java/lang/Math", name := "max", desc := "(II)I" } : Jvm.MethodName)) ∈ lw_all := lw_g (lw_at lw_m4 44 rfl) rfl
theorem q797 : (Jvm.Cond.methodLink "Lostroom" (82 : Nat) ({ cls := "Lostroom", name := "placeScore", desc := "(II)I" } : Jvm.MethodName)) ∈ lw_all := lw_g (lw_at lw_m4 45 rfl) rfl
theorem q798 : (Jvm.Cond.privateMethod ({ cls := "Lostroom", name := "placeScore", desc := "(II)I" } : Jvm.MethodName)) ∈ lw_tbl := lw_at lw_m4 46 rfl
theorem q799 : (Jvm.Cond.instanceMethod ({ cls := "Lostroom", name := "placeScore", desc := "(II)I" } : Jvm.MethodName)) ∈ lw_all := lw_g (lw_at lw_m4 47 rfl) rfl
theorem q800 : (Jvm.Cond.code ({ cls := "Lostroom", name := "placeScore", desc := "(II)I" } : Jvm.MethodName) prog_1_method_8_code (5 : Nat) (Option.some Jvm.ClassFile.FieldType.int)) ∈ lw_all := lw_g (lw_at lw_m4 48 rfl) rfl
theorem q801 : (Jvm.Cond.methodLink "Lostroom" (40 : Nat) ({ cls := "Lostroom", name := "stopsAt", desc := "(II)Z" } : Jvm.MethodName)) ∈ lw_all := lw_g (lw_at lw_m4 49 rfl) rfl
theorem q802 : (Jvm.Cond.privateMethod ({ cls := "Lostroom", name := "stopsAt", desc := "(II)Z" } : Jvm.MethodName)) ∈ lw_tbl := lw_at lw_m4 50 rfl
theorem q803 : (Jvm.Cond.instanceMethod ({ cls := "Lostroom", name := "stopsAt", desc := "(II)Z" } : Jvm.MethodName)) ∈ lw_all := lw_g (lw_at lw_m4 51 rfl) rfl
theorem q804 : (Jvm.Cond.code ({ cls := "Lostroom", name := "stopsAt", desc := "(II)Z" } : Jvm.MethodName) prog_1_method_7_code (3 : Nat) (Option.some Jvm.ClassFile.FieldType.boolean)) ∈ lw_all := lw_g (lw_at lw_m4 52 rfl) rfl
theorem q805 : (Jvm.Cond.methodLink "Lostroom" (95 : Nat) ({ cls := "Lostroom", name := "wordScore", desc := "(II)I" } : Jvm.MethodName)) ∈ lw_all := lw_g (lw_at lw_m4 53 rfl) rfl
theorem q806 : (Jvm.Cond.privateMethod ({ cls := "Lostroom", name := "wordScore", desc := "(II)I" } : Jvm.MethodName)) ∈ lw_tbl := lw_at lw_m4 54 rfl
theorem q807 : (Jvm.Cond.instanceMethod ({ cls := "Lostroom", name := "wordScore", desc := "(II)I" } : Jvm.MethodName)) ∈ lw_all := lw_g (lw_at lw_m4 55 rfl) rfl
theorem q808 : (Jvm.Cond.code ({ cls := "Lostroom", name := "wordScore", desc := "(II)I" } : Jvm.MethodName) prog_1_method_9_code (5 : Nat) (Option.some Jvm.ClassFile.FieldType.int)) ∈ lw_all := lw_g (lw_at lw_m4 56 rfl) rfl
theorem q809 : (Jvm.Cond.methodLink "Lostroom" (218 : Nat) ({ cls := "Lostroom$Claim", name := "proves", desc := "(LLostroom$Find;)Z" } : Jvm.MethodName)) ∈ lw_all := lw_g (lw_at lw_m4 57 rfl) rfl
theorem q815 : (Jvm.Cond.methodLink "Lostroom" (226 : Nat) ({ cls := "Lostroom", name := "isBeaten", desc := "(LLostroom$Find;LLostroom$Claim;)Z" } : Jvm.MethodName)) ∈ lw_all := lw_g (lw_at lw_m4 63 rfl) rfl
theorem q816 : (Jvm.Cond.privateMethod ({ cls := "Lostroom", name := "isBeaten", desc := "(LLostroom$Find;LLostroom$Claim;)Z" } : Jvm.MethodName)) ∈ lw_tbl := lw_at lw_m4 64 rfl
theorem q817 : (Jvm.Cond.instanceMethod ({ cls := "Lostroom", name := "isBeaten", desc := "(LLostroom$Find;LLostroom$Claim;)Z" } : Jvm.MethodName)) ∈ lw_all := lw_g (lw_at lw_m4 65 rfl) rfl
theorem q818 : (Jvm.Cond.code ({ cls := "Lostroom", name := "isBeaten", desc := "(LLostroom$Find;LLostroom$Claim;)Z" } : Jvm.MethodName) prog_1_method_32_code (9 : Nat) (Option.some Jvm.ClassFile.FieldType.boolean)) ∈ lw_all := lw_g (lw_at lw_m4 66 rfl) rfl
theorem q823 : (Jvm.Cond.instanceMethod ({ cls := "Lostroom", name := "extend", desc := "(II)I" } : Jvm.MethodName)) ∈ lw_all := lw_g (lw_at lw_m4 71 rfl) rfl
theorem q824 : (Jvm.Cond.selects "Lostroom" ({ cls := "Lostroom", name := "extend", desc := "(II)I" } : Jvm.MethodName) ({ cls := "Lostroom", name := "extend", desc := "(II)I" } : Jvm.MethodName)) ∈ lw_all := lw_g (lw_at lw_m4 72 rfl) rfl
theorem q825 : (Jvm.Cond.code ({ cls := "Lostroom", name := "extend", desc := "(II)I" } : Jvm.MethodName) prog_1_method_35_code (4 : Nat) (Option.some Jvm.ClassFile.FieldType.int)) ∈ lw_all := lw_g (lw_at lw_m4 73 rfl) rfl
theorem q830 : (Jvm.Cond.instanceMethod ({ cls := "Lostroom", name := "sell", desc := "(II)I" } : Jvm.MethodName)) ∈ lw_all := lw_g (lw_at lw_m4 78 rfl) rfl
theorem q831 : (Jvm.Cond.selects "Lostroom" ({ cls := "Lostroom", name := "sell", desc := "(II)I" } : Jvm.MethodName) ({ cls := "Lostroom", name := "sell", desc := "(II)I" } : Jvm.MethodName)) ∈ lw_all := lw_g (lw_at lw_m4 79 rfl) rfl
theorem q832 : (Jvm.Cond.code ({ cls := "Lostroom", name := "sell", desc := "(II)I" } : Jvm.MethodName) prog_1_method_36_code (4 : Nat) (Option.some Jvm.ClassFile.FieldType.int)) ∈ lw_all := lw_g (lw_at lw_m4 80 rfl) rfl
theorem q833 : (Jvm.Cond.methodLink "Lostroom" (244 : Nat) ({ cls := "Lostroom", name := "isOver", desc := "(LLostroom$Find;)Z" } : Jvm.MethodName)) ∈ lw_all := lw_g (lw_at lw_m4 81 rfl) rfl
theorem q834 : (Jvm.Cond.privateMethod ({ cls := "Lostroom", name := "isOver", desc := "(LLostroom$Find;)Z" } : Jvm.MethodName)) ∈ lw_tbl := lw_at lw_m4 82 rfl
theorem q835 : (Jvm.Cond.instanceMethod ({ cls := "Lostroom", name := "isOver", desc := "(LLostroom$Find;)Z" } : Jvm.MethodName)) ∈ lw_all := lw_g (lw_at lw_m4 83 rfl) rfl
theorem q836 : (Jvm.Cond.code ({ cls := "Lostroom", name := "isOver", desc := "(LLostroom$Find;)Z" } : Jvm.MethodName) prog_1_method_34_code (5 : Nat) (Option.some Jvm.ClassFile.FieldType.boolean)) ∈ lw_all := lw_g (lw_at lw_m4 84 rfl) rfl
theorem q841 : (Jvm.Cond.instanceMethod ({ cls := "Lostroom", name := "destroy", desc := "(I)I" } : Jvm.MethodName)) ∈ lw_all := lw_g (lw_at lw_m4 89 rfl) rfl
theorem q842 : (Jvm.Cond.selects "Lostroom" ({ cls := "Lostroom", name := "destroy", desc := "(I)I" } : Jvm.MethodName) ({ cls := "Lostroom", name := "destroy", desc := "(I)I" } : Jvm.MethodName)) ∈ lw_all := lw_g (lw_at lw_m4 90 rfl) rfl
theorem q843 : (Jvm.Cond.code ({ cls := "Lostroom", name := "destroy", desc := "(I)I" } : Jvm.MethodName) prog_1_method_37_code (3 : Nat) (Option.some Jvm.ClassFile.FieldType.int)) ∈ lw_all := lw_g (lw_at lw_m4 91 rfl) rfl
theorem q848 : (Jvm.Cond.instanceMethod ({ cls := "Lostroom", name := "payOut", desc := "(II)I" } : Jvm.MethodName)) ∈ lw_all := lw_g (lw_at lw_m4 96 rfl) rfl
theorem q849 : (Jvm.Cond.selects "Lostroom" ({ cls := "Lostroom", name := "payOut", desc := "(II)I" } : Jvm.MethodName) ({ cls := "Lostroom", name := "payOut", desc := "(II)I" } : Jvm.MethodName)) ∈ lw_all := lw_g (lw_at lw_m4 97 rfl) rfl
theorem q850 : (Jvm.Cond.code ({ cls := "Lostroom", name := "payOut", desc := "(II)I" } : Jvm.MethodName) prog_1_method_38_code (6 : Nat) (Option.some Jvm.ClassFile.FieldType.int)) ∈ lw_all := lw_g (lw_at lw_m4 98 rfl) rfl
theorem q851 : (Jvm.Cond.methodLink "Lostroom" (256 : Nat) ({ cls := "java/lang/Math", name := "min", desc := "(II)I" } : Jvm.MethodName)) ∈ lw_all := lw_g (lw_at lw_m4 99 rfl) rfl
theorem q856 : (Jvm.Cond.instanceMethod ({ cls := "Lostroom", name := "pass", desc := "(I)I" } : Jvm.MethodName)) ∈ lw_all := lw_g (lw_at lw_m4 104 rfl) rfl
theorem q857 : (Jvm.Cond.selects "Lostroom" ({ cls := "Lostroom", name := "pass", desc := "(I)I" } : Jvm.MethodName) ({ cls := "Lostroom", name := "pass", desc := "(I)I" } : Jvm.MethodName)) ∈ lw_all := lw_g (lw_at lw_m4 105 rfl) rfl
theorem q858 : (Jvm.Cond.code ({ cls := "Lostroom", name := "pass", desc := "(I)I" } : Jvm.MethodName) prog_1_method_39_code (5 : Nat) (Option.some Jvm.ClassFile.FieldType.int)) ∈ lw_all := lw_g (lw_at lw_m4 106 rfl) rfl
theorem q863 : (Jvm.Cond.instanceMethod ({ cls := "Lostroom", name := "fit", desc := "(II)I" } : Jvm.MethodName)) ∈ lw_all := lw_g (lw_at lw_m4 111 rfl) rfl
theorem q864 : (Jvm.Cond.selects "Lostroom" ({ cls := "Lostroom", name := "fit", desc := "(II)I" } : Jvm.MethodName) ({ cls := "Lostroom", name := "fit", desc := "(II)I" } : Jvm.MethodName)) ∈ lw_all := lw_g (lw_at lw_m4 112 rfl) rfl
theorem q865 : (Jvm.Cond.code ({ cls := "Lostroom", name := "fit", desc := "(II)I" } : Jvm.MethodName) prog_1_method_41_code (4 : Nat) (Option.some Jvm.ClassFile.FieldType.int)) ∈ lw_all := lw_g (lw_at lw_m4 113 rfl) rfl
theorem q870 : (Jvm.Cond.instanceMethod ({ cls := "Lostroom", name := "candidate", desc := "(II)I" } : Jvm.MethodName)) ∈ lw_all := lw_g (lw_at lw_m4 118 rfl) rfl
theorem q871 : (Jvm.Cond.selects "Lostroom" ({ cls := "Lostroom", name := "candidate", desc := "(II)I" } : Jvm.MethodName) ({ cls := "Lostroom", name := "candidate", desc := "(II)I" } : Jvm.MethodName)) ∈ lw_all := lw_g (lw_at lw_m4 119 rfl) rfl
theorem q872 : (Jvm.Cond.code ({ cls := "Lostroom", name := "candidate", desc := "(II)I" } : Jvm.MethodName) prog_1_method_43_code (8 : Nat) (Option.some Jvm.ClassFile.FieldType.int)) ∈ lw_all := lw_g (lw_at lw_m4 120 rfl) rfl
theorem q873 : (Jvm.Cond.methodLink "Lostroom" (262 : Nat) ({ cls := "Lostroom", name := "candidates", desc := "(LLostroom$Claim;)I" } : Jvm.MethodName)) ∈ lw_all := lw_g (lw_at lw_m4 121 rfl) rfl
theorem q874 : (Jvm.Cond.privateMethod ({ cls := "Lostroom", name := "candidates", desc := "(LLostroom$Claim;)I" } : Jvm.MethodName)) ∈ lw_tbl := lw_at lw_m4 122 rfl
theorem q875 : (Jvm.Cond.instanceMethod ({ cls := "Lostroom", name := "candidates", desc := "(LLostroom$Claim;)I" } : Jvm.MethodName)) ∈ lw_all := lw_g (lw_at lw_m4 123 rfl) rfl
theorem q876 : (Jvm.Cond.code ({ cls := "Lostroom", name := "candidates", desc := "(LLostroom$Claim;)I" } : Jvm.MethodName) prog_1_method_42_code (4 : Nat) (Option.some Jvm.ClassFile.FieldType.int)) ∈ lw_all := lw_g (lw_at lw_m4 124 rfl) rfl
theorem q881 : (Jvm.Cond.instanceMethod ({ cls := "Lostroom", name := "question", desc := "(I)I" } : Jvm.MethodName)) ∈ lw_all := lw_g (lw_at lw_m4 129 rfl) rfl
theorem q882 : (Jvm.Cond.selects "Lostroom" ({ cls := "Lostroom", name := "question", desc := "(I)I" } : Jvm.MethodName) ({ cls := "Lostroom", name := "question", desc := "(I)I" } : Jvm.MethodName)) ∈ lw_all := lw_g (lw_at lw_m4 130 rfl) rfl
theorem q883 : (Jvm.Cond.code ({ cls := "Lostroom", name := "question", desc := "(I)I" } : Jvm.MethodName) prog_1_method_44_code (10 : Nat) (Option.some Jvm.ClassFile.FieldType.int)) ∈ lw_all := lw_g (lw_at lw_m4 131 rfl) rfl
theorem q884 : (Jvm.Cond.methodLink "Lostroom" (266 : Nat) ({ cls := "java/lang/Math", name := "abs", desc := "(I)I" } : Jvm.MethodName)) ∈ lw_all := lw_g (lw_at lw_m4 132 rfl) rfl
theorem q891 : (Jvm.Cond.instanceMethod ({ cls := "Lostroom", name := "isProven", desc := "(II)Z" } : Jvm.MethodName)) ∈ lw_all := lw_g (lw_at lw_m4 139 rfl) rfl
theorem q892 : (Jvm.Cond.selects "Lostroom" ({ cls := "Lostroom", name := "isProven", desc := "(II)Z" } : Jvm.MethodName) ({ cls := "Lostroom", name := "isProven", desc := "(II)Z" } : Jvm.MethodName)) ∈ lw_all := lw_g (lw_at lw_m4 140 rfl) rfl
theorem q893 : (Jvm.Cond.code ({ cls := "Lostroom", name := "isProven", desc := "(II)Z" } : Jvm.MethodName) prog_1_method_45_code (4 : Nat) (Option.some Jvm.ClassFile.FieldType.boolean)) ∈ lw_all := lw_g (lw_at lw_m4 141 rfl) rfl
theorem q898 : (Jvm.Cond.instanceMethod ({ cls := "Lostroom", name := "isDue", desc := "(I)Z" } : Jvm.MethodName)) ∈ lw_all := lw_g (lw_at lw_m4 146 rfl) rfl
theorem q899 : (Jvm.Cond.selects "Lostroom" ({ cls := "Lostroom", name := "isDue", desc := "(I)Z" } : Jvm.MethodName) ({ cls := "Lostroom", name := "isDue", desc := "(I)Z" } : Jvm.MethodName)) ∈ lw_all := lw_g (lw_at lw_m4 147 rfl) rfl
theorem q900 : (Jvm.Cond.code ({ cls := "Lostroom", name := "isDue", desc := "(I)Z" } : Jvm.MethodName) prog_1_method_46_code (2 : Nat) (Option.some Jvm.ClassFile.FieldType.boolean)) ∈ lw_all := lw_g (lw_at lw_m4 148 rfl) rfl
theorem q905 : (Jvm.Cond.instanceMethod ({ cls := "Lostroom", name := "ofFind", desc := "(II)I" } : Jvm.MethodName)) ∈ lw_all := lw_g (lw_at lw_m4 153 rfl) rfl
theorem q906 : (Jvm.Cond.selects "Lostroom" ({ cls := "Lostroom", name := "ofFind", desc := "(II)I" } : Jvm.MethodName) ({ cls := "Lostroom", name := "ofFind", desc := "(II)I" } : Jvm.MethodName)) ∈ lw_all := lw_g (lw_at lw_m4 154 rfl) rfl
theorem q907 : (Jvm.Cond.code ({ cls := "Lostroom", name := "ofFind", desc := "(II)I" } : Jvm.MethodName) prog_1_method_47_code (4 : Nat) (Option.some Jvm.ClassFile.FieldType.int)) ∈ lw_all := lw_g (lw_at lw_m4 155 rfl) rfl
theorem q912 : (Jvm.Cond.instanceMethod ({ cls := "Lostroom", name := "hand", desc := "(IIZ)I" } : Jvm.MethodName)) ∈ lw_all := lw_g (lw_at lw_m4 160 rfl) rfl
theorem q913 : (Jvm.Cond.selects "Lostroom" ({ cls := "Lostroom", name := "hand", desc := "(IIZ)I" } : Jvm.MethodName) ({ cls := "Lostroom", name := "hand", desc := "(IIZ)I" } : Jvm.MethodName)) ∈ lw_all := lw_g (lw_at lw_m4 161 rfl) rfl
theorem q914 : (Jvm.Cond.code ({ cls := "Lostroom", name := "hand", desc := "(IIZ)I" } : Jvm.MethodName) prog_1_method_48_code (6 : Nat) (Option.some Jvm.ClassFile.FieldType.int)) ∈ lw_all := lw_g (lw_at lw_m4 162 rfl) rfl
theorem q915 : (Jvm.Cond.classLink "Lostroom" (269 : Nat) "Lostroom$Hand") ∈ lw_all := lw_g (lw_at lw_m4 163 rfl) rfl
theorem q916 : (Jvm.Cond.methodLink "Lostroom" (271 : Nat) ({ cls := "Lostroom$Hand", name := "day", desc := "()I" } : Jvm.MethodName)) ∈ lw_all := lw_g (lw_at lw_m4 164 rfl) rfl
theorem q920 : (Jvm.Cond.methodLink "Lostroom" (273 : Nat) ({ cls := "Lostroom$Hand", name := "room", desc := "()I" } : Jvm.MethodName)) ∈ lw_all := lw_g (lw_at lw_m4 168 rfl) rfl
theorem q928 : (Jvm.Cond.instanceMethod ({ cls := "Lostroom", name := "ofClaim", desc := "(II)I" } : Jvm.MethodName)) ∈ lw_all := lw_g (lw_at lw_m4 176 rfl) rfl
theorem q929 : (Jvm.Cond.selects "Lostroom" ({ cls := "Lostroom", name := "ofClaim", desc := "(II)I" } : Jvm.MethodName) ({ cls := "Lostroom", name := "ofClaim", desc := "(II)I" } : Jvm.MethodName)) ∈ lw_all := lw_g (lw_at lw_m4 177 rfl) rfl
theorem q930 : (Jvm.Cond.code ({ cls := "Lostroom", name := "ofClaim", desc := "(II)I" } : Jvm.MethodName) prog_1_method_49_code (4 : Nat) (Option.some Jvm.ClassFile.FieldType.int)) ∈ lw_all := lw_g (lw_at lw_m4 178 rfl) rfl
theorem q935 : (Jvm.Cond.instanceMethod ({ cls := "Lostroom", name := "money", desc := "(I)I" } : Jvm.MethodName)) ∈ lw_all := lw_g (lw_at lw_m4 183 rfl) rfl
theorem q936 : (Jvm.Cond.selects "Lostroom" ({ cls := "Lostroom", name := "money", desc := "(I)I" } : Jvm.MethodName) ({ cls := "Lostroom", name := "money", desc := "(I)I" } : Jvm.MethodName)) ∈ lw_all := lw_g (lw_at lw_m4 184 rfl) rfl
theorem q937 : (Jvm.Cond.code ({ cls := "Lostroom", name := "money", desc := "(I)I" } : Jvm.MethodName) prog_1_method_50_code (2 : Nat) (Option.some Jvm.ClassFile.FieldType.int)) ∈ lw_all := lw_g (lw_at lw_m4 185 rfl) rfl
theorem q942 : (Jvm.Cond.instanceMethod ({ cls := "Lostroom", name := "audit", desc := "(I)I" } : Jvm.MethodName)) ∈ lw_all := lw_g (lw_at lw_m4 190 rfl) rfl
theorem q943 : (Jvm.Cond.selects "Lostroom" ({ cls := "Lostroom", name := "audit", desc := "(I)I" } : Jvm.MethodName) ({ cls := "Lostroom", name := "audit", desc := "(I)I" } : Jvm.MethodName)) ∈ lw_all := lw_g (lw_at lw_m4 191 rfl) rfl
theorem q944 : (Jvm.Cond.code ({ cls := "Lostroom", name := "audit", desc := "(I)I" } : Jvm.MethodName) prog_1_method_51_code (4 : Nat) (Option.some Jvm.ClassFile.FieldType.int)) ∈ lw_all := lw_g (lw_at lw_m4 192 rfl) rfl
theorem q1293 : (Jvm.Cond.castable "Lostroom" "java/lang/Object") ∈ lw_tbl := lw_at lw_m6 61 rfl
theorem in_X1 : ∀ w ∈ wsX10, w ∈ lw_all := lw_in wsX10 [181, 183, 185, 187, 189, 191, 193, 195, 197, 199, 201, 203] (by decide +kernel) (by decide +kernel)
/-! Lostroom$Find -/
set_option maxRecDepth 100000
def RX3 : String := "Lostroom$Find"
def TX3 : u_T := fun k => match k with
  | 0 => ("Lostroom$Find", "kind", "I", true)
  | 1 => ("Lostroom$Find", "place", "I", true)
  | 2 => ("Lostroom$Find", "day", "I", true)
  | 3 => ("Lostroom$Find", "words", "I", false)
  | 4 => ("Lostroom$Find", "secret", "I", true)
  | 5 => ("Lostroom$Find", "value", "I", true)
  | 6 => ("Lostroom$Find", "state", "I", false)
  | 7 => ("Lostroom$Find", "until", "I", false)
  | 8 => ("Lostroom$Find", "isHeld", "Z", false)
  | 9 => ("Lostroom$Find", "room", "I", false)
  | 10 => ("Lostroom$Find", "arrives", "I", false)
  | 11 => ("Lostroom$Find", "price", "I", false)
  | 12 => ("Lostroom$Find", "soldOn", "I", false)
  | 13 => ("Lostroom$Find", "hands", "Ljava/util/List;", true)
  | _ => ("Lostroom$Find", "this$0", "LLostroom;", true)
def tyX3 : Nat → FieldType := fun k => match k with
  | 0 => .int
  | 1 => .int
  | 2 => .int
  | 3 => .int
  | 4 => .int
  | 5 => .int
  | 6 => .int
  | 7 => .int
  | 8 => .boolean
  | 9 => .int
  | 10 => .int
  | 11 => .int
  | 12 => .int
  | 13 => .object "java/util/List"
  | _ => .object "Lostroom"
abbrev wsX30 : List Cond := u_ws RX3 TX3 15
set_option maxRecDepth 100000 in
theorem nmX3 : ∀ a, a < 15 → ∀ b, b < 15 → a ≠ b → (TX3 a).2.1 ≠ (TX3 b).2.1 := by decide +kernel
set_option maxRecDepth 100000 in
theorem tyX3_ok : ∀ k, k < 15 → parseFieldDescriptor (TX3 k).2.2.1 = some (tyX3 k) := by decide +kernel
abbrev cX3_init : ByteArray := prog_3_method_1_code
def yX3_init : MethodName := ⟨RX3, "<init>", "(LLostroom;IIIIIII)V"⟩
def dkwX3_init_4 : List UInt8 := [180, 0, 22, 187, 0, 57, 89, 43, 180, 0, 47, 21, 8, 183, 0, 59, 185, 0, 62, 2, 0, 87, 177]
abbrev dktX3_init_4 : List UInt8 := dkwX3_init_4 ++ []
def dkwX3_init_3 : List UInt8 := [180, 0, 47, 28, 16, 7, 160, 0, 7, 4, 167, 0, 9, 43, 180, 0, 50, 28, 46, 96, 181, 0, 54, 42]
abbrev dktX3_init_3 : List UInt8 := dkwX3_init_3 ++ dktX3_init_4
def dkwX3_init_2 : List UInt8 := [181, 0, 35, 42, 21, 6, 181, 0, 38, 42, 21, 7, 181, 0, 41, 42, 21, 8, 181, 0, 44, 42, 43]
abbrev dktX3_init_2 : List UInt8 := dkwX3_init_2 ++ dktX3_init_3
def dkwX3_init_1 : List UInt8 := [181, 0, 22, 42, 28, 181, 0, 26, 42, 29, 181, 0, 29, 42, 21, 4, 181, 0, 32, 42, 21, 5]
abbrev dktX3_init_1 : List UInt8 := dkwX3_init_1 ++ dktX3_init_2
def dkwX3_init_0 : List UInt8 := [42, 43, 181, 0, 3, 42, 183, 0, 9, 42, 3, 181, 0, 15, 42, 187, 0, 19, 89, 183, 0, 21]
abbrev dktX3_init_0 : List UInt8 := dkwX3_init_0 ++ dktX3_init_1
theorem dksX3_init_0 : cX3_init.data.toList.drop 0 = dktX3_init_0 := by decide +kernel
theorem dksX3_init_1 : cX3_init.data.toList.drop 22 = dktX3_init_1 := dk_seg dksX3_init_0 22 rfl rfl
theorem dksX3_init_2 : cX3_init.data.toList.drop 44 = dktX3_init_2 := dk_seg dksX3_init_1 22 rfl rfl
theorem dksX3_init_3 : cX3_init.data.toList.drop 67 = dktX3_init_3 := dk_seg dksX3_init_2 23 rfl rfl
theorem dksX3_init_4 : cX3_init.data.toList.drop 91 = dktX3_init_4 := dk_seg dksX3_init_3 24 rfl rfl
theorem dX3_init_0 : decode cX3_init 0 = .ok (.aload_n 0, 1) := dk_42 (dk_at dksX3_init_0 0 rfl rfl)
theorem dX3_init_1 : decode cX3_init 1 = .ok (.aload_n 1, 1) := dk_43 (dk_at dksX3_init_0 1 rfl rfl)
theorem dX3_init_2 : decode cX3_init 2 = .ok (.putfield 3, 3) := dk_181 0 3 (dk_at dksX3_init_0 2 rfl rfl)
theorem dX3_init_5 : decode cX3_init 5 = .ok (.aload_n 0, 1) := dk_42 (dk_at dksX3_init_0 5 rfl rfl)
theorem dX3_init_6 : decode cX3_init 6 = .ok (.invokespecial 9, 3) := dk_183 0 9 (dk_at dksX3_init_0 6 rfl rfl)
theorem dX3_init_9 : decode cX3_init 9 = .ok (.aload_n 0, 1) := dk_42 (dk_at dksX3_init_0 9 rfl rfl)
theorem dX3_init_10 : decode cX3_init 10 = .ok (.iconst 0, 1) := dk_3 (dk_at dksX3_init_0 10 rfl rfl)
theorem dX3_init_11 : decode cX3_init 11 = .ok (.putfield 15, 3) := dk_181 0 15 (dk_at dksX3_init_0 11 rfl rfl)
theorem dX3_init_14 : decode cX3_init 14 = .ok (.aload_n 0, 1) := dk_42 (dk_at dksX3_init_0 14 rfl rfl)
theorem dX3_init_15 : decode cX3_init 15 = .ok (.new 19, 3) := dk_187 0 19 (dk_at dksX3_init_0 15 rfl rfl)
theorem dX3_init_18 : decode cX3_init 18 = .ok (.dup, 1) := dk_89 (dk_at dksX3_init_0 18 rfl rfl)
theorem dX3_init_19 : decode cX3_init 19 = .ok (.invokespecial 21, 3) := dk_183 0 21 (dk_at dksX3_init_0 19 rfl rfl)
theorem dX3_init_22 : decode cX3_init 22 = .ok (.putfield 22, 3) := dk_181 0 22 (dk_at dksX3_init_1 0 rfl rfl)
theorem dX3_init_25 : decode cX3_init 25 = .ok (.aload_n 0, 1) := dk_42 (dk_at dksX3_init_1 3 rfl rfl)
theorem dX3_init_26 : decode cX3_init 26 = .ok (.iload_n 2, 1) := dk_28 (dk_at dksX3_init_1 4 rfl rfl)
theorem dX3_init_27 : decode cX3_init 27 = .ok (.putfield 26, 3) := dk_181 0 26 (dk_at dksX3_init_1 5 rfl rfl)
theorem dX3_init_30 : decode cX3_init 30 = .ok (.aload_n 0, 1) := dk_42 (dk_at dksX3_init_1 8 rfl rfl)
theorem dX3_init_31 : decode cX3_init 31 = .ok (.iload_n 3, 1) := dk_29 (dk_at dksX3_init_1 9 rfl rfl)
theorem dX3_init_32 : decode cX3_init 32 = .ok (.putfield 29, 3) := dk_181 0 29 (dk_at dksX3_init_1 10 rfl rfl)
theorem dX3_init_35 : decode cX3_init 35 = .ok (.aload_n 0, 1) := dk_42 (dk_at dksX3_init_1 13 rfl rfl)
theorem dX3_init_36 : decode cX3_init 36 = .ok (.iload 4, 2) := dk_21 4 (dk_at dksX3_init_1 14 rfl rfl)
theorem dX3_init_38 : decode cX3_init 38 = .ok (.putfield 32, 3) := dk_181 0 32 (dk_at dksX3_init_1 16 rfl rfl)
theorem dX3_init_41 : decode cX3_init 41 = .ok (.aload_n 0, 1) := dk_42 (dk_at dksX3_init_1 19 rfl rfl)
theorem dX3_init_42 : decode cX3_init 42 = .ok (.iload 5, 2) := dk_21 5 (dk_at dksX3_init_1 20 rfl rfl)
theorem dX3_init_44 : decode cX3_init 44 = .ok (.putfield 35, 3) := dk_181 0 35 (dk_at dksX3_init_2 0 rfl rfl)
theorem dX3_init_47 : decode cX3_init 47 = .ok (.aload_n 0, 1) := dk_42 (dk_at dksX3_init_2 3 rfl rfl)
theorem dX3_init_48 : decode cX3_init 48 = .ok (.iload 6, 2) := dk_21 6 (dk_at dksX3_init_2 4 rfl rfl)
theorem dX3_init_50 : decode cX3_init 50 = .ok (.putfield 38, 3) := dk_181 0 38 (dk_at dksX3_init_2 6 rfl rfl)
theorem dX3_init_53 : decode cX3_init 53 = .ok (.aload_n 0, 1) := dk_42 (dk_at dksX3_init_2 9 rfl rfl)
theorem dX3_init_54 : decode cX3_init 54 = .ok (.iload 7, 2) := dk_21 7 (dk_at dksX3_init_2 10 rfl rfl)
theorem dX3_init_56 : decode cX3_init 56 = .ok (.putfield 41, 3) := dk_181 0 41 (dk_at dksX3_init_2 12 rfl rfl)
theorem dX3_init_59 : decode cX3_init 59 = .ok (.aload_n 0, 1) := dk_42 (dk_at dksX3_init_2 15 rfl rfl)
theorem dX3_init_60 : decode cX3_init 60 = .ok (.iload 8, 2) := dk_21 8 (dk_at dksX3_init_2 16 rfl rfl)
theorem dX3_init_62 : decode cX3_init 62 = .ok (.putfield 44, 3) := dk_181 0 44 (dk_at dksX3_init_2 18 rfl rfl)
theorem dX3_init_65 : decode cX3_init 65 = .ok (.aload_n 0, 1) := dk_42 (dk_at dksX3_init_2 21 rfl rfl)
theorem dX3_init_66 : decode cX3_init 66 = .ok (.aload_n 1, 1) := dk_43 (dk_at dksX3_init_2 22 rfl rfl)
theorem dX3_init_67 : decode cX3_init 67 = .ok (.getfield 47, 3) := dk_180 0 47 (dk_at dksX3_init_3 0 rfl rfl)
theorem dX3_init_70 : decode cX3_init 70 = .ok (.iload_n 2, 1) := dk_28 (dk_at dksX3_init_3 3 rfl rfl)
theorem dX3_init_71 : decode cX3_init 71 = .ok (.bipush 7, 2) := dk_16 7 (dk_at dksX3_init_3 4 rfl rfl)
theorem dX3_init_73 : decode cX3_init 73 = .ok (.if_icmp .ne 7, 3) := dk_160 0 7 (dk_at dksX3_init_3 6 rfl rfl)
theorem dX3_init_76 : decode cX3_init 76 = .ok (.iconst 1, 1) := dk_4 (dk_at dksX3_init_3 9 rfl rfl)
theorem dX3_init_77 : decode cX3_init 77 = .ok (.goto 9, 3) := dk_167 0 9 (dk_at dksX3_init_3 10 rfl rfl)
theorem dX3_init_80 : decode cX3_init 80 = .ok (.aload_n 1, 1) := dk_43 (dk_at dksX3_init_3 13 rfl rfl)
theorem dX3_init_81 : decode cX3_init 81 = .ok (.getfield 50, 3) := dk_180 0 50 (dk_at dksX3_init_3 14 rfl rfl)
theorem dX3_init_84 : decode cX3_init 84 = .ok (.iload_n 2, 1) := dk_28 (dk_at dksX3_init_3 17 rfl rfl)
theorem dX3_init_85 : decode cX3_init 85 = .ok (.iaload, 1) := dk_46 (dk_at dksX3_init_3 18 rfl rfl)
theorem dX3_init_86 : decode cX3_init 86 = .ok (.iadd, 1) := dk_96 (dk_at dksX3_init_3 19 rfl rfl)
theorem dX3_init_87 : decode cX3_init 87 = .ok (.putfield 54, 3) := dk_181 0 54 (dk_at dksX3_init_3 20 rfl rfl)
theorem dX3_init_90 : decode cX3_init 90 = .ok (.aload_n 0, 1) := dk_42 (dk_at dksX3_init_3 23 rfl rfl)
theorem dX3_init_91 : decode cX3_init 91 = .ok (.getfield 22, 3) := dk_180 0 22 (dk_at dksX3_init_4 0 rfl rfl)
theorem dX3_init_94 : decode cX3_init 94 = .ok (.new 57, 3) := dk_187 0 57 (dk_at dksX3_init_4 3 rfl rfl)
theorem dX3_init_97 : decode cX3_init 97 = .ok (.dup, 1) := dk_89 (dk_at dksX3_init_4 6 rfl rfl)
theorem dX3_init_98 : decode cX3_init 98 = .ok (.aload_n 1, 1) := dk_43 (dk_at dksX3_init_4 7 rfl rfl)
theorem dX3_init_99 : decode cX3_init 99 = .ok (.getfield 47, 3) := dk_180 0 47 (dk_at dksX3_init_4 8 rfl rfl)
theorem dX3_init_102 : decode cX3_init 102 = .ok (.iload 8, 2) := dk_21 8 (dk_at dksX3_init_4 11 rfl rfl)
theorem dX3_init_104 : decode cX3_init 104 = .ok (.invokespecial 59, 3) := dk_183 0 59 (dk_at dksX3_init_4 13 rfl rfl)
theorem dX3_init_107 : decode cX3_init 107 = .ok (.invokeinterface 62 2, 5) := by decide +kernel
theorem dX3_init_112 : decode cX3_init 112 = .ok (.pop, 1) := dk_87 (dk_at dksX3_init_4 21 rfl rfl)
theorem dX3_init_113 : decode cX3_init 113 = .ok (.return_, 1) := dk_177 (dk_at dksX3_init_4 22 rfl rfl)
abbrev cX3_come : ByteArray := prog_3_method_3_code
def yX3_come : MethodName := ⟨RX3, "come", "(I)V"⟩
def dkwX3_come_2 : List UInt8 := [164, 0, 14, 42, 180, 0, 22, 4, 185, 0, 72, 2, 0, 87, 177]
abbrev dktX3_come_2 : List UInt8 := dkwX3_come_2 ++ []
def dkwX3_come_1 : List UInt8 := [180, 0, 47, 27, 183, 0, 59, 185, 0, 62, 2, 0, 87, 42, 180, 0, 22, 185, 0, 68, 1, 0, 16, 12]
abbrev dktX3_come_1 : List UInt8 := dkwX3_come_1 ++ dktX3_come_2
def dkwX3_come_0 : List UInt8 := [42, 27, 181, 0, 44, 42, 3, 181, 0, 15, 42, 180, 0, 22, 187, 0, 57, 89, 42, 180, 0, 3]
abbrev dktX3_come_0 : List UInt8 := dkwX3_come_0 ++ dktX3_come_1
theorem dksX3_come_0 : cX3_come.data.toList.drop 0 = dktX3_come_0 := by decide +kernel
theorem dksX3_come_1 : cX3_come.data.toList.drop 22 = dktX3_come_1 := dk_seg dksX3_come_0 22 rfl rfl
theorem dksX3_come_2 : cX3_come.data.toList.drop 46 = dktX3_come_2 := dk_seg dksX3_come_1 24 rfl rfl
theorem dX3_come_0 : decode cX3_come 0 = .ok (.aload_n 0, 1) := dk_42 (dk_at dksX3_come_0 0 rfl rfl)
theorem dX3_come_1 : decode cX3_come 1 = .ok (.iload_n 1, 1) := dk_27 (dk_at dksX3_come_0 1 rfl rfl)
theorem dX3_come_2 : decode cX3_come 2 = .ok (.putfield 44, 3) := dk_181 0 44 (dk_at dksX3_come_0 2 rfl rfl)
theorem dX3_come_5 : decode cX3_come 5 = .ok (.aload_n 0, 1) := dk_42 (dk_at dksX3_come_0 5 rfl rfl)
theorem dX3_come_6 : decode cX3_come 6 = .ok (.iconst 0, 1) := dk_3 (dk_at dksX3_come_0 6 rfl rfl)
theorem dX3_come_7 : decode cX3_come 7 = .ok (.putfield 15, 3) := dk_181 0 15 (dk_at dksX3_come_0 7 rfl rfl)
theorem dX3_come_10 : decode cX3_come 10 = .ok (.aload_n 0, 1) := dk_42 (dk_at dksX3_come_0 10 rfl rfl)
theorem dX3_come_11 : decode cX3_come 11 = .ok (.getfield 22, 3) := dk_180 0 22 (dk_at dksX3_come_0 11 rfl rfl)
theorem dX3_come_14 : decode cX3_come 14 = .ok (.new 57, 3) := dk_187 0 57 (dk_at dksX3_come_0 14 rfl rfl)
theorem dX3_come_17 : decode cX3_come 17 = .ok (.dup, 1) := dk_89 (dk_at dksX3_come_0 17 rfl rfl)
theorem dX3_come_18 : decode cX3_come 18 = .ok (.aload_n 0, 1) := dk_42 (dk_at dksX3_come_0 18 rfl rfl)
theorem dX3_come_19 : decode cX3_come 19 = .ok (.getfield 3, 3) := dk_180 0 3 (dk_at dksX3_come_0 19 rfl rfl)
theorem dX3_come_22 : decode cX3_come 22 = .ok (.getfield 47, 3) := dk_180 0 47 (dk_at dksX3_come_1 0 rfl rfl)
theorem dX3_come_25 : decode cX3_come 25 = .ok (.iload_n 1, 1) := dk_27 (dk_at dksX3_come_1 3 rfl rfl)
theorem dX3_come_26 : decode cX3_come 26 = .ok (.invokespecial 59, 3) := dk_183 0 59 (dk_at dksX3_come_1 4 rfl rfl)
theorem dX3_come_29 : decode cX3_come 29 = .ok (.invokeinterface 62 2, 5) := by decide +kernel
theorem dX3_come_34 : decode cX3_come 34 = .ok (.pop, 1) := dk_87 (dk_at dksX3_come_1 12 rfl rfl)
theorem dX3_come_35 : decode cX3_come 35 = .ok (.aload_n 0, 1) := dk_42 (dk_at dksX3_come_1 13 rfl rfl)
theorem dX3_come_36 : decode cX3_come 36 = .ok (.getfield 22, 3) := dk_180 0 22 (dk_at dksX3_come_1 14 rfl rfl)
theorem dX3_come_39 : decode cX3_come 39 = .ok (.invokeinterface 68 1, 5) := by decide +kernel
theorem dX3_come_44 : decode cX3_come 44 = .ok (.bipush 12, 2) := dk_16 12 (dk_at dksX3_come_1 22 rfl rfl)
theorem dX3_come_46 : decode cX3_come 46 = .ok (.if_icmp .le 14, 3) := dk_164 0 14 (dk_at dksX3_come_2 0 rfl rfl)
theorem dX3_come_49 : decode cX3_come 49 = .ok (.aload_n 0, 1) := dk_42 (dk_at dksX3_come_2 3 rfl rfl)
theorem dX3_come_50 : decode cX3_come 50 = .ok (.getfield 22, 3) := dk_180 0 22 (dk_at dksX3_come_2 4 rfl rfl)
theorem dX3_come_53 : decode cX3_come 53 = .ok (.iconst 1, 1) := dk_4 (dk_at dksX3_come_2 7 rfl rfl)
theorem dX3_come_54 : decode cX3_come 54 = .ok (.invokeinterface 72 2, 5) := by decide +kernel
theorem dX3_come_59 : decode cX3_come 59 = .ok (.pop, 1) := dk_87 (dk_at dksX3_come_2 13 rfl rfl)
theorem dX3_come_60 : decode cX3_come 60 = .ok (.return_, 1) := dk_177 (dk_at dksX3_come_2 14 rfl rfl)
abbrev cX3_isHere : ByteArray := prog_3_method_2_code
def yX3_isHere : MethodName := ⟨RX3, "isHere", "()Z"⟩
def dkwX3_isHere_1 : List UInt8 := [167, 0, 4, 3, 172]
abbrev dktX3_isHere_1 : List UInt8 := dkwX3_isHere_1 ++ []
def dkwX3_isHere_0 : List UInt8 := [42, 180, 0, 15, 153, 0, 19, 42, 180, 0, 15, 4, 159, 0, 11, 42, 180, 0, 15, 5, 160, 0, 7, 4]
abbrev dktX3_isHere_0 : List UInt8 := dkwX3_isHere_0 ++ dktX3_isHere_1
theorem dksX3_isHere_0 : cX3_isHere.data.toList.drop 0 = dktX3_isHere_0 := by decide +kernel
theorem dksX3_isHere_1 : cX3_isHere.data.toList.drop 24 = dktX3_isHere_1 := dk_seg dksX3_isHere_0 24 rfl rfl
theorem dX3_isHere_0 : decode cX3_isHere 0 = .ok (.aload_n 0, 1) := dk_42 (dk_at dksX3_isHere_0 0 rfl rfl)
theorem dX3_isHere_1 : decode cX3_isHere 1 = .ok (.getfield 15, 3) := dk_180 0 15 (dk_at dksX3_isHere_0 1 rfl rfl)
theorem dX3_isHere_4 : decode cX3_isHere 4 = .ok (.ifCond .eq 19, 3) := dk_153 0 19 (dk_at dksX3_isHere_0 4 rfl rfl)
theorem dX3_isHere_7 : decode cX3_isHere 7 = .ok (.aload_n 0, 1) := dk_42 (dk_at dksX3_isHere_0 7 rfl rfl)
theorem dX3_isHere_8 : decode cX3_isHere 8 = .ok (.getfield 15, 3) := dk_180 0 15 (dk_at dksX3_isHere_0 8 rfl rfl)
theorem dX3_isHere_11 : decode cX3_isHere 11 = .ok (.iconst 1, 1) := dk_4 (dk_at dksX3_isHere_0 11 rfl rfl)
theorem dX3_isHere_12 : decode cX3_isHere 12 = .ok (.if_icmp .eq 11, 3) := dk_159 0 11 (dk_at dksX3_isHere_0 12 rfl rfl)
theorem dX3_isHere_15 : decode cX3_isHere 15 = .ok (.aload_n 0, 1) := dk_42 (dk_at dksX3_isHere_0 15 rfl rfl)
theorem dX3_isHere_16 : decode cX3_isHere 16 = .ok (.getfield 15, 3) := dk_180 0 15 (dk_at dksX3_isHere_0 16 rfl rfl)
theorem dX3_isHere_19 : decode cX3_isHere 19 = .ok (.iconst 2, 1) := dk_5 (dk_at dksX3_isHere_0 19 rfl rfl)
theorem dX3_isHere_20 : decode cX3_isHere 20 = .ok (.if_icmp .ne 7, 3) := dk_160 0 7 (dk_at dksX3_isHere_0 20 rfl rfl)
theorem dX3_isHere_23 : decode cX3_isHere 23 = .ok (.iconst 1, 1) := dk_4 (dk_at dksX3_isHere_0 23 rfl rfl)
theorem dX3_isHere_24 : decode cX3_isHere 24 = .ok (.goto 4, 3) := dk_167 0 4 (dk_at dksX3_isHere_1 0 rfl rfl)
theorem dX3_isHere_27 : decode cX3_isHere 27 = .ok (.iconst 0, 1) := dk_3 (dk_at dksX3_isHere_1 3 rfl rfl)
theorem dX3_isHere_28 : decode cX3_isHere 28 = .ok (.ireturn, 1) := dk_172 (dk_at dksX3_isHere_1 4 rfl rfl)
theorem q55 : (Jvm.Cond.initialized "Lostroom$Find") ∈ lw_all := lw_g (lw_at lw_m1 23 rfl) rfl
theorem q141 : (Jvm.Cond.selects "Lostroom$Find" ({ cls := "java/lang/Object", name := "getClass", desc := "()Ljava/lang/Class;" } : Jvm.MethodName) ({ cls := "java/lang/Object", name := "getClass", desc := "()Ljava/lang/Class;" } : Jvm.MethodName)) ∈ lw_all := lw_g (lw_at lw_m1 109 rfl) rfl
theorem q166 : (Jvm.Cond.fieldLinkNest "Lostroom$Find" (47 : Nat) "Lostroom" "today" "I" "Lostroom") ∈ lw_tbl := lw_at lw_m1 134 rfl
theorem q171 : (Jvm.Cond.fieldLinkNest "Lostroom$Find" (50 : Nat) "Lostroom" "terms" "[I" "Lostroom") ∈ lw_tbl := lw_at lw_m1 139 rfl
theorem q440 : (Jvm.Cond.selects "Lostroom$Find" ({ cls := "java/lang/Object", name := "equals", desc := "(Ljava/lang/Object;)Z" } : Jvm.MethodName) ({ cls := "java/lang/Object", name := "equals", desc := "(Ljava/lang/Object;)Z" } : Jvm.MethodName)) ∈ lw_all := lw_g (lw_at lw_m2 168 rfl) rfl
theorem q497 : (Jvm.Cond.instantiable "Lostroom$Find" (15 : Nat)) ∈ lw_all := lw_g (lw_at lw_m2 225 rfl) rfl
theorem q499 : (Jvm.Cond.instanceMethod ({ cls := "Lostroom$Find", name := "<init>", desc := "(LLostroom;IIIIIII)V" } : Jvm.MethodName)) ∈ lw_all := lw_g (lw_at lw_m2 227 rfl) rfl
theorem q500 : (Jvm.Cond.code ({ cls := "Lostroom$Find", name := "<init>", desc := "(LLostroom;IIIIIII)V" } : Jvm.MethodName) prog_3_method_1_code (9 : Nat) (Option.none : Option Jvm.ClassFile.FieldType)) ∈ lw_all := lw_g (lw_at lw_m2 228 rfl) rfl
theorem q501 : (Jvm.Cond.methodLink "Lostroom$Find" (9 : Nat) ({ cls := "java/lang/Object", name := "<init>", desc := "()V" } : Jvm.MethodName)) ∈ lw_all := lw_g (lw_at lw_m2 229 rfl) rfl
theorem q502 : (Jvm.Cond.classLink "Lostroom$Find" (19 : Nat) "java/util/ArrayList") ∈ lw_all := lw_g (lw_at lw_m2 230 rfl) rfl
theorem q503 : (Jvm.Cond.methodLink "Lostroom$Find" (21 : Nat) ({ cls := "java/util/ArrayList", name := "<init>", desc := "()V" } : Jvm.MethodName)) ∈ lw_all := lw_g (lw_at lw_m2 231 rfl) rfl
theorem q504 : (Jvm.Cond.classLink "Lostroom$Find" (57 : Nat) "Lostroom$Hand") ∈ lw_all := lw_g (lw_at lw_m2 232 rfl) rfl
theorem q506 : (Jvm.Cond.methodLinkNest "Lostroom$Find" (59 : Nat) ({ cls := "Lostroom$Hand", name := "<init>", desc := "(II)V" } : Jvm.MethodName) "Lostroom") ∈ lw_tbl := lw_at lw_m2 234 rfl
theorem q520 : (Jvm.Cond.interfaceEntry "Lostroom$Find" (62 : Nat)) ∈ lw_tbl := lw_at lw_m3 8 rfl
theorem q521 : (Jvm.Cond.methodLink "Lostroom$Find" (62 : Nat) ({ cls := "java/util/List", name := "add", desc := "(Ljava/lang/Object;)Z" } : Jvm.MethodName)) ∈ lw_all := lw_g (lw_at lw_m3 9 rfl) rfl
theorem q522 : (Jvm.Cond.fieldLink "Lostroom$Find" (26 : Nat) "Lostroom$Find" "kind" "I") ∈ lw_all := lw_g (lw_at lw_m3 10 rfl) rfl
theorem q524 : (Jvm.Cond.fieldLink "Lostroom$Find" (29 : Nat) "Lostroom$Find" "place" "I") ∈ lw_all := lw_g (lw_at lw_m3 12 rfl) rfl
theorem q526 : (Jvm.Cond.fieldLink "Lostroom$Find" (32 : Nat) "Lostroom$Find" "day" "I") ∈ lw_all := lw_g (lw_at lw_m3 14 rfl) rfl
theorem q528 : (Jvm.Cond.fieldLink "Lostroom$Find" (35 : Nat) "Lostroom$Find" "words" "I") ∈ lw_all := lw_g (lw_at lw_m3 16 rfl) rfl
theorem q530 : (Jvm.Cond.fieldLink "Lostroom$Find" (38 : Nat) "Lostroom$Find" "secret" "I") ∈ lw_all := lw_g (lw_at lw_m3 18 rfl) rfl
theorem q533 : (Jvm.Cond.fieldLink "Lostroom$Find" (41 : Nat) "Lostroom$Find" "value" "I") ∈ lw_all := lw_g (lw_at lw_m3 21 rfl) rfl
theorem q535 : (Jvm.Cond.fieldLink "Lostroom$Find" (15 : Nat) "Lostroom$Find" "state" "I") ∈ lw_all := lw_g (lw_at lw_m3 23 rfl) rfl
theorem q537 : (Jvm.Cond.fieldLink "Lostroom$Find" (54 : Nat) "Lostroom$Find" "until" "I") ∈ lw_all := lw_g (lw_at lw_m3 25 rfl) rfl
theorem q540 : (Jvm.Cond.fieldLink "Lostroom$Find" (44 : Nat) "Lostroom$Find" "room" "I") ∈ lw_all := lw_g (lw_at lw_m3 28 rfl) rfl
theorem q545 : (Jvm.Cond.fieldLink "Lostroom$Find" (22 : Nat) "Lostroom$Find" "hands" "Ljava/util/List;") ∈ lw_all := lw_g (lw_at lw_m3 33 rfl) rfl
theorem q547 : (Jvm.Cond.fieldLink "Lostroom$Find" (3 : Nat) "Lostroom$Find" "this$0" "LLostroom;") ∈ lw_all := lw_g (lw_at lw_m3 35 rfl) rfl
theorem q548 : (Jvm.Cond.laysFinal "Lostroom$Find" "Lostroom$Find" "kind" "I") ∈ lw_all := lw_g (lw_at lw_m3 36 rfl) rfl
theorem q549 : (Jvm.Cond.soleField "Lostroom$Find" "kind") ∈ lw_all := lw_g (lw_at lw_m3 37 rfl) rfl
theorem q550 : (Jvm.Cond.laysFinal "Lostroom$Find" "Lostroom$Find" "place" "I") ∈ lw_all := lw_g (lw_at lw_m3 38 rfl) rfl
theorem q551 : (Jvm.Cond.soleField "Lostroom$Find" "place") ∈ lw_all := lw_g (lw_at lw_m3 39 rfl) rfl
theorem q552 : (Jvm.Cond.laysFinal "Lostroom$Find" "Lostroom$Find" "day" "I") ∈ lw_all := lw_g (lw_at lw_m3 40 rfl) rfl
theorem q553 : (Jvm.Cond.soleField "Lostroom$Find" "day") ∈ lw_all := lw_g (lw_at lw_m3 41 rfl) rfl
theorem q554 : (Jvm.Cond.lays "Lostroom$Find" "Lostroom$Find" "words" "I") ∈ lw_all := lw_g (lw_at lw_m3 42 rfl) rfl
theorem q555 : (Jvm.Cond.soleField "Lostroom$Find" "words") ∈ lw_all := lw_g (lw_at lw_m3 43 rfl) rfl
theorem q556 : (Jvm.Cond.laysFinal "Lostroom$Find" "Lostroom$Find" "secret" "I") ∈ lw_all := lw_g (lw_at lw_m3 44 rfl) rfl
theorem q557 : (Jvm.Cond.soleField "Lostroom$Find" "secret") ∈ lw_all := lw_g (lw_at lw_m3 45 rfl) rfl
theorem q558 : (Jvm.Cond.laysFinal "Lostroom$Find" "Lostroom$Find" "value" "I") ∈ lw_all := lw_g (lw_at lw_m3 46 rfl) rfl
theorem q559 : (Jvm.Cond.soleField "Lostroom$Find" "value") ∈ lw_all := lw_g (lw_at lw_m3 47 rfl) rfl
theorem q560 : (Jvm.Cond.lays "Lostroom$Find" "Lostroom$Find" "state" "I") ∈ lw_all := lw_g (lw_at lw_m3 48 rfl) rfl
theorem q561 : (Jvm.Cond.soleField "Lostroom$Find" "state") ∈ lw_all := lw_g (lw_at lw_m3 49 rfl) rfl
theorem q562 : (Jvm.Cond.lays "Lostroom$Find" "Lostroom$Find" "until" "I") ∈ lw_all := lw_g (lw_at lw_m3 50 rfl) rfl
theorem q563 : (Jvm.Cond.soleField "Lostroom$Find" "until") ∈ lw_all := lw_g (lw_at lw_m3 51 rfl) rfl
theorem q564 : (Jvm.Cond.lays "Lostroom$Find" "Lostroom$Find" "isHeld" "Z") ∈ lw_all := lw_g (lw_at lw_m3 52 rfl) rfl
theorem q565 : (Jvm.Cond.soleField "Lostroom$Find" "isHeld") ∈ lw_all := lw_g (lw_at lw_m3 53 rfl) rfl
theorem q566 : (Jvm.Cond.lays "Lostroom$Find" "Lostroom$Find" "room" "I") ∈ lw_all := lw_g (lw_at lw_m3 54 rfl) rfl
theorem q567 : (Jvm.Cond.soleField "Lostroom$Find" "room") ∈ lw_all := lw_g (lw_at lw_m3 55 rfl) rfl
theorem q568 : (Jvm.Cond.lays "Lostroom$Find" "Lostroom$Find" "arrives" "I") ∈ lw_all := lw_g (lw_at lw_m3 56 rfl) rfl
theorem q569 : (Jvm.Cond.soleField "Lostroom$Find" "arrives") ∈ lw_all := lw_g (lw_at lw_m3 57 rfl) rfl
theorem q570 : (Jvm.Cond.lays "Lostroom$Find" "Lostroom$Find" "price" "I") ∈ lw_all := lw_g (lw_at lw_m3 58 rfl) rfl
theorem q571 : (Jvm.Cond.soleField "Lostroom$Find" "price") ∈ lw_all := lw_g (lw_at lw_m3 59 rfl) rfl
theorem q572 : (Jvm.Cond.lays "Lostroom$Find" "Lostroom$Find" "soldOn" "I") ∈ lw_all := lw_g (lw_at lw_m3 60 rfl) rfl
theorem q573 : (Jvm.Cond.soleField "Lostroom$Find" "soldOn") ∈ lw_all := lw_g (lw_at lw_m3 61 rfl) rfl
theorem q574 : (Jvm.Cond.laysFinal "Lostroom$Find" "Lostroom$Find" "hands" "Ljava/util/List;") ∈ lw_all := lw_g (lw_at lw_m3 62 rfl) rfl
theorem q575 : (Jvm.Cond.soleField "Lostroom$Find" "hands") ∈ lw_all := lw_g (lw_at lw_m3 63 rfl) rfl
theorem q576 : (Jvm.Cond.laysFinal "Lostroom$Find" "Lostroom$Find" "this$0" "LLostroom;") ∈ lw_all := lw_g (lw_at lw_m3 64 rfl) rfl
theorem q577 : (Jvm.Cond.soleField "Lostroom$Find" "this$0") ∈ lw_all := lw_g (lw_at lw_m3 65 rfl) rfl
theorem q578 : (Jvm.Cond.superclass "Lostroom$Find" "java/lang/Object") ∈ lw_all := lw_g (lw_at lw_m3 66 rfl) rfl
theorem q669 : (Jvm.Cond.instanceMethod ({ cls := "Lostroom$Find", name := "come", desc := "(I)V" } : Jvm.MethodName)) ∈ lw_all := lw_g (lw_at lw_m3 157 rfl) rfl
theorem q670 : (Jvm.Cond.selects "Lostroom$Find" ({ cls := "Lostroom$Find", name := "come", desc := "(I)V" } : Jvm.MethodName) ({ cls := "Lostroom$Find", name := "come", desc := "(I)V" } : Jvm.MethodName)) ∈ lw_all := lw_g (lw_at lw_m3 158 rfl) rfl
theorem q671 : (Jvm.Cond.code ({ cls := "Lostroom$Find", name := "come", desc := "(I)V" } : Jvm.MethodName) prog_3_method_3_code (2 : Nat) (Option.none : Option Jvm.ClassFile.FieldType)) ∈ lw_all := lw_g (lw_at lw_m3 159 rfl) rfl
theorem q672 : (Jvm.Cond.interfaceEntry "Lostroom$Find" (68 : Nat)) ∈ lw_tbl := lw_at lw_m3 160 rfl
theorem q673 : (Jvm.Cond.methodLink "Lostroom$Find" (68 : Nat) ({ cls := "java/util/List", name := "size", desc := "()I" } : Jvm.MethodName)) ∈ lw_all := lw_g (lw_at lw_m3 161 rfl) rfl
theorem q674 : (Jvm.Cond.interfaceEntry "Lostroom$Find" (72 : Nat)) ∈ lw_tbl := lw_at lw_m3 162 rfl
theorem q675 : (Jvm.Cond.methodLink "Lostroom$Find" (72 : Nat) ({ cls := "java/util/List", name := "remove", desc := "(I)Ljava/lang/Object;" } : Jvm.MethodName)) ∈ lw_all := lw_g (lw_at lw_m3 163 rfl) rfl
theorem q696 : (Jvm.Cond.instanceMethod ({ cls := "Lostroom$Find", name := "isHere", desc := "()Z" } : Jvm.MethodName)) ∈ lw_all := lw_g (lw_at lw_m3 184 rfl) rfl
theorem q697 : (Jvm.Cond.selects "Lostroom$Find" ({ cls := "Lostroom$Find", name := "isHere", desc := "()Z" } : Jvm.MethodName) ({ cls := "Lostroom$Find", name := "isHere", desc := "()Z" } : Jvm.MethodName)) ∈ lw_all := lw_g (lw_at lw_m3 185 rfl) rfl
theorem q698 : (Jvm.Cond.code ({ cls := "Lostroom$Find", name := "isHere", desc := "()Z" } : Jvm.MethodName) prog_3_method_2_code (1 : Nat) (Option.some Jvm.ClassFile.FieldType.boolean)) ∈ lw_all := lw_g (lw_at lw_m3 186 rfl) rfl
theorem q1301 : (Jvm.Cond.castable "Lostroom$Find" "java/lang/Object") ∈ lw_tbl := lw_at lw_m6 69 rfl
theorem in_X3 : ∀ w ∈ wsX30, w ∈ lw_all := lw_in wsX30 [548, 550, 552, 554, 556, 558, 560, 562, 564, 566, 568, 570, 572, 574, 576] (by decide +kernel) (by decide +kernel)
/-! Lostroom$Hand -/
set_option maxRecDepth 100000
def RX4 : String := "Lostroom$Hand"
def TX4 : u_T := fun k => match k with
  | 0 => ("Lostroom$Hand", "day", "I", true)
  | _ => ("Lostroom$Hand", "room", "I", true)
def tyX4 : Nat → FieldType := fun k => match k with
  | 0 => .int
  | _ => .int
abbrev wsX40 : List Cond := u_ws RX4 TX4 2
theorem nmX4 : ∀ a, a < 2 → ∀ b, b < 2 → a ≠ b → (TX4 a).2.1 ≠ (TX4 b).2.1 := by decide +kernel
theorem tyX4_ok : ∀ k, k < 2 → parseFieldDescriptor (TX4 k).2.2.1 = some (tyX4 k) := by decide +kernel
abbrev cX4_equals : ByteArray := prog_4_method_4_code
def yX4_equals : MethodName := ⟨RX4, "equals", "(Ljava/lang/Object;)Z"⟩
def dkwX4_equals_0 : List UInt8 := [42, 43, 186, 0, 24, 0, 0, 172]
abbrev dktX4_equals_0 : List UInt8 := dkwX4_equals_0 ++ []
theorem dksX4_equals_0 : cX4_equals.data.toList.drop 0 = dktX4_equals_0 := by decide +kernel
theorem dX4_equals_0 : decode cX4_equals 0 = .ok (.aload_n 0, 1) := dk_42 (dk_at dksX4_equals_0 0 rfl rfl)
theorem dX4_equals_1 : decode cX4_equals 1 = .ok (.aload_n 1, 1) := dk_43 (dk_at dksX4_equals_0 1 rfl rfl)
theorem dX4_equals_2 : decode cX4_equals 2 = .ok (.invokedynamic 24, 5) := by decide +kernel
theorem dX4_equals_7 : decode cX4_equals 7 = .ok (.ireturn, 1) := dk_172 (dk_at dksX4_equals_0 7 rfl rfl)
abbrev cX4_init : ByteArray := prog_4_method_1_code
def yX4_init : MethodName := ⟨RX4, "<init>", "(II)V"⟩
def dkwX4_init_0 : List UInt8 := [42, 183, 0, 1, 42, 27, 181, 0, 7, 42, 28, 181, 0, 13, 177]
abbrev dktX4_init_0 : List UInt8 := dkwX4_init_0 ++ []
theorem dksX4_init_0 : cX4_init.data.toList.drop 0 = dktX4_init_0 := by decide +kernel
theorem dX4_init_0 : decode cX4_init 0 = .ok (.aload_n 0, 1) := dk_42 (dk_at dksX4_init_0 0 rfl rfl)
theorem dX4_init_1 : decode cX4_init 1 = .ok (.invokespecial 1, 3) := dk_183 0 1 (dk_at dksX4_init_0 1 rfl rfl)
theorem dX4_init_4 : decode cX4_init 4 = .ok (.aload_n 0, 1) := dk_42 (dk_at dksX4_init_0 4 rfl rfl)
theorem dX4_init_5 : decode cX4_init 5 = .ok (.iload_n 1, 1) := dk_27 (dk_at dksX4_init_0 5 rfl rfl)
theorem dX4_init_6 : decode cX4_init 6 = .ok (.putfield 7, 3) := dk_181 0 7 (dk_at dksX4_init_0 6 rfl rfl)
theorem dX4_init_9 : decode cX4_init 9 = .ok (.aload_n 0, 1) := dk_42 (dk_at dksX4_init_0 9 rfl rfl)
theorem dX4_init_10 : decode cX4_init 10 = .ok (.iload_n 2, 1) := dk_28 (dk_at dksX4_init_0 10 rfl rfl)
theorem dX4_init_11 : decode cX4_init 11 = .ok (.putfield 13, 3) := dk_181 0 13 (dk_at dksX4_init_0 11 rfl rfl)
theorem dX4_init_14 : decode cX4_init 14 = .ok (.return_, 1) := dk_177 (dk_at dksX4_init_0 14 rfl rfl)
abbrev cX4_day : ByteArray := prog_4_method_5_code
def yX4_day : MethodName := ⟨RX4, "day", "()I"⟩
theorem dX4_day_0 : decode cX4_day 0 = .ok (.aload_n 0, 1) := by decide +kernel
theorem dX4_day_1 : decode cX4_day 1 = .ok (.getfield 7, 3) := by decide +kernel
theorem dX4_day_4 : decode cX4_day 4 = .ok (.ireturn, 1) := by decide +kernel
abbrev cX4_room : ByteArray := prog_4_method_6_code
def yX4_room : MethodName := ⟨RX4, "room", "()I"⟩
theorem dX4_room_0 : decode cX4_room 0 = .ok (.aload_n 0, 1) := by decide +kernel
theorem dX4_room_1 : decode cX4_room 1 = .ok (.getfield 13, 3) := by decide +kernel
theorem dX4_room_4 : decode cX4_room 4 = .ok (.ireturn, 1) := by decide +kernel
theorem q57 : (Jvm.Cond.initialized "Lostroom$Hand") ∈ lw_all := lw_g (lw_at lw_m1 25 rfl) rfl
theorem q142 : (Jvm.Cond.selects "Lostroom$Hand" ({ cls := "java/lang/Object", name := "getClass", desc := "()Ljava/lang/Class;" } : Jvm.MethodName) ({ cls := "java/lang/Object", name := "getClass", desc := "()Ljava/lang/Class;" } : Jvm.MethodName)) ∈ lw_all := lw_g (lw_at lw_m1 110 rfl) rfl
theorem q441 : (Jvm.Cond.selects "Lostroom$Hand" ({ cls := "java/lang/Object", name := "equals", desc := "(Ljava/lang/Object;)Z" } : Jvm.MethodName) ({ cls := "Lostroom$Hand", name := "equals", desc := "(Ljava/lang/Object;)Z" } : Jvm.MethodName)) ∈ lw_all := lw_g (lw_at lw_m2 169 rfl) rfl
theorem q442 : (Jvm.Cond.instanceMethod ({ cls := "Lostroom$Hand", name := "equals", desc := "(Ljava/lang/Object;)Z" } : Jvm.MethodName)) ∈ lw_all := lw_g (lw_at lw_m2 170 rfl) rfl
theorem q443 : (Jvm.Cond.code ({ cls := "Lostroom$Hand", name := "equals", desc := "(Ljava/lang/Object;)Z" } : Jvm.MethodName) prog_4_method_4_code (2 : Nat) (Option.some Jvm.ClassFile.FieldType.boolean)) ∈ lw_all := lw_g (lw_at lw_m2 171 rfl) rfl
theorem q505 : (Jvm.Cond.instantiable "Lostroom$Hand" (2 : Nat)) ∈ lw_all := lw_g (lw_at lw_m2 233 rfl) rfl
theorem q507 : (Jvm.Cond.instanceMethod ({ cls := "Lostroom$Hand", name := "<init>", desc := "(II)V" } : Jvm.MethodName)) ∈ lw_all := lw_g (lw_at lw_m2 235 rfl) rfl
theorem q508 : (Jvm.Cond.code ({ cls := "Lostroom$Hand", name := "<init>", desc := "(II)V" } : Jvm.MethodName) prog_4_method_1_code (3 : Nat) (Option.none : Option Jvm.ClassFile.FieldType)) ∈ lw_all := lw_g (lw_at lw_m2 236 rfl) rfl
theorem q509 : (Jvm.Cond.methodLink "Lostroom$Hand" (1 : Nat) ({ cls := "java/lang/Record", name := "<init>", desc := "()V" } : Jvm.MethodName)) ∈ lw_all := lw_g (lw_at lw_m2 237 rfl) rfl
theorem q513 : (Jvm.Cond.fieldLink "Lostroom$Hand" (7 : Nat) "Lostroom$Hand" "day" "I") ∈ lw_all := lw_g (lw_at lw_m3 1 rfl) rfl
theorem q514 : (Jvm.Cond.fieldLink "Lostroom$Hand" (13 : Nat) "Lostroom$Hand" "room" "I") ∈ lw_all := lw_g (lw_at lw_m3 2 rfl) rfl
theorem q515 : (Jvm.Cond.laysFinal "Lostroom$Hand" "Lostroom$Hand" "day" "I") ∈ lw_all := lw_g (lw_at lw_m3 3 rfl) rfl
theorem q516 : (Jvm.Cond.soleField "Lostroom$Hand" "day") ∈ lw_all := lw_g (lw_at lw_m3 4 rfl) rfl
theorem q517 : (Jvm.Cond.laysFinal "Lostroom$Hand" "Lostroom$Hand" "room" "I") ∈ lw_all := lw_g (lw_at lw_m3 5 rfl) rfl
theorem q518 : (Jvm.Cond.soleField "Lostroom$Hand" "room") ∈ lw_all := lw_g (lw_at lw_m3 6 rfl) rfl
theorem q519 : (Jvm.Cond.superclass "Lostroom$Hand" "java/lang/Record") ∈ lw_all := lw_g (lw_at lw_m3 7 rfl) rfl
theorem q917 : (Jvm.Cond.instanceMethod ({ cls := "Lostroom$Hand", name := "day", desc := "()I" } : Jvm.MethodName)) ∈ lw_all := lw_g (lw_at lw_m4 165 rfl) rfl
theorem q918 : (Jvm.Cond.selects "Lostroom$Hand" ({ cls := "Lostroom$Hand", name := "day", desc := "()I" } : Jvm.MethodName) ({ cls := "Lostroom$Hand", name := "day", desc := "()I" } : Jvm.MethodName)) ∈ lw_all := lw_g (lw_at lw_m4 166 rfl) rfl
theorem q919 : (Jvm.Cond.code ({ cls := "Lostroom$Hand", name := "day", desc := "()I" } : Jvm.MethodName) prog_4_method_5_code (1 : Nat) (Option.some Jvm.ClassFile.FieldType.int)) ∈ lw_all := lw_g (lw_at lw_m4 167 rfl) rfl
theorem q921 : (Jvm.Cond.instanceMethod ({ cls := "Lostroom$Hand", name := "room", desc := "()I" } : Jvm.MethodName)) ∈ lw_all := lw_g (lw_at lw_m4 169 rfl) rfl
theorem q922 : (Jvm.Cond.selects "Lostroom$Hand" ({ cls := "Lostroom$Hand", name := "room", desc := "()I" } : Jvm.MethodName) ({ cls := "Lostroom$Hand", name := "room", desc := "()I" } : Jvm.MethodName)) ∈ lw_all := lw_g (lw_at lw_m4 170 rfl) rfl
theorem q923 : (Jvm.Cond.code ({ cls := "Lostroom$Hand", name := "room", desc := "()I" } : Jvm.MethodName) prog_4_method_6_code (1 : Nat) (Option.some Jvm.ClassFile.FieldType.int)) ∈ lw_all := lw_g (lw_at lw_m4 171 rfl) rfl
theorem q1302 : (Jvm.Cond.castable "Lostroom$Hand" "java/lang/Object") ∈ lw_tbl := lw_at lw_m6 70 rfl
theorem in_X4 : ∀ w ∈ wsX40, w ∈ lw_all := lw_in wsX40 [515, 517] (by decide +kernel) (by decide +kernel)
/-! Lostroom$Claim -/
set_option maxRecDepth 100000
def RX5 : String := "Lostroom$Claim"
def TX5 : u_T := fun k => match k with
  | 0 => ("Lostroom$Claim", "kind", "I", true)
  | 1 => ("Lostroom$Claim", "place", "I", true)
  | 2 => ("Lostroom$Claim", "from", "I", true)
  | 3 => ("Lostroom$Claim", "to", "I", true)
  | 4 => ("Lostroom$Claim", "words", "I", false)
  | 5 => ("Lostroom$Claim", "told", "I", false)
  | 6 => ("Lostroom$Claim", "state", "I", false)
  | 7 => ("Lostroom$Claim", "since", "I", false)
  | 8 => ("Lostroom$Claim", "served", "I", false)
  | _ => ("Lostroom$Claim", "this$0", "LLostroom;", true)
def tyX5 : Nat → FieldType := fun k => match k with
  | 0 => .int
  | 1 => .int
  | 2 => .int
  | 3 => .int
  | 4 => .int
  | 5 => .int
  | 6 => .int
  | 7 => .int
  | 8 => .int
  | _ => .object "Lostroom"
abbrev wsX50 : List Cond := u_ws RX5 TX5 10
theorem nmX5 : ∀ a, a < 10 → ∀ b, b < 10 → a ≠ b → (TX5 a).2.1 ≠ (TX5 b).2.1 := by decide +kernel
theorem tyX5_ok : ∀ k, k < 10 → parseFieldDescriptor (TX5 k).2.2.1 = some (tyX5 k) := by decide +kernel
abbrev cX5_init : ByteArray := prog_2_method_1_code
def yX5_init : MethodName := ⟨RX5, "<init>", "(LLostroom;IIIII)V"⟩
def dkwX5_init_1 : List UInt8 := [42, 29, 181, 0, 25, 42, 21, 4, 181, 0, 28, 42, 21, 5, 181, 0, 31, 42, 21, 6, 181, 0, 34, 177]
abbrev dktX5_init_1 : List UInt8 := dkwX5_init_1 ++ []
def dkwX5_init_0 : List UInt8 := [42, 43, 181, 0, 3, 42, 183, 0, 9, 42, 3, 181, 0, 15, 42, 2, 181, 0, 19, 42, 28, 181, 0, 22]
abbrev dktX5_init_0 : List UInt8 := dkwX5_init_0 ++ dktX5_init_1
theorem dksX5_init_0 : cX5_init.data.toList.drop 0 = dktX5_init_0 := by decide +kernel
theorem dksX5_init_1 : cX5_init.data.toList.drop 24 = dktX5_init_1 := dk_seg dksX5_init_0 24 rfl rfl
theorem dX5_init_0 : decode cX5_init 0 = .ok (.aload_n 0, 1) := dk_42 (dk_at dksX5_init_0 0 rfl rfl)
theorem dX5_init_1 : decode cX5_init 1 = .ok (.aload_n 1, 1) := dk_43 (dk_at dksX5_init_0 1 rfl rfl)
theorem dX5_init_2 : decode cX5_init 2 = .ok (.putfield 3, 3) := dk_181 0 3 (dk_at dksX5_init_0 2 rfl rfl)
theorem dX5_init_5 : decode cX5_init 5 = .ok (.aload_n 0, 1) := dk_42 (dk_at dksX5_init_0 5 rfl rfl)
theorem dX5_init_6 : decode cX5_init 6 = .ok (.invokespecial 9, 3) := dk_183 0 9 (dk_at dksX5_init_0 6 rfl rfl)
theorem dX5_init_9 : decode cX5_init 9 = .ok (.aload_n 0, 1) := dk_42 (dk_at dksX5_init_0 9 rfl rfl)
theorem dX5_init_10 : decode cX5_init 10 = .ok (.iconst 0, 1) := dk_3 (dk_at dksX5_init_0 10 rfl rfl)
theorem dX5_init_11 : decode cX5_init 11 = .ok (.putfield 15, 3) := dk_181 0 15 (dk_at dksX5_init_0 11 rfl rfl)
theorem dX5_init_14 : decode cX5_init 14 = .ok (.aload_n 0, 1) := dk_42 (dk_at dksX5_init_0 14 rfl rfl)
theorem dX5_init_15 : decode cX5_init 15 = .ok (.iconst (-1), 1) := dk_2 (dk_at dksX5_init_0 15 rfl rfl)
theorem dX5_init_16 : decode cX5_init 16 = .ok (.putfield 19, 3) := dk_181 0 19 (dk_at dksX5_init_0 16 rfl rfl)
theorem dX5_init_19 : decode cX5_init 19 = .ok (.aload_n 0, 1) := dk_42 (dk_at dksX5_init_0 19 rfl rfl)
theorem dX5_init_20 : decode cX5_init 20 = .ok (.iload_n 2, 1) := dk_28 (dk_at dksX5_init_0 20 rfl rfl)
theorem dX5_init_21 : decode cX5_init 21 = .ok (.putfield 22, 3) := dk_181 0 22 (dk_at dksX5_init_0 21 rfl rfl)
theorem dX5_init_24 : decode cX5_init 24 = .ok (.aload_n 0, 1) := dk_42 (dk_at dksX5_init_1 0 rfl rfl)
theorem dX5_init_25 : decode cX5_init 25 = .ok (.iload_n 3, 1) := dk_29 (dk_at dksX5_init_1 1 rfl rfl)
theorem dX5_init_26 : decode cX5_init 26 = .ok (.putfield 25, 3) := dk_181 0 25 (dk_at dksX5_init_1 2 rfl rfl)
theorem dX5_init_29 : decode cX5_init 29 = .ok (.aload_n 0, 1) := dk_42 (dk_at dksX5_init_1 5 rfl rfl)
theorem dX5_init_30 : decode cX5_init 30 = .ok (.iload 4, 2) := dk_21 4 (dk_at dksX5_init_1 6 rfl rfl)
theorem dX5_init_32 : decode cX5_init 32 = .ok (.putfield 28, 3) := dk_181 0 28 (dk_at dksX5_init_1 8 rfl rfl)
theorem dX5_init_35 : decode cX5_init 35 = .ok (.aload_n 0, 1) := dk_42 (dk_at dksX5_init_1 11 rfl rfl)
theorem dX5_init_36 : decode cX5_init 36 = .ok (.iload 5, 2) := dk_21 5 (dk_at dksX5_init_1 12 rfl rfl)
theorem dX5_init_38 : decode cX5_init 38 = .ok (.putfield 31, 3) := dk_181 0 31 (dk_at dksX5_init_1 14 rfl rfl)
theorem dX5_init_41 : decode cX5_init 41 = .ok (.aload_n 0, 1) := dk_42 (dk_at dksX5_init_1 17 rfl rfl)
theorem dX5_init_42 : decode cX5_init 42 = .ok (.iload 6, 2) := dk_21 6 (dk_at dksX5_init_1 18 rfl rfl)
theorem dX5_init_44 : decode cX5_init 44 = .ok (.putfield 34, 3) := dk_181 0 34 (dk_at dksX5_init_1 20 rfl rfl)
theorem dX5_init_47 : decode cX5_init 47 = .ok (.return_, 1) := dk_177 (dk_at dksX5_init_1 23 rfl rfl)
abbrev cX5_end : ByteArray := prog_2_method_2_code
def yX5_end : MethodName := ⟨RX5, "end", "(I)V"⟩
def dkwX5_end_0 : List UInt8 := [42, 27, 181, 0, 15, 42, 42, 180, 0, 3, 180, 0, 37, 181, 0, 40, 177]
abbrev dktX5_end_0 : List UInt8 := dkwX5_end_0 ++ []
theorem dksX5_end_0 : cX5_end.data.toList.drop 0 = dktX5_end_0 := by decide +kernel
theorem dX5_end_0 : decode cX5_end 0 = .ok (.aload_n 0, 1) := dk_42 (dk_at dksX5_end_0 0 rfl rfl)
theorem dX5_end_1 : decode cX5_end 1 = .ok (.iload_n 1, 1) := dk_27 (dk_at dksX5_end_0 1 rfl rfl)
theorem dX5_end_2 : decode cX5_end 2 = .ok (.putfield 15, 3) := dk_181 0 15 (dk_at dksX5_end_0 2 rfl rfl)
theorem dX5_end_5 : decode cX5_end 5 = .ok (.aload_n 0, 1) := dk_42 (dk_at dksX5_end_0 5 rfl rfl)
theorem dX5_end_6 : decode cX5_end 6 = .ok (.aload_n 0, 1) := dk_42 (dk_at dksX5_end_0 6 rfl rfl)
theorem dX5_end_7 : decode cX5_end 7 = .ok (.getfield 3, 3) := dk_180 0 3 (dk_at dksX5_end_0 7 rfl rfl)
theorem dX5_end_10 : decode cX5_end 10 = .ok (.getfield 37, 3) := dk_180 0 37 (dk_at dksX5_end_0 10 rfl rfl)
theorem dX5_end_13 : decode cX5_end 13 = .ok (.putfield 40, 3) := dk_181 0 40 (dk_at dksX5_end_0 13 rfl rfl)
theorem dX5_end_16 : decode cX5_end 16 = .ok (.return_, 1) := dk_177 (dk_at dksX5_end_0 16 rfl rfl)
abbrev cX5_proves : ByteArray := prog_2_method_3_code
def yX5_proves : MethodName := ⟨RX5, "proves", "(LLostroom$Find;)Z"⟩
def dkwX5_proves_2 : List UInt8 := [4, 167, 0, 4, 3, 172]
abbrev dktX5_proves_2 : List UInt8 := dkwX5_proves_2 ++ []
def dkwX5_proves_1 : List UInt8 := [184, 0, 57, 161, 0, 25, 42, 180, 0, 54, 43, 180, 0, 43, 2, 130, 126, 184, 0, 48, 4, 163, 0, 7]
abbrev dktX5_proves_1 : List UInt8 := dkwX5_proves_1 ++ dktX5_proves_2
def dkwX5_proves_0 : List UInt8 := [43, 180, 0, 43, 184, 0, 48, 61, 42, 180, 0, 54, 43, 180, 0, 43, 126, 184, 0, 48, 5, 28]
abbrev dktX5_proves_0 : List UInt8 := dkwX5_proves_0 ++ dktX5_proves_1
theorem dksX5_proves_0 : cX5_proves.data.toList.drop 0 = dktX5_proves_0 := by decide +kernel
theorem dksX5_proves_1 : cX5_proves.data.toList.drop 22 = dktX5_proves_1 := dk_seg dksX5_proves_0 22 rfl rfl
theorem dksX5_proves_2 : cX5_proves.data.toList.drop 46 = dktX5_proves_2 := dk_seg dksX5_proves_1 24 rfl rfl
theorem dX5_proves_0 : decode cX5_proves 0 = .ok (.aload_n 1, 1) := dk_43 (dk_at dksX5_proves_0 0 rfl rfl)
theorem dX5_proves_1 : decode cX5_proves 1 = .ok (.getfield 43, 3) := dk_180 0 43 (dk_at dksX5_proves_0 1 rfl rfl)
theorem dX5_proves_4 : decode cX5_proves 4 = .ok (.invokestatic 48, 3) := dk_184 0 48 (dk_at dksX5_proves_0 4 rfl rfl)
theorem dX5_proves_7 : decode cX5_proves 7 = .ok (.istore_n 2, 1) := dk_61 (dk_at dksX5_proves_0 7 rfl rfl)
theorem dX5_proves_8 : decode cX5_proves 8 = .ok (.aload_n 0, 1) := dk_42 (dk_at dksX5_proves_0 8 rfl rfl)
theorem dX5_proves_9 : decode cX5_proves 9 = .ok (.getfield 54, 3) := dk_180 0 54 (dk_at dksX5_proves_0 9 rfl rfl)
theorem dX5_proves_12 : decode cX5_proves 12 = .ok (.aload_n 1, 1) := dk_43 (dk_at dksX5_proves_0 12 rfl rfl)
theorem dX5_proves_13 : decode cX5_proves 13 = .ok (.getfield 43, 3) := dk_180 0 43 (dk_at dksX5_proves_0 13 rfl rfl)
theorem dX5_proves_16 : decode cX5_proves 16 = .ok (.iand, 1) := dk_126 (dk_at dksX5_proves_0 16 rfl rfl)
theorem dX5_proves_17 : decode cX5_proves 17 = .ok (.invokestatic 48, 3) := dk_184 0 48 (dk_at dksX5_proves_0 17 rfl rfl)
theorem dX5_proves_20 : decode cX5_proves 20 = .ok (.iconst 2, 1) := dk_5 (dk_at dksX5_proves_0 20 rfl rfl)
theorem dX5_proves_21 : decode cX5_proves 21 = .ok (.iload_n 2, 1) := dk_28 (dk_at dksX5_proves_0 21 rfl rfl)
theorem dX5_proves_22 : decode cX5_proves 22 = .ok (.invokestatic 57, 3) := dk_184 0 57 (dk_at dksX5_proves_1 0 rfl rfl)
theorem dX5_proves_25 : decode cX5_proves 25 = .ok (.if_icmp .lt 25, 3) := dk_161 0 25 (dk_at dksX5_proves_1 3 rfl rfl)
theorem dX5_proves_28 : decode cX5_proves 28 = .ok (.aload_n 0, 1) := dk_42 (dk_at dksX5_proves_1 6 rfl rfl)
theorem dX5_proves_29 : decode cX5_proves 29 = .ok (.getfield 54, 3) := dk_180 0 54 (dk_at dksX5_proves_1 7 rfl rfl)
theorem dX5_proves_32 : decode cX5_proves 32 = .ok (.aload_n 1, 1) := dk_43 (dk_at dksX5_proves_1 10 rfl rfl)
theorem dX5_proves_33 : decode cX5_proves 33 = .ok (.getfield 43, 3) := dk_180 0 43 (dk_at dksX5_proves_1 11 rfl rfl)
theorem dX5_proves_36 : decode cX5_proves 36 = .ok (.iconst (-1), 1) := dk_2 (dk_at dksX5_proves_1 14 rfl rfl)
theorem dX5_proves_37 : decode cX5_proves 37 = .ok (.ixor, 1) := dk_130 (dk_at dksX5_proves_1 15 rfl rfl)
theorem dX5_proves_38 : decode cX5_proves 38 = .ok (.iand, 1) := dk_126 (dk_at dksX5_proves_1 16 rfl rfl)
theorem dX5_proves_39 : decode cX5_proves 39 = .ok (.invokestatic 48, 3) := dk_184 0 48 (dk_at dksX5_proves_1 17 rfl rfl)
theorem dX5_proves_42 : decode cX5_proves 42 = .ok (.iconst 1, 1) := dk_4 (dk_at dksX5_proves_1 20 rfl rfl)
theorem dX5_proves_43 : decode cX5_proves 43 = .ok (.if_icmp .gt 7, 3) := dk_163 0 7 (dk_at dksX5_proves_1 21 rfl rfl)
theorem dX5_proves_46 : decode cX5_proves 46 = .ok (.iconst 1, 1) := dk_4 (dk_at dksX5_proves_2 0 rfl rfl)
theorem dX5_proves_47 : decode cX5_proves 47 = .ok (.goto 4, 3) := dk_167 0 4 (dk_at dksX5_proves_2 1 rfl rfl)
theorem dX5_proves_50 : decode cX5_proves 50 = .ok (.iconst 0, 1) := dk_3 (dk_at dksX5_proves_2 4 rfl rfl)
theorem dX5_proves_51 : decode cX5_proves 51 = .ok (.ireturn, 1) := dk_172 (dk_at dksX5_proves_2 5 rfl rfl)
theorem q59 : (Jvm.Cond.initialized "Lostroom$Claim") ∈ lw_all := lw_g (lw_at lw_m1 27 rfl) rfl
theorem q140 : (Jvm.Cond.selects "Lostroom$Claim" ({ cls := "java/lang/Object", name := "getClass", desc := "()Ljava/lang/Class;" } : Jvm.MethodName) ({ cls := "java/lang/Object", name := "getClass", desc := "()Ljava/lang/Class;" } : Jvm.MethodName)) ∈ lw_all := lw_g (lw_at lw_m1 108 rfl) rfl
theorem q167 : (Jvm.Cond.fieldLinkNest "Lostroom$Claim" (37 : Nat) "Lostroom" "today" "I" "Lostroom") ∈ lw_tbl := lw_at lw_m1 135 rfl
theorem q439 : (Jvm.Cond.selects "Lostroom$Claim" ({ cls := "java/lang/Object", name := "equals", desc := "(Ljava/lang/Object;)Z" } : Jvm.MethodName) ({ cls := "java/lang/Object", name := "equals", desc := "(Ljava/lang/Object;)Z" } : Jvm.MethodName)) ∈ lw_all := lw_g (lw_at lw_m2 167 rfl) rfl
theorem q531 : (Jvm.Cond.fieldLinkNest "Lostroom$Claim" (43 : Nat) "Lostroom$Find" "secret" "I" "Lostroom") ∈ lw_tbl := lw_at lw_m3 19 rfl
theorem q707 : (Jvm.Cond.instantiable "Lostroom$Claim" (10 : Nat)) ∈ lw_all := lw_g (lw_at lw_m3 195 rfl) rfl
theorem q709 : (Jvm.Cond.instanceMethod ({ cls := "Lostroom$Claim", name := "<init>", desc := "(LLostroom;IIIII)V" } : Jvm.MethodName)) ∈ lw_all := lw_g (lw_at lw_m3 197 rfl) rfl
theorem q710 : (Jvm.Cond.code ({ cls := "Lostroom$Claim", name := "<init>", desc := "(LLostroom;IIIII)V" } : Jvm.MethodName) prog_2_method_1_code (7 : Nat) (Option.none : Option Jvm.ClassFile.FieldType)) ∈ lw_all := lw_g (lw_at lw_m3 198 rfl) rfl
theorem q711 : (Jvm.Cond.methodLink "Lostroom$Claim" (9 : Nat) ({ cls := "java/lang/Object", name := "<init>", desc := "()V" } : Jvm.MethodName)) ∈ lw_all := lw_g (lw_at lw_m3 199 rfl) rfl
theorem q712 : (Jvm.Cond.fieldLink "Lostroom$Claim" (22 : Nat) "Lostroom$Claim" "kind" "I") ∈ lw_all := lw_g (lw_at lw_m3 200 rfl) rfl
theorem q714 : (Jvm.Cond.fieldLink "Lostroom$Claim" (25 : Nat) "Lostroom$Claim" "place" "I") ∈ lw_all := lw_g (lw_at lw_m3 202 rfl) rfl
theorem q716 : (Jvm.Cond.fieldLink "Lostroom$Claim" (28 : Nat) "Lostroom$Claim" "from" "I") ∈ lw_all := lw_g (lw_at lw_m3 204 rfl) rfl
theorem q718 : (Jvm.Cond.fieldLink "Lostroom$Claim" (31 : Nat) "Lostroom$Claim" "to" "I") ∈ lw_all := lw_g (lw_at lw_m3 206 rfl) rfl
theorem q720 : (Jvm.Cond.fieldLink "Lostroom$Claim" (34 : Nat) "Lostroom$Claim" "words" "I") ∈ lw_all := lw_g (lw_at lw_m3 208 rfl) rfl
theorem q722 : (Jvm.Cond.fieldLink "Lostroom$Claim" (54 : Nat) "Lostroom$Claim" "told" "I") ∈ lw_all := lw_g (lw_at lw_m3 210 rfl) rfl
theorem q724 : (Jvm.Cond.fieldLink "Lostroom$Claim" (15 : Nat) "Lostroom$Claim" "state" "I") ∈ lw_all := lw_g (lw_at lw_m3 212 rfl) rfl
theorem q726 : (Jvm.Cond.fieldLink "Lostroom$Claim" (40 : Nat) "Lostroom$Claim" "since" "I") ∈ lw_all := lw_g (lw_at lw_m3 214 rfl) rfl
theorem q728 : (Jvm.Cond.fieldLink "Lostroom$Claim" (19 : Nat) "Lostroom$Claim" "served" "I") ∈ lw_all := lw_g (lw_at lw_m3 216 rfl) rfl
theorem q730 : (Jvm.Cond.fieldLink "Lostroom$Claim" (3 : Nat) "Lostroom$Claim" "this$0" "LLostroom;") ∈ lw_all := lw_g (lw_at lw_m3 218 rfl) rfl
theorem q731 : (Jvm.Cond.laysFinal "Lostroom$Claim" "Lostroom$Claim" "kind" "I") ∈ lw_all := lw_g (lw_at lw_m3 219 rfl) rfl
theorem q732 : (Jvm.Cond.soleField "Lostroom$Claim" "kind") ∈ lw_all := lw_g (lw_at lw_m3 220 rfl) rfl
theorem q733 : (Jvm.Cond.laysFinal "Lostroom$Claim" "Lostroom$Claim" "place" "I") ∈ lw_all := lw_g (lw_at lw_m3 221 rfl) rfl
theorem q734 : (Jvm.Cond.soleField "Lostroom$Claim" "place") ∈ lw_all := lw_g (lw_at lw_m3 222 rfl) rfl
theorem q735 : (Jvm.Cond.laysFinal "Lostroom$Claim" "Lostroom$Claim" "from" "I") ∈ lw_all := lw_g (lw_at lw_m3 223 rfl) rfl
theorem q736 : (Jvm.Cond.soleField "Lostroom$Claim" "from") ∈ lw_all := lw_g (lw_at lw_m3 224 rfl) rfl
theorem q737 : (Jvm.Cond.laysFinal "Lostroom$Claim" "Lostroom$Claim" "to" "I") ∈ lw_all := lw_g (lw_at lw_m3 225 rfl) rfl
theorem q738 : (Jvm.Cond.soleField "Lostroom$Claim" "to") ∈ lw_all := lw_g (lw_at lw_m3 226 rfl) rfl
theorem q739 : (Jvm.Cond.lays "Lostroom$Claim" "Lostroom$Claim" "words" "I") ∈ lw_all := lw_g (lw_at lw_m3 227 rfl) rfl
theorem q740 : (Jvm.Cond.soleField "Lostroom$Claim" "words") ∈ lw_all := lw_g (lw_at lw_m3 228 rfl) rfl
theorem q741 : (Jvm.Cond.lays "Lostroom$Claim" "Lostroom$Claim" "told" "I") ∈ lw_all := lw_g (lw_at lw_m3 229 rfl) rfl
theorem q742 : (Jvm.Cond.soleField "Lostroom$Claim" "told") ∈ lw_all := lw_g (lw_at lw_m3 230 rfl) rfl
theorem q743 : (Jvm.Cond.lays "Lostroom$Claim" "Lostroom$Claim" "state" "I") ∈ lw_all := lw_g (lw_at lw_m3 231 rfl) rfl
theorem q744 : (Jvm.Cond.soleField "Lostroom$Claim" "state") ∈ lw_all := lw_g (lw_at lw_m3 232 rfl) rfl
theorem q745 : (Jvm.Cond.lays "Lostroom$Claim" "Lostroom$Claim" "since" "I") ∈ lw_all := lw_g (lw_at lw_m3 233 rfl) rfl
theorem q746 : (Jvm.Cond.soleField "Lostroom$Claim" "since") ∈ lw_all := lw_g (lw_at lw_m3 234 rfl) rfl
theorem q747 : (Jvm.Cond.lays "Lostroom$Claim" "Lostroom$Claim" "served" "I") ∈ lw_all := lw_g (lw_at lw_m3 235 rfl) rfl
theorem q748 : (Jvm.Cond.soleField "Lostroom$Claim" "served") ∈ lw_all := lw_g (lw_at lw_m3 236 rfl) rfl
theorem q749 : (Jvm.Cond.laysFinal "Lostroom$Claim" "Lostroom$Claim" "this$0" "LLostroom;") ∈ lw_all := lw_g (lw_at lw_m3 237 rfl) rfl
theorem q750 : (Jvm.Cond.soleField "Lostroom$Claim" "this$0") ∈ lw_all := lw_g (lw_at lw_m3 238 rfl) rfl
theorem q751 : (Jvm.Cond.superclass "Lostroom$Claim" "java/lang/Object") ∈ lw_all := lw_g (lw_at lw_m3 239 rfl) rfl
theorem q778 : (Jvm.Cond.instanceMethod ({ cls := "Lostroom$Claim", name := "end", desc := "(I)V" } : Jvm.MethodName)) ∈ lw_all := lw_g (lw_at lw_m4 26 rfl) rfl
theorem q779 : (Jvm.Cond.selects "Lostroom$Claim" ({ cls := "Lostroom$Claim", name := "end", desc := "(I)V" } : Jvm.MethodName) ({ cls := "Lostroom$Claim", name := "end", desc := "(I)V" } : Jvm.MethodName)) ∈ lw_all := lw_g (lw_at lw_m4 27 rfl) rfl
theorem q780 : (Jvm.Cond.code ({ cls := "Lostroom$Claim", name := "end", desc := "(I)V" } : Jvm.MethodName) prog_2_method_2_code (2 : Nat) (Option.none : Option Jvm.ClassFile.FieldType)) ∈ lw_all := lw_g (lw_at lw_m4 28 rfl) rfl
theorem q810 : (Jvm.Cond.instanceMethod ({ cls := "Lostroom$Claim", name := "proves", desc := "(LLostroom$Find;)Z" } : Jvm.MethodName)) ∈ lw_all := lw_g (lw_at lw_m4 58 rfl) rfl
theorem q811 : (Jvm.Cond.selects "Lostroom$Claim" ({ cls := "Lostroom$Claim", name := "proves", desc := "(LLostroom$Find;)Z" } : Jvm.MethodName) ({ cls := "Lostroom$Claim", name := "proves", desc := "(LLostroom$Find;)Z" } : Jvm.MethodName)) ∈ lw_all := lw_g (lw_at lw_m4 59 rfl) rfl
theorem q812 : (Jvm.Cond.code ({ cls := "Lostroom$Claim", name := "proves", desc := "(LLostroom$Find;)Z" } : Jvm.MethodName) prog_2_method_3_code (3 : Nat) (Option.some Jvm.ClassFile.FieldType.boolean)) ∈ lw_all := lw_g (lw_at lw_m4 60 rfl) rfl
theorem q813 : (Jvm.Cond.methodLink "Lostroom$Claim" (48 : Nat) ({ cls := "java/lang/Integer", name := "bitCount", desc := "(I)I" } : Jvm.MethodName)) ∈ lw_all := lw_g (lw_at lw_m4 61 rfl) rfl
theorem q814 : (Jvm.Cond.methodLink "Lostroom$Claim" (57 : Nat) ({ cls := "java/lang/Math", name := "min", desc := "(II)I" } : Jvm.MethodName)) ∈ lw_all := lw_g (lw_at lw_m4 62 rfl) rfl
theorem q1304 : (Jvm.Cond.castable "Lostroom$Claim" "java/lang/Object") ∈ lw_tbl := lw_at lw_m6 72 rfl
theorem in_X5 : ∀ w ∈ wsX50, w ∈ lw_all := lw_in wsX50 [731, 733, 735, 737, 739, 741, 743, 745, 747, 749] (by decide +kernel) (by decide +kernel)
