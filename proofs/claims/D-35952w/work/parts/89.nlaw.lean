/-! LostroomLaw -/
set_option maxRecDepth 100000
def RX0 : String := "LostroomLaw"
abbrev cX0_near : ByteArray := method_3_code
def yX0_near : MethodName := ⟨RX0, "near", "(LLostroom;II[J)I"⟩
def dkwX0_near_1 : List UInt8 := [58, 4, 5, 172, 3, 172]
abbrev dktX0_near_1 : List UInt8 := dkwX0_near_1 ++ []
def dkwX0_near_0 : List UInt8 := [45, 3, 42, 27, 28, 182, 0, 7, 153, 0, 7, 10, 167, 0, 4, 9, 80, 167, 0, 11, 58, 4, 4, 172]
abbrev dktX0_near_0 : List UInt8 := dkwX0_near_0 ++ dktX0_near_1
theorem dksX0_near_0 : cX0_near.data.toList.drop 0 = dktX0_near_0 := by decide +kernel
theorem dksX0_near_1 : cX0_near.data.toList.drop 24 = dktX0_near_1 := dk_seg dksX0_near_0 24 rfl rfl
theorem dX0_near_0 : decode cX0_near 0 = .ok (.aload_n 3, 1) := dk_45 (dk_at dksX0_near_0 0 rfl rfl)
theorem dX0_near_1 : decode cX0_near 1 = .ok (.iconst 0, 1) := dk_3 (dk_at dksX0_near_0 1 rfl rfl)
theorem dX0_near_2 : decode cX0_near 2 = .ok (.aload_n 0, 1) := dk_42 (dk_at dksX0_near_0 2 rfl rfl)
theorem dX0_near_3 : decode cX0_near 3 = .ok (.iload_n 1, 1) := dk_27 (dk_at dksX0_near_0 3 rfl rfl)
theorem dX0_near_4 : decode cX0_near 4 = .ok (.iload_n 2, 1) := dk_28 (dk_at dksX0_near_0 4 rfl rfl)
theorem dX0_near_5 : decode cX0_near 5 = .ok (.invokevirtual 7, 3) := dk_182 0 7 (dk_at dksX0_near_0 5 rfl rfl)
theorem dX0_near_8 : decode cX0_near 8 = .ok (.ifCond .eq 7, 3) := dk_153 0 7 (dk_at dksX0_near_0 8 rfl rfl)
theorem dX0_near_11 : decode cX0_near 11 = .ok (.lconst 1, 1) := dk_10 (dk_at dksX0_near_0 11 rfl rfl)
theorem dX0_near_12 : decode cX0_near 12 = .ok (.goto 4, 3) := dk_167 0 4 (dk_at dksX0_near_0 12 rfl rfl)
theorem dX0_near_15 : decode cX0_near 15 = .ok (.lconst 0, 1) := dk_9 (dk_at dksX0_near_0 15 rfl rfl)
theorem dX0_near_16 : decode cX0_near 16 = .ok (.lastore, 1) := dk_80 (dk_at dksX0_near_0 16 rfl rfl)
theorem dX0_near_17 : decode cX0_near 17 = .ok (.goto 11, 3) := dk_167 0 11 (dk_at dksX0_near_0 17 rfl rfl)
theorem dX0_near_20 : decode cX0_near 20 = .ok (.astore 4, 2) := dk_58 4 (dk_at dksX0_near_0 20 rfl rfl)
theorem dX0_near_22 : decode cX0_near 22 = .ok (.iconst 1, 1) := dk_4 (dk_at dksX0_near_0 22 rfl rfl)
theorem dX0_near_23 : decode cX0_near 23 = .ok (.ireturn, 1) := dk_172 (dk_at dksX0_near_0 23 rfl rfl)
theorem dX0_near_24 : decode cX0_near 24 = .ok (.astore 4, 2) := dk_58 4 (dk_at dksX0_near_1 0 rfl rfl)
theorem dX0_near_26 : decode cX0_near 26 = .ok (.iconst 2, 1) := dk_5 (dk_at dksX0_near_1 2 rfl rfl)
theorem dX0_near_27 : decode cX0_near 27 = .ok (.ireturn, 1) := dk_172 (dk_at dksX0_near_1 3 rfl rfl)
theorem dX0_near_28 : decode cX0_near 28 = .ok (.iconst 0, 1) := dk_3 (dk_at dksX0_near_1 4 rfl rfl)
theorem dX0_near_29 : decode cX0_near 29 = .ok (.ireturn, 1) := dk_172 (dk_at dksX0_near_1 5 rfl rfl)
abbrev cX0_alike : ByteArray := method_4_code
def yX0_alike : MethodName := ⟨RX0, "alike", "(LLostroom;II[J)I"⟩
def dkwX0_alike_1 : List UInt8 := [58, 4, 5, 172, 3, 172]
abbrev dktX0_alike_1 : List UInt8 := dkwX0_alike_1 ++ []
def dkwX0_alike_0 : List UInt8 := [45, 3, 42, 27, 28, 182, 0, 17, 153, 0, 7, 10, 167, 0, 4, 9, 80, 167, 0, 11, 58, 4, 4, 172]
abbrev dktX0_alike_0 : List UInt8 := dkwX0_alike_0 ++ dktX0_alike_1
theorem dksX0_alike_0 : cX0_alike.data.toList.drop 0 = dktX0_alike_0 := by decide +kernel
theorem dksX0_alike_1 : cX0_alike.data.toList.drop 24 = dktX0_alike_1 := dk_seg dksX0_alike_0 24 rfl rfl
theorem dX0_alike_0 : decode cX0_alike 0 = .ok (.aload_n 3, 1) := dk_45 (dk_at dksX0_alike_0 0 rfl rfl)
theorem dX0_alike_1 : decode cX0_alike 1 = .ok (.iconst 0, 1) := dk_3 (dk_at dksX0_alike_0 1 rfl rfl)
theorem dX0_alike_2 : decode cX0_alike 2 = .ok (.aload_n 0, 1) := dk_42 (dk_at dksX0_alike_0 2 rfl rfl)
theorem dX0_alike_3 : decode cX0_alike 3 = .ok (.iload_n 1, 1) := dk_27 (dk_at dksX0_alike_0 3 rfl rfl)
theorem dX0_alike_4 : decode cX0_alike 4 = .ok (.iload_n 2, 1) := dk_28 (dk_at dksX0_alike_0 4 rfl rfl)
theorem dX0_alike_5 : decode cX0_alike 5 = .ok (.invokevirtual 17, 3) := dk_182 0 17 (dk_at dksX0_alike_0 5 rfl rfl)
theorem dX0_alike_8 : decode cX0_alike 8 = .ok (.ifCond .eq 7, 3) := dk_153 0 7 (dk_at dksX0_alike_0 8 rfl rfl)
theorem dX0_alike_11 : decode cX0_alike 11 = .ok (.lconst 1, 1) := dk_10 (dk_at dksX0_alike_0 11 rfl rfl)
theorem dX0_alike_12 : decode cX0_alike 12 = .ok (.goto 4, 3) := dk_167 0 4 (dk_at dksX0_alike_0 12 rfl rfl)
theorem dX0_alike_15 : decode cX0_alike 15 = .ok (.lconst 0, 1) := dk_9 (dk_at dksX0_alike_0 15 rfl rfl)
theorem dX0_alike_16 : decode cX0_alike 16 = .ok (.lastore, 1) := dk_80 (dk_at dksX0_alike_0 16 rfl rfl)
theorem dX0_alike_17 : decode cX0_alike 17 = .ok (.goto 11, 3) := dk_167 0 11 (dk_at dksX0_alike_0 17 rfl rfl)
theorem dX0_alike_20 : decode cX0_alike 20 = .ok (.astore 4, 2) := dk_58 4 (dk_at dksX0_alike_0 20 rfl rfl)
theorem dX0_alike_22 : decode cX0_alike 22 = .ok (.iconst 1, 1) := dk_4 (dk_at dksX0_alike_0 22 rfl rfl)
theorem dX0_alike_23 : decode cX0_alike 23 = .ok (.ireturn, 1) := dk_172 (dk_at dksX0_alike_0 23 rfl rfl)
theorem dX0_alike_24 : decode cX0_alike 24 = .ok (.astore 4, 2) := dk_58 4 (dk_at dksX0_alike_1 0 rfl rfl)
theorem dX0_alike_26 : decode cX0_alike 26 = .ok (.iconst 2, 1) := dk_5 (dk_at dksX0_alike_1 2 rfl rfl)
theorem dX0_alike_27 : decode cX0_alike 27 = .ok (.ireturn, 1) := dk_172 (dk_at dksX0_alike_1 3 rfl rfl)
theorem dX0_alike_28 : decode cX0_alike 28 = .ok (.iconst 0, 1) := dk_3 (dk_at dksX0_alike_1 4 rfl rfl)
theorem dX0_alike_29 : decode cX0_alike 29 = .ok (.ireturn, 1) := dk_172 (dk_at dksX0_alike_1 5 rfl rfl)
abbrev cX0_rule : ByteArray := method_5_code
def yX0_rule : MethodName := ⟨RX0, "rule", "(LLostroom;III[J)I"⟩
def dkwX0_rule_1 : List UInt8 := [172]
abbrev dktX0_rule_1 : List UInt8 := dkwX0_rule_1 ++ []
def dkwX0_rule_0 : List UInt8 := [25, 4, 3, 42, 27, 28, 29, 182, 0, 20, 133, 80, 167, 0, 11, 58, 5, 4, 172, 58, 5, 5, 172, 3]
abbrev dktX0_rule_0 : List UInt8 := dkwX0_rule_0 ++ dktX0_rule_1
theorem dksX0_rule_0 : cX0_rule.data.toList.drop 0 = dktX0_rule_0 := by decide +kernel
theorem dksX0_rule_1 : cX0_rule.data.toList.drop 24 = dktX0_rule_1 := dk_seg dksX0_rule_0 24 rfl rfl
theorem dX0_rule_0 : decode cX0_rule 0 = .ok (.aload 4, 2) := dk_25 4 (dk_at dksX0_rule_0 0 rfl rfl)
theorem dX0_rule_2 : decode cX0_rule 2 = .ok (.iconst 0, 1) := dk_3 (dk_at dksX0_rule_0 2 rfl rfl)
theorem dX0_rule_3 : decode cX0_rule 3 = .ok (.aload_n 0, 1) := dk_42 (dk_at dksX0_rule_0 3 rfl rfl)
theorem dX0_rule_4 : decode cX0_rule 4 = .ok (.iload_n 1, 1) := dk_27 (dk_at dksX0_rule_0 4 rfl rfl)
theorem dX0_rule_5 : decode cX0_rule 5 = .ok (.iload_n 2, 1) := dk_28 (dk_at dksX0_rule_0 5 rfl rfl)
theorem dX0_rule_6 : decode cX0_rule 6 = .ok (.iload_n 3, 1) := dk_29 (dk_at dksX0_rule_0 6 rfl rfl)
theorem dX0_rule_7 : decode cX0_rule 7 = .ok (.invokevirtual 20, 3) := dk_182 0 20 (dk_at dksX0_rule_0 7 rfl rfl)
theorem dX0_rule_10 : decode cX0_rule 10 = .ok (.i2l, 1) := dk_133 (dk_at dksX0_rule_0 10 rfl rfl)
theorem dX0_rule_11 : decode cX0_rule 11 = .ok (.lastore, 1) := dk_80 (dk_at dksX0_rule_0 11 rfl rfl)
theorem dX0_rule_12 : decode cX0_rule 12 = .ok (.goto 11, 3) := dk_167 0 11 (dk_at dksX0_rule_0 12 rfl rfl)
theorem dX0_rule_15 : decode cX0_rule 15 = .ok (.astore 5, 2) := dk_58 5 (dk_at dksX0_rule_0 15 rfl rfl)
theorem dX0_rule_17 : decode cX0_rule 17 = .ok (.iconst 1, 1) := dk_4 (dk_at dksX0_rule_0 17 rfl rfl)
theorem dX0_rule_18 : decode cX0_rule 18 = .ok (.ireturn, 1) := dk_172 (dk_at dksX0_rule_0 18 rfl rfl)
theorem dX0_rule_19 : decode cX0_rule 19 = .ok (.astore 5, 2) := dk_58 5 (dk_at dksX0_rule_0 19 rfl rfl)
theorem dX0_rule_21 : decode cX0_rule 21 = .ok (.iconst 2, 1) := dk_5 (dk_at dksX0_rule_0 21 rfl rfl)
theorem dX0_rule_22 : decode cX0_rule 22 = .ok (.ireturn, 1) := dk_172 (dk_at dksX0_rule_0 22 rfl rfl)
theorem dX0_rule_23 : decode cX0_rule 23 = .ok (.iconst 0, 1) := dk_3 (dk_at dksX0_rule_0 23 rfl rfl)
theorem dX0_rule_24 : decode cX0_rule 24 = .ok (.ireturn, 1) := dk_172 (dk_at dksX0_rule_1 0 rfl rfl)
abbrev cX0_stop : ByteArray := method_6_code
def yX0_stop : MethodName := ⟨RX0, "stop", "(LLostroom;II[J)I"⟩
def dkwX0_stop_0 : List UInt8 := [45, 3, 42, 27, 28, 182, 0, 24, 133, 80, 167, 0, 11, 58, 4, 4, 172, 58, 4, 5, 172, 3, 172]
abbrev dktX0_stop_0 : List UInt8 := dkwX0_stop_0 ++ []
theorem dksX0_stop_0 : cX0_stop.data.toList.drop 0 = dktX0_stop_0 := by decide +kernel
theorem dX0_stop_0 : decode cX0_stop 0 = .ok (.aload_n 3, 1) := dk_45 (dk_at dksX0_stop_0 0 rfl rfl)
theorem dX0_stop_1 : decode cX0_stop 1 = .ok (.iconst 0, 1) := dk_3 (dk_at dksX0_stop_0 1 rfl rfl)
theorem dX0_stop_2 : decode cX0_stop 2 = .ok (.aload_n 0, 1) := dk_42 (dk_at dksX0_stop_0 2 rfl rfl)
theorem dX0_stop_3 : decode cX0_stop 3 = .ok (.iload_n 1, 1) := dk_27 (dk_at dksX0_stop_0 3 rfl rfl)
theorem dX0_stop_4 : decode cX0_stop 4 = .ok (.iload_n 2, 1) := dk_28 (dk_at dksX0_stop_0 4 rfl rfl)
theorem dX0_stop_5 : decode cX0_stop 5 = .ok (.invokevirtual 24, 3) := dk_182 0 24 (dk_at dksX0_stop_0 5 rfl rfl)
theorem dX0_stop_8 : decode cX0_stop 8 = .ok (.i2l, 1) := dk_133 (dk_at dksX0_stop_0 8 rfl rfl)
theorem dX0_stop_9 : decode cX0_stop 9 = .ok (.lastore, 1) := dk_80 (dk_at dksX0_stop_0 9 rfl rfl)
theorem dX0_stop_10 : decode cX0_stop 10 = .ok (.goto 11, 3) := dk_167 0 11 (dk_at dksX0_stop_0 10 rfl rfl)
theorem dX0_stop_13 : decode cX0_stop 13 = .ok (.astore 4, 2) := dk_58 4 (dk_at dksX0_stop_0 13 rfl rfl)
theorem dX0_stop_15 : decode cX0_stop 15 = .ok (.iconst 1, 1) := dk_4 (dk_at dksX0_stop_0 15 rfl rfl)
theorem dX0_stop_16 : decode cX0_stop 16 = .ok (.ireturn, 1) := dk_172 (dk_at dksX0_stop_0 16 rfl rfl)
theorem dX0_stop_17 : decode cX0_stop 17 = .ok (.astore 4, 2) := dk_58 4 (dk_at dksX0_stop_0 17 rfl rfl)
theorem dX0_stop_19 : decode cX0_stop 19 = .ok (.iconst 2, 1) := dk_5 (dk_at dksX0_stop_0 19 rfl rfl)
theorem dX0_stop_20 : decode cX0_stop 20 = .ok (.ireturn, 1) := dk_172 (dk_at dksX0_stop_0 20 rfl rfl)
theorem dX0_stop_21 : decode cX0_stop 21 = .ok (.iconst 0, 1) := dk_3 (dk_at dksX0_stop_0 21 rfl rfl)
theorem dX0_stop_22 : decode cX0_stop 22 = .ok (.ireturn, 1) := dk_172 (dk_at dksX0_stop_0 22 rfl rfl)
abbrev cX0_threshold : ByteArray := method_7_code
def yX0_threshold : MethodName := ⟨RX0, "threshold", "(LLostroom;I[J)I"⟩
def dkwX0_threshold_0 : List UInt8 := [44, 3, 42, 27, 182, 0, 30, 133, 80, 167, 0, 6, 78, 4, 172, 3, 172]
abbrev dktX0_threshold_0 : List UInt8 := dkwX0_threshold_0 ++ []
theorem dksX0_threshold_0 : cX0_threshold.data.toList.drop 0 = dktX0_threshold_0 := by decide +kernel
theorem dX0_threshold_0 : decode cX0_threshold 0 = .ok (.aload_n 2, 1) := dk_44 (dk_at dksX0_threshold_0 0 rfl rfl)
theorem dX0_threshold_1 : decode cX0_threshold 1 = .ok (.iconst 0, 1) := dk_3 (dk_at dksX0_threshold_0 1 rfl rfl)
theorem dX0_threshold_2 : decode cX0_threshold 2 = .ok (.aload_n 0, 1) := dk_42 (dk_at dksX0_threshold_0 2 rfl rfl)
theorem dX0_threshold_3 : decode cX0_threshold 3 = .ok (.iload_n 1, 1) := dk_27 (dk_at dksX0_threshold_0 3 rfl rfl)
theorem dX0_threshold_4 : decode cX0_threshold 4 = .ok (.invokevirtual 30, 3) := dk_182 0 30 (dk_at dksX0_threshold_0 4 rfl rfl)
theorem dX0_threshold_7 : decode cX0_threshold 7 = .ok (.i2l, 1) := dk_133 (dk_at dksX0_threshold_0 7 rfl rfl)
theorem dX0_threshold_8 : decode cX0_threshold 8 = .ok (.lastore, 1) := dk_80 (dk_at dksX0_threshold_0 8 rfl rfl)
theorem dX0_threshold_9 : decode cX0_threshold 9 = .ok (.goto 6, 3) := dk_167 0 6 (dk_at dksX0_threshold_0 9 rfl rfl)
theorem dX0_threshold_12 : decode cX0_threshold 12 = .ok (.astore_n 3, 1) := dk_78 (dk_at dksX0_threshold_0 12 rfl rfl)
theorem dX0_threshold_13 : decode cX0_threshold 13 = .ok (.iconst 1, 1) := dk_4 (dk_at dksX0_threshold_0 13 rfl rfl)
theorem dX0_threshold_14 : decode cX0_threshold 14 = .ok (.ireturn, 1) := dk_172 (dk_at dksX0_threshold_0 14 rfl rfl)
theorem dX0_threshold_15 : decode cX0_threshold 15 = .ok (.iconst 0, 1) := dk_3 (dk_at dksX0_threshold_0 15 rfl rfl)
theorem dX0_threshold_16 : decode cX0_threshold 16 = .ok (.ireturn, 1) := dk_172 (dk_at dksX0_threshold_0 16 rfl rfl)
abbrev cX0_find : ByteArray := method_8_code
def yX0_find : MethodName := ⟨RX0, "find", "(LLostroom;IIIIIII[J)I"⟩
def dkwX0_find_1 : List UInt8 := [58, 9, 4, 172, 58, 9, 5, 172, 58, 9, 6, 172, 3, 172]
abbrev dktX0_find_1 : List UInt8 := dkwX0_find_1 ++ []
def dkwX0_find_0 : List UInt8 := [25, 8, 3, 42, 27, 28, 29, 21, 4, 21, 5, 21, 6, 21, 7, 182, 0, 34, 133, 80, 167, 0, 15]
abbrev dktX0_find_0 : List UInt8 := dkwX0_find_0 ++ dktX0_find_1
theorem dksX0_find_0 : cX0_find.data.toList.drop 0 = dktX0_find_0 := by decide +kernel
theorem dksX0_find_1 : cX0_find.data.toList.drop 23 = dktX0_find_1 := dk_seg dksX0_find_0 23 rfl rfl
theorem dX0_find_0 : decode cX0_find 0 = .ok (.aload 8, 2) := dk_25 8 (dk_at dksX0_find_0 0 rfl rfl)
theorem dX0_find_2 : decode cX0_find 2 = .ok (.iconst 0, 1) := dk_3 (dk_at dksX0_find_0 2 rfl rfl)
theorem dX0_find_3 : decode cX0_find 3 = .ok (.aload_n 0, 1) := dk_42 (dk_at dksX0_find_0 3 rfl rfl)
theorem dX0_find_4 : decode cX0_find 4 = .ok (.iload_n 1, 1) := dk_27 (dk_at dksX0_find_0 4 rfl rfl)
theorem dX0_find_5 : decode cX0_find 5 = .ok (.iload_n 2, 1) := dk_28 (dk_at dksX0_find_0 5 rfl rfl)
theorem dX0_find_6 : decode cX0_find 6 = .ok (.iload_n 3, 1) := dk_29 (dk_at dksX0_find_0 6 rfl rfl)
theorem dX0_find_7 : decode cX0_find 7 = .ok (.iload 4, 2) := dk_21 4 (dk_at dksX0_find_0 7 rfl rfl)
theorem dX0_find_9 : decode cX0_find 9 = .ok (.iload 5, 2) := dk_21 5 (dk_at dksX0_find_0 9 rfl rfl)
theorem dX0_find_11 : decode cX0_find 11 = .ok (.iload 6, 2) := dk_21 6 (dk_at dksX0_find_0 11 rfl rfl)
theorem dX0_find_13 : decode cX0_find 13 = .ok (.iload 7, 2) := dk_21 7 (dk_at dksX0_find_0 13 rfl rfl)
theorem dX0_find_15 : decode cX0_find 15 = .ok (.invokevirtual 34, 3) := dk_182 0 34 (dk_at dksX0_find_0 15 rfl rfl)
theorem dX0_find_18 : decode cX0_find 18 = .ok (.i2l, 1) := dk_133 (dk_at dksX0_find_0 18 rfl rfl)
theorem dX0_find_19 : decode cX0_find 19 = .ok (.lastore, 1) := dk_80 (dk_at dksX0_find_0 19 rfl rfl)
theorem dX0_find_20 : decode cX0_find 20 = .ok (.goto 15, 3) := dk_167 0 15 (dk_at dksX0_find_0 20 rfl rfl)
theorem dX0_find_23 : decode cX0_find 23 = .ok (.astore 9, 2) := dk_58 9 (dk_at dksX0_find_1 0 rfl rfl)
theorem dX0_find_25 : decode cX0_find 25 = .ok (.iconst 1, 1) := dk_4 (dk_at dksX0_find_1 2 rfl rfl)
theorem dX0_find_26 : decode cX0_find 26 = .ok (.ireturn, 1) := dk_172 (dk_at dksX0_find_1 3 rfl rfl)
theorem dX0_find_27 : decode cX0_find 27 = .ok (.astore 9, 2) := dk_58 9 (dk_at dksX0_find_1 4 rfl rfl)
theorem dX0_find_29 : decode cX0_find 29 = .ok (.iconst 2, 1) := dk_5 (dk_at dksX0_find_1 6 rfl rfl)
theorem dX0_find_30 : decode cX0_find 30 = .ok (.ireturn, 1) := dk_172 (dk_at dksX0_find_1 7 rfl rfl)
theorem dX0_find_31 : decode cX0_find 31 = .ok (.astore 9, 2) := dk_58 9 (dk_at dksX0_find_1 8 rfl rfl)
theorem dX0_find_33 : decode cX0_find 33 = .ok (.iconst 3, 1) := dk_6 (dk_at dksX0_find_1 10 rfl rfl)
theorem dX0_find_34 : decode cX0_find 34 = .ok (.ireturn, 1) := dk_172 (dk_at dksX0_find_1 11 rfl rfl)
theorem dX0_find_35 : decode cX0_find 35 = .ok (.iconst 0, 1) := dk_3 (dk_at dksX0_find_1 12 rfl rfl)
theorem dX0_find_36 : decode cX0_find 36 = .ok (.ireturn, 1) := dk_172 (dk_at dksX0_find_1 13 rfl rfl)
abbrev cX0_see : ByteArray := method_9_code
def yX0_see : MethodName := ⟨RX0, "see", "(LLostroom;II[J)I"⟩
def dkwX0_see_1 : List UInt8 := [172, 3, 172]
abbrev dktX0_see_1 : List UInt8 := dkwX0_see_1 ++ []
def dkwX0_see_0 : List UInt8 := [45, 3, 42, 27, 28, 182, 0, 38, 133, 80, 167, 0, 15, 58, 4, 4, 172, 58, 4, 5, 172, 58, 4, 6]
abbrev dktX0_see_0 : List UInt8 := dkwX0_see_0 ++ dktX0_see_1
theorem dksX0_see_0 : cX0_see.data.toList.drop 0 = dktX0_see_0 := by decide +kernel
theorem dksX0_see_1 : cX0_see.data.toList.drop 24 = dktX0_see_1 := dk_seg dksX0_see_0 24 rfl rfl
theorem dX0_see_0 : decode cX0_see 0 = .ok (.aload_n 3, 1) := dk_45 (dk_at dksX0_see_0 0 rfl rfl)
theorem dX0_see_1 : decode cX0_see 1 = .ok (.iconst 0, 1) := dk_3 (dk_at dksX0_see_0 1 rfl rfl)
theorem dX0_see_2 : decode cX0_see 2 = .ok (.aload_n 0, 1) := dk_42 (dk_at dksX0_see_0 2 rfl rfl)
theorem dX0_see_3 : decode cX0_see 3 = .ok (.iload_n 1, 1) := dk_27 (dk_at dksX0_see_0 3 rfl rfl)
theorem dX0_see_4 : decode cX0_see 4 = .ok (.iload_n 2, 1) := dk_28 (dk_at dksX0_see_0 4 rfl rfl)
theorem dX0_see_5 : decode cX0_see 5 = .ok (.invokevirtual 38, 3) := dk_182 0 38 (dk_at dksX0_see_0 5 rfl rfl)
theorem dX0_see_8 : decode cX0_see 8 = .ok (.i2l, 1) := dk_133 (dk_at dksX0_see_0 8 rfl rfl)
theorem dX0_see_9 : decode cX0_see 9 = .ok (.lastore, 1) := dk_80 (dk_at dksX0_see_0 9 rfl rfl)
theorem dX0_see_10 : decode cX0_see 10 = .ok (.goto 15, 3) := dk_167 0 15 (dk_at dksX0_see_0 10 rfl rfl)
theorem dX0_see_13 : decode cX0_see 13 = .ok (.astore 4, 2) := dk_58 4 (dk_at dksX0_see_0 13 rfl rfl)
theorem dX0_see_15 : decode cX0_see 15 = .ok (.iconst 1, 1) := dk_4 (dk_at dksX0_see_0 15 rfl rfl)
theorem dX0_see_16 : decode cX0_see 16 = .ok (.ireturn, 1) := dk_172 (dk_at dksX0_see_0 16 rfl rfl)
theorem dX0_see_17 : decode cX0_see 17 = .ok (.astore 4, 2) := dk_58 4 (dk_at dksX0_see_0 17 rfl rfl)
theorem dX0_see_19 : decode cX0_see 19 = .ok (.iconst 2, 1) := dk_5 (dk_at dksX0_see_0 19 rfl rfl)
theorem dX0_see_20 : decode cX0_see 20 = .ok (.ireturn, 1) := dk_172 (dk_at dksX0_see_0 20 rfl rfl)
theorem dX0_see_21 : decode cX0_see 21 = .ok (.astore 4, 2) := dk_58 4 (dk_at dksX0_see_0 21 rfl rfl)
theorem dX0_see_23 : decode cX0_see 23 = .ok (.iconst 3, 1) := dk_6 (dk_at dksX0_see_0 23 rfl rfl)
theorem dX0_see_24 : decode cX0_see 24 = .ok (.ireturn, 1) := dk_172 (dk_at dksX0_see_1 0 rfl rfl)
theorem dX0_see_25 : decode cX0_see 25 = .ok (.iconst 0, 1) := dk_3 (dk_at dksX0_see_1 1 rfl rfl)
theorem dX0_see_26 : decode cX0_see 26 = .ok (.ireturn, 1) := dk_172 (dk_at dksX0_see_1 2 rfl rfl)
abbrev cX0_send : ByteArray := method_10_code
def yX0_send : MethodName := ⟨RX0, "send", "(LLostroom;II[J)I"⟩
def dkwX0_send_0 : List UInt8 := [45, 3, 42, 27, 28, 182, 0, 41, 133, 80, 167, 0, 11, 58, 4, 4, 172, 58, 4, 5, 172, 3, 172]
abbrev dktX0_send_0 : List UInt8 := dkwX0_send_0 ++ []
theorem dksX0_send_0 : cX0_send.data.toList.drop 0 = dktX0_send_0 := by decide +kernel
theorem dX0_send_0 : decode cX0_send 0 = .ok (.aload_n 3, 1) := dk_45 (dk_at dksX0_send_0 0 rfl rfl)
theorem dX0_send_1 : decode cX0_send 1 = .ok (.iconst 0, 1) := dk_3 (dk_at dksX0_send_0 1 rfl rfl)
theorem dX0_send_2 : decode cX0_send 2 = .ok (.aload_n 0, 1) := dk_42 (dk_at dksX0_send_0 2 rfl rfl)
theorem dX0_send_3 : decode cX0_send 3 = .ok (.iload_n 1, 1) := dk_27 (dk_at dksX0_send_0 3 rfl rfl)
theorem dX0_send_4 : decode cX0_send 4 = .ok (.iload_n 2, 1) := dk_28 (dk_at dksX0_send_0 4 rfl rfl)
theorem dX0_send_5 : decode cX0_send 5 = .ok (.invokevirtual 41, 3) := dk_182 0 41 (dk_at dksX0_send_0 5 rfl rfl)
theorem dX0_send_8 : decode cX0_send 8 = .ok (.i2l, 1) := dk_133 (dk_at dksX0_send_0 8 rfl rfl)
theorem dX0_send_9 : decode cX0_send 9 = .ok (.lastore, 1) := dk_80 (dk_at dksX0_send_0 9 rfl rfl)
theorem dX0_send_10 : decode cX0_send 10 = .ok (.goto 11, 3) := dk_167 0 11 (dk_at dksX0_send_0 10 rfl rfl)
theorem dX0_send_13 : decode cX0_send 13 = .ok (.astore 4, 2) := dk_58 4 (dk_at dksX0_send_0 13 rfl rfl)
theorem dX0_send_15 : decode cX0_send 15 = .ok (.iconst 1, 1) := dk_4 (dk_at dksX0_send_0 15 rfl rfl)
theorem dX0_send_16 : decode cX0_send 16 = .ok (.ireturn, 1) := dk_172 (dk_at dksX0_send_0 16 rfl rfl)
theorem dX0_send_17 : decode cX0_send 17 = .ok (.astore 4, 2) := dk_58 4 (dk_at dksX0_send_0 17 rfl rfl)
theorem dX0_send_19 : decode cX0_send 19 = .ok (.iconst 2, 1) := dk_5 (dk_at dksX0_send_0 19 rfl rfl)
theorem dX0_send_20 : decode cX0_send 20 = .ok (.ireturn, 1) := dk_172 (dk_at dksX0_send_0 20 rfl rfl)
theorem dX0_send_21 : decode cX0_send 21 = .ok (.iconst 0, 1) := dk_3 (dk_at dksX0_send_0 21 rfl rfl)
theorem dX0_send_22 : decode cX0_send 22 = .ok (.ireturn, 1) := dk_172 (dk_at dksX0_send_0 22 rfl rfl)
abbrev cX0_lose : ByteArray := method_11_code
def yX0_lose : MethodName := ⟨RX0, "lose", "(LLostroom;I[J)I"⟩
def dkwX0_lose_0 : List UInt8 := [44, 3, 42, 27, 182, 0, 44, 133, 80, 167, 0, 6, 78, 4, 172, 3, 172]
abbrev dktX0_lose_0 : List UInt8 := dkwX0_lose_0 ++ []
theorem dksX0_lose_0 : cX0_lose.data.toList.drop 0 = dktX0_lose_0 := by decide +kernel
theorem dX0_lose_0 : decode cX0_lose 0 = .ok (.aload_n 2, 1) := dk_44 (dk_at dksX0_lose_0 0 rfl rfl)
theorem dX0_lose_1 : decode cX0_lose 1 = .ok (.iconst 0, 1) := dk_3 (dk_at dksX0_lose_0 1 rfl rfl)
theorem dX0_lose_2 : decode cX0_lose 2 = .ok (.aload_n 0, 1) := dk_42 (dk_at dksX0_lose_0 2 rfl rfl)
theorem dX0_lose_3 : decode cX0_lose 3 = .ok (.iload_n 1, 1) := dk_27 (dk_at dksX0_lose_0 3 rfl rfl)
theorem dX0_lose_4 : decode cX0_lose 4 = .ok (.invokevirtual 44, 3) := dk_182 0 44 (dk_at dksX0_lose_0 4 rfl rfl)
theorem dX0_lose_7 : decode cX0_lose 7 = .ok (.i2l, 1) := dk_133 (dk_at dksX0_lose_0 7 rfl rfl)
theorem dX0_lose_8 : decode cX0_lose 8 = .ok (.lastore, 1) := dk_80 (dk_at dksX0_lose_0 8 rfl rfl)
theorem dX0_lose_9 : decode cX0_lose 9 = .ok (.goto 6, 3) := dk_167 0 6 (dk_at dksX0_lose_0 9 rfl rfl)
theorem dX0_lose_12 : decode cX0_lose 12 = .ok (.astore_n 3, 1) := dk_78 (dk_at dksX0_lose_0 12 rfl rfl)
theorem dX0_lose_13 : decode cX0_lose 13 = .ok (.iconst 1, 1) := dk_4 (dk_at dksX0_lose_0 13 rfl rfl)
theorem dX0_lose_14 : decode cX0_lose 14 = .ok (.ireturn, 1) := dk_172 (dk_at dksX0_lose_0 14 rfl rfl)
theorem dX0_lose_15 : decode cX0_lose 15 = .ok (.iconst 0, 1) := dk_3 (dk_at dksX0_lose_0 15 rfl rfl)
theorem dX0_lose_16 : decode cX0_lose 16 = .ok (.ireturn, 1) := dk_172 (dk_at dksX0_lose_0 16 rfl rfl)
abbrev cX0_turnUp : ByteArray := method_12_code
def yX0_turnUp : MethodName := ⟨RX0, "turnUp", "(LLostroom;II[J)I"⟩
def dkwX0_turnUp_0 : List UInt8 := [45, 3, 42, 27, 28, 182, 0, 47, 133, 80, 167, 0, 11, 58, 4, 4, 172, 58, 4, 5, 172, 3, 172]
abbrev dktX0_turnUp_0 : List UInt8 := dkwX0_turnUp_0 ++ []
theorem dksX0_turnUp_0 : cX0_turnUp.data.toList.drop 0 = dktX0_turnUp_0 := by decide +kernel
theorem dX0_turnUp_0 : decode cX0_turnUp 0 = .ok (.aload_n 3, 1) := dk_45 (dk_at dksX0_turnUp_0 0 rfl rfl)
theorem dX0_turnUp_1 : decode cX0_turnUp 1 = .ok (.iconst 0, 1) := dk_3 (dk_at dksX0_turnUp_0 1 rfl rfl)
theorem dX0_turnUp_2 : decode cX0_turnUp 2 = .ok (.aload_n 0, 1) := dk_42 (dk_at dksX0_turnUp_0 2 rfl rfl)
theorem dX0_turnUp_3 : decode cX0_turnUp 3 = .ok (.iload_n 1, 1) := dk_27 (dk_at dksX0_turnUp_0 3 rfl rfl)
theorem dX0_turnUp_4 : decode cX0_turnUp 4 = .ok (.iload_n 2, 1) := dk_28 (dk_at dksX0_turnUp_0 4 rfl rfl)
theorem dX0_turnUp_5 : decode cX0_turnUp 5 = .ok (.invokevirtual 47, 3) := dk_182 0 47 (dk_at dksX0_turnUp_0 5 rfl rfl)
theorem dX0_turnUp_8 : decode cX0_turnUp 8 = .ok (.i2l, 1) := dk_133 (dk_at dksX0_turnUp_0 8 rfl rfl)
theorem dX0_turnUp_9 : decode cX0_turnUp 9 = .ok (.lastore, 1) := dk_80 (dk_at dksX0_turnUp_0 9 rfl rfl)
theorem dX0_turnUp_10 : decode cX0_turnUp 10 = .ok (.goto 11, 3) := dk_167 0 11 (dk_at dksX0_turnUp_0 10 rfl rfl)
theorem dX0_turnUp_13 : decode cX0_turnUp 13 = .ok (.astore 4, 2) := dk_58 4 (dk_at dksX0_turnUp_0 13 rfl rfl)
theorem dX0_turnUp_15 : decode cX0_turnUp 15 = .ok (.iconst 1, 1) := dk_4 (dk_at dksX0_turnUp_0 15 rfl rfl)
theorem dX0_turnUp_16 : decode cX0_turnUp 16 = .ok (.ireturn, 1) := dk_172 (dk_at dksX0_turnUp_0 16 rfl rfl)
theorem dX0_turnUp_17 : decode cX0_turnUp 17 = .ok (.astore 4, 2) := dk_58 4 (dk_at dksX0_turnUp_0 17 rfl rfl)
theorem dX0_turnUp_19 : decode cX0_turnUp 19 = .ok (.iconst 2, 1) := dk_5 (dk_at dksX0_turnUp_0 19 rfl rfl)
theorem dX0_turnUp_20 : decode cX0_turnUp 20 = .ok (.ireturn, 1) := dk_172 (dk_at dksX0_turnUp_0 20 rfl rfl)
theorem dX0_turnUp_21 : decode cX0_turnUp 21 = .ok (.iconst 0, 1) := dk_3 (dk_at dksX0_turnUp_0 21 rfl rfl)
theorem dX0_turnUp_22 : decode cX0_turnUp 22 = .ok (.ireturn, 1) := dk_172 (dk_at dksX0_turnUp_0 22 rfl rfl)
abbrev cX0_hold : ByteArray := method_13_code
def yX0_hold : MethodName := ⟨RX0, "hold", "(LLostroom;IZ[J)I"⟩
def dkwX0_hold_1 : List UInt8 := [58, 4, 5, 172, 3, 172]
abbrev dktX0_hold_1 : List UInt8 := dkwX0_hold_1 ++ []
def dkwX0_hold_0 : List UInt8 := [45, 3, 42, 27, 28, 182, 0, 50, 153, 0, 7, 10, 167, 0, 4, 9, 80, 167, 0, 11, 58, 4, 4, 172]
abbrev dktX0_hold_0 : List UInt8 := dkwX0_hold_0 ++ dktX0_hold_1
theorem dksX0_hold_0 : cX0_hold.data.toList.drop 0 = dktX0_hold_0 := by decide +kernel
theorem dksX0_hold_1 : cX0_hold.data.toList.drop 24 = dktX0_hold_1 := dk_seg dksX0_hold_0 24 rfl rfl
theorem dX0_hold_0 : decode cX0_hold 0 = .ok (.aload_n 3, 1) := dk_45 (dk_at dksX0_hold_0 0 rfl rfl)
theorem dX0_hold_1 : decode cX0_hold 1 = .ok (.iconst 0, 1) := dk_3 (dk_at dksX0_hold_0 1 rfl rfl)
theorem dX0_hold_2 : decode cX0_hold 2 = .ok (.aload_n 0, 1) := dk_42 (dk_at dksX0_hold_0 2 rfl rfl)
theorem dX0_hold_3 : decode cX0_hold 3 = .ok (.iload_n 1, 1) := dk_27 (dk_at dksX0_hold_0 3 rfl rfl)
theorem dX0_hold_4 : decode cX0_hold 4 = .ok (.iload_n 2, 1) := dk_28 (dk_at dksX0_hold_0 4 rfl rfl)
theorem dX0_hold_5 : decode cX0_hold 5 = .ok (.invokevirtual 50, 3) := dk_182 0 50 (dk_at dksX0_hold_0 5 rfl rfl)
theorem dX0_hold_8 : decode cX0_hold 8 = .ok (.ifCond .eq 7, 3) := dk_153 0 7 (dk_at dksX0_hold_0 8 rfl rfl)
theorem dX0_hold_11 : decode cX0_hold 11 = .ok (.lconst 1, 1) := dk_10 (dk_at dksX0_hold_0 11 rfl rfl)
theorem dX0_hold_12 : decode cX0_hold 12 = .ok (.goto 4, 3) := dk_167 0 4 (dk_at dksX0_hold_0 12 rfl rfl)
theorem dX0_hold_15 : decode cX0_hold 15 = .ok (.lconst 0, 1) := dk_9 (dk_at dksX0_hold_0 15 rfl rfl)
theorem dX0_hold_16 : decode cX0_hold 16 = .ok (.lastore, 1) := dk_80 (dk_at dksX0_hold_0 16 rfl rfl)
theorem dX0_hold_17 : decode cX0_hold 17 = .ok (.goto 11, 3) := dk_167 0 11 (dk_at dksX0_hold_0 17 rfl rfl)
theorem dX0_hold_20 : decode cX0_hold 20 = .ok (.astore 4, 2) := dk_58 4 (dk_at dksX0_hold_0 20 rfl rfl)
theorem dX0_hold_22 : decode cX0_hold 22 = .ok (.iconst 1, 1) := dk_4 (dk_at dksX0_hold_0 22 rfl rfl)
theorem dX0_hold_23 : decode cX0_hold 23 = .ok (.ireturn, 1) := dk_172 (dk_at dksX0_hold_0 23 rfl rfl)
theorem dX0_hold_24 : decode cX0_hold 24 = .ok (.astore 4, 2) := dk_58 4 (dk_at dksX0_hold_1 0 rfl rfl)
theorem dX0_hold_26 : decode cX0_hold 26 = .ok (.iconst 2, 1) := dk_5 (dk_at dksX0_hold_1 2 rfl rfl)
theorem dX0_hold_27 : decode cX0_hold 27 = .ok (.ireturn, 1) := dk_172 (dk_at dksX0_hold_1 3 rfl rfl)
theorem dX0_hold_28 : decode cX0_hold 28 = .ok (.iconst 0, 1) := dk_3 (dk_at dksX0_hold_1 4 rfl rfl)
theorem dX0_hold_29 : decode cX0_hold 29 = .ok (.ireturn, 1) := dk_172 (dk_at dksX0_hold_1 5 rfl rfl)
abbrev cX0_claim : ByteArray := method_14_code
def yX0_claim : MethodName := ⟨RX0, "claim", "(LLostroom;IIIII[J)I"⟩
def dkwX0_claim_1 : List UInt8 := [58, 7, 5, 172, 58, 7, 6, 172, 3, 172]
abbrev dktX0_claim_1 : List UInt8 := dkwX0_claim_1 ++ []
def dkwX0_claim_0 : List UInt8 := [25, 6, 3, 42, 27, 28, 29, 21, 4, 21, 5, 182, 0, 54, 133, 80, 167, 0, 15, 58, 7, 4, 172]
abbrev dktX0_claim_0 : List UInt8 := dkwX0_claim_0 ++ dktX0_claim_1
theorem dksX0_claim_0 : cX0_claim.data.toList.drop 0 = dktX0_claim_0 := by decide +kernel
theorem dksX0_claim_1 : cX0_claim.data.toList.drop 23 = dktX0_claim_1 := dk_seg dksX0_claim_0 23 rfl rfl
theorem dX0_claim_0 : decode cX0_claim 0 = .ok (.aload 6, 2) := dk_25 6 (dk_at dksX0_claim_0 0 rfl rfl)
theorem dX0_claim_2 : decode cX0_claim 2 = .ok (.iconst 0, 1) := dk_3 (dk_at dksX0_claim_0 2 rfl rfl)
theorem dX0_claim_3 : decode cX0_claim 3 = .ok (.aload_n 0, 1) := dk_42 (dk_at dksX0_claim_0 3 rfl rfl)
theorem dX0_claim_4 : decode cX0_claim 4 = .ok (.iload_n 1, 1) := dk_27 (dk_at dksX0_claim_0 4 rfl rfl)
theorem dX0_claim_5 : decode cX0_claim 5 = .ok (.iload_n 2, 1) := dk_28 (dk_at dksX0_claim_0 5 rfl rfl)
theorem dX0_claim_6 : decode cX0_claim 6 = .ok (.iload_n 3, 1) := dk_29 (dk_at dksX0_claim_0 6 rfl rfl)
theorem dX0_claim_7 : decode cX0_claim 7 = .ok (.iload 4, 2) := dk_21 4 (dk_at dksX0_claim_0 7 rfl rfl)
theorem dX0_claim_9 : decode cX0_claim 9 = .ok (.iload 5, 2) := dk_21 5 (dk_at dksX0_claim_0 9 rfl rfl)
theorem dX0_claim_11 : decode cX0_claim 11 = .ok (.invokevirtual 54, 3) := dk_182 0 54 (dk_at dksX0_claim_0 11 rfl rfl)
theorem dX0_claim_14 : decode cX0_claim 14 = .ok (.i2l, 1) := dk_133 (dk_at dksX0_claim_0 14 rfl rfl)
theorem dX0_claim_15 : decode cX0_claim 15 = .ok (.lastore, 1) := dk_80 (dk_at dksX0_claim_0 15 rfl rfl)
theorem dX0_claim_16 : decode cX0_claim 16 = .ok (.goto 15, 3) := dk_167 0 15 (dk_at dksX0_claim_0 16 rfl rfl)
theorem dX0_claim_19 : decode cX0_claim 19 = .ok (.astore 7, 2) := dk_58 7 (dk_at dksX0_claim_0 19 rfl rfl)
theorem dX0_claim_21 : decode cX0_claim 21 = .ok (.iconst 1, 1) := dk_4 (dk_at dksX0_claim_0 21 rfl rfl)
theorem dX0_claim_22 : decode cX0_claim 22 = .ok (.ireturn, 1) := dk_172 (dk_at dksX0_claim_0 22 rfl rfl)
theorem dX0_claim_23 : decode cX0_claim 23 = .ok (.astore 7, 2) := dk_58 7 (dk_at dksX0_claim_1 0 rfl rfl)
theorem dX0_claim_25 : decode cX0_claim 25 = .ok (.iconst 2, 1) := dk_5 (dk_at dksX0_claim_1 2 rfl rfl)
theorem dX0_claim_26 : decode cX0_claim 26 = .ok (.ireturn, 1) := dk_172 (dk_at dksX0_claim_1 3 rfl rfl)
theorem dX0_claim_27 : decode cX0_claim 27 = .ok (.astore 7, 2) := dk_58 7 (dk_at dksX0_claim_1 4 rfl rfl)
theorem dX0_claim_29 : decode cX0_claim 29 = .ok (.iconst 3, 1) := dk_6 (dk_at dksX0_claim_1 6 rfl rfl)
theorem dX0_claim_30 : decode cX0_claim 30 = .ok (.ireturn, 1) := dk_172 (dk_at dksX0_claim_1 7 rfl rfl)
theorem dX0_claim_31 : decode cX0_claim 31 = .ok (.iconst 0, 1) := dk_3 (dk_at dksX0_claim_1 8 rfl rfl)
theorem dX0_claim_32 : decode cX0_claim 32 = .ok (.ireturn, 1) := dk_172 (dk_at dksX0_claim_1 9 rfl rfl)
abbrev cX0_say : ByteArray := method_15_code
def yX0_say : MethodName := ⟨RX0, "say", "(LLostroom;II[J)I"⟩
def dkwX0_say_1 : List UInt8 := [172, 3, 172]
abbrev dktX0_say_1 : List UInt8 := dkwX0_say_1 ++ []
def dkwX0_say_0 : List UInt8 := [45, 3, 42, 27, 28, 182, 0, 58, 133, 80, 167, 0, 15, 58, 4, 4, 172, 58, 4, 5, 172, 58, 4, 6]
abbrev dktX0_say_0 : List UInt8 := dkwX0_say_0 ++ dktX0_say_1
theorem dksX0_say_0 : cX0_say.data.toList.drop 0 = dktX0_say_0 := by decide +kernel
theorem dksX0_say_1 : cX0_say.data.toList.drop 24 = dktX0_say_1 := dk_seg dksX0_say_0 24 rfl rfl
theorem dX0_say_0 : decode cX0_say 0 = .ok (.aload_n 3, 1) := dk_45 (dk_at dksX0_say_0 0 rfl rfl)
theorem dX0_say_1 : decode cX0_say 1 = .ok (.iconst 0, 1) := dk_3 (dk_at dksX0_say_0 1 rfl rfl)
theorem dX0_say_2 : decode cX0_say 2 = .ok (.aload_n 0, 1) := dk_42 (dk_at dksX0_say_0 2 rfl rfl)
theorem dX0_say_3 : decode cX0_say 3 = .ok (.iload_n 1, 1) := dk_27 (dk_at dksX0_say_0 3 rfl rfl)
theorem dX0_say_4 : decode cX0_say 4 = .ok (.iload_n 2, 1) := dk_28 (dk_at dksX0_say_0 4 rfl rfl)
theorem dX0_say_5 : decode cX0_say 5 = .ok (.invokevirtual 58, 3) := dk_182 0 58 (dk_at dksX0_say_0 5 rfl rfl)
theorem dX0_say_8 : decode cX0_say 8 = .ok (.i2l, 1) := dk_133 (dk_at dksX0_say_0 8 rfl rfl)
theorem dX0_say_9 : decode cX0_say 9 = .ok (.lastore, 1) := dk_80 (dk_at dksX0_say_0 9 rfl rfl)
theorem dX0_say_10 : decode cX0_say 10 = .ok (.goto 15, 3) := dk_167 0 15 (dk_at dksX0_say_0 10 rfl rfl)
theorem dX0_say_13 : decode cX0_say 13 = .ok (.astore 4, 2) := dk_58 4 (dk_at dksX0_say_0 13 rfl rfl)
theorem dX0_say_15 : decode cX0_say 15 = .ok (.iconst 1, 1) := dk_4 (dk_at dksX0_say_0 15 rfl rfl)
theorem dX0_say_16 : decode cX0_say 16 = .ok (.ireturn, 1) := dk_172 (dk_at dksX0_say_0 16 rfl rfl)
theorem dX0_say_17 : decode cX0_say 17 = .ok (.astore 4, 2) := dk_58 4 (dk_at dksX0_say_0 17 rfl rfl)
theorem dX0_say_19 : decode cX0_say 19 = .ok (.iconst 2, 1) := dk_5 (dk_at dksX0_say_0 19 rfl rfl)
theorem dX0_say_20 : decode cX0_say 20 = .ok (.ireturn, 1) := dk_172 (dk_at dksX0_say_0 20 rfl rfl)
theorem dX0_say_21 : decode cX0_say 21 = .ok (.astore 4, 2) := dk_58 4 (dk_at dksX0_say_0 21 rfl rfl)
theorem dX0_say_23 : decode cX0_say 23 = .ok (.iconst 3, 1) := dk_6 (dk_at dksX0_say_0 23 rfl rfl)
theorem dX0_say_24 : decode cX0_say 24 = .ok (.ireturn, 1) := dk_172 (dk_at dksX0_say_1 0 rfl rfl)
theorem dX0_say_25 : decode cX0_say 25 = .ok (.iconst 0, 1) := dk_3 (dk_at dksX0_say_1 1 rfl rfl)
theorem dX0_say_26 : decode cX0_say 26 = .ok (.ireturn, 1) := dk_172 (dk_at dksX0_say_1 2 rfl rfl)
abbrev cX0_tell : ByteArray := method_16_code
def yX0_tell : MethodName := ⟨RX0, "tell", "(LLostroom;II[J)I"⟩
def dkwX0_tell_1 : List UInt8 := [172, 3, 172]
abbrev dktX0_tell_1 : List UInt8 := dkwX0_tell_1 ++ []
def dkwX0_tell_0 : List UInt8 := [45, 3, 42, 27, 28, 182, 0, 61, 133, 80, 167, 0, 15, 58, 4, 4, 172, 58, 4, 5, 172, 58, 4, 6]
abbrev dktX0_tell_0 : List UInt8 := dkwX0_tell_0 ++ dktX0_tell_1
theorem dksX0_tell_0 : cX0_tell.data.toList.drop 0 = dktX0_tell_0 := by decide +kernel
theorem dksX0_tell_1 : cX0_tell.data.toList.drop 24 = dktX0_tell_1 := dk_seg dksX0_tell_0 24 rfl rfl
theorem dX0_tell_0 : decode cX0_tell 0 = .ok (.aload_n 3, 1) := dk_45 (dk_at dksX0_tell_0 0 rfl rfl)
theorem dX0_tell_1 : decode cX0_tell 1 = .ok (.iconst 0, 1) := dk_3 (dk_at dksX0_tell_0 1 rfl rfl)
theorem dX0_tell_2 : decode cX0_tell 2 = .ok (.aload_n 0, 1) := dk_42 (dk_at dksX0_tell_0 2 rfl rfl)
theorem dX0_tell_3 : decode cX0_tell 3 = .ok (.iload_n 1, 1) := dk_27 (dk_at dksX0_tell_0 3 rfl rfl)
theorem dX0_tell_4 : decode cX0_tell 4 = .ok (.iload_n 2, 1) := dk_28 (dk_at dksX0_tell_0 4 rfl rfl)
theorem dX0_tell_5 : decode cX0_tell 5 = .ok (.invokevirtual 61, 3) := dk_182 0 61 (dk_at dksX0_tell_0 5 rfl rfl)
theorem dX0_tell_8 : decode cX0_tell 8 = .ok (.i2l, 1) := dk_133 (dk_at dksX0_tell_0 8 rfl rfl)
theorem dX0_tell_9 : decode cX0_tell 9 = .ok (.lastore, 1) := dk_80 (dk_at dksX0_tell_0 9 rfl rfl)
theorem dX0_tell_10 : decode cX0_tell 10 = .ok (.goto 15, 3) := dk_167 0 15 (dk_at dksX0_tell_0 10 rfl rfl)
theorem dX0_tell_13 : decode cX0_tell 13 = .ok (.astore 4, 2) := dk_58 4 (dk_at dksX0_tell_0 13 rfl rfl)
theorem dX0_tell_15 : decode cX0_tell 15 = .ok (.iconst 1, 1) := dk_4 (dk_at dksX0_tell_0 15 rfl rfl)
theorem dX0_tell_16 : decode cX0_tell 16 = .ok (.ireturn, 1) := dk_172 (dk_at dksX0_tell_0 16 rfl rfl)
theorem dX0_tell_17 : decode cX0_tell 17 = .ok (.astore 4, 2) := dk_58 4 (dk_at dksX0_tell_0 17 rfl rfl)
theorem dX0_tell_19 : decode cX0_tell 19 = .ok (.iconst 2, 1) := dk_5 (dk_at dksX0_tell_0 19 rfl rfl)
theorem dX0_tell_20 : decode cX0_tell 20 = .ok (.ireturn, 1) := dk_172 (dk_at dksX0_tell_0 20 rfl rfl)
theorem dX0_tell_21 : decode cX0_tell 21 = .ok (.astore 4, 2) := dk_58 4 (dk_at dksX0_tell_0 21 rfl rfl)
theorem dX0_tell_23 : decode cX0_tell 23 = .ok (.iconst 3, 1) := dk_6 (dk_at dksX0_tell_0 23 rfl rfl)
theorem dX0_tell_24 : decode cX0_tell 24 = .ok (.ireturn, 1) := dk_172 (dk_at dksX0_tell_1 0 rfl rfl)
theorem dX0_tell_25 : decode cX0_tell 25 = .ok (.iconst 0, 1) := dk_3 (dk_at dksX0_tell_1 1 rfl rfl)
theorem dX0_tell_26 : decode cX0_tell 26 = .ok (.ireturn, 1) := dk_172 (dk_at dksX0_tell_1 2 rfl rfl)
abbrev cX0_withdraw : ByteArray := method_17_code
def yX0_withdraw : MethodName := ⟨RX0, "withdraw", "(LLostroom;I[J)I"⟩
def dkwX0_withdraw_0 : List UInt8 := [44, 3, 42, 27, 182, 0, 64, 133, 80, 167, 0, 9, 78, 4, 172, 78, 5, 172, 3, 172]
abbrev dktX0_withdraw_0 : List UInt8 := dkwX0_withdraw_0 ++ []
theorem dksX0_withdraw_0 : cX0_withdraw.data.toList.drop 0 = dktX0_withdraw_0 := by decide +kernel
theorem dX0_withdraw_0 : decode cX0_withdraw 0 = .ok (.aload_n 2, 1) := dk_44 (dk_at dksX0_withdraw_0 0 rfl rfl)
theorem dX0_withdraw_1 : decode cX0_withdraw 1 = .ok (.iconst 0, 1) := dk_3 (dk_at dksX0_withdraw_0 1 rfl rfl)
theorem dX0_withdraw_2 : decode cX0_withdraw 2 = .ok (.aload_n 0, 1) := dk_42 (dk_at dksX0_withdraw_0 2 rfl rfl)
theorem dX0_withdraw_3 : decode cX0_withdraw 3 = .ok (.iload_n 1, 1) := dk_27 (dk_at dksX0_withdraw_0 3 rfl rfl)
theorem dX0_withdraw_4 : decode cX0_withdraw 4 = .ok (.invokevirtual 64, 3) := dk_182 0 64 (dk_at dksX0_withdraw_0 4 rfl rfl)
theorem dX0_withdraw_7 : decode cX0_withdraw 7 = .ok (.i2l, 1) := dk_133 (dk_at dksX0_withdraw_0 7 rfl rfl)
theorem dX0_withdraw_8 : decode cX0_withdraw 8 = .ok (.lastore, 1) := dk_80 (dk_at dksX0_withdraw_0 8 rfl rfl)
theorem dX0_withdraw_9 : decode cX0_withdraw 9 = .ok (.goto 9, 3) := dk_167 0 9 (dk_at dksX0_withdraw_0 9 rfl rfl)
theorem dX0_withdraw_12 : decode cX0_withdraw 12 = .ok (.astore_n 3, 1) := dk_78 (dk_at dksX0_withdraw_0 12 rfl rfl)
theorem dX0_withdraw_13 : decode cX0_withdraw 13 = .ok (.iconst 1, 1) := dk_4 (dk_at dksX0_withdraw_0 13 rfl rfl)
theorem dX0_withdraw_14 : decode cX0_withdraw 14 = .ok (.ireturn, 1) := dk_172 (dk_at dksX0_withdraw_0 14 rfl rfl)
theorem dX0_withdraw_15 : decode cX0_withdraw 15 = .ok (.astore_n 3, 1) := dk_78 (dk_at dksX0_withdraw_0 15 rfl rfl)
theorem dX0_withdraw_16 : decode cX0_withdraw 16 = .ok (.iconst 2, 1) := dk_5 (dk_at dksX0_withdraw_0 16 rfl rfl)
theorem dX0_withdraw_17 : decode cX0_withdraw 17 = .ok (.ireturn, 1) := dk_172 (dk_at dksX0_withdraw_0 17 rfl rfl)
theorem dX0_withdraw_18 : decode cX0_withdraw 18 = .ok (.iconst 0, 1) := dk_3 (dk_at dksX0_withdraw_0 18 rfl rfl)
theorem dX0_withdraw_19 : decode cX0_withdraw 19 = .ok (.ireturn, 1) := dk_172 (dk_at dksX0_withdraw_0 19 rfl rfl)
abbrev cX0_release : ByteArray := method_18_code
def yX0_release : MethodName := ⟨RX0, "release", "(LLostroom;II[J)I"⟩
def dkwX0_release_0 : List UInt8 := [45, 3, 42, 27, 28, 182, 0, 67, 133, 80, 167, 0, 11, 58, 4, 4, 172, 58, 4, 5, 172, 3, 172]
abbrev dktX0_release_0 : List UInt8 := dkwX0_release_0 ++ []
theorem dksX0_release_0 : cX0_release.data.toList.drop 0 = dktX0_release_0 := by decide +kernel
theorem dX0_release_0 : decode cX0_release 0 = .ok (.aload_n 3, 1) := dk_45 (dk_at dksX0_release_0 0 rfl rfl)
theorem dX0_release_1 : decode cX0_release 1 = .ok (.iconst 0, 1) := dk_3 (dk_at dksX0_release_0 1 rfl rfl)
theorem dX0_release_2 : decode cX0_release 2 = .ok (.aload_n 0, 1) := dk_42 (dk_at dksX0_release_0 2 rfl rfl)
theorem dX0_release_3 : decode cX0_release 3 = .ok (.iload_n 1, 1) := dk_27 (dk_at dksX0_release_0 3 rfl rfl)
theorem dX0_release_4 : decode cX0_release 4 = .ok (.iload_n 2, 1) := dk_28 (dk_at dksX0_release_0 4 rfl rfl)
theorem dX0_release_5 : decode cX0_release 5 = .ok (.invokevirtual 67, 3) := dk_182 0 67 (dk_at dksX0_release_0 5 rfl rfl)
theorem dX0_release_8 : decode cX0_release 8 = .ok (.i2l, 1) := dk_133 (dk_at dksX0_release_0 8 rfl rfl)
theorem dX0_release_9 : decode cX0_release 9 = .ok (.lastore, 1) := dk_80 (dk_at dksX0_release_0 9 rfl rfl)
theorem dX0_release_10 : decode cX0_release 10 = .ok (.goto 11, 3) := dk_167 0 11 (dk_at dksX0_release_0 10 rfl rfl)
theorem dX0_release_13 : decode cX0_release 13 = .ok (.astore 4, 2) := dk_58 4 (dk_at dksX0_release_0 13 rfl rfl)
theorem dX0_release_15 : decode cX0_release 15 = .ok (.iconst 1, 1) := dk_4 (dk_at dksX0_release_0 15 rfl rfl)
theorem dX0_release_16 : decode cX0_release 16 = .ok (.ireturn, 1) := dk_172 (dk_at dksX0_release_0 16 rfl rfl)
theorem dX0_release_17 : decode cX0_release 17 = .ok (.astore 4, 2) := dk_58 4 (dk_at dksX0_release_0 17 rfl rfl)
theorem dX0_release_19 : decode cX0_release 19 = .ok (.iconst 2, 1) := dk_5 (dk_at dksX0_release_0 19 rfl rfl)
theorem dX0_release_20 : decode cX0_release 20 = .ok (.ireturn, 1) := dk_172 (dk_at dksX0_release_0 20 rfl rfl)
theorem dX0_release_21 : decode cX0_release 21 = .ok (.iconst 0, 1) := dk_3 (dk_at dksX0_release_0 21 rfl rfl)
theorem dX0_release_22 : decode cX0_release 22 = .ok (.ireturn, 1) := dk_172 (dk_at dksX0_release_0 22 rfl rfl)
abbrev cX0_extend : ByteArray := method_19_code
def yX0_extend : MethodName := ⟨RX0, "extend", "(LLostroom;II[J)I"⟩
def dkwX0_extend_1 : List UInt8 := [172, 3, 172]
abbrev dktX0_extend_1 : List UInt8 := dkwX0_extend_1 ++ []
def dkwX0_extend_0 : List UInt8 := [45, 3, 42, 27, 28, 182, 0, 70, 133, 80, 167, 0, 15, 58, 4, 4, 172, 58, 4, 5, 172, 58, 4, 6]
abbrev dktX0_extend_0 : List UInt8 := dkwX0_extend_0 ++ dktX0_extend_1
theorem dksX0_extend_0 : cX0_extend.data.toList.drop 0 = dktX0_extend_0 := by decide +kernel
theorem dksX0_extend_1 : cX0_extend.data.toList.drop 24 = dktX0_extend_1 := dk_seg dksX0_extend_0 24 rfl rfl
theorem dX0_extend_0 : decode cX0_extend 0 = .ok (.aload_n 3, 1) := dk_45 (dk_at dksX0_extend_0 0 rfl rfl)
theorem dX0_extend_1 : decode cX0_extend 1 = .ok (.iconst 0, 1) := dk_3 (dk_at dksX0_extend_0 1 rfl rfl)
theorem dX0_extend_2 : decode cX0_extend 2 = .ok (.aload_n 0, 1) := dk_42 (dk_at dksX0_extend_0 2 rfl rfl)
theorem dX0_extend_3 : decode cX0_extend 3 = .ok (.iload_n 1, 1) := dk_27 (dk_at dksX0_extend_0 3 rfl rfl)
theorem dX0_extend_4 : decode cX0_extend 4 = .ok (.iload_n 2, 1) := dk_28 (dk_at dksX0_extend_0 4 rfl rfl)
theorem dX0_extend_5 : decode cX0_extend 5 = .ok (.invokevirtual 70, 3) := dk_182 0 70 (dk_at dksX0_extend_0 5 rfl rfl)
theorem dX0_extend_8 : decode cX0_extend 8 = .ok (.i2l, 1) := dk_133 (dk_at dksX0_extend_0 8 rfl rfl)
theorem dX0_extend_9 : decode cX0_extend 9 = .ok (.lastore, 1) := dk_80 (dk_at dksX0_extend_0 9 rfl rfl)
theorem dX0_extend_10 : decode cX0_extend 10 = .ok (.goto 15, 3) := dk_167 0 15 (dk_at dksX0_extend_0 10 rfl rfl)
theorem dX0_extend_13 : decode cX0_extend 13 = .ok (.astore 4, 2) := dk_58 4 (dk_at dksX0_extend_0 13 rfl rfl)
theorem dX0_extend_15 : decode cX0_extend 15 = .ok (.iconst 1, 1) := dk_4 (dk_at dksX0_extend_0 15 rfl rfl)
theorem dX0_extend_16 : decode cX0_extend 16 = .ok (.ireturn, 1) := dk_172 (dk_at dksX0_extend_0 16 rfl rfl)
theorem dX0_extend_17 : decode cX0_extend 17 = .ok (.astore 4, 2) := dk_58 4 (dk_at dksX0_extend_0 17 rfl rfl)
theorem dX0_extend_19 : decode cX0_extend 19 = .ok (.iconst 2, 1) := dk_5 (dk_at dksX0_extend_0 19 rfl rfl)
theorem dX0_extend_20 : decode cX0_extend 20 = .ok (.ireturn, 1) := dk_172 (dk_at dksX0_extend_0 20 rfl rfl)
theorem dX0_extend_21 : decode cX0_extend 21 = .ok (.astore 4, 2) := dk_58 4 (dk_at dksX0_extend_0 21 rfl rfl)
theorem dX0_extend_23 : decode cX0_extend 23 = .ok (.iconst 3, 1) := dk_6 (dk_at dksX0_extend_0 23 rfl rfl)
theorem dX0_extend_24 : decode cX0_extend 24 = .ok (.ireturn, 1) := dk_172 (dk_at dksX0_extend_1 0 rfl rfl)
theorem dX0_extend_25 : decode cX0_extend 25 = .ok (.iconst 0, 1) := dk_3 (dk_at dksX0_extend_1 1 rfl rfl)
theorem dX0_extend_26 : decode cX0_extend 26 = .ok (.ireturn, 1) := dk_172 (dk_at dksX0_extend_1 2 rfl rfl)
abbrev cX0_sell : ByteArray := method_20_code
def yX0_sell : MethodName := ⟨RX0, "sell", "(LLostroom;II[J)I"⟩
def dkwX0_sell_1 : List UInt8 := [172, 3, 172]
abbrev dktX0_sell_1 : List UInt8 := dkwX0_sell_1 ++ []
def dkwX0_sell_0 : List UInt8 := [45, 3, 42, 27, 28, 182, 0, 73, 133, 80, 167, 0, 15, 58, 4, 4, 172, 58, 4, 5, 172, 58, 4, 6]
abbrev dktX0_sell_0 : List UInt8 := dkwX0_sell_0 ++ dktX0_sell_1
theorem dksX0_sell_0 : cX0_sell.data.toList.drop 0 = dktX0_sell_0 := by decide +kernel
theorem dksX0_sell_1 : cX0_sell.data.toList.drop 24 = dktX0_sell_1 := dk_seg dksX0_sell_0 24 rfl rfl
theorem dX0_sell_0 : decode cX0_sell 0 = .ok (.aload_n 3, 1) := dk_45 (dk_at dksX0_sell_0 0 rfl rfl)
theorem dX0_sell_1 : decode cX0_sell 1 = .ok (.iconst 0, 1) := dk_3 (dk_at dksX0_sell_0 1 rfl rfl)
theorem dX0_sell_2 : decode cX0_sell 2 = .ok (.aload_n 0, 1) := dk_42 (dk_at dksX0_sell_0 2 rfl rfl)
theorem dX0_sell_3 : decode cX0_sell 3 = .ok (.iload_n 1, 1) := dk_27 (dk_at dksX0_sell_0 3 rfl rfl)
theorem dX0_sell_4 : decode cX0_sell 4 = .ok (.iload_n 2, 1) := dk_28 (dk_at dksX0_sell_0 4 rfl rfl)
theorem dX0_sell_5 : decode cX0_sell 5 = .ok (.invokevirtual 73, 3) := dk_182 0 73 (dk_at dksX0_sell_0 5 rfl rfl)
theorem dX0_sell_8 : decode cX0_sell 8 = .ok (.i2l, 1) := dk_133 (dk_at dksX0_sell_0 8 rfl rfl)
theorem dX0_sell_9 : decode cX0_sell 9 = .ok (.lastore, 1) := dk_80 (dk_at dksX0_sell_0 9 rfl rfl)
theorem dX0_sell_10 : decode cX0_sell 10 = .ok (.goto 15, 3) := dk_167 0 15 (dk_at dksX0_sell_0 10 rfl rfl)
theorem dX0_sell_13 : decode cX0_sell 13 = .ok (.astore 4, 2) := dk_58 4 (dk_at dksX0_sell_0 13 rfl rfl)
theorem dX0_sell_15 : decode cX0_sell 15 = .ok (.iconst 1, 1) := dk_4 (dk_at dksX0_sell_0 15 rfl rfl)
theorem dX0_sell_16 : decode cX0_sell 16 = .ok (.ireturn, 1) := dk_172 (dk_at dksX0_sell_0 16 rfl rfl)
theorem dX0_sell_17 : decode cX0_sell 17 = .ok (.astore 4, 2) := dk_58 4 (dk_at dksX0_sell_0 17 rfl rfl)
theorem dX0_sell_19 : decode cX0_sell 19 = .ok (.iconst 2, 1) := dk_5 (dk_at dksX0_sell_0 19 rfl rfl)
theorem dX0_sell_20 : decode cX0_sell 20 = .ok (.ireturn, 1) := dk_172 (dk_at dksX0_sell_0 20 rfl rfl)
theorem dX0_sell_21 : decode cX0_sell 21 = .ok (.astore 4, 2) := dk_58 4 (dk_at dksX0_sell_0 21 rfl rfl)
theorem dX0_sell_23 : decode cX0_sell 23 = .ok (.iconst 3, 1) := dk_6 (dk_at dksX0_sell_0 23 rfl rfl)
theorem dX0_sell_24 : decode cX0_sell 24 = .ok (.ireturn, 1) := dk_172 (dk_at dksX0_sell_1 0 rfl rfl)
theorem dX0_sell_25 : decode cX0_sell 25 = .ok (.iconst 0, 1) := dk_3 (dk_at dksX0_sell_1 1 rfl rfl)
theorem dX0_sell_26 : decode cX0_sell 26 = .ok (.ireturn, 1) := dk_172 (dk_at dksX0_sell_1 2 rfl rfl)
abbrev cX0_destroy : ByteArray := method_21_code
def yX0_destroy : MethodName := ⟨RX0, "destroy", "(LLostroom;I[J)I"⟩
def dkwX0_destroy_0 : List UInt8 := [44, 3, 42, 27, 182, 0, 76, 133, 80, 167, 0, 9, 78, 4, 172, 78, 5, 172, 3, 172]
abbrev dktX0_destroy_0 : List UInt8 := dkwX0_destroy_0 ++ []
theorem dksX0_destroy_0 : cX0_destroy.data.toList.drop 0 = dktX0_destroy_0 := by decide +kernel
theorem dX0_destroy_0 : decode cX0_destroy 0 = .ok (.aload_n 2, 1) := dk_44 (dk_at dksX0_destroy_0 0 rfl rfl)
theorem dX0_destroy_1 : decode cX0_destroy 1 = .ok (.iconst 0, 1) := dk_3 (dk_at dksX0_destroy_0 1 rfl rfl)
theorem dX0_destroy_2 : decode cX0_destroy 2 = .ok (.aload_n 0, 1) := dk_42 (dk_at dksX0_destroy_0 2 rfl rfl)
theorem dX0_destroy_3 : decode cX0_destroy 3 = .ok (.iload_n 1, 1) := dk_27 (dk_at dksX0_destroy_0 3 rfl rfl)
theorem dX0_destroy_4 : decode cX0_destroy 4 = .ok (.invokevirtual 76, 3) := dk_182 0 76 (dk_at dksX0_destroy_0 4 rfl rfl)
theorem dX0_destroy_7 : decode cX0_destroy 7 = .ok (.i2l, 1) := dk_133 (dk_at dksX0_destroy_0 7 rfl rfl)
theorem dX0_destroy_8 : decode cX0_destroy 8 = .ok (.lastore, 1) := dk_80 (dk_at dksX0_destroy_0 8 rfl rfl)
theorem dX0_destroy_9 : decode cX0_destroy 9 = .ok (.goto 9, 3) := dk_167 0 9 (dk_at dksX0_destroy_0 9 rfl rfl)
theorem dX0_destroy_12 : decode cX0_destroy 12 = .ok (.astore_n 3, 1) := dk_78 (dk_at dksX0_destroy_0 12 rfl rfl)
theorem dX0_destroy_13 : decode cX0_destroy 13 = .ok (.iconst 1, 1) := dk_4 (dk_at dksX0_destroy_0 13 rfl rfl)
theorem dX0_destroy_14 : decode cX0_destroy 14 = .ok (.ireturn, 1) := dk_172 (dk_at dksX0_destroy_0 14 rfl rfl)
theorem dX0_destroy_15 : decode cX0_destroy 15 = .ok (.astore_n 3, 1) := dk_78 (dk_at dksX0_destroy_0 15 rfl rfl)
theorem dX0_destroy_16 : decode cX0_destroy 16 = .ok (.iconst 2, 1) := dk_5 (dk_at dksX0_destroy_0 16 rfl rfl)
theorem dX0_destroy_17 : decode cX0_destroy 17 = .ok (.ireturn, 1) := dk_172 (dk_at dksX0_destroy_0 17 rfl rfl)
theorem dX0_destroy_18 : decode cX0_destroy 18 = .ok (.iconst 0, 1) := dk_3 (dk_at dksX0_destroy_0 18 rfl rfl)
theorem dX0_destroy_19 : decode cX0_destroy 19 = .ok (.ireturn, 1) := dk_172 (dk_at dksX0_destroy_0 19 rfl rfl)
abbrev cX0_payOut : ByteArray := method_22_code
def yX0_payOut : MethodName := ⟨RX0, "payOut", "(LLostroom;II[J)I"⟩
def dkwX0_payOut_0 : List UInt8 := [45, 3, 42, 27, 28, 182, 0, 79, 133, 80, 167, 0, 11, 58, 4, 4, 172, 58, 4, 5, 172, 3, 172]
abbrev dktX0_payOut_0 : List UInt8 := dkwX0_payOut_0 ++ []
theorem dksX0_payOut_0 : cX0_payOut.data.toList.drop 0 = dktX0_payOut_0 := by decide +kernel
theorem dX0_payOut_0 : decode cX0_payOut 0 = .ok (.aload_n 3, 1) := dk_45 (dk_at dksX0_payOut_0 0 rfl rfl)
theorem dX0_payOut_1 : decode cX0_payOut 1 = .ok (.iconst 0, 1) := dk_3 (dk_at dksX0_payOut_0 1 rfl rfl)
theorem dX0_payOut_2 : decode cX0_payOut 2 = .ok (.aload_n 0, 1) := dk_42 (dk_at dksX0_payOut_0 2 rfl rfl)
theorem dX0_payOut_3 : decode cX0_payOut 3 = .ok (.iload_n 1, 1) := dk_27 (dk_at dksX0_payOut_0 3 rfl rfl)
theorem dX0_payOut_4 : decode cX0_payOut 4 = .ok (.iload_n 2, 1) := dk_28 (dk_at dksX0_payOut_0 4 rfl rfl)
theorem dX0_payOut_5 : decode cX0_payOut 5 = .ok (.invokevirtual 79, 3) := dk_182 0 79 (dk_at dksX0_payOut_0 5 rfl rfl)
theorem dX0_payOut_8 : decode cX0_payOut 8 = .ok (.i2l, 1) := dk_133 (dk_at dksX0_payOut_0 8 rfl rfl)
theorem dX0_payOut_9 : decode cX0_payOut 9 = .ok (.lastore, 1) := dk_80 (dk_at dksX0_payOut_0 9 rfl rfl)
theorem dX0_payOut_10 : decode cX0_payOut 10 = .ok (.goto 11, 3) := dk_167 0 11 (dk_at dksX0_payOut_0 10 rfl rfl)
theorem dX0_payOut_13 : decode cX0_payOut 13 = .ok (.astore 4, 2) := dk_58 4 (dk_at dksX0_payOut_0 13 rfl rfl)
theorem dX0_payOut_15 : decode cX0_payOut 15 = .ok (.iconst 1, 1) := dk_4 (dk_at dksX0_payOut_0 15 rfl rfl)
theorem dX0_payOut_16 : decode cX0_payOut 16 = .ok (.ireturn, 1) := dk_172 (dk_at dksX0_payOut_0 16 rfl rfl)
theorem dX0_payOut_17 : decode cX0_payOut 17 = .ok (.astore 4, 2) := dk_58 4 (dk_at dksX0_payOut_0 17 rfl rfl)
theorem dX0_payOut_19 : decode cX0_payOut 19 = .ok (.iconst 2, 1) := dk_5 (dk_at dksX0_payOut_0 19 rfl rfl)
theorem dX0_payOut_20 : decode cX0_payOut 20 = .ok (.ireturn, 1) := dk_172 (dk_at dksX0_payOut_0 20 rfl rfl)
theorem dX0_payOut_21 : decode cX0_payOut 21 = .ok (.iconst 0, 1) := dk_3 (dk_at dksX0_payOut_0 21 rfl rfl)
theorem dX0_payOut_22 : decode cX0_payOut 22 = .ok (.ireturn, 1) := dk_172 (dk_at dksX0_payOut_0 22 rfl rfl)
abbrev cX0_pass : ByteArray := method_23_code
def yX0_pass : MethodName := ⟨RX0, "pass", "(LLostroom;I[J)I"⟩
def dkwX0_pass_0 : List UInt8 := [44, 3, 42, 27, 182, 0, 82, 133, 80, 167, 0, 9, 78, 4, 172, 78, 5, 172, 3, 172]
abbrev dktX0_pass_0 : List UInt8 := dkwX0_pass_0 ++ []
theorem dksX0_pass_0 : cX0_pass.data.toList.drop 0 = dktX0_pass_0 := by decide +kernel
theorem dX0_pass_0 : decode cX0_pass 0 = .ok (.aload_n 2, 1) := dk_44 (dk_at dksX0_pass_0 0 rfl rfl)
theorem dX0_pass_1 : decode cX0_pass 1 = .ok (.iconst 0, 1) := dk_3 (dk_at dksX0_pass_0 1 rfl rfl)
theorem dX0_pass_2 : decode cX0_pass 2 = .ok (.aload_n 0, 1) := dk_42 (dk_at dksX0_pass_0 2 rfl rfl)
theorem dX0_pass_3 : decode cX0_pass 3 = .ok (.iload_n 1, 1) := dk_27 (dk_at dksX0_pass_0 3 rfl rfl)
theorem dX0_pass_4 : decode cX0_pass 4 = .ok (.invokevirtual 82, 3) := dk_182 0 82 (dk_at dksX0_pass_0 4 rfl rfl)
theorem dX0_pass_7 : decode cX0_pass 7 = .ok (.i2l, 1) := dk_133 (dk_at dksX0_pass_0 7 rfl rfl)
theorem dX0_pass_8 : decode cX0_pass 8 = .ok (.lastore, 1) := dk_80 (dk_at dksX0_pass_0 8 rfl rfl)
theorem dX0_pass_9 : decode cX0_pass 9 = .ok (.goto 9, 3) := dk_167 0 9 (dk_at dksX0_pass_0 9 rfl rfl)
theorem dX0_pass_12 : decode cX0_pass 12 = .ok (.astore_n 3, 1) := dk_78 (dk_at dksX0_pass_0 12 rfl rfl)
theorem dX0_pass_13 : decode cX0_pass 13 = .ok (.iconst 1, 1) := dk_4 (dk_at dksX0_pass_0 13 rfl rfl)
theorem dX0_pass_14 : decode cX0_pass 14 = .ok (.ireturn, 1) := dk_172 (dk_at dksX0_pass_0 14 rfl rfl)
theorem dX0_pass_15 : decode cX0_pass 15 = .ok (.astore_n 3, 1) := dk_78 (dk_at dksX0_pass_0 15 rfl rfl)
theorem dX0_pass_16 : decode cX0_pass 16 = .ok (.iconst 2, 1) := dk_5 (dk_at dksX0_pass_0 16 rfl rfl)
theorem dX0_pass_17 : decode cX0_pass 17 = .ok (.ireturn, 1) := dk_172 (dk_at dksX0_pass_0 17 rfl rfl)
theorem dX0_pass_18 : decode cX0_pass 18 = .ok (.iconst 0, 1) := dk_3 (dk_at dksX0_pass_0 18 rfl rfl)
theorem dX0_pass_19 : decode cX0_pass 19 = .ok (.ireturn, 1) := dk_172 (dk_at dksX0_pass_0 19 rfl rfl)
abbrev cX0_fit : ByteArray := method_24_code
def yX0_fit : MethodName := ⟨RX0, "fit", "(LLostroom;II[J)I"⟩
def dkwX0_fit_0 : List UInt8 := [45, 3, 42, 27, 28, 182, 0, 85, 133, 80, 167, 0, 7, 58, 4, 4, 172, 3, 172]
abbrev dktX0_fit_0 : List UInt8 := dkwX0_fit_0 ++ []
theorem dksX0_fit_0 : cX0_fit.data.toList.drop 0 = dktX0_fit_0 := by decide +kernel
theorem dX0_fit_0 : decode cX0_fit 0 = .ok (.aload_n 3, 1) := dk_45 (dk_at dksX0_fit_0 0 rfl rfl)
theorem dX0_fit_1 : decode cX0_fit 1 = .ok (.iconst 0, 1) := dk_3 (dk_at dksX0_fit_0 1 rfl rfl)
theorem dX0_fit_2 : decode cX0_fit 2 = .ok (.aload_n 0, 1) := dk_42 (dk_at dksX0_fit_0 2 rfl rfl)
theorem dX0_fit_3 : decode cX0_fit 3 = .ok (.iload_n 1, 1) := dk_27 (dk_at dksX0_fit_0 3 rfl rfl)
theorem dX0_fit_4 : decode cX0_fit 4 = .ok (.iload_n 2, 1) := dk_28 (dk_at dksX0_fit_0 4 rfl rfl)
theorem dX0_fit_5 : decode cX0_fit 5 = .ok (.invokevirtual 85, 3) := dk_182 0 85 (dk_at dksX0_fit_0 5 rfl rfl)
theorem dX0_fit_8 : decode cX0_fit 8 = .ok (.i2l, 1) := dk_133 (dk_at dksX0_fit_0 8 rfl rfl)
theorem dX0_fit_9 : decode cX0_fit 9 = .ok (.lastore, 1) := dk_80 (dk_at dksX0_fit_0 9 rfl rfl)
theorem dX0_fit_10 : decode cX0_fit 10 = .ok (.goto 7, 3) := dk_167 0 7 (dk_at dksX0_fit_0 10 rfl rfl)
theorem dX0_fit_13 : decode cX0_fit 13 = .ok (.astore 4, 2) := dk_58 4 (dk_at dksX0_fit_0 13 rfl rfl)
theorem dX0_fit_15 : decode cX0_fit 15 = .ok (.iconst 1, 1) := dk_4 (dk_at dksX0_fit_0 15 rfl rfl)
theorem dX0_fit_16 : decode cX0_fit 16 = .ok (.ireturn, 1) := dk_172 (dk_at dksX0_fit_0 16 rfl rfl)
theorem dX0_fit_17 : decode cX0_fit 17 = .ok (.iconst 0, 1) := dk_3 (dk_at dksX0_fit_0 17 rfl rfl)
theorem dX0_fit_18 : decode cX0_fit 18 = .ok (.ireturn, 1) := dk_172 (dk_at dksX0_fit_0 18 rfl rfl)
abbrev cX0_candidate : ByteArray := method_25_code
def yX0_candidate : MethodName := ⟨RX0, "candidate", "(LLostroom;II[J)I"⟩
def dkwX0_candidate_0 : List UInt8 := [45, 3, 42, 27, 28, 182, 0, 88, 133, 80, 167, 0, 7, 58, 4, 4, 172, 3, 172]
abbrev dktX0_candidate_0 : List UInt8 := dkwX0_candidate_0 ++ []
theorem dksX0_candidate_0 : cX0_candidate.data.toList.drop 0 = dktX0_candidate_0 := by decide +kernel
theorem dX0_candidate_0 : decode cX0_candidate 0 = .ok (.aload_n 3, 1) := dk_45 (dk_at dksX0_candidate_0 0 rfl rfl)
theorem dX0_candidate_1 : decode cX0_candidate 1 = .ok (.iconst 0, 1) := dk_3 (dk_at dksX0_candidate_0 1 rfl rfl)
theorem dX0_candidate_2 : decode cX0_candidate 2 = .ok (.aload_n 0, 1) := dk_42 (dk_at dksX0_candidate_0 2 rfl rfl)
theorem dX0_candidate_3 : decode cX0_candidate 3 = .ok (.iload_n 1, 1) := dk_27 (dk_at dksX0_candidate_0 3 rfl rfl)
theorem dX0_candidate_4 : decode cX0_candidate 4 = .ok (.iload_n 2, 1) := dk_28 (dk_at dksX0_candidate_0 4 rfl rfl)
theorem dX0_candidate_5 : decode cX0_candidate 5 = .ok (.invokevirtual 88, 3) := dk_182 0 88 (dk_at dksX0_candidate_0 5 rfl rfl)
theorem dX0_candidate_8 : decode cX0_candidate 8 = .ok (.i2l, 1) := dk_133 (dk_at dksX0_candidate_0 8 rfl rfl)
theorem dX0_candidate_9 : decode cX0_candidate 9 = .ok (.lastore, 1) := dk_80 (dk_at dksX0_candidate_0 9 rfl rfl)
theorem dX0_candidate_10 : decode cX0_candidate 10 = .ok (.goto 7, 3) := dk_167 0 7 (dk_at dksX0_candidate_0 10 rfl rfl)
theorem dX0_candidate_13 : decode cX0_candidate 13 = .ok (.astore 4, 2) := dk_58 4 (dk_at dksX0_candidate_0 13 rfl rfl)
theorem dX0_candidate_15 : decode cX0_candidate 15 = .ok (.iconst 1, 1) := dk_4 (dk_at dksX0_candidate_0 15 rfl rfl)
theorem dX0_candidate_16 : decode cX0_candidate 16 = .ok (.ireturn, 1) := dk_172 (dk_at dksX0_candidate_0 16 rfl rfl)
theorem dX0_candidate_17 : decode cX0_candidate 17 = .ok (.iconst 0, 1) := dk_3 (dk_at dksX0_candidate_0 17 rfl rfl)
theorem dX0_candidate_18 : decode cX0_candidate 18 = .ok (.ireturn, 1) := dk_172 (dk_at dksX0_candidate_0 18 rfl rfl)
abbrev cX0_question : ByteArray := method_26_code
def yX0_question : MethodName := ⟨RX0, "question", "(LLostroom;I[J)I"⟩
def dkwX0_question_0 : List UInt8 := [44, 3, 42, 27, 182, 0, 91, 133, 80, 167, 0, 6, 78, 4, 172, 3, 172]
abbrev dktX0_question_0 : List UInt8 := dkwX0_question_0 ++ []
theorem dksX0_question_0 : cX0_question.data.toList.drop 0 = dktX0_question_0 := by decide +kernel
theorem dX0_question_0 : decode cX0_question 0 = .ok (.aload_n 2, 1) := dk_44 (dk_at dksX0_question_0 0 rfl rfl)
theorem dX0_question_1 : decode cX0_question 1 = .ok (.iconst 0, 1) := dk_3 (dk_at dksX0_question_0 1 rfl rfl)
theorem dX0_question_2 : decode cX0_question 2 = .ok (.aload_n 0, 1) := dk_42 (dk_at dksX0_question_0 2 rfl rfl)
theorem dX0_question_3 : decode cX0_question 3 = .ok (.iload_n 1, 1) := dk_27 (dk_at dksX0_question_0 3 rfl rfl)
theorem dX0_question_4 : decode cX0_question 4 = .ok (.invokevirtual 91, 3) := dk_182 0 91 (dk_at dksX0_question_0 4 rfl rfl)
theorem dX0_question_7 : decode cX0_question 7 = .ok (.i2l, 1) := dk_133 (dk_at dksX0_question_0 7 rfl rfl)
theorem dX0_question_8 : decode cX0_question 8 = .ok (.lastore, 1) := dk_80 (dk_at dksX0_question_0 8 rfl rfl)
theorem dX0_question_9 : decode cX0_question 9 = .ok (.goto 6, 3) := dk_167 0 6 (dk_at dksX0_question_0 9 rfl rfl)
theorem dX0_question_12 : decode cX0_question 12 = .ok (.astore_n 3, 1) := dk_78 (dk_at dksX0_question_0 12 rfl rfl)
theorem dX0_question_13 : decode cX0_question 13 = .ok (.iconst 1, 1) := dk_4 (dk_at dksX0_question_0 13 rfl rfl)
theorem dX0_question_14 : decode cX0_question 14 = .ok (.ireturn, 1) := dk_172 (dk_at dksX0_question_0 14 rfl rfl)
theorem dX0_question_15 : decode cX0_question 15 = .ok (.iconst 0, 1) := dk_3 (dk_at dksX0_question_0 15 rfl rfl)
theorem dX0_question_16 : decode cX0_question 16 = .ok (.ireturn, 1) := dk_172 (dk_at dksX0_question_0 16 rfl rfl)
abbrev cX0_isProven : ByteArray := method_27_code
def yX0_isProven : MethodName := ⟨RX0, "isProven", "(LLostroom;II[J)I"⟩
def dkwX0_isProven_1 : List UInt8 := [3, 172]
abbrev dktX0_isProven_1 : List UInt8 := dkwX0_isProven_1 ++ []
def dkwX0_isProven_0 : List UInt8 := [45, 3, 42, 27, 28, 182, 0, 94, 153, 0, 7, 10, 167, 0, 4, 9, 80, 167, 0, 7, 58, 4, 4, 172]
abbrev dktX0_isProven_0 : List UInt8 := dkwX0_isProven_0 ++ dktX0_isProven_1
theorem dksX0_isProven_0 : cX0_isProven.data.toList.drop 0 = dktX0_isProven_0 := by decide +kernel
theorem dksX0_isProven_1 : cX0_isProven.data.toList.drop 24 = dktX0_isProven_1 := dk_seg dksX0_isProven_0 24 rfl rfl
theorem dX0_isProven_0 : decode cX0_isProven 0 = .ok (.aload_n 3, 1) := dk_45 (dk_at dksX0_isProven_0 0 rfl rfl)
theorem dX0_isProven_1 : decode cX0_isProven 1 = .ok (.iconst 0, 1) := dk_3 (dk_at dksX0_isProven_0 1 rfl rfl)
theorem dX0_isProven_2 : decode cX0_isProven 2 = .ok (.aload_n 0, 1) := dk_42 (dk_at dksX0_isProven_0 2 rfl rfl)
theorem dX0_isProven_3 : decode cX0_isProven 3 = .ok (.iload_n 1, 1) := dk_27 (dk_at dksX0_isProven_0 3 rfl rfl)
theorem dX0_isProven_4 : decode cX0_isProven 4 = .ok (.iload_n 2, 1) := dk_28 (dk_at dksX0_isProven_0 4 rfl rfl)
theorem dX0_isProven_5 : decode cX0_isProven 5 = .ok (.invokevirtual 94, 3) := dk_182 0 94 (dk_at dksX0_isProven_0 5 rfl rfl)
theorem dX0_isProven_8 : decode cX0_isProven 8 = .ok (.ifCond .eq 7, 3) := dk_153 0 7 (dk_at dksX0_isProven_0 8 rfl rfl)
theorem dX0_isProven_11 : decode cX0_isProven 11 = .ok (.lconst 1, 1) := dk_10 (dk_at dksX0_isProven_0 11 rfl rfl)
theorem dX0_isProven_12 : decode cX0_isProven 12 = .ok (.goto 4, 3) := dk_167 0 4 (dk_at dksX0_isProven_0 12 rfl rfl)
theorem dX0_isProven_15 : decode cX0_isProven 15 = .ok (.lconst 0, 1) := dk_9 (dk_at dksX0_isProven_0 15 rfl rfl)
theorem dX0_isProven_16 : decode cX0_isProven 16 = .ok (.lastore, 1) := dk_80 (dk_at dksX0_isProven_0 16 rfl rfl)
theorem dX0_isProven_17 : decode cX0_isProven 17 = .ok (.goto 7, 3) := dk_167 0 7 (dk_at dksX0_isProven_0 17 rfl rfl)
theorem dX0_isProven_20 : decode cX0_isProven 20 = .ok (.astore 4, 2) := dk_58 4 (dk_at dksX0_isProven_0 20 rfl rfl)
theorem dX0_isProven_22 : decode cX0_isProven 22 = .ok (.iconst 1, 1) := dk_4 (dk_at dksX0_isProven_0 22 rfl rfl)
theorem dX0_isProven_23 : decode cX0_isProven 23 = .ok (.ireturn, 1) := dk_172 (dk_at dksX0_isProven_0 23 rfl rfl)
theorem dX0_isProven_24 : decode cX0_isProven 24 = .ok (.iconst 0, 1) := dk_3 (dk_at dksX0_isProven_1 0 rfl rfl)
theorem dX0_isProven_25 : decode cX0_isProven 25 = .ok (.ireturn, 1) := dk_172 (dk_at dksX0_isProven_1 1 rfl rfl)
abbrev cX0_isDue : ByteArray := method_28_code
def yX0_isDue : MethodName := ⟨RX0, "isDue", "(LLostroom;I[J)I"⟩
def dkwX0_isDue_0 : List UInt8 := [44, 3, 42, 27, 182, 0, 97, 153, 0, 7, 10, 167, 0, 4, 9, 80, 167, 0, 6, 78, 4, 172, 3, 172]
abbrev dktX0_isDue_0 : List UInt8 := dkwX0_isDue_0 ++ []
theorem dksX0_isDue_0 : cX0_isDue.data.toList.drop 0 = dktX0_isDue_0 := by decide +kernel
theorem dX0_isDue_0 : decode cX0_isDue 0 = .ok (.aload_n 2, 1) := dk_44 (dk_at dksX0_isDue_0 0 rfl rfl)
theorem dX0_isDue_1 : decode cX0_isDue 1 = .ok (.iconst 0, 1) := dk_3 (dk_at dksX0_isDue_0 1 rfl rfl)
theorem dX0_isDue_2 : decode cX0_isDue 2 = .ok (.aload_n 0, 1) := dk_42 (dk_at dksX0_isDue_0 2 rfl rfl)
theorem dX0_isDue_3 : decode cX0_isDue 3 = .ok (.iload_n 1, 1) := dk_27 (dk_at dksX0_isDue_0 3 rfl rfl)
theorem dX0_isDue_4 : decode cX0_isDue 4 = .ok (.invokevirtual 97, 3) := dk_182 0 97 (dk_at dksX0_isDue_0 4 rfl rfl)
theorem dX0_isDue_7 : decode cX0_isDue 7 = .ok (.ifCond .eq 7, 3) := dk_153 0 7 (dk_at dksX0_isDue_0 7 rfl rfl)
theorem dX0_isDue_10 : decode cX0_isDue 10 = .ok (.lconst 1, 1) := dk_10 (dk_at dksX0_isDue_0 10 rfl rfl)
theorem dX0_isDue_11 : decode cX0_isDue 11 = .ok (.goto 4, 3) := dk_167 0 4 (dk_at dksX0_isDue_0 11 rfl rfl)
theorem dX0_isDue_14 : decode cX0_isDue 14 = .ok (.lconst 0, 1) := dk_9 (dk_at dksX0_isDue_0 14 rfl rfl)
theorem dX0_isDue_15 : decode cX0_isDue 15 = .ok (.lastore, 1) := dk_80 (dk_at dksX0_isDue_0 15 rfl rfl)
theorem dX0_isDue_16 : decode cX0_isDue 16 = .ok (.goto 6, 3) := dk_167 0 6 (dk_at dksX0_isDue_0 16 rfl rfl)
theorem dX0_isDue_19 : decode cX0_isDue 19 = .ok (.astore_n 3, 1) := dk_78 (dk_at dksX0_isDue_0 19 rfl rfl)
theorem dX0_isDue_20 : decode cX0_isDue 20 = .ok (.iconst 1, 1) := dk_4 (dk_at dksX0_isDue_0 20 rfl rfl)
theorem dX0_isDue_21 : decode cX0_isDue 21 = .ok (.ireturn, 1) := dk_172 (dk_at dksX0_isDue_0 21 rfl rfl)
theorem dX0_isDue_22 : decode cX0_isDue 22 = .ok (.iconst 0, 1) := dk_3 (dk_at dksX0_isDue_0 22 rfl rfl)
theorem dX0_isDue_23 : decode cX0_isDue 23 = .ok (.ireturn, 1) := dk_172 (dk_at dksX0_isDue_0 23 rfl rfl)
abbrev cX0_ofFind : ByteArray := method_29_code
def yX0_ofFind : MethodName := ⟨RX0, "ofFind", "(LLostroom;II[J)I"⟩
def dkwX0_ofFind_0 : List UInt8 := [45, 3, 42, 27, 28, 182, 0, 101, 133, 80, 167, 0, 11, 58, 4, 4, 172, 58, 4, 5, 172, 3, 172]
abbrev dktX0_ofFind_0 : List UInt8 := dkwX0_ofFind_0 ++ []
theorem dksX0_ofFind_0 : cX0_ofFind.data.toList.drop 0 = dktX0_ofFind_0 := by decide +kernel
theorem dX0_ofFind_0 : decode cX0_ofFind 0 = .ok (.aload_n 3, 1) := dk_45 (dk_at dksX0_ofFind_0 0 rfl rfl)
theorem dX0_ofFind_1 : decode cX0_ofFind 1 = .ok (.iconst 0, 1) := dk_3 (dk_at dksX0_ofFind_0 1 rfl rfl)
theorem dX0_ofFind_2 : decode cX0_ofFind 2 = .ok (.aload_n 0, 1) := dk_42 (dk_at dksX0_ofFind_0 2 rfl rfl)
theorem dX0_ofFind_3 : decode cX0_ofFind 3 = .ok (.iload_n 1, 1) := dk_27 (dk_at dksX0_ofFind_0 3 rfl rfl)
theorem dX0_ofFind_4 : decode cX0_ofFind 4 = .ok (.iload_n 2, 1) := dk_28 (dk_at dksX0_ofFind_0 4 rfl rfl)
theorem dX0_ofFind_5 : decode cX0_ofFind 5 = .ok (.invokevirtual 101, 3) := dk_182 0 101 (dk_at dksX0_ofFind_0 5 rfl rfl)
theorem dX0_ofFind_8 : decode cX0_ofFind 8 = .ok (.i2l, 1) := dk_133 (dk_at dksX0_ofFind_0 8 rfl rfl)
theorem dX0_ofFind_9 : decode cX0_ofFind 9 = .ok (.lastore, 1) := dk_80 (dk_at dksX0_ofFind_0 9 rfl rfl)
theorem dX0_ofFind_10 : decode cX0_ofFind 10 = .ok (.goto 11, 3) := dk_167 0 11 (dk_at dksX0_ofFind_0 10 rfl rfl)
theorem dX0_ofFind_13 : decode cX0_ofFind 13 = .ok (.astore 4, 2) := dk_58 4 (dk_at dksX0_ofFind_0 13 rfl rfl)
theorem dX0_ofFind_15 : decode cX0_ofFind 15 = .ok (.iconst 1, 1) := dk_4 (dk_at dksX0_ofFind_0 15 rfl rfl)
theorem dX0_ofFind_16 : decode cX0_ofFind 16 = .ok (.ireturn, 1) := dk_172 (dk_at dksX0_ofFind_0 16 rfl rfl)
theorem dX0_ofFind_17 : decode cX0_ofFind 17 = .ok (.astore 4, 2) := dk_58 4 (dk_at dksX0_ofFind_0 17 rfl rfl)
theorem dX0_ofFind_19 : decode cX0_ofFind 19 = .ok (.iconst 2, 1) := dk_5 (dk_at dksX0_ofFind_0 19 rfl rfl)
theorem dX0_ofFind_20 : decode cX0_ofFind 20 = .ok (.ireturn, 1) := dk_172 (dk_at dksX0_ofFind_0 20 rfl rfl)
theorem dX0_ofFind_21 : decode cX0_ofFind 21 = .ok (.iconst 0, 1) := dk_3 (dk_at dksX0_ofFind_0 21 rfl rfl)
theorem dX0_ofFind_22 : decode cX0_ofFind 22 = .ok (.ireturn, 1) := dk_172 (dk_at dksX0_ofFind_0 22 rfl rfl)
abbrev cX0_hand : ByteArray := method_30_code
def yX0_hand : MethodName := ⟨RX0, "hand", "(LLostroom;IIZ[J)I"⟩
def dkwX0_hand_0 : List UInt8 := [25, 4, 3, 42, 27, 28, 29, 182, 0, 104, 133, 80, 167, 0, 7, 58, 5, 4, 172, 3, 172]
abbrev dktX0_hand_0 : List UInt8 := dkwX0_hand_0 ++ []
theorem dksX0_hand_0 : cX0_hand.data.toList.drop 0 = dktX0_hand_0 := by decide +kernel
theorem dX0_hand_0 : decode cX0_hand 0 = .ok (.aload 4, 2) := dk_25 4 (dk_at dksX0_hand_0 0 rfl rfl)
theorem dX0_hand_2 : decode cX0_hand 2 = .ok (.iconst 0, 1) := dk_3 (dk_at dksX0_hand_0 2 rfl rfl)
theorem dX0_hand_3 : decode cX0_hand 3 = .ok (.aload_n 0, 1) := dk_42 (dk_at dksX0_hand_0 3 rfl rfl)
theorem dX0_hand_4 : decode cX0_hand 4 = .ok (.iload_n 1, 1) := dk_27 (dk_at dksX0_hand_0 4 rfl rfl)
theorem dX0_hand_5 : decode cX0_hand 5 = .ok (.iload_n 2, 1) := dk_28 (dk_at dksX0_hand_0 5 rfl rfl)
theorem dX0_hand_6 : decode cX0_hand 6 = .ok (.iload_n 3, 1) := dk_29 (dk_at dksX0_hand_0 6 rfl rfl)
theorem dX0_hand_7 : decode cX0_hand 7 = .ok (.invokevirtual 104, 3) := dk_182 0 104 (dk_at dksX0_hand_0 7 rfl rfl)
theorem dX0_hand_10 : decode cX0_hand 10 = .ok (.i2l, 1) := dk_133 (dk_at dksX0_hand_0 10 rfl rfl)
theorem dX0_hand_11 : decode cX0_hand 11 = .ok (.lastore, 1) := dk_80 (dk_at dksX0_hand_0 11 rfl rfl)
theorem dX0_hand_12 : decode cX0_hand 12 = .ok (.goto 7, 3) := dk_167 0 7 (dk_at dksX0_hand_0 12 rfl rfl)
theorem dX0_hand_15 : decode cX0_hand 15 = .ok (.astore 5, 2) := dk_58 5 (dk_at dksX0_hand_0 15 rfl rfl)
theorem dX0_hand_17 : decode cX0_hand 17 = .ok (.iconst 1, 1) := dk_4 (dk_at dksX0_hand_0 17 rfl rfl)
theorem dX0_hand_18 : decode cX0_hand 18 = .ok (.ireturn, 1) := dk_172 (dk_at dksX0_hand_0 18 rfl rfl)
theorem dX0_hand_19 : decode cX0_hand 19 = .ok (.iconst 0, 1) := dk_3 (dk_at dksX0_hand_0 19 rfl rfl)
theorem dX0_hand_20 : decode cX0_hand 20 = .ok (.ireturn, 1) := dk_172 (dk_at dksX0_hand_0 20 rfl rfl)
abbrev cX0_ofClaim : ByteArray := method_31_code
def yX0_ofClaim : MethodName := ⟨RX0, "ofClaim", "(LLostroom;II[J)I"⟩
def dkwX0_ofClaim_0 : List UInt8 := [45, 3, 42, 27, 28, 182, 0, 108, 133, 80, 167, 0, 11, 58, 4, 4, 172, 58, 4, 5, 172, 3, 172]
abbrev dktX0_ofClaim_0 : List UInt8 := dkwX0_ofClaim_0 ++ []
theorem dksX0_ofClaim_0 : cX0_ofClaim.data.toList.drop 0 = dktX0_ofClaim_0 := by decide +kernel
theorem dX0_ofClaim_0 : decode cX0_ofClaim 0 = .ok (.aload_n 3, 1) := dk_45 (dk_at dksX0_ofClaim_0 0 rfl rfl)
theorem dX0_ofClaim_1 : decode cX0_ofClaim 1 = .ok (.iconst 0, 1) := dk_3 (dk_at dksX0_ofClaim_0 1 rfl rfl)
theorem dX0_ofClaim_2 : decode cX0_ofClaim 2 = .ok (.aload_n 0, 1) := dk_42 (dk_at dksX0_ofClaim_0 2 rfl rfl)
theorem dX0_ofClaim_3 : decode cX0_ofClaim 3 = .ok (.iload_n 1, 1) := dk_27 (dk_at dksX0_ofClaim_0 3 rfl rfl)
theorem dX0_ofClaim_4 : decode cX0_ofClaim 4 = .ok (.iload_n 2, 1) := dk_28 (dk_at dksX0_ofClaim_0 4 rfl rfl)
theorem dX0_ofClaim_5 : decode cX0_ofClaim 5 = .ok (.invokevirtual 108, 3) := dk_182 0 108 (dk_at dksX0_ofClaim_0 5 rfl rfl)
theorem dX0_ofClaim_8 : decode cX0_ofClaim 8 = .ok (.i2l, 1) := dk_133 (dk_at dksX0_ofClaim_0 8 rfl rfl)
theorem dX0_ofClaim_9 : decode cX0_ofClaim 9 = .ok (.lastore, 1) := dk_80 (dk_at dksX0_ofClaim_0 9 rfl rfl)
theorem dX0_ofClaim_10 : decode cX0_ofClaim 10 = .ok (.goto 11, 3) := dk_167 0 11 (dk_at dksX0_ofClaim_0 10 rfl rfl)
theorem dX0_ofClaim_13 : decode cX0_ofClaim 13 = .ok (.astore 4, 2) := dk_58 4 (dk_at dksX0_ofClaim_0 13 rfl rfl)
theorem dX0_ofClaim_15 : decode cX0_ofClaim 15 = .ok (.iconst 1, 1) := dk_4 (dk_at dksX0_ofClaim_0 15 rfl rfl)
theorem dX0_ofClaim_16 : decode cX0_ofClaim 16 = .ok (.ireturn, 1) := dk_172 (dk_at dksX0_ofClaim_0 16 rfl rfl)
theorem dX0_ofClaim_17 : decode cX0_ofClaim 17 = .ok (.astore 4, 2) := dk_58 4 (dk_at dksX0_ofClaim_0 17 rfl rfl)
theorem dX0_ofClaim_19 : decode cX0_ofClaim 19 = .ok (.iconst 2, 1) := dk_5 (dk_at dksX0_ofClaim_0 19 rfl rfl)
theorem dX0_ofClaim_20 : decode cX0_ofClaim 20 = .ok (.ireturn, 1) := dk_172 (dk_at dksX0_ofClaim_0 20 rfl rfl)
theorem dX0_ofClaim_21 : decode cX0_ofClaim 21 = .ok (.iconst 0, 1) := dk_3 (dk_at dksX0_ofClaim_0 21 rfl rfl)
theorem dX0_ofClaim_22 : decode cX0_ofClaim 22 = .ok (.ireturn, 1) := dk_172 (dk_at dksX0_ofClaim_0 22 rfl rfl)
abbrev cX0_money : ByteArray := method_32_code
def yX0_money : MethodName := ⟨RX0, "money", "(LLostroom;I[J)I"⟩
def dkwX0_money_0 : List UInt8 := [44, 3, 42, 27, 182, 0, 111, 133, 80, 167, 0, 6, 78, 4, 172, 3, 172]
abbrev dktX0_money_0 : List UInt8 := dkwX0_money_0 ++ []
theorem dksX0_money_0 : cX0_money.data.toList.drop 0 = dktX0_money_0 := by decide +kernel
theorem dX0_money_0 : decode cX0_money 0 = .ok (.aload_n 2, 1) := dk_44 (dk_at dksX0_money_0 0 rfl rfl)
theorem dX0_money_1 : decode cX0_money 1 = .ok (.iconst 0, 1) := dk_3 (dk_at dksX0_money_0 1 rfl rfl)
theorem dX0_money_2 : decode cX0_money 2 = .ok (.aload_n 0, 1) := dk_42 (dk_at dksX0_money_0 2 rfl rfl)
theorem dX0_money_3 : decode cX0_money 3 = .ok (.iload_n 1, 1) := dk_27 (dk_at dksX0_money_0 3 rfl rfl)
theorem dX0_money_4 : decode cX0_money 4 = .ok (.invokevirtual 111, 3) := dk_182 0 111 (dk_at dksX0_money_0 4 rfl rfl)
theorem dX0_money_7 : decode cX0_money 7 = .ok (.i2l, 1) := dk_133 (dk_at dksX0_money_0 7 rfl rfl)
theorem dX0_money_8 : decode cX0_money 8 = .ok (.lastore, 1) := dk_80 (dk_at dksX0_money_0 8 rfl rfl)
theorem dX0_money_9 : decode cX0_money 9 = .ok (.goto 6, 3) := dk_167 0 6 (dk_at dksX0_money_0 9 rfl rfl)
theorem dX0_money_12 : decode cX0_money 12 = .ok (.astore_n 3, 1) := dk_78 (dk_at dksX0_money_0 12 rfl rfl)
theorem dX0_money_13 : decode cX0_money 13 = .ok (.iconst 1, 1) := dk_4 (dk_at dksX0_money_0 13 rfl rfl)
theorem dX0_money_14 : decode cX0_money 14 = .ok (.ireturn, 1) := dk_172 (dk_at dksX0_money_0 14 rfl rfl)
theorem dX0_money_15 : decode cX0_money 15 = .ok (.iconst 0, 1) := dk_3 (dk_at dksX0_money_0 15 rfl rfl)
theorem dX0_money_16 : decode cX0_money 16 = .ok (.ireturn, 1) := dk_172 (dk_at dksX0_money_0 16 rfl rfl)
abbrev cX0_audit : ByteArray := method_33_code
def yX0_audit : MethodName := ⟨RX0, "audit", "(LLostroom;I[J)I"⟩
def dkwX0_audit_0 : List UInt8 := [44, 3, 42, 27, 182, 0, 114, 133, 80, 167, 0, 6, 78, 4, 172, 3, 172]
abbrev dktX0_audit_0 : List UInt8 := dkwX0_audit_0 ++ []
theorem dksX0_audit_0 : cX0_audit.data.toList.drop 0 = dktX0_audit_0 := by decide +kernel
theorem dX0_audit_0 : decode cX0_audit 0 = .ok (.aload_n 2, 1) := dk_44 (dk_at dksX0_audit_0 0 rfl rfl)
theorem dX0_audit_1 : decode cX0_audit 1 = .ok (.iconst 0, 1) := dk_3 (dk_at dksX0_audit_0 1 rfl rfl)
theorem dX0_audit_2 : decode cX0_audit 2 = .ok (.aload_n 0, 1) := dk_42 (dk_at dksX0_audit_0 2 rfl rfl)
theorem dX0_audit_3 : decode cX0_audit 3 = .ok (.iload_n 1, 1) := dk_27 (dk_at dksX0_audit_0 3 rfl rfl)
theorem dX0_audit_4 : decode cX0_audit 4 = .ok (.invokevirtual 114, 3) := dk_182 0 114 (dk_at dksX0_audit_0 4 rfl rfl)
theorem dX0_audit_7 : decode cX0_audit 7 = .ok (.i2l, 1) := dk_133 (dk_at dksX0_audit_0 7 rfl rfl)
theorem dX0_audit_8 : decode cX0_audit 8 = .ok (.lastore, 1) := dk_80 (dk_at dksX0_audit_0 8 rfl rfl)
theorem dX0_audit_9 : decode cX0_audit 9 = .ok (.goto 6, 3) := dk_167 0 6 (dk_at dksX0_audit_0 9 rfl rfl)
theorem dX0_audit_12 : decode cX0_audit 12 = .ok (.astore_n 3, 1) := dk_78 (dk_at dksX0_audit_0 12 rfl rfl)
theorem dX0_audit_13 : decode cX0_audit 13 = .ok (.iconst 1, 1) := dk_4 (dk_at dksX0_audit_0 13 rfl rfl)
theorem dX0_audit_14 : decode cX0_audit 14 = .ok (.ireturn, 1) := dk_172 (dk_at dksX0_audit_0 14 rfl rfl)
theorem dX0_audit_15 : decode cX0_audit 15 = .ok (.iconst 0, 1) := dk_3 (dk_at dksX0_audit_0 15 rfl rfl)
theorem dX0_audit_16 : decode cX0_audit 16 = .ok (.ireturn, 1) := dk_172 (dk_at dksX0_audit_0 16 rfl rfl)
theorem q32 : (Jvm.Cond.initialized "LostroomLaw") ∈ lw_all := lw_g (lw_at lw_m1 0 rfl) rfl
theorem q60 : (Jvm.Cond.classLink "LostroomLaw" (8 : Nat) "Lostroom") ∈ lw_all := lw_g (lw_at lw_m1 28 rfl) rfl
theorem q62 : (Jvm.Cond.methodLink "LostroomLaw" (117 : Nat) ({ cls := "Lostroom", name := "<init>", desc := "()V" } : Jvm.MethodName)) ∈ lw_all := lw_g (lw_at lw_m1 30 rfl) rfl
theorem q206 : (Jvm.Cond.methodLink "LostroomLaw" (196 : Nat) ({ cls := "Lostroom", name := "today", desc := "()I" } : Jvm.MethodName)) ∈ lw_all := lw_g (lw_at lw_m1 174 rfl) rfl
theorem q210 : (Jvm.Cond.methodLink "LostroomLaw" (121 : Nat) ({ cls := "LostroomLaw", name := "near", desc := "(LLostroom;II[J)I" } : Jvm.MethodName)) ∈ lw_all := lw_g (lw_at lw_m1 178 rfl) rfl
theorem q211 : (Jvm.Cond.static ({ cls := "LostroomLaw", name := "near", desc := "(LLostroom;II[J)I" } : Jvm.MethodName)) ∈ lw_all := lw_g (lw_at lw_m1 179 rfl) rfl
theorem q212 : (Jvm.Cond.codeWith ({ cls := "LostroomLaw", name := "near", desc := "(LLostroom;II[J)I" } : Jvm.MethodName) method_3_code (5 : Nat) (Option.some Jvm.ClassFile.FieldType.int) [((0 : Nat), (17 : Nat), (20 : Nat), (13 : Nat)), ((0 : Nat), (17 : Nat), (24 : Nat), (15 : Nat))]) ∈ lw_all := lw_g (lw_at lw_m1 180 rfl) rfl
theorem q213 : (Jvm.Cond.classLink "LostroomLaw" (13 : Nat) "java/lang/IndexOutOfBoundsException") ∈ lw_all := lw_g (lw_at lw_m1 181 rfl) rfl
theorem q290 : (Jvm.Cond.classLink "LostroomLaw" (15 : Nat) "java/lang/IllegalArgumentException") ∈ lw_all := lw_g (lw_at lw_m2 18 rfl) rfl
theorem q291 : (Jvm.Cond.methodLink "LostroomLaw" (7 : Nat) ({ cls := "Lostroom", name := "near", desc := "(II)Z" } : Jvm.MethodName)) ∈ lw_all := lw_g (lw_at lw_m2 19 rfl) rfl
theorem q343 : (Jvm.Cond.methodLink "LostroomLaw" (131 : Nat) ({ cls := "LostroomLaw", name := "alike", desc := "(LLostroom;II[J)I" } : Jvm.MethodName)) ∈ lw_all := lw_g (lw_at lw_m2 71 rfl) rfl
theorem q344 : (Jvm.Cond.static ({ cls := "LostroomLaw", name := "alike", desc := "(LLostroom;II[J)I" } : Jvm.MethodName)) ∈ lw_all := lw_g (lw_at lw_m2 72 rfl) rfl
theorem q345 : (Jvm.Cond.codeWith ({ cls := "LostroomLaw", name := "alike", desc := "(LLostroom;II[J)I" } : Jvm.MethodName) method_4_code (5 : Nat) (Option.some Jvm.ClassFile.FieldType.int) [((0 : Nat), (17 : Nat), (20 : Nat), (13 : Nat)), ((0 : Nat), (17 : Nat), (24 : Nat), (15 : Nat))]) ∈ lw_all := lw_g (lw_at lw_m2 73 rfl) rfl
theorem q346 : (Jvm.Cond.methodLink "LostroomLaw" (17 : Nat) ({ cls := "Lostroom", name := "alike", desc := "(II)Z" } : Jvm.MethodName)) ∈ lw_all := lw_g (lw_at lw_m2 74 rfl) rfl
theorem q353 : (Jvm.Cond.methodLink "LostroomLaw" (134 : Nat) ({ cls := "LostroomLaw", name := "rule", desc := "(LLostroom;III[J)I" } : Jvm.MethodName)) ∈ lw_all := lw_g (lw_at lw_m2 81 rfl) rfl
theorem q354 : (Jvm.Cond.static ({ cls := "LostroomLaw", name := "rule", desc := "(LLostroom;III[J)I" } : Jvm.MethodName)) ∈ lw_all := lw_g (lw_at lw_m2 82 rfl) rfl
theorem q355 : (Jvm.Cond.codeWith ({ cls := "LostroomLaw", name := "rule", desc := "(LLostroom;III[J)I" } : Jvm.MethodName) method_5_code (6 : Nat) (Option.some Jvm.ClassFile.FieldType.int) [((0 : Nat), (12 : Nat), (15 : Nat), (13 : Nat)), ((0 : Nat), (12 : Nat), (19 : Nat), (15 : Nat))]) ∈ lw_all := lw_g (lw_at lw_m2 83 rfl) rfl
theorem q356 : (Jvm.Cond.methodLink "LostroomLaw" (20 : Nat) ({ cls := "Lostroom", name := "rule", desc := "(III)I" } : Jvm.MethodName)) ∈ lw_all := lw_g (lw_at lw_m2 84 rfl) rfl
theorem q360 : (Jvm.Cond.methodLink "LostroomLaw" (138 : Nat) ({ cls := "LostroomLaw", name := "stop", desc := "(LLostroom;II[J)I" } : Jvm.MethodName)) ∈ lw_all := lw_g (lw_at lw_m2 88 rfl) rfl
theorem q361 : (Jvm.Cond.static ({ cls := "LostroomLaw", name := "stop", desc := "(LLostroom;II[J)I" } : Jvm.MethodName)) ∈ lw_all := lw_g (lw_at lw_m2 89 rfl) rfl
theorem q362 : (Jvm.Cond.codeWith ({ cls := "LostroomLaw", name := "stop", desc := "(LLostroom;II[J)I" } : Jvm.MethodName) method_6_code (5 : Nat) (Option.some Jvm.ClassFile.FieldType.int) [((0 : Nat), (10 : Nat), (13 : Nat), (13 : Nat)), ((0 : Nat), (10 : Nat), (17 : Nat), (28 : Nat))]) ∈ lw_all := lw_g (lw_at lw_m2 90 rfl) rfl
theorem q363 : (Jvm.Cond.classLink "LostroomLaw" (28 : Nat) "java/lang/IllegalStateException") ∈ lw_all := lw_g (lw_at lw_m2 91 rfl) rfl
theorem q364 : (Jvm.Cond.methodLink "LostroomLaw" (24 : Nat) ({ cls := "Lostroom", name := "stop", desc := "(II)I" } : Jvm.MethodName)) ∈ lw_all := lw_g (lw_at lw_m2 92 rfl) rfl
theorem q475 : (Jvm.Cond.methodLink "LostroomLaw" (141 : Nat) ({ cls := "LostroomLaw", name := "threshold", desc := "(LLostroom;I[J)I" } : Jvm.MethodName)) ∈ lw_all := lw_g (lw_at lw_m2 203 rfl) rfl
theorem q476 : (Jvm.Cond.static ({ cls := "LostroomLaw", name := "threshold", desc := "(LLostroom;I[J)I" } : Jvm.MethodName)) ∈ lw_all := lw_g (lw_at lw_m2 204 rfl) rfl
theorem q477 : (Jvm.Cond.codeWith ({ cls := "LostroomLaw", name := "threshold", desc := "(LLostroom;I[J)I" } : Jvm.MethodName) method_7_code (4 : Nat) (Option.some Jvm.ClassFile.FieldType.int) [((0 : Nat), (9 : Nat), (12 : Nat), (15 : Nat))]) ∈ lw_all := lw_g (lw_at lw_m2 205 rfl) rfl
theorem q478 : (Jvm.Cond.methodLink "LostroomLaw" (30 : Nat) ({ cls := "Lostroom", name := "threshold", desc := "(I)I" } : Jvm.MethodName)) ∈ lw_all := lw_g (lw_at lw_m2 206 rfl) rfl
theorem q482 : (Jvm.Cond.methodLink "LostroomLaw" (145 : Nat) ({ cls := "LostroomLaw", name := "find", desc := "(LLostroom;IIIIIII[J)I" } : Jvm.MethodName)) ∈ lw_all := lw_g (lw_at lw_m2 210 rfl) rfl
theorem q483 : (Jvm.Cond.static ({ cls := "LostroomLaw", name := "find", desc := "(LLostroom;IIIIIII[J)I" } : Jvm.MethodName)) ∈ lw_all := lw_g (lw_at lw_m2 211 rfl) rfl
theorem q484 : (Jvm.Cond.codeWith ({ cls := "LostroomLaw", name := "find", desc := "(LLostroom;IIIIIII[J)I" } : Jvm.MethodName) method_8_code (10 : Nat) (Option.some Jvm.ClassFile.FieldType.int) [((0 : Nat), (20 : Nat), (23 : Nat), (13 : Nat)), ((0 : Nat), (20 : Nat), (27 : Nat), (15 : Nat)), ((0 : Nat), (20 : Nat), (31 : Nat), (28 : Nat))]) ∈ lw_all := lw_g (lw_at lw_m2 212 rfl) rfl
theorem q485 : (Jvm.Cond.methodLink "LostroomLaw" (34 : Nat) ({ cls := "Lostroom", name := "find", desc := "(IIIIIII)I" } : Jvm.MethodName)) ∈ lw_all := lw_g (lw_at lw_m2 213 rfl) rfl
theorem q579 : (Jvm.Cond.methodLink "LostroomLaw" (149 : Nat) ({ cls := "LostroomLaw", name := "see", desc := "(LLostroom;II[J)I" } : Jvm.MethodName)) ∈ lw_all := lw_g (lw_at lw_m3 67 rfl) rfl
theorem q580 : (Jvm.Cond.static ({ cls := "LostroomLaw", name := "see", desc := "(LLostroom;II[J)I" } : Jvm.MethodName)) ∈ lw_all := lw_g (lw_at lw_m3 68 rfl) rfl
theorem q581 : (Jvm.Cond.codeWith ({ cls := "LostroomLaw", name := "see", desc := "(LLostroom;II[J)I" } : Jvm.MethodName) method_9_code (5 : Nat) (Option.some Jvm.ClassFile.FieldType.int) [((0 : Nat), (10 : Nat), (13 : Nat), (13 : Nat)), ((0 : Nat), (10 : Nat), (17 : Nat), (15 : Nat)), ((0 : Nat), (10 : Nat), (21 : Nat), (28 : Nat))]) ∈ lw_all := lw_g (lw_at lw_m3 69 rfl) rfl
theorem q582 : (Jvm.Cond.methodLink "LostroomLaw" (38 : Nat) ({ cls := "Lostroom", name := "see", desc := "(II)I" } : Jvm.MethodName)) ∈ lw_all := lw_g (lw_at lw_m3 70 rfl) rfl
theorem q596 : (Jvm.Cond.methodLink "LostroomLaw" (152 : Nat) ({ cls := "LostroomLaw", name := "send", desc := "(LLostroom;II[J)I" } : Jvm.MethodName)) ∈ lw_all := lw_g (lw_at lw_m3 84 rfl) rfl
theorem q597 : (Jvm.Cond.static ({ cls := "LostroomLaw", name := "send", desc := "(LLostroom;II[J)I" } : Jvm.MethodName)) ∈ lw_all := lw_g (lw_at lw_m3 85 rfl) rfl
theorem q598 : (Jvm.Cond.codeWith ({ cls := "LostroomLaw", name := "send", desc := "(LLostroom;II[J)I" } : Jvm.MethodName) method_10_code (5 : Nat) (Option.some Jvm.ClassFile.FieldType.int) [((0 : Nat), (10 : Nat), (13 : Nat), (13 : Nat)), ((0 : Nat), (10 : Nat), (17 : Nat), (28 : Nat))]) ∈ lw_all := lw_g (lw_at lw_m3 86 rfl) rfl
theorem q599 : (Jvm.Cond.methodLink "LostroomLaw" (41 : Nat) ({ cls := "Lostroom", name := "send", desc := "(II)I" } : Jvm.MethodName)) ∈ lw_all := lw_g (lw_at lw_m3 87 rfl) rfl
theorem q603 : (Jvm.Cond.methodLink "LostroomLaw" (155 : Nat) ({ cls := "LostroomLaw", name := "lose", desc := "(LLostroom;I[J)I" } : Jvm.MethodName)) ∈ lw_all := lw_g (lw_at lw_m3 91 rfl) rfl
theorem q604 : (Jvm.Cond.static ({ cls := "LostroomLaw", name := "lose", desc := "(LLostroom;I[J)I" } : Jvm.MethodName)) ∈ lw_all := lw_g (lw_at lw_m3 92 rfl) rfl
theorem q605 : (Jvm.Cond.codeWith ({ cls := "LostroomLaw", name := "lose", desc := "(LLostroom;I[J)I" } : Jvm.MethodName) method_11_code (4 : Nat) (Option.some Jvm.ClassFile.FieldType.int) [((0 : Nat), (9 : Nat), (12 : Nat), (13 : Nat))]) ∈ lw_all := lw_g (lw_at lw_m3 93 rfl) rfl
theorem q606 : (Jvm.Cond.methodLink "LostroomLaw" (44 : Nat) ({ cls := "Lostroom", name := "lose", desc := "(I)I" } : Jvm.MethodName)) ∈ lw_all := lw_g (lw_at lw_m3 94 rfl) rfl
theorem q661 : (Jvm.Cond.methodLink "LostroomLaw" (158 : Nat) ({ cls := "LostroomLaw", name := "turnUp", desc := "(LLostroom;II[J)I" } : Jvm.MethodName)) ∈ lw_all := lw_g (lw_at lw_m3 149 rfl) rfl
theorem q662 : (Jvm.Cond.static ({ cls := "LostroomLaw", name := "turnUp", desc := "(LLostroom;II[J)I" } : Jvm.MethodName)) ∈ lw_all := lw_g (lw_at lw_m3 150 rfl) rfl
theorem q663 : (Jvm.Cond.codeWith ({ cls := "LostroomLaw", name := "turnUp", desc := "(LLostroom;II[J)I" } : Jvm.MethodName) method_12_code (5 : Nat) (Option.some Jvm.ClassFile.FieldType.int) [((0 : Nat), (10 : Nat), (13 : Nat), (13 : Nat)), ((0 : Nat), (10 : Nat), (17 : Nat), (28 : Nat))]) ∈ lw_all := lw_g (lw_at lw_m3 151 rfl) rfl
theorem q664 : (Jvm.Cond.methodLink "LostroomLaw" (47 : Nat) ({ cls := "Lostroom", name := "turnUp", desc := "(II)I" } : Jvm.MethodName)) ∈ lw_all := lw_g (lw_at lw_m3 152 rfl) rfl
theorem q688 : (Jvm.Cond.methodLink "LostroomLaw" (161 : Nat) ({ cls := "LostroomLaw", name := "hold", desc := "(LLostroom;IZ[J)I" } : Jvm.MethodName)) ∈ lw_all := lw_g (lw_at lw_m3 176 rfl) rfl
theorem q689 : (Jvm.Cond.static ({ cls := "LostroomLaw", name := "hold", desc := "(LLostroom;IZ[J)I" } : Jvm.MethodName)) ∈ lw_all := lw_g (lw_at lw_m3 177 rfl) rfl
theorem q690 : (Jvm.Cond.codeWith ({ cls := "LostroomLaw", name := "hold", desc := "(LLostroom;IZ[J)I" } : Jvm.MethodName) method_13_code (5 : Nat) (Option.some Jvm.ClassFile.FieldType.int) [((0 : Nat), (17 : Nat), (20 : Nat), (13 : Nat)), ((0 : Nat), (17 : Nat), (24 : Nat), (28 : Nat))]) ∈ lw_all := lw_g (lw_at lw_m3 178 rfl) rfl
theorem q691 : (Jvm.Cond.methodLink "LostroomLaw" (50 : Nat) ({ cls := "Lostroom", name := "hold", desc := "(IZ)Z" } : Jvm.MethodName)) ∈ lw_all := lw_g (lw_at lw_m3 179 rfl) rfl
theorem q699 : (Jvm.Cond.methodLink "LostroomLaw" (165 : Nat) ({ cls := "LostroomLaw", name := "claim", desc := "(LLostroom;IIIII[J)I" } : Jvm.MethodName)) ∈ lw_all := lw_g (lw_at lw_m3 187 rfl) rfl
theorem q700 : (Jvm.Cond.static ({ cls := "LostroomLaw", name := "claim", desc := "(LLostroom;IIIII[J)I" } : Jvm.MethodName)) ∈ lw_all := lw_g (lw_at lw_m3 188 rfl) rfl
theorem q701 : (Jvm.Cond.codeWith ({ cls := "LostroomLaw", name := "claim", desc := "(LLostroom;IIIII[J)I" } : Jvm.MethodName) method_14_code (8 : Nat) (Option.some Jvm.ClassFile.FieldType.int) [((0 : Nat), (16 : Nat), (19 : Nat), (13 : Nat)), ((0 : Nat), (16 : Nat), (23 : Nat), (15 : Nat)), ((0 : Nat), (16 : Nat), (27 : Nat), (28 : Nat))]) ∈ lw_all := lw_g (lw_at lw_m3 189 rfl) rfl
theorem q702 : (Jvm.Cond.methodLink "LostroomLaw" (54 : Nat) ({ cls := "Lostroom", name := "claim", desc := "(IIIII)I" } : Jvm.MethodName)) ∈ lw_all := lw_g (lw_at lw_m3 190 rfl) rfl
theorem q752 : (Jvm.Cond.methodLink "LostroomLaw" (169 : Nat) ({ cls := "LostroomLaw", name := "say", desc := "(LLostroom;II[J)I" } : Jvm.MethodName)) ∈ lw_all := lw_g (lw_at lw_m4 0 rfl) rfl
theorem q753 : (Jvm.Cond.static ({ cls := "LostroomLaw", name := "say", desc := "(LLostroom;II[J)I" } : Jvm.MethodName)) ∈ lw_all := lw_g (lw_at lw_m4 1 rfl) rfl
theorem q754 : (Jvm.Cond.codeWith ({ cls := "LostroomLaw", name := "say", desc := "(LLostroom;II[J)I" } : Jvm.MethodName) method_15_code (5 : Nat) (Option.some Jvm.ClassFile.FieldType.int) [((0 : Nat), (10 : Nat), (13 : Nat), (13 : Nat)), ((0 : Nat), (10 : Nat), (17 : Nat), (15 : Nat)), ((0 : Nat), (10 : Nat), (21 : Nat), (28 : Nat))]) ∈ lw_all := lw_g (lw_at lw_m4 2 rfl) rfl
theorem q755 : (Jvm.Cond.methodLink "LostroomLaw" (58 : Nat) ({ cls := "Lostroom", name := "say", desc := "(II)I" } : Jvm.MethodName)) ∈ lw_all := lw_g (lw_at lw_m4 3 rfl) rfl
theorem q763 : (Jvm.Cond.methodLink "LostroomLaw" (172 : Nat) ({ cls := "LostroomLaw", name := "tell", desc := "(LLostroom;II[J)I" } : Jvm.MethodName)) ∈ lw_all := lw_g (lw_at lw_m4 11 rfl) rfl
theorem q764 : (Jvm.Cond.static ({ cls := "LostroomLaw", name := "tell", desc := "(LLostroom;II[J)I" } : Jvm.MethodName)) ∈ lw_all := lw_g (lw_at lw_m4 12 rfl) rfl
theorem q765 : (Jvm.Cond.codeWith ({ cls := "LostroomLaw", name := "tell", desc := "(LLostroom;II[J)I" } : Jvm.MethodName) method_16_code (5 : Nat) (Option.some Jvm.ClassFile.FieldType.int) [((0 : Nat), (10 : Nat), (13 : Nat), (13 : Nat)), ((0 : Nat), (10 : Nat), (17 : Nat), (15 : Nat)), ((0 : Nat), (10 : Nat), (21 : Nat), (28 : Nat))]) ∈ lw_all := lw_g (lw_at lw_m4 13 rfl) rfl
theorem q766 : (Jvm.Cond.methodLink "LostroomLaw" (61 : Nat) ({ cls := "Lostroom", name := "tell", desc := "(II)I" } : Jvm.MethodName)) ∈ lw_all := lw_g (lw_at lw_m4 14 rfl) rfl
theorem q770 : (Jvm.Cond.methodLink "LostroomLaw" (175 : Nat) ({ cls := "LostroomLaw", name := "withdraw", desc := "(LLostroom;I[J)I" } : Jvm.MethodName)) ∈ lw_all := lw_g (lw_at lw_m4 18 rfl) rfl
theorem q771 : (Jvm.Cond.static ({ cls := "LostroomLaw", name := "withdraw", desc := "(LLostroom;I[J)I" } : Jvm.MethodName)) ∈ lw_all := lw_g (lw_at lw_m4 19 rfl) rfl
theorem q772 : (Jvm.Cond.codeWith ({ cls := "LostroomLaw", name := "withdraw", desc := "(LLostroom;I[J)I" } : Jvm.MethodName) method_17_code (4 : Nat) (Option.some Jvm.ClassFile.FieldType.int) [((0 : Nat), (9 : Nat), (12 : Nat), (13 : Nat)), ((0 : Nat), (9 : Nat), (15 : Nat), (28 : Nat))]) ∈ lw_all := lw_g (lw_at lw_m4 20 rfl) rfl
theorem q773 : (Jvm.Cond.methodLink "LostroomLaw" (64 : Nat) ({ cls := "Lostroom", name := "withdraw", desc := "(I)I" } : Jvm.MethodName)) ∈ lw_all := lw_g (lw_at lw_m4 21 rfl) rfl
theorem q781 : (Jvm.Cond.methodLink "LostroomLaw" (178 : Nat) ({ cls := "LostroomLaw", name := "release", desc := "(LLostroom;II[J)I" } : Jvm.MethodName)) ∈ lw_all := lw_g (lw_at lw_m4 29 rfl) rfl
theorem q782 : (Jvm.Cond.static ({ cls := "LostroomLaw", name := "release", desc := "(LLostroom;II[J)I" } : Jvm.MethodName)) ∈ lw_all := lw_g (lw_at lw_m4 30 rfl) rfl
theorem q783 : (Jvm.Cond.codeWith ({ cls := "LostroomLaw", name := "release", desc := "(LLostroom;II[J)I" } : Jvm.MethodName) method_18_code (5 : Nat) (Option.some Jvm.ClassFile.FieldType.int) [((0 : Nat), (10 : Nat), (13 : Nat), (13 : Nat)), ((0 : Nat), (10 : Nat), (17 : Nat), (28 : Nat))]) ∈ lw_all := lw_g (lw_at lw_m4 31 rfl) rfl
theorem q784 : (Jvm.Cond.methodLink "LostroomLaw" (67 : Nat) ({ cls := "Lostroom", name := "release", desc := "(II)I" } : Jvm.MethodName)) ∈ lw_all := lw_g (lw_at lw_m4 32 rfl) rfl
theorem q819 : (Jvm.Cond.methodLink "LostroomLaw" (181 : Nat) ({ cls := "LostroomLaw", name := "extend", desc := "(LLostroom;II[J)I" } : Jvm.MethodName)) ∈ lw_all := lw_g (lw_at lw_m4 67 rfl) rfl
theorem q820 : (Jvm.Cond.static ({ cls := "LostroomLaw", name := "extend", desc := "(LLostroom;II[J)I" } : Jvm.MethodName)) ∈ lw_all := lw_g (lw_at lw_m4 68 rfl) rfl
theorem q821 : (Jvm.Cond.codeWith ({ cls := "LostroomLaw", name := "extend", desc := "(LLostroom;II[J)I" } : Jvm.MethodName) method_19_code (5 : Nat) (Option.some Jvm.ClassFile.FieldType.int) [((0 : Nat), (10 : Nat), (13 : Nat), (13 : Nat)), ((0 : Nat), (10 : Nat), (17 : Nat), (15 : Nat)), ((0 : Nat), (10 : Nat), (21 : Nat), (28 : Nat))]) ∈ lw_all := lw_g (lw_at lw_m4 69 rfl) rfl
theorem q822 : (Jvm.Cond.methodLink "LostroomLaw" (70 : Nat) ({ cls := "Lostroom", name := "extend", desc := "(II)I" } : Jvm.MethodName)) ∈ lw_all := lw_g (lw_at lw_m4 70 rfl) rfl
theorem q826 : (Jvm.Cond.methodLink "LostroomLaw" (184 : Nat) ({ cls := "LostroomLaw", name := "sell", desc := "(LLostroom;II[J)I" } : Jvm.MethodName)) ∈ lw_all := lw_g (lw_at lw_m4 74 rfl) rfl
theorem q827 : (Jvm.Cond.static ({ cls := "LostroomLaw", name := "sell", desc := "(LLostroom;II[J)I" } : Jvm.MethodName)) ∈ lw_all := lw_g (lw_at lw_m4 75 rfl) rfl
theorem q828 : (Jvm.Cond.codeWith ({ cls := "LostroomLaw", name := "sell", desc := "(LLostroom;II[J)I" } : Jvm.MethodName) method_20_code (5 : Nat) (Option.some Jvm.ClassFile.FieldType.int) [((0 : Nat), (10 : Nat), (13 : Nat), (13 : Nat)), ((0 : Nat), (10 : Nat), (17 : Nat), (15 : Nat)), ((0 : Nat), (10 : Nat), (21 : Nat), (28 : Nat))]) ∈ lw_all := lw_g (lw_at lw_m4 76 rfl) rfl
theorem q829 : (Jvm.Cond.methodLink "LostroomLaw" (73 : Nat) ({ cls := "Lostroom", name := "sell", desc := "(II)I" } : Jvm.MethodName)) ∈ lw_all := lw_g (lw_at lw_m4 77 rfl) rfl
theorem q837 : (Jvm.Cond.methodLink "LostroomLaw" (187 : Nat) ({ cls := "LostroomLaw", name := "destroy", desc := "(LLostroom;I[J)I" } : Jvm.MethodName)) ∈ lw_all := lw_g (lw_at lw_m4 85 rfl) rfl
theorem q838 : (Jvm.Cond.static ({ cls := "LostroomLaw", name := "destroy", desc := "(LLostroom;I[J)I" } : Jvm.MethodName)) ∈ lw_all := lw_g (lw_at lw_m4 86 rfl) rfl
theorem q839 : (Jvm.Cond.codeWith ({ cls := "LostroomLaw", name := "destroy", desc := "(LLostroom;I[J)I" } : Jvm.MethodName) method_21_code (4 : Nat) (Option.some Jvm.ClassFile.FieldType.int) [((0 : Nat), (9 : Nat), (12 : Nat), (13 : Nat)), ((0 : Nat), (9 : Nat), (15 : Nat), (28 : Nat))]) ∈ lw_all := lw_g (lw_at lw_m4 87 rfl) rfl
theorem q840 : (Jvm.Cond.methodLink "LostroomLaw" (76 : Nat) ({ cls := "Lostroom", name := "destroy", desc := "(I)I" } : Jvm.MethodName)) ∈ lw_all := lw_g (lw_at lw_m4 88 rfl) rfl
theorem q844 : (Jvm.Cond.methodLink "LostroomLaw" (190 : Nat) ({ cls := "LostroomLaw", name := "payOut", desc := "(LLostroom;II[J)I" } : Jvm.MethodName)) ∈ lw_all := lw_g (lw_at lw_m4 92 rfl) rfl
theorem q845 : (Jvm.Cond.static ({ cls := "LostroomLaw", name := "payOut", desc := "(LLostroom;II[J)I" } : Jvm.MethodName)) ∈ lw_all := lw_g (lw_at lw_m4 93 rfl) rfl
theorem q846 : (Jvm.Cond.codeWith ({ cls := "LostroomLaw", name := "payOut", desc := "(LLostroom;II[J)I" } : Jvm.MethodName) method_22_code (5 : Nat) (Option.some Jvm.ClassFile.FieldType.int) [((0 : Nat), (10 : Nat), (13 : Nat), (13 : Nat)), ((0 : Nat), (10 : Nat), (17 : Nat), (28 : Nat))]) ∈ lw_all := lw_g (lw_at lw_m4 94 rfl) rfl
theorem q847 : (Jvm.Cond.methodLink "LostroomLaw" (79 : Nat) ({ cls := "Lostroom", name := "payOut", desc := "(II)I" } : Jvm.MethodName)) ∈ lw_all := lw_g (lw_at lw_m4 95 rfl) rfl
theorem q852 : (Jvm.Cond.methodLink "LostroomLaw" (193 : Nat) ({ cls := "LostroomLaw", name := "pass", desc := "(LLostroom;I[J)I" } : Jvm.MethodName)) ∈ lw_all := lw_g (lw_at lw_m4 100 rfl) rfl
theorem q853 : (Jvm.Cond.static ({ cls := "LostroomLaw", name := "pass", desc := "(LLostroom;I[J)I" } : Jvm.MethodName)) ∈ lw_all := lw_g (lw_at lw_m4 101 rfl) rfl
theorem q854 : (Jvm.Cond.codeWith ({ cls := "LostroomLaw", name := "pass", desc := "(LLostroom;I[J)I" } : Jvm.MethodName) method_23_code (4 : Nat) (Option.some Jvm.ClassFile.FieldType.int) [((0 : Nat), (9 : Nat), (12 : Nat), (15 : Nat)), ((0 : Nat), (9 : Nat), (15 : Nat), (28 : Nat))]) ∈ lw_all := lw_g (lw_at lw_m4 102 rfl) rfl
theorem q855 : (Jvm.Cond.methodLink "LostroomLaw" (82 : Nat) ({ cls := "Lostroom", name := "pass", desc := "(I)I" } : Jvm.MethodName)) ∈ lw_all := lw_g (lw_at lw_m4 103 rfl) rfl
theorem q859 : (Jvm.Cond.methodLink "LostroomLaw" (200 : Nat) ({ cls := "LostroomLaw", name := "fit", desc := "(LLostroom;II[J)I" } : Jvm.MethodName)) ∈ lw_all := lw_g (lw_at lw_m4 107 rfl) rfl
theorem q860 : (Jvm.Cond.static ({ cls := "LostroomLaw", name := "fit", desc := "(LLostroom;II[J)I" } : Jvm.MethodName)) ∈ lw_all := lw_g (lw_at lw_m4 108 rfl) rfl
theorem q861 : (Jvm.Cond.codeWith ({ cls := "LostroomLaw", name := "fit", desc := "(LLostroom;II[J)I" } : Jvm.MethodName) method_24_code (5 : Nat) (Option.some Jvm.ClassFile.FieldType.int) [((0 : Nat), (10 : Nat), (13 : Nat), (13 : Nat))]) ∈ lw_all := lw_g (lw_at lw_m4 109 rfl) rfl
theorem q862 : (Jvm.Cond.methodLink "LostroomLaw" (85 : Nat) ({ cls := "Lostroom", name := "fit", desc := "(II)I" } : Jvm.MethodName)) ∈ lw_all := lw_g (lw_at lw_m4 110 rfl) rfl
theorem q866 : (Jvm.Cond.methodLink "LostroomLaw" (203 : Nat) ({ cls := "LostroomLaw", name := "candidate", desc := "(LLostroom;II[J)I" } : Jvm.MethodName)) ∈ lw_all := lw_g (lw_at lw_m4 114 rfl) rfl
theorem q867 : (Jvm.Cond.static ({ cls := "LostroomLaw", name := "candidate", desc := "(LLostroom;II[J)I" } : Jvm.MethodName)) ∈ lw_all := lw_g (lw_at lw_m4 115 rfl) rfl
theorem q868 : (Jvm.Cond.codeWith ({ cls := "LostroomLaw", name := "candidate", desc := "(LLostroom;II[J)I" } : Jvm.MethodName) method_25_code (5 : Nat) (Option.some Jvm.ClassFile.FieldType.int) [((0 : Nat), (10 : Nat), (13 : Nat), (13 : Nat))]) ∈ lw_all := lw_g (lw_at lw_m4 116 rfl) rfl
theorem q869 : (Jvm.Cond.methodLink "LostroomLaw" (88 : Nat) ({ cls := "Lostroom", name := "candidate", desc := "(II)I" } : Jvm.MethodName)) ∈ lw_all := lw_g (lw_at lw_m4 117 rfl) rfl
theorem q877 : (Jvm.Cond.methodLink "LostroomLaw" (206 : Nat) ({ cls := "LostroomLaw", name := "question", desc := "(LLostroom;I[J)I" } : Jvm.MethodName)) ∈ lw_all := lw_g (lw_at lw_m4 125 rfl) rfl
theorem q878 : (Jvm.Cond.static ({ cls := "LostroomLaw", name := "question", desc := "(LLostroom;I[J)I" } : Jvm.MethodName)) ∈ lw_all := lw_g (lw_at lw_m4 126 rfl) rfl
theorem q879 : (Jvm.Cond.codeWith ({ cls := "LostroomLaw", name := "question", desc := "(LLostroom;I[J)I" } : Jvm.MethodName) method_26_code (4 : Nat) (Option.some Jvm.ClassFile.FieldType.int) [((0 : Nat), (9 : Nat), (12 : Nat), (13 : Nat))]) ∈ lw_all := lw_g (lw_at lw_m4 127 rfl) rfl
theorem q880 : (Jvm.Cond.methodLink "LostroomLaw" (91 : Nat) ({ cls := "Lostroom", name := "question", desc := "(I)I" } : Jvm.MethodName)) ∈ lw_all := lw_g (lw_at lw_m4 128 rfl) rfl
theorem q887 : (Jvm.Cond.methodLink "LostroomLaw" (209 : Nat) ({ cls := "LostroomLaw", name := "isProven", desc := "(LLostroom;II[J)I" } : Jvm.MethodName)) ∈ lw_all := lw_g (lw_at lw_m4 135 rfl) rfl
theorem q888 : (Jvm.Cond.static ({ cls := "LostroomLaw", name := "isProven", desc := "(LLostroom;II[J)I" } : Jvm.MethodName)) ∈ lw_all := lw_g (lw_at lw_m4 136 rfl) rfl
theorem q889 : (Jvm.Cond.codeWith ({ cls := "LostroomLaw", name := "isProven", desc := "(LLostroom;II[J)I" } : Jvm.MethodName) method_27_code (5 : Nat) (Option.some Jvm.ClassFile.FieldType.int) [((0 : Nat), (17 : Nat), (20 : Nat), (13 : Nat))]) ∈ lw_all := lw_g (lw_at lw_m4 137 rfl) rfl
theorem q890 : (Jvm.Cond.methodLink "LostroomLaw" (94 : Nat) ({ cls := "Lostroom", name := "isProven", desc := "(II)Z" } : Jvm.MethodName)) ∈ lw_all := lw_g (lw_at lw_m4 138 rfl) rfl
theorem q894 : (Jvm.Cond.methodLink "LostroomLaw" (212 : Nat) ({ cls := "LostroomLaw", name := "isDue", desc := "(LLostroom;I[J)I" } : Jvm.MethodName)) ∈ lw_all := lw_g (lw_at lw_m4 142 rfl) rfl
theorem q895 : (Jvm.Cond.static ({ cls := "LostroomLaw", name := "isDue", desc := "(LLostroom;I[J)I" } : Jvm.MethodName)) ∈ lw_all := lw_g (lw_at lw_m4 143 rfl) rfl
theorem q896 : (Jvm.Cond.codeWith ({ cls := "LostroomLaw", name := "isDue", desc := "(LLostroom;I[J)I" } : Jvm.MethodName) method_28_code (4 : Nat) (Option.some Jvm.ClassFile.FieldType.int) [((0 : Nat), (16 : Nat), (19 : Nat), (13 : Nat))]) ∈ lw_all := lw_g (lw_at lw_m4 144 rfl) rfl
theorem q897 : (Jvm.Cond.methodLink "LostroomLaw" (97 : Nat) ({ cls := "Lostroom", name := "isDue", desc := "(I)Z" } : Jvm.MethodName)) ∈ lw_all := lw_g (lw_at lw_m4 145 rfl) rfl
theorem q901 : (Jvm.Cond.methodLink "LostroomLaw" (215 : Nat) ({ cls := "LostroomLaw", name := "ofFind", desc := "(LLostroom;II[J)I" } : Jvm.MethodName)) ∈ lw_all := lw_g (lw_at lw_m4 149 rfl) rfl
theorem q902 : (Jvm.Cond.static ({ cls := "LostroomLaw", name := "ofFind", desc := "(LLostroom;II[J)I" } : Jvm.MethodName)) ∈ lw_all := lw_g (lw_at lw_m4 150 rfl) rfl
theorem q903 : (Jvm.Cond.codeWith ({ cls := "LostroomLaw", name := "ofFind", desc := "(LLostroom;II[J)I" } : Jvm.MethodName) method_29_code (5 : Nat) (Option.some Jvm.ClassFile.FieldType.int) [((0 : Nat), (10 : Nat), (13 : Nat), (13 : Nat)), ((0 : Nat), (10 : Nat), (17 : Nat), (15 : Nat))]) ∈ lw_all := lw_g (lw_at lw_m4 151 rfl) rfl
theorem q904 : (Jvm.Cond.methodLink "LostroomLaw" (101 : Nat) ({ cls := "Lostroom", name := "ofFind", desc := "(II)I" } : Jvm.MethodName)) ∈ lw_all := lw_g (lw_at lw_m4 152 rfl) rfl
theorem q908 : (Jvm.Cond.methodLink "LostroomLaw" (218 : Nat) ({ cls := "LostroomLaw", name := "hand", desc := "(LLostroom;IIZ[J)I" } : Jvm.MethodName)) ∈ lw_all := lw_g (lw_at lw_m4 156 rfl) rfl
theorem q909 : (Jvm.Cond.static ({ cls := "LostroomLaw", name := "hand", desc := "(LLostroom;IIZ[J)I" } : Jvm.MethodName)) ∈ lw_all := lw_g (lw_at lw_m4 157 rfl) rfl
theorem q910 : (Jvm.Cond.codeWith ({ cls := "LostroomLaw", name := "hand", desc := "(LLostroom;IIZ[J)I" } : Jvm.MethodName) method_30_code (6 : Nat) (Option.some Jvm.ClassFile.FieldType.int) [((0 : Nat), (12 : Nat), (15 : Nat), (13 : Nat))]) ∈ lw_all := lw_g (lw_at lw_m4 158 rfl) rfl
theorem q911 : (Jvm.Cond.methodLink "LostroomLaw" (104 : Nat) ({ cls := "Lostroom", name := "hand", desc := "(IIZ)I" } : Jvm.MethodName)) ∈ lw_all := lw_g (lw_at lw_m4 159 rfl) rfl
theorem q924 : (Jvm.Cond.methodLink "LostroomLaw" (222 : Nat) ({ cls := "LostroomLaw", name := "ofClaim", desc := "(LLostroom;II[J)I" } : Jvm.MethodName)) ∈ lw_all := lw_g (lw_at lw_m4 172 rfl) rfl
theorem q925 : (Jvm.Cond.static ({ cls := "LostroomLaw", name := "ofClaim", desc := "(LLostroom;II[J)I" } : Jvm.MethodName)) ∈ lw_all := lw_g (lw_at lw_m4 173 rfl) rfl
theorem q926 : (Jvm.Cond.codeWith ({ cls := "LostroomLaw", name := "ofClaim", desc := "(LLostroom;II[J)I" } : Jvm.MethodName) method_31_code (5 : Nat) (Option.some Jvm.ClassFile.FieldType.int) [((0 : Nat), (10 : Nat), (13 : Nat), (13 : Nat)), ((0 : Nat), (10 : Nat), (17 : Nat), (15 : Nat))]) ∈ lw_all := lw_g (lw_at lw_m4 174 rfl) rfl
theorem q927 : (Jvm.Cond.methodLink "LostroomLaw" (108 : Nat) ({ cls := "Lostroom", name := "ofClaim", desc := "(II)I" } : Jvm.MethodName)) ∈ lw_all := lw_g (lw_at lw_m4 175 rfl) rfl
theorem q931 : (Jvm.Cond.methodLink "LostroomLaw" (225 : Nat) ({ cls := "LostroomLaw", name := "money", desc := "(LLostroom;I[J)I" } : Jvm.MethodName)) ∈ lw_all := lw_g (lw_at lw_m4 179 rfl) rfl
theorem q932 : (Jvm.Cond.static ({ cls := "LostroomLaw", name := "money", desc := "(LLostroom;I[J)I" } : Jvm.MethodName)) ∈ lw_all := lw_g (lw_at lw_m4 180 rfl) rfl
theorem q933 : (Jvm.Cond.codeWith ({ cls := "LostroomLaw", name := "money", desc := "(LLostroom;I[J)I" } : Jvm.MethodName) method_32_code (4 : Nat) (Option.some Jvm.ClassFile.FieldType.int) [((0 : Nat), (9 : Nat), (12 : Nat), (15 : Nat))]) ∈ lw_all := lw_g (lw_at lw_m4 181 rfl) rfl
theorem q934 : (Jvm.Cond.methodLink "LostroomLaw" (111 : Nat) ({ cls := "Lostroom", name := "money", desc := "(I)I" } : Jvm.MethodName)) ∈ lw_all := lw_g (lw_at lw_m4 182 rfl) rfl
theorem q938 : (Jvm.Cond.methodLink "LostroomLaw" (228 : Nat) ({ cls := "LostroomLaw", name := "audit", desc := "(LLostroom;I[J)I" } : Jvm.MethodName)) ∈ lw_all := lw_g (lw_at lw_m4 186 rfl) rfl
theorem q939 : (Jvm.Cond.static ({ cls := "LostroomLaw", name := "audit", desc := "(LLostroom;I[J)I" } : Jvm.MethodName)) ∈ lw_all := lw_g (lw_at lw_m4 187 rfl) rfl
theorem q940 : (Jvm.Cond.codeWith ({ cls := "LostroomLaw", name := "audit", desc := "(LLostroom;I[J)I" } : Jvm.MethodName) method_33_code (4 : Nat) (Option.some Jvm.ClassFile.FieldType.int) [((0 : Nat), (9 : Nat), (12 : Nat), (13 : Nat))]) ∈ lw_all := lw_g (lw_at lw_m4 188 rfl) rfl
theorem q941 : (Jvm.Cond.methodLink "LostroomLaw" (114 : Nat) ({ cls := "Lostroom", name := "audit", desc := "(I)I" } : Jvm.MethodName)) ∈ lw_all := lw_g (lw_at lw_m4 189 rfl) rfl
theorem q945 : (Jvm.Cond.classLink "LostroomLaw" (118 : Nat) "LostroomModel") ∈ lw_all := lw_g (lw_at lw_m4 193 rfl) rfl
theorem q947 : (Jvm.Cond.methodLink "LostroomLaw" (120 : Nat) ({ cls := "LostroomModel", name := "<init>", desc := "()V" } : Jvm.MethodName)) ∈ lw_all := lw_g (lw_at lw_m4 195 rfl) rfl
theorem q1067 : (Jvm.Cond.methodLink "LostroomLaw" (127 : Nat) ({ cls := "LostroomModel", name := "thrown", desc := "()I" } : Jvm.MethodName)) ∈ lw_all := lw_g (lw_at lw_m5 75 rfl) rfl
theorem q1071 : (Jvm.Cond.methodLink "LostroomLaw" (126 : Nat) ({ cls := "LostroomModel", name := "near", desc := "(II)Z" } : Jvm.MethodName)) ∈ lw_all := lw_g (lw_at lw_m5 79 rfl) rfl
theorem q1085 : (Jvm.Cond.methodLink "LostroomLaw" (133 : Nat) ({ cls := "LostroomModel", name := "alike", desc := "(II)Z" } : Jvm.MethodName)) ∈ lw_all := lw_g (lw_at lw_m5 93 rfl) rfl
theorem q1092 : (Jvm.Cond.methodLink "LostroomLaw" (137 : Nat) ({ cls := "LostroomModel", name := "rule", desc := "(III)I" } : Jvm.MethodName)) ∈ lw_all := lw_g (lw_at lw_m5 100 rfl) rfl
theorem q1096 : (Jvm.Cond.methodLink "LostroomLaw" (140 : Nat) ({ cls := "LostroomModel", name := "stop", desc := "(II)I" } : Jvm.MethodName)) ∈ lw_all := lw_g (lw_at lw_m5 104 rfl) rfl
theorem q1106 : (Jvm.Cond.methodLink "LostroomLaw" (144 : Nat) ({ cls := "LostroomModel", name := "threshold", desc := "(I)I" } : Jvm.MethodName)) ∈ lw_all := lw_g (lw_at lw_m5 114 rfl) rfl
theorem q1110 : (Jvm.Cond.methodLink "LostroomLaw" (148 : Nat) ({ cls := "LostroomModel", name := "find", desc := "(IIIIIII)I" } : Jvm.MethodName)) ∈ lw_all := lw_g (lw_at lw_m5 118 rfl) rfl
theorem q1125 : (Jvm.Cond.methodLink "LostroomLaw" (151 : Nat) ({ cls := "LostroomModel", name := "see", desc := "(II)I" } : Jvm.MethodName)) ∈ lw_all := lw_g (lw_at lw_m5 133 rfl) rfl
theorem q1133 : (Jvm.Cond.methodLink "LostroomLaw" (154 : Nat) ({ cls := "LostroomModel", name := "send", desc := "(II)I" } : Jvm.MethodName)) ∈ lw_all := lw_g (lw_at lw_m5 141 rfl) rfl
theorem q1137 : (Jvm.Cond.methodLink "LostroomLaw" (157 : Nat) ({ cls := "LostroomModel", name := "lose", desc := "(I)I" } : Jvm.MethodName)) ∈ lw_all := lw_g (lw_at lw_m5 145 rfl) rfl
theorem q1141 : (Jvm.Cond.methodLink "LostroomLaw" (160 : Nat) ({ cls := "LostroomModel", name := "turnUp", desc := "(II)I" } : Jvm.MethodName)) ∈ lw_all := lw_g (lw_at lw_m5 149 rfl) rfl
theorem q1145 : (Jvm.Cond.methodLink "LostroomLaw" (164 : Nat) ({ cls := "LostroomModel", name := "hold", desc := "(IZ)Z" } : Jvm.MethodName)) ∈ lw_all := lw_g (lw_at lw_m5 153 rfl) rfl
theorem q1153 : (Jvm.Cond.methodLink "LostroomLaw" (168 : Nat) ({ cls := "LostroomModel", name := "claim", desc := "(IIIII)I" } : Jvm.MethodName)) ∈ lw_all := lw_g (lw_at lw_m5 161 rfl) rfl
theorem q1157 : (Jvm.Cond.methodLink "LostroomLaw" (171 : Nat) ({ cls := "LostroomModel", name := "say", desc := "(II)I" } : Jvm.MethodName)) ∈ lw_all := lw_g (lw_at lw_m5 165 rfl) rfl
theorem q1169 : (Jvm.Cond.methodLink "LostroomLaw" (174 : Nat) ({ cls := "LostroomModel", name := "tell", desc := "(II)I" } : Jvm.MethodName)) ∈ lw_all := lw_g (lw_at lw_m5 177 rfl) rfl
theorem q1173 : (Jvm.Cond.methodLink "LostroomLaw" (177 : Nat) ({ cls := "LostroomModel", name := "withdraw", desc := "(I)I" } : Jvm.MethodName)) ∈ lw_all := lw_g (lw_at lw_m5 181 rfl) rfl
theorem q1181 : (Jvm.Cond.methodLink "LostroomLaw" (180 : Nat) ({ cls := "LostroomModel", name := "release", desc := "(II)I" } : Jvm.MethodName)) ∈ lw_all := lw_g (lw_at lw_m5 189 rfl) rfl
theorem q1209 : (Jvm.Cond.methodLink "LostroomLaw" (183 : Nat) ({ cls := "LostroomModel", name := "extend", desc := "(II)I" } : Jvm.MethodName)) ∈ lw_all := lw_g (lw_at lw_m5 217 rfl) rfl
theorem q1213 : (Jvm.Cond.methodLink "LostroomLaw" (186 : Nat) ({ cls := "LostroomModel", name := "sell", desc := "(II)I" } : Jvm.MethodName)) ∈ lw_all := lw_g (lw_at lw_m5 221 rfl) rfl
theorem q1221 : (Jvm.Cond.methodLink "LostroomLaw" (189 : Nat) ({ cls := "LostroomModel", name := "destroy", desc := "(I)I" } : Jvm.MethodName)) ∈ lw_all := lw_g (lw_at lw_m5 229 rfl) rfl
theorem q1225 : (Jvm.Cond.methodLink "LostroomLaw" (192 : Nat) ({ cls := "LostroomModel", name := "payOut", desc := "(II)I" } : Jvm.MethodName)) ∈ lw_all := lw_g (lw_at lw_m5 233 rfl) rfl
theorem q1229 : (Jvm.Cond.methodLink "LostroomLaw" (195 : Nat) ({ cls := "LostroomModel", name := "pass", desc := "(I)I" } : Jvm.MethodName)) ∈ lw_all := lw_g (lw_at lw_m5 237 rfl) rfl
theorem q1237 : (Jvm.Cond.methodLink "LostroomLaw" (199 : Nat) ({ cls := "LostroomModel", name := "today", desc := "()I" } : Jvm.MethodName)) ∈ lw_all := lw_g (lw_at lw_m6 5 rfl) rfl
theorem q1241 : (Jvm.Cond.methodLink "LostroomLaw" (202 : Nat) ({ cls := "LostroomModel", name := "fit", desc := "(II)I" } : Jvm.MethodName)) ∈ lw_all := lw_g (lw_at lw_m6 9 rfl) rfl
theorem q1245 : (Jvm.Cond.methodLink "LostroomLaw" (205 : Nat) ({ cls := "LostroomModel", name := "candidate", desc := "(II)I" } : Jvm.MethodName)) ∈ lw_all := lw_g (lw_at lw_m6 13 rfl) rfl
theorem q1257 : (Jvm.Cond.methodLink "LostroomLaw" (208 : Nat) ({ cls := "LostroomModel", name := "question", desc := "(I)I" } : Jvm.MethodName)) ∈ lw_all := lw_g (lw_at lw_m6 25 rfl) rfl
theorem q1261 : (Jvm.Cond.methodLink "LostroomLaw" (211 : Nat) ({ cls := "LostroomModel", name := "isProven", desc := "(II)Z" } : Jvm.MethodName)) ∈ lw_all := lw_g (lw_at lw_m6 29 rfl) rfl
theorem q1265 : (Jvm.Cond.methodLink "LostroomLaw" (214 : Nat) ({ cls := "LostroomModel", name := "isDue", desc := "(I)Z" } : Jvm.MethodName)) ∈ lw_all := lw_g (lw_at lw_m6 33 rfl) rfl
theorem q1269 : (Jvm.Cond.methodLink "LostroomLaw" (217 : Nat) ({ cls := "LostroomModel", name := "ofFind", desc := "(II)I" } : Jvm.MethodName)) ∈ lw_all := lw_g (lw_at lw_m6 37 rfl) rfl
theorem q1273 : (Jvm.Cond.methodLink "LostroomLaw" (221 : Nat) ({ cls := "LostroomModel", name := "hand", desc := "(IIZ)I" } : Jvm.MethodName)) ∈ lw_all := lw_g (lw_at lw_m6 41 rfl) rfl
theorem q1277 : (Jvm.Cond.methodLink "LostroomLaw" (224 : Nat) ({ cls := "LostroomModel", name := "ofClaim", desc := "(II)I" } : Jvm.MethodName)) ∈ lw_all := lw_g (lw_at lw_m6 45 rfl) rfl
theorem q1281 : (Jvm.Cond.methodLink "LostroomLaw" (227 : Nat) ({ cls := "LostroomModel", name := "money", desc := "(I)I" } : Jvm.MethodName)) ∈ lw_all := lw_g (lw_at lw_m6 49 rfl) rfl
theorem q1285 : (Jvm.Cond.methodLink "LostroomLaw" (230 : Nat) ({ cls := "LostroomModel", name := "audit", desc := "(I)I" } : Jvm.MethodName)) ∈ lw_all := lw_g (lw_at lw_m6 53 rfl) rfl
/-! the law's own entry -/
set_option maxRecDepth 100000
abbrev cL_law : ByteArray := code
def dkwL_law_97 : List UInt8 := [167, 0, 3, 132, 4, 8, 167, 246, 192, 4, 172]
abbrev dktL_law_97 : List UInt8 := dkwL_law_97 ++ []
def dkwL_law_96 : List UInt8 := [21, 5, 159, 0, 5, 3, 172, 21, 5, 154, 0, 15, 45, 3, 47, 21, 6, 133, 148, 153, 0, 5, 3, 172]
abbrev dktL_law_96 : List UInt8 := dkwL_law_96 ++ dktL_law_97
def dkwL_law_95 : List UInt8 := [46, 45, 184, 0, 228, 54, 5, 44, 42, 21, 4, 4, 96, 46, 182, 0, 230, 54, 6, 44, 182, 0, 127]
abbrev dktL_law_95 : List UInt8 := dkwL_law_95 ++ dktL_law_96
def dkwL_law_94 : List UInt8 := [154, 0, 15, 45, 3, 47, 21, 6, 133, 148, 153, 0, 5, 3, 172, 167, 0, 59, 43, 42, 21, 4, 4, 96]
abbrev dktL_law_94 : List UInt8 := dkwL_law_94 ++ dktL_law_95
def dkwL_law_93 : List UInt8 := [21, 4, 4, 96, 46, 182, 0, 227, 54, 6, 44, 182, 0, 127, 21, 5, 159, 0, 5, 3, 172, 21, 5]
abbrev dktL_law_93 : List UInt8 := dkwL_law_93 ++ dktL_law_94
def dkwL_law_92 : List UInt8 := [148, 153, 0, 5, 3, 172, 167, 0, 115, 43, 42, 21, 4, 4, 96, 46, 45, 184, 0, 225, 54, 5, 44, 42]
abbrev dktL_law_92 : List UInt8 := dkwL_law_92 ++ dktL_law_93
def dkwL_law_91 : List UInt8 := [54, 6, 44, 182, 0, 127, 21, 5, 159, 0, 5, 3, 172, 21, 5, 154, 0, 15, 45, 3, 47, 21, 6, 133]
abbrev dktL_law_91 : List UInt8 := dkwL_law_91 ++ dktL_law_92
def dkwL_law_90 : List UInt8 := [46, 45, 184, 0, 222, 54, 5, 44, 42, 21, 4, 4, 96, 46, 42, 21, 4, 5, 96, 46, 182, 0, 224]
abbrev dktL_law_90 : List UInt8 := dkwL_law_90 ++ dktL_law_91
def dkwL_law_89 : List UInt8 := [21, 6, 133, 148, 153, 0, 5, 3, 172, 167, 0, 183, 43, 42, 21, 4, 4, 96, 46, 42, 21, 4, 5, 96]
abbrev dktL_law_89 : List UInt8 := dkwL_law_89 ++ dktL_law_90
def dkwL_law_88 : List UInt8 := [182, 0, 221, 54, 6, 44, 182, 0, 127, 21, 5, 159, 0, 5, 3, 172, 21, 5, 154, 0, 15, 45, 3, 47]
abbrev dktL_law_88 : List UInt8 := dkwL_law_88 ++ dktL_law_89
def dkwL_law_87 : List UInt8 := [96, 46, 42, 21, 4, 5, 96, 46, 42, 21, 4, 6, 96, 46, 153, 0, 7, 4, 167, 0, 4, 3]
abbrev dktL_law_87 : List UInt8 := dkwL_law_87 ++ dktL_law_88
def dkwL_law_86 : List UInt8 := [21, 4, 6, 96, 46, 153, 0, 7, 4, 167, 0, 4, 3, 45, 184, 0, 218, 54, 5, 44, 42, 21, 4, 4]
abbrev dktL_law_86 : List UInt8 := dkwL_law_86 ++ dktL_law_87
def dkwL_law_85 : List UInt8 := [148, 153, 0, 5, 3, 172, 167, 1, 23, 43, 42, 21, 4, 4, 96, 46, 42, 21, 4, 5, 96, 46, 42]
abbrev dktL_law_85 : List UInt8 := dkwL_law_85 ++ dktL_law_86
def dkwL_law_84 : List UInt8 := [54, 6, 44, 182, 0, 127, 21, 5, 159, 0, 5, 3, 172, 21, 5, 154, 0, 15, 45, 3, 47, 21, 6, 133]
abbrev dktL_law_84 : List UInt8 := dkwL_law_84 ++ dktL_law_85
def dkwL_law_83 : List UInt8 := [96, 46, 45, 184, 0, 215, 54, 5, 44, 42, 21, 4, 4, 96, 46, 42, 21, 4, 5, 96, 46, 182, 0, 217]
abbrev dktL_law_83 : List UInt8 := dkwL_law_83 ++ dktL_law_84
def dkwL_law_82 : List UInt8 := [167, 0, 4, 9, 148, 153, 0, 5, 3, 172, 167, 1, 91, 43, 42, 21, 4, 4, 96, 46, 42, 21, 4, 5]
abbrev dktL_law_82 : List UInt8 := dkwL_law_82 ++ dktL_law_83
def dkwL_law_81 : List UInt8 := [182, 0, 127, 21, 5, 159, 0, 5, 3, 172, 21, 5, 154, 0, 22, 45, 3, 47, 21, 6, 153, 0, 7, 10]
abbrev dktL_law_81 : List UInt8 := dkwL_law_81 ++ dktL_law_82
def dkwL_law_80 : List UInt8 := [21, 4, 4, 96, 46, 45, 184, 0, 212, 54, 5, 44, 42, 21, 4, 4, 96, 46, 182, 0, 214, 54, 6, 44]
abbrev dktL_law_80 : List UInt8 := dkwL_law_80 ++ dktL_law_81
def dkwL_law_79 : List UInt8 := [3, 47, 21, 6, 153, 0, 7, 10, 167, 0, 4, 9, 148, 153, 0, 5, 3, 172, 167, 1, 154, 43, 42]
abbrev dktL_law_79 : List UInt8 := dkwL_law_79 ++ dktL_law_80
def dkwL_law_78 : List UInt8 := [96, 46, 182, 0, 211, 54, 6, 44, 182, 0, 127, 21, 5, 159, 0, 5, 3, 172, 21, 5, 154, 0, 22, 45]
abbrev dktL_law_78 : List UInt8 := dkwL_law_78 ++ dktL_law_79
def dkwL_law_77 : List UInt8 := [46, 42, 21, 4, 5, 96, 46, 45, 184, 0, 209, 54, 5, 44, 42, 21, 4, 4, 96, 46, 42, 21, 4, 5]
abbrev dktL_law_77 : List UInt8 := dkwL_law_77 ++ dktL_law_78
def dkwL_law_76 : List UInt8 := [154, 0, 15, 45, 3, 47, 21, 6, 133, 148, 153, 0, 5, 3, 172, 167, 1, 229, 43, 42, 21, 4, 4, 96]
abbrev dktL_law_76 : List UInt8 := dkwL_law_76 ++ dktL_law_77
def dkwL_law_75 : List UInt8 := [21, 4, 4, 96, 46, 182, 0, 208, 54, 6, 44, 182, 0, 127, 21, 5, 159, 0, 5, 3, 172, 21, 5]
abbrev dktL_law_75 : List UInt8 := dkwL_law_75 ++ dktL_law_76
def dkwL_law_74 : List UInt8 := [148, 153, 0, 5, 3, 172, 167, 2, 29, 43, 42, 21, 4, 4, 96, 46, 45, 184, 0, 206, 54, 5, 44, 42]
abbrev dktL_law_74 : List UInt8 := dkwL_law_74 ++ dktL_law_75
def dkwL_law_73 : List UInt8 := [54, 6, 44, 182, 0, 127, 21, 5, 159, 0, 5, 3, 172, 21, 5, 154, 0, 15, 45, 3, 47, 21, 6, 133]
abbrev dktL_law_73 : List UInt8 := dkwL_law_73 ++ dktL_law_74
def dkwL_law_72 : List UInt8 := [46, 45, 184, 0, 203, 54, 5, 44, 42, 21, 4, 4, 96, 46, 42, 21, 4, 5, 96, 46, 182, 0, 205]
abbrev dktL_law_72 : List UInt8 := dkwL_law_72 ++ dktL_law_73
def dkwL_law_71 : List UInt8 := [21, 6, 133, 148, 153, 0, 5, 3, 172, 167, 2, 97, 43, 42, 21, 4, 4, 96, 46, 42, 21, 4, 5, 96]
abbrev dktL_law_71 : List UInt8 := dkwL_law_71 ++ dktL_law_72
def dkwL_law_70 : List UInt8 := [182, 0, 202, 54, 6, 44, 182, 0, 127, 21, 5, 159, 0, 5, 3, 172, 21, 5, 154, 0, 15, 45, 3, 47]
abbrev dktL_law_70 : List UInt8 := dkwL_law_70 ++ dktL_law_71
def dkwL_law_69 : List UInt8 := [21, 4, 5, 96, 46, 45, 184, 0, 200, 54, 5, 44, 42, 21, 4, 4, 96, 46, 42, 21, 4, 5, 96, 46]
abbrev dktL_law_69 : List UInt8 := dkwL_law_69 ++ dktL_law_70
def dkwL_law_68 : List UInt8 := [167, 2, 178, 43, 182, 0, 196, 44, 182, 0, 199, 159, 2, 167, 3, 172, 43, 42, 21, 4, 4, 96, 46, 42]
abbrev dktL_law_68 : List UInt8 := dkwL_law_68 ++ dktL_law_69
def dkwL_law_67 : List UInt8 := [159, 0, 5, 3, 172, 21, 5, 154, 0, 15, 45, 3, 47, 21, 6, 133, 148, 153, 0, 5, 3, 172]
abbrev dktL_law_67 : List UInt8 := dkwL_law_67 ++ dktL_law_68
def dkwL_law_66 : List UInt8 := [184, 0, 193, 54, 5, 44, 42, 21, 4, 4, 96, 46, 182, 0, 195, 54, 6, 44, 182, 0, 127, 21, 5]
abbrev dktL_law_66 : List UInt8 := dkwL_law_66 ++ dktL_law_67
def dkwL_law_65 : List UInt8 := [3, 47, 21, 6, 133, 148, 153, 0, 5, 3, 172, 167, 2, 234, 43, 42, 21, 4, 4, 96, 46, 45]
abbrev dktL_law_65 : List UInt8 := dkwL_law_65 ++ dktL_law_66
def dkwL_law_64 : List UInt8 := [96, 46, 182, 0, 192, 54, 6, 44, 182, 0, 127, 21, 5, 159, 0, 5, 3, 172, 21, 5, 154, 0, 15, 45]
abbrev dktL_law_64 : List UInt8 := dkwL_law_64 ++ dktL_law_65
def dkwL_law_63 : List UInt8 := [46, 42, 21, 4, 5, 96, 46, 45, 184, 0, 190, 54, 5, 44, 42, 21, 4, 4, 96, 46, 42, 21, 4, 5]
abbrev dktL_law_63 : List UInt8 := dkwL_law_63 ++ dktL_law_64
def dkwL_law_62 : List UInt8 := [154, 0, 15, 45, 3, 47, 21, 6, 133, 148, 153, 0, 5, 3, 172, 167, 3, 46, 43, 42, 21, 4, 4, 96]
abbrev dktL_law_62 : List UInt8 := dkwL_law_62 ++ dktL_law_63
def dkwL_law_61 : List UInt8 := [21, 4, 4, 96, 46, 182, 0, 189, 54, 6, 44, 182, 0, 127, 21, 5, 159, 0, 5, 3, 172, 21, 5]
abbrev dktL_law_61 : List UInt8 := dkwL_law_61 ++ dktL_law_62
def dkwL_law_60 : List UInt8 := [153, 0, 5, 3, 172, 167, 3, 102, 43, 42, 21, 4, 4, 96, 46, 45, 184, 0, 187, 54, 5, 44, 42]
abbrev dktL_law_60 : List UInt8 := dkwL_law_60 ++ dktL_law_61
def dkwL_law_59 : List UInt8 := [182, 0, 127, 21, 5, 159, 0, 5, 3, 172, 21, 5, 154, 0, 15, 45, 3, 47, 21, 6, 133, 148]
abbrev dktL_law_59 : List UInt8 := dkwL_law_59 ++ dktL_law_60
def dkwL_law_58 : List UInt8 := [184, 0, 184, 54, 5, 44, 42, 21, 4, 4, 96, 46, 42, 21, 4, 5, 96, 46, 182, 0, 186, 54, 6, 44]
abbrev dktL_law_58 : List UInt8 := dkwL_law_58 ++ dktL_law_59
def dkwL_law_57 : List UInt8 := [153, 0, 5, 3, 172, 167, 3, 170, 43, 42, 21, 4, 4, 96, 46, 42, 21, 4, 5, 96, 46, 45]
abbrev dktL_law_57 : List UInt8 := dkwL_law_57 ++ dktL_law_58
def dkwL_law_56 : List UInt8 := [182, 0, 127, 21, 5, 159, 0, 5, 3, 172, 21, 5, 154, 0, 15, 45, 3, 47, 21, 6, 133, 148]
abbrev dktL_law_56 : List UInt8 := dkwL_law_56 ++ dktL_law_57
def dkwL_law_55 : List UInt8 := [184, 0, 181, 54, 5, 44, 42, 21, 4, 4, 96, 46, 42, 21, 4, 5, 96, 46, 182, 0, 183, 54, 6, 44]
abbrev dktL_law_55 : List UInt8 := dkwL_law_55 ++ dktL_law_56
def dkwL_law_54 : List UInt8 := [148, 153, 0, 5, 3, 172, 167, 3, 238, 43, 42, 21, 4, 4, 96, 46, 42, 21, 4, 5, 96, 46, 45]
abbrev dktL_law_54 : List UInt8 := dkwL_law_54 ++ dktL_law_55
def dkwL_law_53 : List UInt8 := [54, 6, 44, 182, 0, 127, 21, 5, 159, 0, 5, 3, 172, 21, 5, 154, 0, 15, 45, 3, 47, 21, 6, 133]
abbrev dktL_law_53 : List UInt8 := dkwL_law_53 ++ dktL_law_54
def dkwL_law_52 : List UInt8 := [46, 45, 184, 0, 178, 54, 5, 44, 42, 21, 4, 4, 96, 46, 42, 21, 4, 5, 96, 46, 182, 0, 180]
abbrev dktL_law_52 : List UInt8 := dkwL_law_52 ++ dktL_law_53
def dkwL_law_51 : List UInt8 := [21, 6, 133, 148, 153, 0, 5, 3, 172, 167, 4, 50, 43, 42, 21, 4, 4, 96, 46, 42, 21, 4, 5, 96]
abbrev dktL_law_51 : List UInt8 := dkwL_law_51 ++ dktL_law_52
def dkwL_law_50 : List UInt8 := [182, 0, 177, 54, 6, 44, 182, 0, 127, 21, 5, 159, 0, 5, 3, 172, 21, 5, 154, 0, 15, 45, 3, 47]
abbrev dktL_law_50 : List UInt8 := dkwL_law_50 ++ dktL_law_51
def dkwL_law_49 : List UInt8 := [167, 4, 106, 43, 42, 21, 4, 4, 96, 46, 45, 184, 0, 175, 54, 5, 44, 42, 21, 4, 4, 96, 46]
abbrev dktL_law_49 : List UInt8 := dkwL_law_49 ++ dktL_law_50
def dkwL_law_48 : List UInt8 := [159, 0, 5, 3, 172, 21, 5, 154, 0, 15, 45, 3, 47, 21, 6, 133, 148, 153, 0, 5, 3, 172]
abbrev dktL_law_48 : List UInt8 := dkwL_law_48 ++ dktL_law_49
def dkwL_law_47 : List UInt8 := [21, 4, 4, 96, 46, 42, 21, 4, 5, 96, 46, 182, 0, 174, 54, 6, 44, 182, 0, 127, 21, 5]
abbrev dktL_law_47 : List UInt8 := dkwL_law_47 ++ dktL_law_48
def dkwL_law_46 : List UInt8 := [167, 4, 174, 43, 42, 21, 4, 4, 96, 46, 42, 21, 4, 5, 96, 46, 45, 184, 0, 172, 54, 5, 44, 42]
abbrev dktL_law_46 : List UInt8 := dkwL_law_46 ++ dktL_law_47
def dkwL_law_45 : List UInt8 := [159, 0, 5, 3, 172, 21, 5, 154, 0, 15, 45, 3, 47, 21, 6, 133, 148, 153, 0, 5, 3, 172]
abbrev dktL_law_45 : List UInt8 := dkwL_law_45 ++ dktL_law_46
def dkwL_law_44 : List UInt8 := [21, 4, 4, 96, 46, 42, 21, 4, 5, 96, 46, 182, 0, 171, 54, 6, 44, 182, 0, 127, 21, 5]
abbrev dktL_law_44 : List UInt8 := dkwL_law_44 ++ dktL_law_45
def dkwL_law_43 : List UInt8 := [167, 4, 242, 43, 42, 21, 4, 4, 96, 46, 42, 21, 4, 5, 96, 46, 45, 184, 0, 169, 54, 5, 44, 42]
abbrev dktL_law_43 : List UInt8 := dkwL_law_43 ++ dktL_law_44
def dkwL_law_42 : List UInt8 := [159, 0, 5, 3, 172, 21, 5, 154, 0, 15, 45, 3, 47, 21, 6, 133, 148, 153, 0, 5, 3, 172]
abbrev dktL_law_42 : List UInt8 := dkwL_law_42 ++ dktL_law_43
def dkwL_law_41 : List UInt8 := [42, 21, 4, 7, 96, 46, 42, 21, 4, 8, 96, 46, 182, 0, 168, 54, 6, 44, 182, 0, 127, 21, 5]
abbrev dktL_law_41 : List UInt8 := dkwL_law_41 ++ dktL_law_42
def dkwL_law_40 : List UInt8 := [184, 0, 165, 54, 5, 44, 42, 21, 4, 4, 96, 46, 42, 21, 4, 5, 96, 46, 42, 21, 4, 6, 96, 46]
abbrev dktL_law_40 : List UInt8 := dkwL_law_40 ++ dktL_law_41
def dkwL_law_39 : List UInt8 := [5, 96, 46, 42, 21, 4, 6, 96, 46, 42, 21, 4, 7, 96, 46, 42, 21, 4, 8, 96, 46, 45]
abbrev dktL_law_39 : List UInt8 := dkwL_law_39 ++ dktL_law_40
def dkwL_law_38 : List UInt8 := [10, 167, 0, 4, 9, 148, 153, 0, 5, 3, 172, 167, 5, 90, 43, 42, 21, 4, 4, 96, 46, 42, 21, 4]
abbrev dktL_law_38 : List UInt8 := dkwL_law_38 ++ dktL_law_39
def dkwL_law_37 : List UInt8 := [44, 182, 0, 127, 21, 5, 159, 0, 5, 3, 172, 21, 5, 154, 0, 22, 45, 3, 47, 21, 6, 153, 0, 7]
abbrev dktL_law_37 : List UInt8 := dkwL_law_37 ++ dktL_law_38
def dkwL_law_36 : List UInt8 := [21, 4, 4, 96, 46, 42, 21, 4, 5, 96, 46, 153, 0, 7, 4, 167, 0, 4, 3, 182, 0, 164, 54, 6]
abbrev dktL_law_36 : List UInt8 := dkwL_law_36 ++ dktL_law_37
def dkwL_law_35 : List UInt8 := [46, 42, 21, 4, 5, 96, 46, 153, 0, 7, 4, 167, 0, 4, 3, 45, 184, 0, 161, 54, 5, 44, 42]
abbrev dktL_law_35 : List UInt8 := dkwL_law_35 ++ dktL_law_36
def dkwL_law_34 : List UInt8 := [154, 0, 15, 45, 3, 47, 21, 6, 133, 148, 153, 0, 5, 3, 172, 167, 5, 181, 43, 42, 21, 4, 4, 96]
abbrev dktL_law_34 : List UInt8 := dkwL_law_34 ++ dktL_law_35
def dkwL_law_33 : List UInt8 := [42, 21, 4, 5, 96, 46, 182, 0, 160, 54, 6, 44, 182, 0, 127, 21, 5, 159, 0, 5, 3, 172, 21, 5]
abbrev dktL_law_33 : List UInt8 := dkwL_law_33 ++ dktL_law_34
def dkwL_law_32 : List UInt8 := [21, 4, 4, 96, 46, 42, 21, 4, 5, 96, 46, 45, 184, 0, 158, 54, 5, 44, 42, 21, 4, 4, 96, 46]
abbrev dktL_law_32 : List UInt8 := dkwL_law_32 ++ dktL_law_33
def dkwL_law_31 : List UInt8 := [172, 21, 5, 154, 0, 15, 45, 3, 47, 21, 6, 133, 148, 153, 0, 5, 3, 172, 167, 5, 249, 43, 42]
abbrev dktL_law_31 : List UInt8 := dkwL_law_31 ++ dktL_law_32
def dkwL_law_30 : List UInt8 := [54, 5, 44, 42, 21, 4, 4, 96, 46, 182, 0, 157, 54, 6, 44, 182, 0, 127, 21, 5, 159, 0, 5, 3]
abbrev dktL_law_30 : List UInt8 := dkwL_law_30 ++ dktL_law_31
def dkwL_law_29 : List UInt8 := [21, 6, 133, 148, 153, 0, 5, 3, 172, 167, 6, 49, 43, 42, 21, 4, 4, 96, 46, 45, 184, 0, 155]
abbrev dktL_law_29 : List UInt8 := dkwL_law_29 ++ dktL_law_30
def dkwL_law_28 : List UInt8 := [182, 0, 154, 54, 6, 44, 182, 0, 127, 21, 5, 159, 0, 5, 3, 172, 21, 5, 154, 0, 15, 45, 3, 47]
abbrev dktL_law_28 : List UInt8 := dkwL_law_28 ++ dktL_law_29
def dkwL_law_27 : List UInt8 := [5, 96, 46, 45, 184, 0, 152, 54, 5, 44, 42, 21, 4, 4, 96, 46, 42, 21, 4, 5, 96, 46]
abbrev dktL_law_27 : List UInt8 := dkwL_law_27 ++ dktL_law_28
def dkwL_law_26 : List UInt8 := [3, 47, 21, 6, 133, 148, 153, 0, 5, 3, 172, 167, 6, 117, 43, 42, 21, 4, 4, 96, 46, 42, 21, 4]
abbrev dktL_law_26 : List UInt8 := dkwL_law_26 ++ dktL_law_27
def dkwL_law_25 : List UInt8 := [96, 46, 182, 0, 151, 54, 6, 44, 182, 0, 127, 21, 5, 159, 0, 5, 3, 172, 21, 5, 154, 0, 15, 45]
abbrev dktL_law_25 : List UInt8 := dkwL_law_25 ++ dktL_law_26
def dkwL_law_24 : List UInt8 := [46, 42, 21, 4, 5, 96, 46, 45, 184, 0, 149, 54, 5, 44, 42, 21, 4, 4, 96, 46, 42, 21, 4, 5]
abbrev dktL_law_24 : List UInt8 := dkwL_law_24 ++ dktL_law_25
def dkwL_law_23 : List UInt8 := [154, 0, 15, 45, 3, 47, 21, 6, 133, 148, 153, 0, 5, 3, 172, 167, 6, 185, 43, 42, 21, 4, 4, 96]
abbrev dktL_law_23 : List UInt8 := dkwL_law_23 ++ dktL_law_24
def dkwL_law_22 : List UInt8 := [16, 7, 96, 46, 182, 0, 148, 54, 6, 44, 182, 0, 127, 21, 5, 159, 0, 5, 3, 172, 21, 5]
abbrev dktL_law_22 : List UInt8 := dkwL_law_22 ++ dktL_law_23
def dkwL_law_21 : List UInt8 := [96, 46, 42, 21, 4, 7, 96, 46, 42, 21, 4, 8, 96, 46, 42, 21, 4, 16, 6, 96, 46, 42, 21, 4]
abbrev dktL_law_21 : List UInt8 := dkwL_law_21 ++ dktL_law_22
def dkwL_law_20 : List UInt8 := [46, 45, 184, 0, 145, 54, 5, 44, 42, 21, 4, 4, 96, 46, 42, 21, 4, 5, 96, 46, 42, 21, 4, 6]
abbrev dktL_law_20 : List UInt8 := dkwL_law_20 ++ dktL_law_21
def dkwL_law_19 : List UInt8 := [21, 4, 7, 96, 46, 42, 21, 4, 8, 96, 46, 42, 21, 4, 16, 6, 96, 46, 42, 21, 4, 16, 7, 96]
abbrev dktL_law_19 : List UInt8 := dkwL_law_19 ++ dktL_law_20
def dkwL_law_18 : List UInt8 := [167, 7, 61, 43, 42, 21, 4, 4, 96, 46, 42, 21, 4, 5, 96, 46, 42, 21, 4, 6, 96, 46, 42]
abbrev dktL_law_18 : List UInt8 := dkwL_law_18 ++ dktL_law_19
def dkwL_law_17 : List UInt8 := [159, 0, 5, 3, 172, 21, 5, 154, 0, 15, 45, 3, 47, 21, 6, 133, 148, 153, 0, 5, 3, 172]
abbrev dktL_law_17 : List UInt8 := dkwL_law_17 ++ dktL_law_18
def dkwL_law_16 : List UInt8 := [184, 0, 141, 54, 5, 44, 42, 21, 4, 4, 96, 46, 182, 0, 144, 54, 6, 44, 182, 0, 127, 21, 5]
abbrev dktL_law_16 : List UInt8 := dkwL_law_16 ++ dktL_law_17
def dkwL_law_15 : List UInt8 := [3, 47, 21, 6, 133, 148, 153, 0, 5, 3, 172, 167, 7, 117, 43, 42, 21, 4, 4, 96, 46, 45]
abbrev dktL_law_15 : List UInt8 := dkwL_law_15 ++ dktL_law_16
def dkwL_law_14 : List UInt8 := [96, 46, 182, 0, 140, 54, 6, 44, 182, 0, 127, 21, 5, 159, 0, 5, 3, 172, 21, 5, 154, 0, 15, 45]
abbrev dktL_law_14 : List UInt8 := dkwL_law_14 ++ dktL_law_15
def dkwL_law_13 : List UInt8 := [46, 42, 21, 4, 5, 96, 46, 45, 184, 0, 138, 54, 5, 44, 42, 21, 4, 4, 96, 46, 42, 21, 4, 5]
abbrev dktL_law_13 : List UInt8 := dkwL_law_13 ++ dktL_law_14
def dkwL_law_12 : List UInt8 := [154, 0, 15, 45, 3, 47, 21, 6, 133, 148, 153, 0, 5, 3, 172, 167, 7, 185, 43, 42, 21, 4, 4, 96]
abbrev dktL_law_12 : List UInt8 := dkwL_law_12 ++ dktL_law_13
def dkwL_law_11 : List UInt8 := [21, 4, 6, 96, 46, 182, 0, 137, 54, 6, 44, 182, 0, 127, 21, 5, 159, 0, 5, 3, 172, 21, 5]
abbrev dktL_law_11 : List UInt8 := dkwL_law_11 ++ dktL_law_12
def dkwL_law_10 : List UInt8 := [6, 96, 46, 45, 184, 0, 134, 54, 5, 44, 42, 21, 4, 4, 96, 46, 42, 21, 4, 5, 96, 46, 42]
abbrev dktL_law_10 : List UInt8 := dkwL_law_10 ++ dktL_law_11
def dkwL_law_9 : List UInt8 := [153, 0, 5, 3, 172, 167, 8, 9, 43, 42, 21, 4, 4, 96, 46, 42, 21, 4, 5, 96, 46, 42, 21, 4]
abbrev dktL_law_9 : List UInt8 := dkwL_law_9 ++ dktL_law_10
def dkwL_law_8 : List UInt8 := [159, 0, 5, 3, 172, 21, 5, 154, 0, 22, 45, 3, 47, 21, 6, 153, 0, 7, 10, 167, 0, 4, 9, 148]
abbrev dktL_law_8 : List UInt8 := dkwL_law_8 ++ dktL_law_9
def dkwL_law_7 : List UInt8 := [21, 4, 4, 96, 46, 42, 21, 4, 5, 96, 46, 182, 0, 133, 54, 6, 44, 182, 0, 127, 21, 5]
abbrev dktL_law_7 : List UInt8 := dkwL_law_7 ++ dktL_law_8
def dkwL_law_6 : List UInt8 := [167, 8, 84, 43, 42, 21, 4, 4, 96, 46, 42, 21, 4, 5, 96, 46, 45, 184, 0, 131, 54, 5, 44, 42]
abbrev dktL_law_6 : List UInt8 := dkwL_law_6 ++ dktL_law_7
def dkwL_law_5 : List UInt8 := [21, 5, 154, 0, 22, 45, 3, 47, 21, 6, 153, 0, 7, 10, 167, 0, 4, 9, 148, 153, 0, 5, 3, 172]
abbrev dktL_law_5 : List UInt8 := dkwL_law_5 ++ dktL_law_6
def dkwL_law_4 : List UInt8 := [96, 46, 42, 21, 4, 5, 96, 46, 182, 0, 126, 54, 6, 44, 182, 0, 127, 21, 5, 159, 0, 5, 3, 172]
abbrev dktL_law_4 : List UInt8 := dkwL_law_4 ++ dktL_law_5
def dkwL_law_3 : List UInt8 := [43, 42, 21, 4, 4, 96, 46, 42, 21, 4, 5, 96, 46, 45, 184, 0, 121, 54, 5, 44, 42, 21, 4, 4]
abbrev dktL_law_3 : List UInt8 := dkwL_law_3 ++ dktL_law_4
def dkwL_law_2 : List UInt8 := [170, 0, 0, 0, 0, 0, 9, 44, 0, 0, 0, 0, 0, 0, 0, 31, 0, 0, 0, 144, 0, 0, 0, 219, 0, 0, 1, 38, 0, 0, 1, 118, 0, 0, 1, 186, 0, 0, 1, 242, 0, 0, 2, 118, 0, 0, 2, 186, 0, 0, 2, 254, 0, 0, 3, 54, 0, 0, 3, 122, 0, 0, 3, 213, 0, 0, 4, 61, 0, 0, 4, 129, 0, 0, 4, 197, 0, 0, 4, 253, 0, 0, 5, 65, 0, 0, 5, 133, 0, 0, 5, 201, 0, 0, 6, 1, 0, 0, 6, 69, 0, 0, 6, 125, 0, 0, 6, 138, 0, 0, 6, 206, 0, 0, 7, 18, 0, 0, 7, 74, 0, 0, 7, 149, 0, 0, 7, 212, 0, 0, 8, 24, 0, 0, 8, 120, 0, 0, 8, 188, 0, 0, 8, 244]
abbrev dktL_law_2 : List UInt8 := dkwL_law_2 ++ dktL_law_3
def dkwL_law_1 : List UInt8 := [21, 4, 42, 190, 16, 8, 100, 163, 9, 60, 42, 21, 4, 46, 16, 31, 126]
abbrev dktL_law_1 : List UInt8 := dkwL_law_1 ++ dktL_law_2
def dkwL_law_0 : List UInt8 := [187, 0, 8, 89, 183, 0, 117, 76, 187, 0, 118, 89, 183, 0, 120, 77, 4, 188, 11, 78, 3, 54, 4]
abbrev dktL_law_0 : List UInt8 := dkwL_law_0 ++ dktL_law_1
theorem dksL_law_0 : cL_law.data.toList.drop 0 = dktL_law_0 := by decide +kernel
theorem dksL_law_1 : cL_law.data.toList.drop 23 = dktL_law_1 := dk_seg dksL_law_0 23 rfl rfl
theorem dksL_law_2 : cL_law.data.toList.drop 40 = dktL_law_2 := dk_seg dksL_law_1 17 rfl rfl
theorem dksL_law_3 : cL_law.data.toList.drop 184 = dktL_law_3 := dk_seg dksL_law_2 144 rfl rfl
theorem dksL_law_4 : cL_law.data.toList.drop 208 = dktL_law_4 := dk_seg dksL_law_3 24 rfl rfl
theorem dksL_law_5 : cL_law.data.toList.drop 232 = dktL_law_5 := dk_seg dksL_law_4 24 rfl rfl
theorem dksL_law_6 : cL_law.data.toList.drop 256 = dktL_law_6 := dk_seg dksL_law_5 24 rfl rfl
theorem dksL_law_7 : cL_law.data.toList.drop 280 = dktL_law_7 := dk_seg dksL_law_6 24 rfl rfl
theorem dksL_law_8 : cL_law.data.toList.drop 302 = dktL_law_8 := dk_seg dksL_law_7 22 rfl rfl
theorem dksL_law_9 : cL_law.data.toList.drop 326 = dktL_law_9 := dk_seg dksL_law_8 24 rfl rfl
theorem dksL_law_10 : cL_law.data.toList.drop 350 = dktL_law_10 := dk_seg dksL_law_9 24 rfl rfl
theorem dksL_law_11 : cL_law.data.toList.drop 373 = dktL_law_11 := dk_seg dksL_law_10 23 rfl rfl
theorem dksL_law_12 : cL_law.data.toList.drop 396 = dktL_law_12 := dk_seg dksL_law_11 23 rfl rfl
theorem dksL_law_13 : cL_law.data.toList.drop 420 = dktL_law_13 := dk_seg dksL_law_12 24 rfl rfl
theorem dksL_law_14 : cL_law.data.toList.drop 444 = dktL_law_14 := dk_seg dksL_law_13 24 rfl rfl
theorem dksL_law_15 : cL_law.data.toList.drop 468 = dktL_law_15 := dk_seg dksL_law_14 24 rfl rfl
theorem dksL_law_16 : cL_law.data.toList.drop 490 = dktL_law_16 := dk_seg dksL_law_15 22 rfl rfl
theorem dksL_law_17 : cL_law.data.toList.drop 513 = dktL_law_17 := dk_seg dksL_law_16 23 rfl rfl
theorem dksL_law_18 : cL_law.data.toList.drop 535 = dktL_law_18 := dk_seg dksL_law_17 22 rfl rfl
theorem dksL_law_19 : cL_law.data.toList.drop 558 = dktL_law_19 := dk_seg dksL_law_18 23 rfl rfl
theorem dksL_law_20 : cL_law.data.toList.drop 582 = dktL_law_20 := dk_seg dksL_law_19 24 rfl rfl
theorem dksL_law_21 : cL_law.data.toList.drop 606 = dktL_law_21 := dk_seg dksL_law_20 24 rfl rfl
theorem dksL_law_22 : cL_law.data.toList.drop 630 = dktL_law_22 := dk_seg dksL_law_21 24 rfl rfl
theorem dksL_law_23 : cL_law.data.toList.drop 652 = dktL_law_23 := dk_seg dksL_law_22 22 rfl rfl
theorem dksL_law_24 : cL_law.data.toList.drop 676 = dktL_law_24 := dk_seg dksL_law_23 24 rfl rfl
theorem dksL_law_25 : cL_law.data.toList.drop 700 = dktL_law_25 := dk_seg dksL_law_24 24 rfl rfl
theorem dksL_law_26 : cL_law.data.toList.drop 724 = dktL_law_26 := dk_seg dksL_law_25 24 rfl rfl
theorem dksL_law_27 : cL_law.data.toList.drop 748 = dktL_law_27 := dk_seg dksL_law_26 24 rfl rfl
theorem dksL_law_28 : cL_law.data.toList.drop 770 = dktL_law_28 := dk_seg dksL_law_27 22 rfl rfl
theorem dksL_law_29 : cL_law.data.toList.drop 794 = dktL_law_29 := dk_seg dksL_law_28 24 rfl rfl
theorem dksL_law_30 : cL_law.data.toList.drop 817 = dktL_law_30 := dk_seg dksL_law_29 23 rfl rfl
theorem dksL_law_31 : cL_law.data.toList.drop 841 = dktL_law_31 := dk_seg dksL_law_30 24 rfl rfl
theorem dksL_law_32 : cL_law.data.toList.drop 864 = dktL_law_32 := dk_seg dksL_law_31 23 rfl rfl
theorem dksL_law_33 : cL_law.data.toList.drop 888 = dktL_law_33 := dk_seg dksL_law_32 24 rfl rfl
theorem dksL_law_34 : cL_law.data.toList.drop 912 = dktL_law_34 := dk_seg dksL_law_33 24 rfl rfl
theorem dksL_law_35 : cL_law.data.toList.drop 936 = dktL_law_35 := dk_seg dksL_law_34 24 rfl rfl
theorem dksL_law_36 : cL_law.data.toList.drop 959 = dktL_law_36 := dk_seg dksL_law_35 23 rfl rfl
theorem dksL_law_37 : cL_law.data.toList.drop 983 = dktL_law_37 := dk_seg dksL_law_36 24 rfl rfl
theorem dksL_law_38 : cL_law.data.toList.drop 1007 = dktL_law_38 := dk_seg dksL_law_37 24 rfl rfl
theorem dksL_law_39 : cL_law.data.toList.drop 1031 = dktL_law_39 := dk_seg dksL_law_38 24 rfl rfl
theorem dksL_law_40 : cL_law.data.toList.drop 1053 = dktL_law_40 := dk_seg dksL_law_39 22 rfl rfl
theorem dksL_law_41 : cL_law.data.toList.drop 1077 = dktL_law_41 := dk_seg dksL_law_40 24 rfl rfl
theorem dksL_law_42 : cL_law.data.toList.drop 1100 = dktL_law_42 := dk_seg dksL_law_41 23 rfl rfl
theorem dksL_law_43 : cL_law.data.toList.drop 1122 = dktL_law_43 := dk_seg dksL_law_42 22 rfl rfl
theorem dksL_law_44 : cL_law.data.toList.drop 1146 = dktL_law_44 := dk_seg dksL_law_43 24 rfl rfl
theorem dksL_law_45 : cL_law.data.toList.drop 1168 = dktL_law_45 := dk_seg dksL_law_44 22 rfl rfl
theorem dksL_law_46 : cL_law.data.toList.drop 1190 = dktL_law_46 := dk_seg dksL_law_45 22 rfl rfl
theorem dksL_law_47 : cL_law.data.toList.drop 1214 = dktL_law_47 := dk_seg dksL_law_46 24 rfl rfl
theorem dksL_law_48 : cL_law.data.toList.drop 1236 = dktL_law_48 := dk_seg dksL_law_47 22 rfl rfl
theorem dksL_law_49 : cL_law.data.toList.drop 1258 = dktL_law_49 := dk_seg dksL_law_48 22 rfl rfl
theorem dksL_law_50 : cL_law.data.toList.drop 1281 = dktL_law_50 := dk_seg dksL_law_49 23 rfl rfl
theorem dksL_law_51 : cL_law.data.toList.drop 1305 = dktL_law_51 := dk_seg dksL_law_50 24 rfl rfl
theorem dksL_law_52 : cL_law.data.toList.drop 1329 = dktL_law_52 := dk_seg dksL_law_51 24 rfl rfl
theorem dksL_law_53 : cL_law.data.toList.drop 1352 = dktL_law_53 := dk_seg dksL_law_52 23 rfl rfl
theorem dksL_law_54 : cL_law.data.toList.drop 1376 = dktL_law_54 := dk_seg dksL_law_53 24 rfl rfl
theorem dksL_law_55 : cL_law.data.toList.drop 1399 = dktL_law_55 := dk_seg dksL_law_54 23 rfl rfl
theorem dksL_law_56 : cL_law.data.toList.drop 1423 = dktL_law_56 := dk_seg dksL_law_55 24 rfl rfl
theorem dksL_law_57 : cL_law.data.toList.drop 1445 = dktL_law_57 := dk_seg dksL_law_56 22 rfl rfl
theorem dksL_law_58 : cL_law.data.toList.drop 1467 = dktL_law_58 := dk_seg dksL_law_57 22 rfl rfl
theorem dksL_law_59 : cL_law.data.toList.drop 1491 = dktL_law_59 := dk_seg dksL_law_58 24 rfl rfl
theorem dksL_law_60 : cL_law.data.toList.drop 1513 = dktL_law_60 := dk_seg dksL_law_59 22 rfl rfl
theorem dksL_law_61 : cL_law.data.toList.drop 1536 = dktL_law_61 := dk_seg dksL_law_60 23 rfl rfl
theorem dksL_law_62 : cL_law.data.toList.drop 1559 = dktL_law_62 := dk_seg dksL_law_61 23 rfl rfl
theorem dksL_law_63 : cL_law.data.toList.drop 1583 = dktL_law_63 := dk_seg dksL_law_62 24 rfl rfl
theorem dksL_law_64 : cL_law.data.toList.drop 1607 = dktL_law_64 := dk_seg dksL_law_63 24 rfl rfl
theorem dksL_law_65 : cL_law.data.toList.drop 1631 = dktL_law_65 := dk_seg dksL_law_64 24 rfl rfl
theorem dksL_law_66 : cL_law.data.toList.drop 1653 = dktL_law_66 := dk_seg dksL_law_65 22 rfl rfl
theorem dksL_law_67 : cL_law.data.toList.drop 1676 = dktL_law_67 := dk_seg dksL_law_66 23 rfl rfl
theorem dksL_law_68 : cL_law.data.toList.drop 1698 = dktL_law_68 := dk_seg dksL_law_67 22 rfl rfl
theorem dksL_law_69 : cL_law.data.toList.drop 1722 = dktL_law_69 := dk_seg dksL_law_68 24 rfl rfl
theorem dksL_law_70 : cL_law.data.toList.drop 1746 = dktL_law_70 := dk_seg dksL_law_69 24 rfl rfl
theorem dksL_law_71 : cL_law.data.toList.drop 1770 = dktL_law_71 := dk_seg dksL_law_70 24 rfl rfl
theorem dksL_law_72 : cL_law.data.toList.drop 1794 = dktL_law_72 := dk_seg dksL_law_71 24 rfl rfl
theorem dksL_law_73 : cL_law.data.toList.drop 1817 = dktL_law_73 := dk_seg dksL_law_72 23 rfl rfl
theorem dksL_law_74 : cL_law.data.toList.drop 1841 = dktL_law_74 := dk_seg dksL_law_73 24 rfl rfl
theorem dksL_law_75 : cL_law.data.toList.drop 1865 = dktL_law_75 := dk_seg dksL_law_74 24 rfl rfl
theorem dksL_law_76 : cL_law.data.toList.drop 1888 = dktL_law_76 := dk_seg dksL_law_75 23 rfl rfl
theorem dksL_law_77 : cL_law.data.toList.drop 1912 = dktL_law_77 := dk_seg dksL_law_76 24 rfl rfl
theorem dksL_law_78 : cL_law.data.toList.drop 1936 = dktL_law_78 := dk_seg dksL_law_77 24 rfl rfl
theorem dksL_law_79 : cL_law.data.toList.drop 1960 = dktL_law_79 := dk_seg dksL_law_78 24 rfl rfl
theorem dksL_law_80 : cL_law.data.toList.drop 1983 = dktL_law_80 := dk_seg dksL_law_79 23 rfl rfl
theorem dksL_law_81 : cL_law.data.toList.drop 2007 = dktL_law_81 := dk_seg dksL_law_80 24 rfl rfl
theorem dksL_law_82 : cL_law.data.toList.drop 2031 = dktL_law_82 := dk_seg dksL_law_81 24 rfl rfl
theorem dksL_law_83 : cL_law.data.toList.drop 2055 = dktL_law_83 := dk_seg dksL_law_82 24 rfl rfl
theorem dksL_law_84 : cL_law.data.toList.drop 2079 = dktL_law_84 := dk_seg dksL_law_83 24 rfl rfl
theorem dksL_law_85 : cL_law.data.toList.drop 2103 = dktL_law_85 := dk_seg dksL_law_84 24 rfl rfl
theorem dksL_law_86 : cL_law.data.toList.drop 2126 = dktL_law_86 := dk_seg dksL_law_85 23 rfl rfl
theorem dksL_law_87 : cL_law.data.toList.drop 2150 = dktL_law_87 := dk_seg dksL_law_86 24 rfl rfl
theorem dksL_law_88 : cL_law.data.toList.drop 2172 = dktL_law_88 := dk_seg dksL_law_87 22 rfl rfl
theorem dksL_law_89 : cL_law.data.toList.drop 2196 = dktL_law_89 := dk_seg dksL_law_88 24 rfl rfl
theorem dksL_law_90 : cL_law.data.toList.drop 2220 = dktL_law_90 := dk_seg dksL_law_89 24 rfl rfl
theorem dksL_law_91 : cL_law.data.toList.drop 2243 = dktL_law_91 := dk_seg dksL_law_90 23 rfl rfl
theorem dksL_law_92 : cL_law.data.toList.drop 2267 = dktL_law_92 := dk_seg dksL_law_91 24 rfl rfl
theorem dksL_law_93 : cL_law.data.toList.drop 2291 = dktL_law_93 := dk_seg dksL_law_92 24 rfl rfl
theorem dksL_law_94 : cL_law.data.toList.drop 2314 = dktL_law_94 := dk_seg dksL_law_93 23 rfl rfl
theorem dksL_law_95 : cL_law.data.toList.drop 2338 = dktL_law_95 := dk_seg dksL_law_94 24 rfl rfl
theorem dksL_law_96 : cL_law.data.toList.drop 2361 = dktL_law_96 := dk_seg dksL_law_95 23 rfl rfl
theorem dksL_law_97 : cL_law.data.toList.drop 2385 = dktL_law_97 := dk_seg dksL_law_96 24 rfl rfl
theorem dL_law_0 : decode cL_law 0 = .ok (.new 8, 3) := dk_187 0 8 (dk_at dksL_law_0 0 rfl rfl)
theorem dL_law_3 : decode cL_law 3 = .ok (.dup, 1) := dk_89 (dk_at dksL_law_0 3 rfl rfl)
theorem dL_law_4 : decode cL_law 4 = .ok (.invokespecial 117, 3) := dk_183 0 117 (dk_at dksL_law_0 4 rfl rfl)
theorem dL_law_7 : decode cL_law 7 = .ok (.astore_n 1, 1) := dk_76 (dk_at dksL_law_0 7 rfl rfl)
theorem dL_law_8 : decode cL_law 8 = .ok (.new 118, 3) := dk_187 0 118 (dk_at dksL_law_0 8 rfl rfl)
theorem dL_law_11 : decode cL_law 11 = .ok (.dup, 1) := dk_89 (dk_at dksL_law_0 11 rfl rfl)
theorem dL_law_12 : decode cL_law 12 = .ok (.invokespecial 120, 3) := dk_183 0 120 (dk_at dksL_law_0 12 rfl rfl)
theorem dL_law_15 : decode cL_law 15 = .ok (.astore_n 2, 1) := dk_77 (dk_at dksL_law_0 15 rfl rfl)
theorem dL_law_16 : decode cL_law 16 = .ok (.iconst 1, 1) := dk_4 (dk_at dksL_law_0 16 rfl rfl)
theorem dL_law_17 : decode cL_law 17 = .ok (.newarray .long, 2) := dk_188_11 (dk_at dksL_law_0 17 rfl rfl)
theorem dL_law_19 : decode cL_law 19 = .ok (.astore_n 3, 1) := dk_78 (dk_at dksL_law_0 19 rfl rfl)
theorem dL_law_20 : decode cL_law 20 = .ok (.iconst 0, 1) := dk_3 (dk_at dksL_law_0 20 rfl rfl)
theorem dL_law_21 : decode cL_law 21 = .ok (.istore 4, 2) := dk_54 4 (dk_at dksL_law_0 21 rfl rfl)
theorem dL_law_23 : decode cL_law 23 = .ok (.iload 4, 2) := dk_21 4 (dk_at dksL_law_1 0 rfl rfl)
theorem dL_law_25 : decode cL_law 25 = .ok (.aload_n 0, 1) := dk_42 (dk_at dksL_law_1 2 rfl rfl)
theorem dL_law_26 : decode cL_law 26 = .ok (.arraylength, 1) := dk_190 (dk_at dksL_law_1 3 rfl rfl)
theorem dL_law_27 : decode cL_law 27 = .ok (.bipush 8, 2) := dk_16 8 (dk_at dksL_law_1 4 rfl rfl)
theorem dL_law_29 : decode cL_law 29 = .ok (.isub, 1) := dk_100 (dk_at dksL_law_1 6 rfl rfl)
theorem dL_law_30 : decode cL_law 30 = .ok (.if_icmp .gt 2364, 3) := dk_163 9 60 (dk_at dksL_law_1 7 rfl rfl)
theorem dL_law_33 : decode cL_law 33 = .ok (.aload_n 0, 1) := dk_42 (dk_at dksL_law_1 10 rfl rfl)
theorem dL_law_34 : decode cL_law 34 = .ok (.iload 4, 2) := dk_21 4 (dk_at dksL_law_1 11 rfl rfl)
theorem dL_law_36 : decode cL_law 36 = .ok (.iaload, 1) := dk_46 (dk_at dksL_law_1 13 rfl rfl)
theorem dL_law_37 : decode cL_law 37 = .ok (.bipush 31, 2) := dk_16 31 (dk_at dksL_law_1 14 rfl rfl)
theorem dL_law_39 : decode cL_law 39 = .ok (.iand, 1) := dk_126 (dk_at dksL_law_1 16 rfl rfl)
theorem dL_law_40 : decode cL_law 40 = .ok (.tableswitch 2348 0 31 #[144, 219, 294, 374, 442, 498, 630, 698, 766, 822, 890, 981, 1085, 1153, 1221, 1277, 1345, 1413, 1481, 1537, 1605, 1661, 1674, 1742, 1810, 1866, 1941, 2004, 2072, 2168, 2236, 2292], 144) := by decide +kernel
theorem dL_law_184 : decode cL_law 184 = .ok (.aload_n 1, 1) := dk_43 (dk_at dksL_law_3 0 rfl rfl)
theorem dL_law_185 : decode cL_law 185 = .ok (.aload_n 0, 1) := dk_42 (dk_at dksL_law_3 1 rfl rfl)
theorem dL_law_186 : decode cL_law 186 = .ok (.iload 4, 2) := dk_21 4 (dk_at dksL_law_3 2 rfl rfl)
theorem dL_law_188 : decode cL_law 188 = .ok (.iconst 1, 1) := dk_4 (dk_at dksL_law_3 4 rfl rfl)
theorem dL_law_189 : decode cL_law 189 = .ok (.iadd, 1) := dk_96 (dk_at dksL_law_3 5 rfl rfl)
theorem dL_law_190 : decode cL_law 190 = .ok (.iaload, 1) := dk_46 (dk_at dksL_law_3 6 rfl rfl)
theorem dL_law_191 : decode cL_law 191 = .ok (.aload_n 0, 1) := dk_42 (dk_at dksL_law_3 7 rfl rfl)
theorem dL_law_192 : decode cL_law 192 = .ok (.iload 4, 2) := dk_21 4 (dk_at dksL_law_3 8 rfl rfl)
theorem dL_law_194 : decode cL_law 194 = .ok (.iconst 2, 1) := dk_5 (dk_at dksL_law_3 10 rfl rfl)
theorem dL_law_195 : decode cL_law 195 = .ok (.iadd, 1) := dk_96 (dk_at dksL_law_3 11 rfl rfl)
theorem dL_law_196 : decode cL_law 196 = .ok (.iaload, 1) := dk_46 (dk_at dksL_law_3 12 rfl rfl)
theorem dL_law_197 : decode cL_law 197 = .ok (.aload_n 3, 1) := dk_45 (dk_at dksL_law_3 13 rfl rfl)
theorem dL_law_198 : decode cL_law 198 = .ok (.invokestatic 121, 3) := dk_184 0 121 (dk_at dksL_law_3 14 rfl rfl)
theorem dL_law_201 : decode cL_law 201 = .ok (.istore 5, 2) := dk_54 5 (dk_at dksL_law_3 17 rfl rfl)
theorem dL_law_203 : decode cL_law 203 = .ok (.aload_n 2, 1) := dk_44 (dk_at dksL_law_3 19 rfl rfl)
theorem dL_law_204 : decode cL_law 204 = .ok (.aload_n 0, 1) := dk_42 (dk_at dksL_law_3 20 rfl rfl)
theorem dL_law_205 : decode cL_law 205 = .ok (.iload 4, 2) := dk_21 4 (dk_at dksL_law_3 21 rfl rfl)
theorem dL_law_207 : decode cL_law 207 = .ok (.iconst 1, 1) := dk_4 (dk_at dksL_law_3 23 rfl rfl)
theorem dL_law_208 : decode cL_law 208 = .ok (.iadd, 1) := dk_96 (dk_at dksL_law_4 0 rfl rfl)
theorem dL_law_209 : decode cL_law 209 = .ok (.iaload, 1) := dk_46 (dk_at dksL_law_4 1 rfl rfl)
theorem dL_law_210 : decode cL_law 210 = .ok (.aload_n 0, 1) := dk_42 (dk_at dksL_law_4 2 rfl rfl)
theorem dL_law_211 : decode cL_law 211 = .ok (.iload 4, 2) := dk_21 4 (dk_at dksL_law_4 3 rfl rfl)
theorem dL_law_213 : decode cL_law 213 = .ok (.iconst 2, 1) := dk_5 (dk_at dksL_law_4 5 rfl rfl)
theorem dL_law_214 : decode cL_law 214 = .ok (.iadd, 1) := dk_96 (dk_at dksL_law_4 6 rfl rfl)
theorem dL_law_215 : decode cL_law 215 = .ok (.iaload, 1) := dk_46 (dk_at dksL_law_4 7 rfl rfl)
theorem dL_law_216 : decode cL_law 216 = .ok (.invokevirtual 126, 3) := dk_182 0 126 (dk_at dksL_law_4 8 rfl rfl)
theorem dL_law_219 : decode cL_law 219 = .ok (.istore 6, 2) := dk_54 6 (dk_at dksL_law_4 11 rfl rfl)
theorem dL_law_221 : decode cL_law 221 = .ok (.aload_n 2, 1) := dk_44 (dk_at dksL_law_4 13 rfl rfl)
theorem dL_law_222 : decode cL_law 222 = .ok (.invokevirtual 127, 3) := dk_182 0 127 (dk_at dksL_law_4 14 rfl rfl)
theorem dL_law_225 : decode cL_law 225 = .ok (.iload 5, 2) := dk_21 5 (dk_at dksL_law_4 17 rfl rfl)
theorem dL_law_227 : decode cL_law 227 = .ok (.if_icmp .eq 5, 3) := dk_159 0 5 (dk_at dksL_law_4 19 rfl rfl)
theorem dL_law_230 : decode cL_law 230 = .ok (.iconst 0, 1) := dk_3 (dk_at dksL_law_4 22 rfl rfl)
theorem dL_law_231 : decode cL_law 231 = .ok (.ireturn, 1) := dk_172 (dk_at dksL_law_4 23 rfl rfl)
theorem dL_law_232 : decode cL_law 232 = .ok (.iload 5, 2) := dk_21 5 (dk_at dksL_law_5 0 rfl rfl)
theorem dL_law_234 : decode cL_law 234 = .ok (.ifCond .ne 22, 3) := dk_154 0 22 (dk_at dksL_law_5 2 rfl rfl)
theorem dL_law_237 : decode cL_law 237 = .ok (.aload_n 3, 1) := dk_45 (dk_at dksL_law_5 5 rfl rfl)
theorem dL_law_238 : decode cL_law 238 = .ok (.iconst 0, 1) := dk_3 (dk_at dksL_law_5 6 rfl rfl)
theorem dL_law_239 : decode cL_law 239 = .ok (.laload, 1) := dk_47 (dk_at dksL_law_5 7 rfl rfl)
theorem dL_law_240 : decode cL_law 240 = .ok (.iload 6, 2) := dk_21 6 (dk_at dksL_law_5 8 rfl rfl)
theorem dL_law_242 : decode cL_law 242 = .ok (.ifCond .eq 7, 3) := dk_153 0 7 (dk_at dksL_law_5 10 rfl rfl)
theorem dL_law_245 : decode cL_law 245 = .ok (.lconst 1, 1) := dk_10 (dk_at dksL_law_5 13 rfl rfl)
theorem dL_law_246 : decode cL_law 246 = .ok (.goto 4, 3) := dk_167 0 4 (dk_at dksL_law_5 14 rfl rfl)
theorem dL_law_249 : decode cL_law 249 = .ok (.lconst 0, 1) := dk_9 (dk_at dksL_law_5 17 rfl rfl)
theorem dL_law_250 : decode cL_law 250 = .ok (.lcmp, 1) := dk_148 (dk_at dksL_law_5 18 rfl rfl)
theorem dL_law_251 : decode cL_law 251 = .ok (.ifCond .eq 5, 3) := dk_153 0 5 (dk_at dksL_law_5 19 rfl rfl)
theorem dL_law_254 : decode cL_law 254 = .ok (.iconst 0, 1) := dk_3 (dk_at dksL_law_5 22 rfl rfl)
theorem dL_law_255 : decode cL_law 255 = .ok (.ireturn, 1) := dk_172 (dk_at dksL_law_5 23 rfl rfl)
theorem dL_law_256 : decode cL_law 256 = .ok (.goto 2132, 3) := dk_167 8 84 (dk_at dksL_law_6 0 rfl rfl)
theorem dL_law_259 : decode cL_law 259 = .ok (.aload_n 1, 1) := dk_43 (dk_at dksL_law_6 3 rfl rfl)
theorem dL_law_260 : decode cL_law 260 = .ok (.aload_n 0, 1) := dk_42 (dk_at dksL_law_6 4 rfl rfl)
theorem dL_law_261 : decode cL_law 261 = .ok (.iload 4, 2) := dk_21 4 (dk_at dksL_law_6 5 rfl rfl)
theorem dL_law_263 : decode cL_law 263 = .ok (.iconst 1, 1) := dk_4 (dk_at dksL_law_6 7 rfl rfl)
theorem dL_law_264 : decode cL_law 264 = .ok (.iadd, 1) := dk_96 (dk_at dksL_law_6 8 rfl rfl)
theorem dL_law_265 : decode cL_law 265 = .ok (.iaload, 1) := dk_46 (dk_at dksL_law_6 9 rfl rfl)
theorem dL_law_266 : decode cL_law 266 = .ok (.aload_n 0, 1) := dk_42 (dk_at dksL_law_6 10 rfl rfl)
theorem dL_law_267 : decode cL_law 267 = .ok (.iload 4, 2) := dk_21 4 (dk_at dksL_law_6 11 rfl rfl)
theorem dL_law_269 : decode cL_law 269 = .ok (.iconst 2, 1) := dk_5 (dk_at dksL_law_6 13 rfl rfl)
theorem dL_law_270 : decode cL_law 270 = .ok (.iadd, 1) := dk_96 (dk_at dksL_law_6 14 rfl rfl)
theorem dL_law_271 : decode cL_law 271 = .ok (.iaload, 1) := dk_46 (dk_at dksL_law_6 15 rfl rfl)
theorem dL_law_272 : decode cL_law 272 = .ok (.aload_n 3, 1) := dk_45 (dk_at dksL_law_6 16 rfl rfl)
theorem dL_law_273 : decode cL_law 273 = .ok (.invokestatic 131, 3) := dk_184 0 131 (dk_at dksL_law_6 17 rfl rfl)
theorem dL_law_276 : decode cL_law 276 = .ok (.istore 5, 2) := dk_54 5 (dk_at dksL_law_6 20 rfl rfl)
theorem dL_law_278 : decode cL_law 278 = .ok (.aload_n 2, 1) := dk_44 (dk_at dksL_law_6 22 rfl rfl)
theorem dL_law_279 : decode cL_law 279 = .ok (.aload_n 0, 1) := dk_42 (dk_at dksL_law_6 23 rfl rfl)
theorem dL_law_280 : decode cL_law 280 = .ok (.iload 4, 2) := dk_21 4 (dk_at dksL_law_7 0 rfl rfl)
theorem dL_law_282 : decode cL_law 282 = .ok (.iconst 1, 1) := dk_4 (dk_at dksL_law_7 2 rfl rfl)
theorem dL_law_283 : decode cL_law 283 = .ok (.iadd, 1) := dk_96 (dk_at dksL_law_7 3 rfl rfl)
theorem dL_law_284 : decode cL_law 284 = .ok (.iaload, 1) := dk_46 (dk_at dksL_law_7 4 rfl rfl)
theorem dL_law_285 : decode cL_law 285 = .ok (.aload_n 0, 1) := dk_42 (dk_at dksL_law_7 5 rfl rfl)
theorem dL_law_286 : decode cL_law 286 = .ok (.iload 4, 2) := dk_21 4 (dk_at dksL_law_7 6 rfl rfl)
theorem dL_law_288 : decode cL_law 288 = .ok (.iconst 2, 1) := dk_5 (dk_at dksL_law_7 8 rfl rfl)
theorem dL_law_289 : decode cL_law 289 = .ok (.iadd, 1) := dk_96 (dk_at dksL_law_7 9 rfl rfl)
theorem dL_law_290 : decode cL_law 290 = .ok (.iaload, 1) := dk_46 (dk_at dksL_law_7 10 rfl rfl)
theorem dL_law_291 : decode cL_law 291 = .ok (.invokevirtual 133, 3) := dk_182 0 133 (dk_at dksL_law_7 11 rfl rfl)
theorem dL_law_294 : decode cL_law 294 = .ok (.istore 6, 2) := dk_54 6 (dk_at dksL_law_7 14 rfl rfl)
theorem dL_law_296 : decode cL_law 296 = .ok (.aload_n 2, 1) := dk_44 (dk_at dksL_law_7 16 rfl rfl)
theorem dL_law_297 : decode cL_law 297 = .ok (.invokevirtual 127, 3) := dk_182 0 127 (dk_at dksL_law_7 17 rfl rfl)
theorem dL_law_300 : decode cL_law 300 = .ok (.iload 5, 2) := dk_21 5 (dk_at dksL_law_7 20 rfl rfl)
theorem dL_law_302 : decode cL_law 302 = .ok (.if_icmp .eq 5, 3) := dk_159 0 5 (dk_at dksL_law_8 0 rfl rfl)
theorem dL_law_305 : decode cL_law 305 = .ok (.iconst 0, 1) := dk_3 (dk_at dksL_law_8 3 rfl rfl)
theorem dL_law_306 : decode cL_law 306 = .ok (.ireturn, 1) := dk_172 (dk_at dksL_law_8 4 rfl rfl)
theorem dL_law_307 : decode cL_law 307 = .ok (.iload 5, 2) := dk_21 5 (dk_at dksL_law_8 5 rfl rfl)
theorem dL_law_309 : decode cL_law 309 = .ok (.ifCond .ne 22, 3) := dk_154 0 22 (dk_at dksL_law_8 7 rfl rfl)
theorem dL_law_312 : decode cL_law 312 = .ok (.aload_n 3, 1) := dk_45 (dk_at dksL_law_8 10 rfl rfl)
theorem dL_law_313 : decode cL_law 313 = .ok (.iconst 0, 1) := dk_3 (dk_at dksL_law_8 11 rfl rfl)
theorem dL_law_314 : decode cL_law 314 = .ok (.laload, 1) := dk_47 (dk_at dksL_law_8 12 rfl rfl)
theorem dL_law_315 : decode cL_law 315 = .ok (.iload 6, 2) := dk_21 6 (dk_at dksL_law_8 13 rfl rfl)
theorem dL_law_317 : decode cL_law 317 = .ok (.ifCond .eq 7, 3) := dk_153 0 7 (dk_at dksL_law_8 15 rfl rfl)
theorem dL_law_320 : decode cL_law 320 = .ok (.lconst 1, 1) := dk_10 (dk_at dksL_law_8 18 rfl rfl)
theorem dL_law_321 : decode cL_law 321 = .ok (.goto 4, 3) := dk_167 0 4 (dk_at dksL_law_8 19 rfl rfl)
theorem dL_law_324 : decode cL_law 324 = .ok (.lconst 0, 1) := dk_9 (dk_at dksL_law_8 22 rfl rfl)
theorem dL_law_325 : decode cL_law 325 = .ok (.lcmp, 1) := dk_148 (dk_at dksL_law_8 23 rfl rfl)
theorem dL_law_326 : decode cL_law 326 = .ok (.ifCond .eq 5, 3) := dk_153 0 5 (dk_at dksL_law_9 0 rfl rfl)
theorem dL_law_329 : decode cL_law 329 = .ok (.iconst 0, 1) := dk_3 (dk_at dksL_law_9 3 rfl rfl)
theorem dL_law_330 : decode cL_law 330 = .ok (.ireturn, 1) := dk_172 (dk_at dksL_law_9 4 rfl rfl)
theorem dL_law_331 : decode cL_law 331 = .ok (.goto 2057, 3) := dk_167 8 9 (dk_at dksL_law_9 5 rfl rfl)
theorem dL_law_334 : decode cL_law 334 = .ok (.aload_n 1, 1) := dk_43 (dk_at dksL_law_9 8 rfl rfl)
theorem dL_law_335 : decode cL_law 335 = .ok (.aload_n 0, 1) := dk_42 (dk_at dksL_law_9 9 rfl rfl)
theorem dL_law_336 : decode cL_law 336 = .ok (.iload 4, 2) := dk_21 4 (dk_at dksL_law_9 10 rfl rfl)
theorem dL_law_338 : decode cL_law 338 = .ok (.iconst 1, 1) := dk_4 (dk_at dksL_law_9 12 rfl rfl)
theorem dL_law_339 : decode cL_law 339 = .ok (.iadd, 1) := dk_96 (dk_at dksL_law_9 13 rfl rfl)
theorem dL_law_340 : decode cL_law 340 = .ok (.iaload, 1) := dk_46 (dk_at dksL_law_9 14 rfl rfl)
theorem dL_law_341 : decode cL_law 341 = .ok (.aload_n 0, 1) := dk_42 (dk_at dksL_law_9 15 rfl rfl)
theorem dL_law_342 : decode cL_law 342 = .ok (.iload 4, 2) := dk_21 4 (dk_at dksL_law_9 16 rfl rfl)
theorem dL_law_344 : decode cL_law 344 = .ok (.iconst 2, 1) := dk_5 (dk_at dksL_law_9 18 rfl rfl)
theorem dL_law_345 : decode cL_law 345 = .ok (.iadd, 1) := dk_96 (dk_at dksL_law_9 19 rfl rfl)
theorem dL_law_346 : decode cL_law 346 = .ok (.iaload, 1) := dk_46 (dk_at dksL_law_9 20 rfl rfl)
theorem dL_law_347 : decode cL_law 347 = .ok (.aload_n 0, 1) := dk_42 (dk_at dksL_law_9 21 rfl rfl)
theorem dL_law_348 : decode cL_law 348 = .ok (.iload 4, 2) := dk_21 4 (dk_at dksL_law_9 22 rfl rfl)
theorem dL_law_350 : decode cL_law 350 = .ok (.iconst 3, 1) := dk_6 (dk_at dksL_law_10 0 rfl rfl)
theorem dL_law_351 : decode cL_law 351 = .ok (.iadd, 1) := dk_96 (dk_at dksL_law_10 1 rfl rfl)
theorem dL_law_352 : decode cL_law 352 = .ok (.iaload, 1) := dk_46 (dk_at dksL_law_10 2 rfl rfl)
theorem dL_law_353 : decode cL_law 353 = .ok (.aload_n 3, 1) := dk_45 (dk_at dksL_law_10 3 rfl rfl)
theorem dL_law_354 : decode cL_law 354 = .ok (.invokestatic 134, 3) := dk_184 0 134 (dk_at dksL_law_10 4 rfl rfl)
theorem dL_law_357 : decode cL_law 357 = .ok (.istore 5, 2) := dk_54 5 (dk_at dksL_law_10 7 rfl rfl)
theorem dL_law_359 : decode cL_law 359 = .ok (.aload_n 2, 1) := dk_44 (dk_at dksL_law_10 9 rfl rfl)
theorem dL_law_360 : decode cL_law 360 = .ok (.aload_n 0, 1) := dk_42 (dk_at dksL_law_10 10 rfl rfl)
theorem dL_law_361 : decode cL_law 361 = .ok (.iload 4, 2) := dk_21 4 (dk_at dksL_law_10 11 rfl rfl)
theorem dL_law_363 : decode cL_law 363 = .ok (.iconst 1, 1) := dk_4 (dk_at dksL_law_10 13 rfl rfl)
theorem dL_law_364 : decode cL_law 364 = .ok (.iadd, 1) := dk_96 (dk_at dksL_law_10 14 rfl rfl)
theorem dL_law_365 : decode cL_law 365 = .ok (.iaload, 1) := dk_46 (dk_at dksL_law_10 15 rfl rfl)
theorem dL_law_366 : decode cL_law 366 = .ok (.aload_n 0, 1) := dk_42 (dk_at dksL_law_10 16 rfl rfl)
theorem dL_law_367 : decode cL_law 367 = .ok (.iload 4, 2) := dk_21 4 (dk_at dksL_law_10 17 rfl rfl)
theorem dL_law_369 : decode cL_law 369 = .ok (.iconst 2, 1) := dk_5 (dk_at dksL_law_10 19 rfl rfl)
theorem dL_law_370 : decode cL_law 370 = .ok (.iadd, 1) := dk_96 (dk_at dksL_law_10 20 rfl rfl)
theorem dL_law_371 : decode cL_law 371 = .ok (.iaload, 1) := dk_46 (dk_at dksL_law_10 21 rfl rfl)
theorem dL_law_372 : decode cL_law 372 = .ok (.aload_n 0, 1) := dk_42 (dk_at dksL_law_10 22 rfl rfl)
theorem dL_law_373 : decode cL_law 373 = .ok (.iload 4, 2) := dk_21 4 (dk_at dksL_law_11 0 rfl rfl)
theorem dL_law_375 : decode cL_law 375 = .ok (.iconst 3, 1) := dk_6 (dk_at dksL_law_11 2 rfl rfl)
theorem dL_law_376 : decode cL_law 376 = .ok (.iadd, 1) := dk_96 (dk_at dksL_law_11 3 rfl rfl)
theorem dL_law_377 : decode cL_law 377 = .ok (.iaload, 1) := dk_46 (dk_at dksL_law_11 4 rfl rfl)
theorem dL_law_378 : decode cL_law 378 = .ok (.invokevirtual 137, 3) := dk_182 0 137 (dk_at dksL_law_11 5 rfl rfl)
theorem dL_law_381 : decode cL_law 381 = .ok (.istore 6, 2) := dk_54 6 (dk_at dksL_law_11 8 rfl rfl)
theorem dL_law_383 : decode cL_law 383 = .ok (.aload_n 2, 1) := dk_44 (dk_at dksL_law_11 10 rfl rfl)
theorem dL_law_384 : decode cL_law 384 = .ok (.invokevirtual 127, 3) := dk_182 0 127 (dk_at dksL_law_11 11 rfl rfl)
theorem dL_law_387 : decode cL_law 387 = .ok (.iload 5, 2) := dk_21 5 (dk_at dksL_law_11 14 rfl rfl)
theorem dL_law_389 : decode cL_law 389 = .ok (.if_icmp .eq 5, 3) := dk_159 0 5 (dk_at dksL_law_11 16 rfl rfl)
theorem dL_law_392 : decode cL_law 392 = .ok (.iconst 0, 1) := dk_3 (dk_at dksL_law_11 19 rfl rfl)
theorem dL_law_393 : decode cL_law 393 = .ok (.ireturn, 1) := dk_172 (dk_at dksL_law_11 20 rfl rfl)
theorem dL_law_394 : decode cL_law 394 = .ok (.iload 5, 2) := dk_21 5 (dk_at dksL_law_11 21 rfl rfl)
theorem dL_law_396 : decode cL_law 396 = .ok (.ifCond .ne 15, 3) := dk_154 0 15 (dk_at dksL_law_12 0 rfl rfl)
theorem dL_law_399 : decode cL_law 399 = .ok (.aload_n 3, 1) := dk_45 (dk_at dksL_law_12 3 rfl rfl)
theorem dL_law_400 : decode cL_law 400 = .ok (.iconst 0, 1) := dk_3 (dk_at dksL_law_12 4 rfl rfl)
theorem dL_law_401 : decode cL_law 401 = .ok (.laload, 1) := dk_47 (dk_at dksL_law_12 5 rfl rfl)
theorem dL_law_402 : decode cL_law 402 = .ok (.iload 6, 2) := dk_21 6 (dk_at dksL_law_12 6 rfl rfl)
theorem dL_law_404 : decode cL_law 404 = .ok (.i2l, 1) := dk_133 (dk_at dksL_law_12 8 rfl rfl)
theorem dL_law_405 : decode cL_law 405 = .ok (.lcmp, 1) := dk_148 (dk_at dksL_law_12 9 rfl rfl)
theorem dL_law_406 : decode cL_law 406 = .ok (.ifCond .eq 5, 3) := dk_153 0 5 (dk_at dksL_law_12 10 rfl rfl)
theorem dL_law_409 : decode cL_law 409 = .ok (.iconst 0, 1) := dk_3 (dk_at dksL_law_12 13 rfl rfl)
theorem dL_law_410 : decode cL_law 410 = .ok (.ireturn, 1) := dk_172 (dk_at dksL_law_12 14 rfl rfl)
theorem dL_law_411 : decode cL_law 411 = .ok (.goto 1977, 3) := dk_167 7 185 (dk_at dksL_law_12 15 rfl rfl)
theorem dL_law_414 : decode cL_law 414 = .ok (.aload_n 1, 1) := dk_43 (dk_at dksL_law_12 18 rfl rfl)
theorem dL_law_415 : decode cL_law 415 = .ok (.aload_n 0, 1) := dk_42 (dk_at dksL_law_12 19 rfl rfl)
theorem dL_law_416 : decode cL_law 416 = .ok (.iload 4, 2) := dk_21 4 (dk_at dksL_law_12 20 rfl rfl)
theorem dL_law_418 : decode cL_law 418 = .ok (.iconst 1, 1) := dk_4 (dk_at dksL_law_12 22 rfl rfl)
theorem dL_law_419 : decode cL_law 419 = .ok (.iadd, 1) := dk_96 (dk_at dksL_law_12 23 rfl rfl)
theorem dL_law_420 : decode cL_law 420 = .ok (.iaload, 1) := dk_46 (dk_at dksL_law_13 0 rfl rfl)
theorem dL_law_421 : decode cL_law 421 = .ok (.aload_n 0, 1) := dk_42 (dk_at dksL_law_13 1 rfl rfl)
theorem dL_law_422 : decode cL_law 422 = .ok (.iload 4, 2) := dk_21 4 (dk_at dksL_law_13 2 rfl rfl)
theorem dL_law_424 : decode cL_law 424 = .ok (.iconst 2, 1) := dk_5 (dk_at dksL_law_13 4 rfl rfl)
theorem dL_law_425 : decode cL_law 425 = .ok (.iadd, 1) := dk_96 (dk_at dksL_law_13 5 rfl rfl)
theorem dL_law_426 : decode cL_law 426 = .ok (.iaload, 1) := dk_46 (dk_at dksL_law_13 6 rfl rfl)
theorem dL_law_427 : decode cL_law 427 = .ok (.aload_n 3, 1) := dk_45 (dk_at dksL_law_13 7 rfl rfl)
theorem dL_law_428 : decode cL_law 428 = .ok (.invokestatic 138, 3) := dk_184 0 138 (dk_at dksL_law_13 8 rfl rfl)
theorem dL_law_431 : decode cL_law 431 = .ok (.istore 5, 2) := dk_54 5 (dk_at dksL_law_13 11 rfl rfl)
theorem dL_law_433 : decode cL_law 433 = .ok (.aload_n 2, 1) := dk_44 (dk_at dksL_law_13 13 rfl rfl)
theorem dL_law_434 : decode cL_law 434 = .ok (.aload_n 0, 1) := dk_42 (dk_at dksL_law_13 14 rfl rfl)
theorem dL_law_435 : decode cL_law 435 = .ok (.iload 4, 2) := dk_21 4 (dk_at dksL_law_13 15 rfl rfl)
theorem dL_law_437 : decode cL_law 437 = .ok (.iconst 1, 1) := dk_4 (dk_at dksL_law_13 17 rfl rfl)
theorem dL_law_438 : decode cL_law 438 = .ok (.iadd, 1) := dk_96 (dk_at dksL_law_13 18 rfl rfl)
theorem dL_law_439 : decode cL_law 439 = .ok (.iaload, 1) := dk_46 (dk_at dksL_law_13 19 rfl rfl)
theorem dL_law_440 : decode cL_law 440 = .ok (.aload_n 0, 1) := dk_42 (dk_at dksL_law_13 20 rfl rfl)
theorem dL_law_441 : decode cL_law 441 = .ok (.iload 4, 2) := dk_21 4 (dk_at dksL_law_13 21 rfl rfl)
theorem dL_law_443 : decode cL_law 443 = .ok (.iconst 2, 1) := dk_5 (dk_at dksL_law_13 23 rfl rfl)
theorem dL_law_444 : decode cL_law 444 = .ok (.iadd, 1) := dk_96 (dk_at dksL_law_14 0 rfl rfl)
theorem dL_law_445 : decode cL_law 445 = .ok (.iaload, 1) := dk_46 (dk_at dksL_law_14 1 rfl rfl)
theorem dL_law_446 : decode cL_law 446 = .ok (.invokevirtual 140, 3) := dk_182 0 140 (dk_at dksL_law_14 2 rfl rfl)
theorem dL_law_449 : decode cL_law 449 = .ok (.istore 6, 2) := dk_54 6 (dk_at dksL_law_14 5 rfl rfl)
theorem dL_law_451 : decode cL_law 451 = .ok (.aload_n 2, 1) := dk_44 (dk_at dksL_law_14 7 rfl rfl)
theorem dL_law_452 : decode cL_law 452 = .ok (.invokevirtual 127, 3) := dk_182 0 127 (dk_at dksL_law_14 8 rfl rfl)
theorem dL_law_455 : decode cL_law 455 = .ok (.iload 5, 2) := dk_21 5 (dk_at dksL_law_14 11 rfl rfl)
theorem dL_law_457 : decode cL_law 457 = .ok (.if_icmp .eq 5, 3) := dk_159 0 5 (dk_at dksL_law_14 13 rfl rfl)
theorem dL_law_460 : decode cL_law 460 = .ok (.iconst 0, 1) := dk_3 (dk_at dksL_law_14 16 rfl rfl)
theorem dL_law_461 : decode cL_law 461 = .ok (.ireturn, 1) := dk_172 (dk_at dksL_law_14 17 rfl rfl)
theorem dL_law_462 : decode cL_law 462 = .ok (.iload 5, 2) := dk_21 5 (dk_at dksL_law_14 18 rfl rfl)
theorem dL_law_464 : decode cL_law 464 = .ok (.ifCond .ne 15, 3) := dk_154 0 15 (dk_at dksL_law_14 20 rfl rfl)
theorem dL_law_467 : decode cL_law 467 = .ok (.aload_n 3, 1) := dk_45 (dk_at dksL_law_14 23 rfl rfl)
theorem dL_law_468 : decode cL_law 468 = .ok (.iconst 0, 1) := dk_3 (dk_at dksL_law_15 0 rfl rfl)
theorem dL_law_469 : decode cL_law 469 = .ok (.laload, 1) := dk_47 (dk_at dksL_law_15 1 rfl rfl)
theorem dL_law_470 : decode cL_law 470 = .ok (.iload 6, 2) := dk_21 6 (dk_at dksL_law_15 2 rfl rfl)
theorem dL_law_472 : decode cL_law 472 = .ok (.i2l, 1) := dk_133 (dk_at dksL_law_15 4 rfl rfl)
theorem dL_law_473 : decode cL_law 473 = .ok (.lcmp, 1) := dk_148 (dk_at dksL_law_15 5 rfl rfl)
theorem dL_law_474 : decode cL_law 474 = .ok (.ifCond .eq 5, 3) := dk_153 0 5 (dk_at dksL_law_15 6 rfl rfl)
theorem dL_law_477 : decode cL_law 477 = .ok (.iconst 0, 1) := dk_3 (dk_at dksL_law_15 9 rfl rfl)
theorem dL_law_478 : decode cL_law 478 = .ok (.ireturn, 1) := dk_172 (dk_at dksL_law_15 10 rfl rfl)
theorem dL_law_479 : decode cL_law 479 = .ok (.goto 1909, 3) := dk_167 7 117 (dk_at dksL_law_15 11 rfl rfl)
theorem dL_law_482 : decode cL_law 482 = .ok (.aload_n 1, 1) := dk_43 (dk_at dksL_law_15 14 rfl rfl)
theorem dL_law_483 : decode cL_law 483 = .ok (.aload_n 0, 1) := dk_42 (dk_at dksL_law_15 15 rfl rfl)
theorem dL_law_484 : decode cL_law 484 = .ok (.iload 4, 2) := dk_21 4 (dk_at dksL_law_15 16 rfl rfl)
theorem dL_law_486 : decode cL_law 486 = .ok (.iconst 1, 1) := dk_4 (dk_at dksL_law_15 18 rfl rfl)
theorem dL_law_487 : decode cL_law 487 = .ok (.iadd, 1) := dk_96 (dk_at dksL_law_15 19 rfl rfl)
theorem dL_law_488 : decode cL_law 488 = .ok (.iaload, 1) := dk_46 (dk_at dksL_law_15 20 rfl rfl)
theorem dL_law_489 : decode cL_law 489 = .ok (.aload_n 3, 1) := dk_45 (dk_at dksL_law_15 21 rfl rfl)
theorem dL_law_490 : decode cL_law 490 = .ok (.invokestatic 141, 3) := dk_184 0 141 (dk_at dksL_law_16 0 rfl rfl)
theorem dL_law_493 : decode cL_law 493 = .ok (.istore 5, 2) := dk_54 5 (dk_at dksL_law_16 3 rfl rfl)
theorem dL_law_495 : decode cL_law 495 = .ok (.aload_n 2, 1) := dk_44 (dk_at dksL_law_16 5 rfl rfl)
theorem dL_law_496 : decode cL_law 496 = .ok (.aload_n 0, 1) := dk_42 (dk_at dksL_law_16 6 rfl rfl)
theorem dL_law_497 : decode cL_law 497 = .ok (.iload 4, 2) := dk_21 4 (dk_at dksL_law_16 7 rfl rfl)
theorem dL_law_499 : decode cL_law 499 = .ok (.iconst 1, 1) := dk_4 (dk_at dksL_law_16 9 rfl rfl)
theorem dL_law_500 : decode cL_law 500 = .ok (.iadd, 1) := dk_96 (dk_at dksL_law_16 10 rfl rfl)
theorem dL_law_501 : decode cL_law 501 = .ok (.iaload, 1) := dk_46 (dk_at dksL_law_16 11 rfl rfl)
theorem dL_law_502 : decode cL_law 502 = .ok (.invokevirtual 144, 3) := dk_182 0 144 (dk_at dksL_law_16 12 rfl rfl)
theorem dL_law_505 : decode cL_law 505 = .ok (.istore 6, 2) := dk_54 6 (dk_at dksL_law_16 15 rfl rfl)
theorem dL_law_507 : decode cL_law 507 = .ok (.aload_n 2, 1) := dk_44 (dk_at dksL_law_16 17 rfl rfl)
theorem dL_law_508 : decode cL_law 508 = .ok (.invokevirtual 127, 3) := dk_182 0 127 (dk_at dksL_law_16 18 rfl rfl)
theorem dL_law_511 : decode cL_law 511 = .ok (.iload 5, 2) := dk_21 5 (dk_at dksL_law_16 21 rfl rfl)
theorem dL_law_513 : decode cL_law 513 = .ok (.if_icmp .eq 5, 3) := dk_159 0 5 (dk_at dksL_law_17 0 rfl rfl)
theorem dL_law_516 : decode cL_law 516 = .ok (.iconst 0, 1) := dk_3 (dk_at dksL_law_17 3 rfl rfl)
theorem dL_law_517 : decode cL_law 517 = .ok (.ireturn, 1) := dk_172 (dk_at dksL_law_17 4 rfl rfl)
theorem dL_law_518 : decode cL_law 518 = .ok (.iload 5, 2) := dk_21 5 (dk_at dksL_law_17 5 rfl rfl)
theorem dL_law_520 : decode cL_law 520 = .ok (.ifCond .ne 15, 3) := dk_154 0 15 (dk_at dksL_law_17 7 rfl rfl)
theorem dL_law_523 : decode cL_law 523 = .ok (.aload_n 3, 1) := dk_45 (dk_at dksL_law_17 10 rfl rfl)
theorem dL_law_524 : decode cL_law 524 = .ok (.iconst 0, 1) := dk_3 (dk_at dksL_law_17 11 rfl rfl)
theorem dL_law_525 : decode cL_law 525 = .ok (.laload, 1) := dk_47 (dk_at dksL_law_17 12 rfl rfl)
theorem dL_law_526 : decode cL_law 526 = .ok (.iload 6, 2) := dk_21 6 (dk_at dksL_law_17 13 rfl rfl)
theorem dL_law_528 : decode cL_law 528 = .ok (.i2l, 1) := dk_133 (dk_at dksL_law_17 15 rfl rfl)
theorem dL_law_529 : decode cL_law 529 = .ok (.lcmp, 1) := dk_148 (dk_at dksL_law_17 16 rfl rfl)
theorem dL_law_530 : decode cL_law 530 = .ok (.ifCond .eq 5, 3) := dk_153 0 5 (dk_at dksL_law_17 17 rfl rfl)
theorem dL_law_533 : decode cL_law 533 = .ok (.iconst 0, 1) := dk_3 (dk_at dksL_law_17 20 rfl rfl)
theorem dL_law_534 : decode cL_law 534 = .ok (.ireturn, 1) := dk_172 (dk_at dksL_law_17 21 rfl rfl)
theorem dL_law_535 : decode cL_law 535 = .ok (.goto 1853, 3) := dk_167 7 61 (dk_at dksL_law_18 0 rfl rfl)
theorem dL_law_538 : decode cL_law 538 = .ok (.aload_n 1, 1) := dk_43 (dk_at dksL_law_18 3 rfl rfl)
theorem dL_law_539 : decode cL_law 539 = .ok (.aload_n 0, 1) := dk_42 (dk_at dksL_law_18 4 rfl rfl)
theorem dL_law_540 : decode cL_law 540 = .ok (.iload 4, 2) := dk_21 4 (dk_at dksL_law_18 5 rfl rfl)
theorem dL_law_542 : decode cL_law 542 = .ok (.iconst 1, 1) := dk_4 (dk_at dksL_law_18 7 rfl rfl)
theorem dL_law_543 : decode cL_law 543 = .ok (.iadd, 1) := dk_96 (dk_at dksL_law_18 8 rfl rfl)
theorem dL_law_544 : decode cL_law 544 = .ok (.iaload, 1) := dk_46 (dk_at dksL_law_18 9 rfl rfl)
theorem dL_law_545 : decode cL_law 545 = .ok (.aload_n 0, 1) := dk_42 (dk_at dksL_law_18 10 rfl rfl)
theorem dL_law_546 : decode cL_law 546 = .ok (.iload 4, 2) := dk_21 4 (dk_at dksL_law_18 11 rfl rfl)
theorem dL_law_548 : decode cL_law 548 = .ok (.iconst 2, 1) := dk_5 (dk_at dksL_law_18 13 rfl rfl)
theorem dL_law_549 : decode cL_law 549 = .ok (.iadd, 1) := dk_96 (dk_at dksL_law_18 14 rfl rfl)
theorem dL_law_550 : decode cL_law 550 = .ok (.iaload, 1) := dk_46 (dk_at dksL_law_18 15 rfl rfl)
theorem dL_law_551 : decode cL_law 551 = .ok (.aload_n 0, 1) := dk_42 (dk_at dksL_law_18 16 rfl rfl)
theorem dL_law_552 : decode cL_law 552 = .ok (.iload 4, 2) := dk_21 4 (dk_at dksL_law_18 17 rfl rfl)
theorem dL_law_554 : decode cL_law 554 = .ok (.iconst 3, 1) := dk_6 (dk_at dksL_law_18 19 rfl rfl)
theorem dL_law_555 : decode cL_law 555 = .ok (.iadd, 1) := dk_96 (dk_at dksL_law_18 20 rfl rfl)
theorem dL_law_556 : decode cL_law 556 = .ok (.iaload, 1) := dk_46 (dk_at dksL_law_18 21 rfl rfl)
theorem dL_law_557 : decode cL_law 557 = .ok (.aload_n 0, 1) := dk_42 (dk_at dksL_law_18 22 rfl rfl)
theorem dL_law_558 : decode cL_law 558 = .ok (.iload 4, 2) := dk_21 4 (dk_at dksL_law_19 0 rfl rfl)
theorem dL_law_560 : decode cL_law 560 = .ok (.iconst 4, 1) := dk_7 (dk_at dksL_law_19 2 rfl rfl)
theorem dL_law_561 : decode cL_law 561 = .ok (.iadd, 1) := dk_96 (dk_at dksL_law_19 3 rfl rfl)
theorem dL_law_562 : decode cL_law 562 = .ok (.iaload, 1) := dk_46 (dk_at dksL_law_19 4 rfl rfl)
theorem dL_law_563 : decode cL_law 563 = .ok (.aload_n 0, 1) := dk_42 (dk_at dksL_law_19 5 rfl rfl)
theorem dL_law_564 : decode cL_law 564 = .ok (.iload 4, 2) := dk_21 4 (dk_at dksL_law_19 6 rfl rfl)
theorem dL_law_566 : decode cL_law 566 = .ok (.iconst 5, 1) := dk_8 (dk_at dksL_law_19 8 rfl rfl)
theorem dL_law_567 : decode cL_law 567 = .ok (.iadd, 1) := dk_96 (dk_at dksL_law_19 9 rfl rfl)
theorem dL_law_568 : decode cL_law 568 = .ok (.iaload, 1) := dk_46 (dk_at dksL_law_19 10 rfl rfl)
theorem dL_law_569 : decode cL_law 569 = .ok (.aload_n 0, 1) := dk_42 (dk_at dksL_law_19 11 rfl rfl)
theorem dL_law_570 : decode cL_law 570 = .ok (.iload 4, 2) := dk_21 4 (dk_at dksL_law_19 12 rfl rfl)
theorem dL_law_572 : decode cL_law 572 = .ok (.bipush 6, 2) := dk_16 6 (dk_at dksL_law_19 14 rfl rfl)
theorem dL_law_574 : decode cL_law 574 = .ok (.iadd, 1) := dk_96 (dk_at dksL_law_19 16 rfl rfl)
theorem dL_law_575 : decode cL_law 575 = .ok (.iaload, 1) := dk_46 (dk_at dksL_law_19 17 rfl rfl)
theorem dL_law_576 : decode cL_law 576 = .ok (.aload_n 0, 1) := dk_42 (dk_at dksL_law_19 18 rfl rfl)
theorem dL_law_577 : decode cL_law 577 = .ok (.iload 4, 2) := dk_21 4 (dk_at dksL_law_19 19 rfl rfl)
theorem dL_law_579 : decode cL_law 579 = .ok (.bipush 7, 2) := dk_16 7 (dk_at dksL_law_19 21 rfl rfl)
theorem dL_law_581 : decode cL_law 581 = .ok (.iadd, 1) := dk_96 (dk_at dksL_law_19 23 rfl rfl)
theorem dL_law_582 : decode cL_law 582 = .ok (.iaload, 1) := dk_46 (dk_at dksL_law_20 0 rfl rfl)
theorem dL_law_583 : decode cL_law 583 = .ok (.aload_n 3, 1) := dk_45 (dk_at dksL_law_20 1 rfl rfl)
theorem dL_law_584 : decode cL_law 584 = .ok (.invokestatic 145, 3) := dk_184 0 145 (dk_at dksL_law_20 2 rfl rfl)
theorem dL_law_587 : decode cL_law 587 = .ok (.istore 5, 2) := dk_54 5 (dk_at dksL_law_20 5 rfl rfl)
theorem dL_law_589 : decode cL_law 589 = .ok (.aload_n 2, 1) := dk_44 (dk_at dksL_law_20 7 rfl rfl)
theorem dL_law_590 : decode cL_law 590 = .ok (.aload_n 0, 1) := dk_42 (dk_at dksL_law_20 8 rfl rfl)
theorem dL_law_591 : decode cL_law 591 = .ok (.iload 4, 2) := dk_21 4 (dk_at dksL_law_20 9 rfl rfl)
theorem dL_law_593 : decode cL_law 593 = .ok (.iconst 1, 1) := dk_4 (dk_at dksL_law_20 11 rfl rfl)
theorem dL_law_594 : decode cL_law 594 = .ok (.iadd, 1) := dk_96 (dk_at dksL_law_20 12 rfl rfl)
theorem dL_law_595 : decode cL_law 595 = .ok (.iaload, 1) := dk_46 (dk_at dksL_law_20 13 rfl rfl)
theorem dL_law_596 : decode cL_law 596 = .ok (.aload_n 0, 1) := dk_42 (dk_at dksL_law_20 14 rfl rfl)
theorem dL_law_597 : decode cL_law 597 = .ok (.iload 4, 2) := dk_21 4 (dk_at dksL_law_20 15 rfl rfl)
theorem dL_law_599 : decode cL_law 599 = .ok (.iconst 2, 1) := dk_5 (dk_at dksL_law_20 17 rfl rfl)
theorem dL_law_600 : decode cL_law 600 = .ok (.iadd, 1) := dk_96 (dk_at dksL_law_20 18 rfl rfl)
theorem dL_law_601 : decode cL_law 601 = .ok (.iaload, 1) := dk_46 (dk_at dksL_law_20 19 rfl rfl)
theorem dL_law_602 : decode cL_law 602 = .ok (.aload_n 0, 1) := dk_42 (dk_at dksL_law_20 20 rfl rfl)
theorem dL_law_603 : decode cL_law 603 = .ok (.iload 4, 2) := dk_21 4 (dk_at dksL_law_20 21 rfl rfl)
theorem dL_law_605 : decode cL_law 605 = .ok (.iconst 3, 1) := dk_6 (dk_at dksL_law_20 23 rfl rfl)
theorem dL_law_606 : decode cL_law 606 = .ok (.iadd, 1) := dk_96 (dk_at dksL_law_21 0 rfl rfl)
theorem dL_law_607 : decode cL_law 607 = .ok (.iaload, 1) := dk_46 (dk_at dksL_law_21 1 rfl rfl)
theorem dL_law_608 : decode cL_law 608 = .ok (.aload_n 0, 1) := dk_42 (dk_at dksL_law_21 2 rfl rfl)
theorem dL_law_609 : decode cL_law 609 = .ok (.iload 4, 2) := dk_21 4 (dk_at dksL_law_21 3 rfl rfl)
theorem dL_law_611 : decode cL_law 611 = .ok (.iconst 4, 1) := dk_7 (dk_at dksL_law_21 5 rfl rfl)
theorem dL_law_612 : decode cL_law 612 = .ok (.iadd, 1) := dk_96 (dk_at dksL_law_21 6 rfl rfl)
theorem dL_law_613 : decode cL_law 613 = .ok (.iaload, 1) := dk_46 (dk_at dksL_law_21 7 rfl rfl)
theorem dL_law_614 : decode cL_law 614 = .ok (.aload_n 0, 1) := dk_42 (dk_at dksL_law_21 8 rfl rfl)
theorem dL_law_615 : decode cL_law 615 = .ok (.iload 4, 2) := dk_21 4 (dk_at dksL_law_21 9 rfl rfl)
theorem dL_law_617 : decode cL_law 617 = .ok (.iconst 5, 1) := dk_8 (dk_at dksL_law_21 11 rfl rfl)
theorem dL_law_618 : decode cL_law 618 = .ok (.iadd, 1) := dk_96 (dk_at dksL_law_21 12 rfl rfl)
theorem dL_law_619 : decode cL_law 619 = .ok (.iaload, 1) := dk_46 (dk_at dksL_law_21 13 rfl rfl)
theorem dL_law_620 : decode cL_law 620 = .ok (.aload_n 0, 1) := dk_42 (dk_at dksL_law_21 14 rfl rfl)
theorem dL_law_621 : decode cL_law 621 = .ok (.iload 4, 2) := dk_21 4 (dk_at dksL_law_21 15 rfl rfl)
theorem dL_law_623 : decode cL_law 623 = .ok (.bipush 6, 2) := dk_16 6 (dk_at dksL_law_21 17 rfl rfl)
theorem dL_law_625 : decode cL_law 625 = .ok (.iadd, 1) := dk_96 (dk_at dksL_law_21 19 rfl rfl)
theorem dL_law_626 : decode cL_law 626 = .ok (.iaload, 1) := dk_46 (dk_at dksL_law_21 20 rfl rfl)
theorem dL_law_627 : decode cL_law 627 = .ok (.aload_n 0, 1) := dk_42 (dk_at dksL_law_21 21 rfl rfl)
theorem dL_law_628 : decode cL_law 628 = .ok (.iload 4, 2) := dk_21 4 (dk_at dksL_law_21 22 rfl rfl)
theorem dL_law_630 : decode cL_law 630 = .ok (.bipush 7, 2) := dk_16 7 (dk_at dksL_law_22 0 rfl rfl)
theorem dL_law_632 : decode cL_law 632 = .ok (.iadd, 1) := dk_96 (dk_at dksL_law_22 2 rfl rfl)
theorem dL_law_633 : decode cL_law 633 = .ok (.iaload, 1) := dk_46 (dk_at dksL_law_22 3 rfl rfl)
theorem dL_law_634 : decode cL_law 634 = .ok (.invokevirtual 148, 3) := dk_182 0 148 (dk_at dksL_law_22 4 rfl rfl)
theorem dL_law_637 : decode cL_law 637 = .ok (.istore 6, 2) := dk_54 6 (dk_at dksL_law_22 7 rfl rfl)
theorem dL_law_639 : decode cL_law 639 = .ok (.aload_n 2, 1) := dk_44 (dk_at dksL_law_22 9 rfl rfl)
theorem dL_law_640 : decode cL_law 640 = .ok (.invokevirtual 127, 3) := dk_182 0 127 (dk_at dksL_law_22 10 rfl rfl)
theorem dL_law_643 : decode cL_law 643 = .ok (.iload 5, 2) := dk_21 5 (dk_at dksL_law_22 13 rfl rfl)
theorem dL_law_645 : decode cL_law 645 = .ok (.if_icmp .eq 5, 3) := dk_159 0 5 (dk_at dksL_law_22 15 rfl rfl)
theorem dL_law_648 : decode cL_law 648 = .ok (.iconst 0, 1) := dk_3 (dk_at dksL_law_22 18 rfl rfl)
theorem dL_law_649 : decode cL_law 649 = .ok (.ireturn, 1) := dk_172 (dk_at dksL_law_22 19 rfl rfl)
theorem dL_law_650 : decode cL_law 650 = .ok (.iload 5, 2) := dk_21 5 (dk_at dksL_law_22 20 rfl rfl)
theorem dL_law_652 : decode cL_law 652 = .ok (.ifCond .ne 15, 3) := dk_154 0 15 (dk_at dksL_law_23 0 rfl rfl)
theorem dL_law_655 : decode cL_law 655 = .ok (.aload_n 3, 1) := dk_45 (dk_at dksL_law_23 3 rfl rfl)
theorem dL_law_656 : decode cL_law 656 = .ok (.iconst 0, 1) := dk_3 (dk_at dksL_law_23 4 rfl rfl)
theorem dL_law_657 : decode cL_law 657 = .ok (.laload, 1) := dk_47 (dk_at dksL_law_23 5 rfl rfl)
theorem dL_law_658 : decode cL_law 658 = .ok (.iload 6, 2) := dk_21 6 (dk_at dksL_law_23 6 rfl rfl)
theorem dL_law_660 : decode cL_law 660 = .ok (.i2l, 1) := dk_133 (dk_at dksL_law_23 8 rfl rfl)
theorem dL_law_661 : decode cL_law 661 = .ok (.lcmp, 1) := dk_148 (dk_at dksL_law_23 9 rfl rfl)
theorem dL_law_662 : decode cL_law 662 = .ok (.ifCond .eq 5, 3) := dk_153 0 5 (dk_at dksL_law_23 10 rfl rfl)
theorem dL_law_665 : decode cL_law 665 = .ok (.iconst 0, 1) := dk_3 (dk_at dksL_law_23 13 rfl rfl)
theorem dL_law_666 : decode cL_law 666 = .ok (.ireturn, 1) := dk_172 (dk_at dksL_law_23 14 rfl rfl)
theorem dL_law_667 : decode cL_law 667 = .ok (.goto 1721, 3) := dk_167 6 185 (dk_at dksL_law_23 15 rfl rfl)
theorem dL_law_670 : decode cL_law 670 = .ok (.aload_n 1, 1) := dk_43 (dk_at dksL_law_23 18 rfl rfl)
theorem dL_law_671 : decode cL_law 671 = .ok (.aload_n 0, 1) := dk_42 (dk_at dksL_law_23 19 rfl rfl)
theorem dL_law_672 : decode cL_law 672 = .ok (.iload 4, 2) := dk_21 4 (dk_at dksL_law_23 20 rfl rfl)
theorem dL_law_674 : decode cL_law 674 = .ok (.iconst 1, 1) := dk_4 (dk_at dksL_law_23 22 rfl rfl)
theorem dL_law_675 : decode cL_law 675 = .ok (.iadd, 1) := dk_96 (dk_at dksL_law_23 23 rfl rfl)
theorem dL_law_676 : decode cL_law 676 = .ok (.iaload, 1) := dk_46 (dk_at dksL_law_24 0 rfl rfl)
theorem dL_law_677 : decode cL_law 677 = .ok (.aload_n 0, 1) := dk_42 (dk_at dksL_law_24 1 rfl rfl)
theorem dL_law_678 : decode cL_law 678 = .ok (.iload 4, 2) := dk_21 4 (dk_at dksL_law_24 2 rfl rfl)
theorem dL_law_680 : decode cL_law 680 = .ok (.iconst 2, 1) := dk_5 (dk_at dksL_law_24 4 rfl rfl)
theorem dL_law_681 : decode cL_law 681 = .ok (.iadd, 1) := dk_96 (dk_at dksL_law_24 5 rfl rfl)
theorem dL_law_682 : decode cL_law 682 = .ok (.iaload, 1) := dk_46 (dk_at dksL_law_24 6 rfl rfl)
theorem dL_law_683 : decode cL_law 683 = .ok (.aload_n 3, 1) := dk_45 (dk_at dksL_law_24 7 rfl rfl)
theorem dL_law_684 : decode cL_law 684 = .ok (.invokestatic 149, 3) := dk_184 0 149 (dk_at dksL_law_24 8 rfl rfl)
theorem dL_law_687 : decode cL_law 687 = .ok (.istore 5, 2) := dk_54 5 (dk_at dksL_law_24 11 rfl rfl)
theorem dL_law_689 : decode cL_law 689 = .ok (.aload_n 2, 1) := dk_44 (dk_at dksL_law_24 13 rfl rfl)
theorem dL_law_690 : decode cL_law 690 = .ok (.aload_n 0, 1) := dk_42 (dk_at dksL_law_24 14 rfl rfl)
theorem dL_law_691 : decode cL_law 691 = .ok (.iload 4, 2) := dk_21 4 (dk_at dksL_law_24 15 rfl rfl)
theorem dL_law_693 : decode cL_law 693 = .ok (.iconst 1, 1) := dk_4 (dk_at dksL_law_24 17 rfl rfl)
theorem dL_law_694 : decode cL_law 694 = .ok (.iadd, 1) := dk_96 (dk_at dksL_law_24 18 rfl rfl)
theorem dL_law_695 : decode cL_law 695 = .ok (.iaload, 1) := dk_46 (dk_at dksL_law_24 19 rfl rfl)
theorem dL_law_696 : decode cL_law 696 = .ok (.aload_n 0, 1) := dk_42 (dk_at dksL_law_24 20 rfl rfl)
theorem dL_law_697 : decode cL_law 697 = .ok (.iload 4, 2) := dk_21 4 (dk_at dksL_law_24 21 rfl rfl)
theorem dL_law_699 : decode cL_law 699 = .ok (.iconst 2, 1) := dk_5 (dk_at dksL_law_24 23 rfl rfl)
theorem dL_law_700 : decode cL_law 700 = .ok (.iadd, 1) := dk_96 (dk_at dksL_law_25 0 rfl rfl)
theorem dL_law_701 : decode cL_law 701 = .ok (.iaload, 1) := dk_46 (dk_at dksL_law_25 1 rfl rfl)
theorem dL_law_702 : decode cL_law 702 = .ok (.invokevirtual 151, 3) := dk_182 0 151 (dk_at dksL_law_25 2 rfl rfl)
theorem dL_law_705 : decode cL_law 705 = .ok (.istore 6, 2) := dk_54 6 (dk_at dksL_law_25 5 rfl rfl)
theorem dL_law_707 : decode cL_law 707 = .ok (.aload_n 2, 1) := dk_44 (dk_at dksL_law_25 7 rfl rfl)
theorem dL_law_708 : decode cL_law 708 = .ok (.invokevirtual 127, 3) := dk_182 0 127 (dk_at dksL_law_25 8 rfl rfl)
theorem dL_law_711 : decode cL_law 711 = .ok (.iload 5, 2) := dk_21 5 (dk_at dksL_law_25 11 rfl rfl)
theorem dL_law_713 : decode cL_law 713 = .ok (.if_icmp .eq 5, 3) := dk_159 0 5 (dk_at dksL_law_25 13 rfl rfl)
theorem dL_law_716 : decode cL_law 716 = .ok (.iconst 0, 1) := dk_3 (dk_at dksL_law_25 16 rfl rfl)
theorem dL_law_717 : decode cL_law 717 = .ok (.ireturn, 1) := dk_172 (dk_at dksL_law_25 17 rfl rfl)
theorem dL_law_718 : decode cL_law 718 = .ok (.iload 5, 2) := dk_21 5 (dk_at dksL_law_25 18 rfl rfl)
theorem dL_law_720 : decode cL_law 720 = .ok (.ifCond .ne 15, 3) := dk_154 0 15 (dk_at dksL_law_25 20 rfl rfl)
theorem dL_law_723 : decode cL_law 723 = .ok (.aload_n 3, 1) := dk_45 (dk_at dksL_law_25 23 rfl rfl)
theorem dL_law_724 : decode cL_law 724 = .ok (.iconst 0, 1) := dk_3 (dk_at dksL_law_26 0 rfl rfl)
theorem dL_law_725 : decode cL_law 725 = .ok (.laload, 1) := dk_47 (dk_at dksL_law_26 1 rfl rfl)
theorem dL_law_726 : decode cL_law 726 = .ok (.iload 6, 2) := dk_21 6 (dk_at dksL_law_26 2 rfl rfl)
theorem dL_law_728 : decode cL_law 728 = .ok (.i2l, 1) := dk_133 (dk_at dksL_law_26 4 rfl rfl)
theorem dL_law_729 : decode cL_law 729 = .ok (.lcmp, 1) := dk_148 (dk_at dksL_law_26 5 rfl rfl)
theorem dL_law_730 : decode cL_law 730 = .ok (.ifCond .eq 5, 3) := dk_153 0 5 (dk_at dksL_law_26 6 rfl rfl)
theorem dL_law_733 : decode cL_law 733 = .ok (.iconst 0, 1) := dk_3 (dk_at dksL_law_26 9 rfl rfl)
theorem dL_law_734 : decode cL_law 734 = .ok (.ireturn, 1) := dk_172 (dk_at dksL_law_26 10 rfl rfl)
theorem dL_law_735 : decode cL_law 735 = .ok (.goto 1653, 3) := dk_167 6 117 (dk_at dksL_law_26 11 rfl rfl)
theorem dL_law_738 : decode cL_law 738 = .ok (.aload_n 1, 1) := dk_43 (dk_at dksL_law_26 14 rfl rfl)
theorem dL_law_739 : decode cL_law 739 = .ok (.aload_n 0, 1) := dk_42 (dk_at dksL_law_26 15 rfl rfl)
theorem dL_law_740 : decode cL_law 740 = .ok (.iload 4, 2) := dk_21 4 (dk_at dksL_law_26 16 rfl rfl)
theorem dL_law_742 : decode cL_law 742 = .ok (.iconst 1, 1) := dk_4 (dk_at dksL_law_26 18 rfl rfl)
theorem dL_law_743 : decode cL_law 743 = .ok (.iadd, 1) := dk_96 (dk_at dksL_law_26 19 rfl rfl)
theorem dL_law_744 : decode cL_law 744 = .ok (.iaload, 1) := dk_46 (dk_at dksL_law_26 20 rfl rfl)
theorem dL_law_745 : decode cL_law 745 = .ok (.aload_n 0, 1) := dk_42 (dk_at dksL_law_26 21 rfl rfl)
theorem dL_law_746 : decode cL_law 746 = .ok (.iload 4, 2) := dk_21 4 (dk_at dksL_law_26 22 rfl rfl)
theorem dL_law_748 : decode cL_law 748 = .ok (.iconst 2, 1) := dk_5 (dk_at dksL_law_27 0 rfl rfl)
theorem dL_law_749 : decode cL_law 749 = .ok (.iadd, 1) := dk_96 (dk_at dksL_law_27 1 rfl rfl)
theorem dL_law_750 : decode cL_law 750 = .ok (.iaload, 1) := dk_46 (dk_at dksL_law_27 2 rfl rfl)
theorem dL_law_751 : decode cL_law 751 = .ok (.aload_n 3, 1) := dk_45 (dk_at dksL_law_27 3 rfl rfl)
theorem dL_law_752 : decode cL_law 752 = .ok (.invokestatic 152, 3) := dk_184 0 152 (dk_at dksL_law_27 4 rfl rfl)
theorem dL_law_755 : decode cL_law 755 = .ok (.istore 5, 2) := dk_54 5 (dk_at dksL_law_27 7 rfl rfl)
theorem dL_law_757 : decode cL_law 757 = .ok (.aload_n 2, 1) := dk_44 (dk_at dksL_law_27 9 rfl rfl)
theorem dL_law_758 : decode cL_law 758 = .ok (.aload_n 0, 1) := dk_42 (dk_at dksL_law_27 10 rfl rfl)
theorem dL_law_759 : decode cL_law 759 = .ok (.iload 4, 2) := dk_21 4 (dk_at dksL_law_27 11 rfl rfl)
theorem dL_law_761 : decode cL_law 761 = .ok (.iconst 1, 1) := dk_4 (dk_at dksL_law_27 13 rfl rfl)
theorem dL_law_762 : decode cL_law 762 = .ok (.iadd, 1) := dk_96 (dk_at dksL_law_27 14 rfl rfl)
theorem dL_law_763 : decode cL_law 763 = .ok (.iaload, 1) := dk_46 (dk_at dksL_law_27 15 rfl rfl)
theorem dL_law_764 : decode cL_law 764 = .ok (.aload_n 0, 1) := dk_42 (dk_at dksL_law_27 16 rfl rfl)
theorem dL_law_765 : decode cL_law 765 = .ok (.iload 4, 2) := dk_21 4 (dk_at dksL_law_27 17 rfl rfl)
theorem dL_law_767 : decode cL_law 767 = .ok (.iconst 2, 1) := dk_5 (dk_at dksL_law_27 19 rfl rfl)
theorem dL_law_768 : decode cL_law 768 = .ok (.iadd, 1) := dk_96 (dk_at dksL_law_27 20 rfl rfl)
theorem dL_law_769 : decode cL_law 769 = .ok (.iaload, 1) := dk_46 (dk_at dksL_law_27 21 rfl rfl)
theorem dL_law_770 : decode cL_law 770 = .ok (.invokevirtual 154, 3) := dk_182 0 154 (dk_at dksL_law_28 0 rfl rfl)
theorem dL_law_773 : decode cL_law 773 = .ok (.istore 6, 2) := dk_54 6 (dk_at dksL_law_28 3 rfl rfl)
theorem dL_law_775 : decode cL_law 775 = .ok (.aload_n 2, 1) := dk_44 (dk_at dksL_law_28 5 rfl rfl)
theorem dL_law_776 : decode cL_law 776 = .ok (.invokevirtual 127, 3) := dk_182 0 127 (dk_at dksL_law_28 6 rfl rfl)
theorem dL_law_779 : decode cL_law 779 = .ok (.iload 5, 2) := dk_21 5 (dk_at dksL_law_28 9 rfl rfl)
theorem dL_law_781 : decode cL_law 781 = .ok (.if_icmp .eq 5, 3) := dk_159 0 5 (dk_at dksL_law_28 11 rfl rfl)
theorem dL_law_784 : decode cL_law 784 = .ok (.iconst 0, 1) := dk_3 (dk_at dksL_law_28 14 rfl rfl)
theorem dL_law_785 : decode cL_law 785 = .ok (.ireturn, 1) := dk_172 (dk_at dksL_law_28 15 rfl rfl)
theorem dL_law_786 : decode cL_law 786 = .ok (.iload 5, 2) := dk_21 5 (dk_at dksL_law_28 16 rfl rfl)
theorem dL_law_788 : decode cL_law 788 = .ok (.ifCond .ne 15, 3) := dk_154 0 15 (dk_at dksL_law_28 18 rfl rfl)
theorem dL_law_791 : decode cL_law 791 = .ok (.aload_n 3, 1) := dk_45 (dk_at dksL_law_28 21 rfl rfl)
theorem dL_law_792 : decode cL_law 792 = .ok (.iconst 0, 1) := dk_3 (dk_at dksL_law_28 22 rfl rfl)
theorem dL_law_793 : decode cL_law 793 = .ok (.laload, 1) := dk_47 (dk_at dksL_law_28 23 rfl rfl)
theorem dL_law_794 : decode cL_law 794 = .ok (.iload 6, 2) := dk_21 6 (dk_at dksL_law_29 0 rfl rfl)
theorem dL_law_796 : decode cL_law 796 = .ok (.i2l, 1) := dk_133 (dk_at dksL_law_29 2 rfl rfl)
theorem dL_law_797 : decode cL_law 797 = .ok (.lcmp, 1) := dk_148 (dk_at dksL_law_29 3 rfl rfl)
theorem dL_law_798 : decode cL_law 798 = .ok (.ifCond .eq 5, 3) := dk_153 0 5 (dk_at dksL_law_29 4 rfl rfl)
theorem dL_law_801 : decode cL_law 801 = .ok (.iconst 0, 1) := dk_3 (dk_at dksL_law_29 7 rfl rfl)
theorem dL_law_802 : decode cL_law 802 = .ok (.ireturn, 1) := dk_172 (dk_at dksL_law_29 8 rfl rfl)
theorem dL_law_803 : decode cL_law 803 = .ok (.goto 1585, 3) := dk_167 6 49 (dk_at dksL_law_29 9 rfl rfl)
theorem dL_law_806 : decode cL_law 806 = .ok (.aload_n 1, 1) := dk_43 (dk_at dksL_law_29 12 rfl rfl)
theorem dL_law_807 : decode cL_law 807 = .ok (.aload_n 0, 1) := dk_42 (dk_at dksL_law_29 13 rfl rfl)
theorem dL_law_808 : decode cL_law 808 = .ok (.iload 4, 2) := dk_21 4 (dk_at dksL_law_29 14 rfl rfl)
theorem dL_law_810 : decode cL_law 810 = .ok (.iconst 1, 1) := dk_4 (dk_at dksL_law_29 16 rfl rfl)
theorem dL_law_811 : decode cL_law 811 = .ok (.iadd, 1) := dk_96 (dk_at dksL_law_29 17 rfl rfl)
theorem dL_law_812 : decode cL_law 812 = .ok (.iaload, 1) := dk_46 (dk_at dksL_law_29 18 rfl rfl)
theorem dL_law_813 : decode cL_law 813 = .ok (.aload_n 3, 1) := dk_45 (dk_at dksL_law_29 19 rfl rfl)
theorem dL_law_814 : decode cL_law 814 = .ok (.invokestatic 155, 3) := dk_184 0 155 (dk_at dksL_law_29 20 rfl rfl)
theorem dL_law_817 : decode cL_law 817 = .ok (.istore 5, 2) := dk_54 5 (dk_at dksL_law_30 0 rfl rfl)
theorem dL_law_819 : decode cL_law 819 = .ok (.aload_n 2, 1) := dk_44 (dk_at dksL_law_30 2 rfl rfl)
theorem dL_law_820 : decode cL_law 820 = .ok (.aload_n 0, 1) := dk_42 (dk_at dksL_law_30 3 rfl rfl)
theorem dL_law_821 : decode cL_law 821 = .ok (.iload 4, 2) := dk_21 4 (dk_at dksL_law_30 4 rfl rfl)
theorem dL_law_823 : decode cL_law 823 = .ok (.iconst 1, 1) := dk_4 (dk_at dksL_law_30 6 rfl rfl)
theorem dL_law_824 : decode cL_law 824 = .ok (.iadd, 1) := dk_96 (dk_at dksL_law_30 7 rfl rfl)
theorem dL_law_825 : decode cL_law 825 = .ok (.iaload, 1) := dk_46 (dk_at dksL_law_30 8 rfl rfl)
theorem dL_law_826 : decode cL_law 826 = .ok (.invokevirtual 157, 3) := dk_182 0 157 (dk_at dksL_law_30 9 rfl rfl)
theorem dL_law_829 : decode cL_law 829 = .ok (.istore 6, 2) := dk_54 6 (dk_at dksL_law_30 12 rfl rfl)
theorem dL_law_831 : decode cL_law 831 = .ok (.aload_n 2, 1) := dk_44 (dk_at dksL_law_30 14 rfl rfl)
theorem dL_law_832 : decode cL_law 832 = .ok (.invokevirtual 127, 3) := dk_182 0 127 (dk_at dksL_law_30 15 rfl rfl)
theorem dL_law_835 : decode cL_law 835 = .ok (.iload 5, 2) := dk_21 5 (dk_at dksL_law_30 18 rfl rfl)
theorem dL_law_837 : decode cL_law 837 = .ok (.if_icmp .eq 5, 3) := dk_159 0 5 (dk_at dksL_law_30 20 rfl rfl)
theorem dL_law_840 : decode cL_law 840 = .ok (.iconst 0, 1) := dk_3 (dk_at dksL_law_30 23 rfl rfl)
theorem dL_law_841 : decode cL_law 841 = .ok (.ireturn, 1) := dk_172 (dk_at dksL_law_31 0 rfl rfl)
theorem dL_law_842 : decode cL_law 842 = .ok (.iload 5, 2) := dk_21 5 (dk_at dksL_law_31 1 rfl rfl)
theorem dL_law_844 : decode cL_law 844 = .ok (.ifCond .ne 15, 3) := dk_154 0 15 (dk_at dksL_law_31 3 rfl rfl)
theorem dL_law_847 : decode cL_law 847 = .ok (.aload_n 3, 1) := dk_45 (dk_at dksL_law_31 6 rfl rfl)
theorem dL_law_848 : decode cL_law 848 = .ok (.iconst 0, 1) := dk_3 (dk_at dksL_law_31 7 rfl rfl)
theorem dL_law_849 : decode cL_law 849 = .ok (.laload, 1) := dk_47 (dk_at dksL_law_31 8 rfl rfl)
theorem dL_law_850 : decode cL_law 850 = .ok (.iload 6, 2) := dk_21 6 (dk_at dksL_law_31 9 rfl rfl)
theorem dL_law_852 : decode cL_law 852 = .ok (.i2l, 1) := dk_133 (dk_at dksL_law_31 11 rfl rfl)
theorem dL_law_853 : decode cL_law 853 = .ok (.lcmp, 1) := dk_148 (dk_at dksL_law_31 12 rfl rfl)
theorem dL_law_854 : decode cL_law 854 = .ok (.ifCond .eq 5, 3) := dk_153 0 5 (dk_at dksL_law_31 13 rfl rfl)
theorem dL_law_857 : decode cL_law 857 = .ok (.iconst 0, 1) := dk_3 (dk_at dksL_law_31 16 rfl rfl)
theorem dL_law_858 : decode cL_law 858 = .ok (.ireturn, 1) := dk_172 (dk_at dksL_law_31 17 rfl rfl)
theorem dL_law_859 : decode cL_law 859 = .ok (.goto 1529, 3) := dk_167 5 249 (dk_at dksL_law_31 18 rfl rfl)
theorem dL_law_862 : decode cL_law 862 = .ok (.aload_n 1, 1) := dk_43 (dk_at dksL_law_31 21 rfl rfl)
theorem dL_law_863 : decode cL_law 863 = .ok (.aload_n 0, 1) := dk_42 (dk_at dksL_law_31 22 rfl rfl)
theorem dL_law_864 : decode cL_law 864 = .ok (.iload 4, 2) := dk_21 4 (dk_at dksL_law_32 0 rfl rfl)
theorem dL_law_866 : decode cL_law 866 = .ok (.iconst 1, 1) := dk_4 (dk_at dksL_law_32 2 rfl rfl)
theorem dL_law_867 : decode cL_law 867 = .ok (.iadd, 1) := dk_96 (dk_at dksL_law_32 3 rfl rfl)
theorem dL_law_868 : decode cL_law 868 = .ok (.iaload, 1) := dk_46 (dk_at dksL_law_32 4 rfl rfl)
theorem dL_law_869 : decode cL_law 869 = .ok (.aload_n 0, 1) := dk_42 (dk_at dksL_law_32 5 rfl rfl)
theorem dL_law_870 : decode cL_law 870 = .ok (.iload 4, 2) := dk_21 4 (dk_at dksL_law_32 6 rfl rfl)
theorem dL_law_872 : decode cL_law 872 = .ok (.iconst 2, 1) := dk_5 (dk_at dksL_law_32 8 rfl rfl)
theorem dL_law_873 : decode cL_law 873 = .ok (.iadd, 1) := dk_96 (dk_at dksL_law_32 9 rfl rfl)
theorem dL_law_874 : decode cL_law 874 = .ok (.iaload, 1) := dk_46 (dk_at dksL_law_32 10 rfl rfl)
theorem dL_law_875 : decode cL_law 875 = .ok (.aload_n 3, 1) := dk_45 (dk_at dksL_law_32 11 rfl rfl)
theorem dL_law_876 : decode cL_law 876 = .ok (.invokestatic 158, 3) := dk_184 0 158 (dk_at dksL_law_32 12 rfl rfl)
theorem dL_law_879 : decode cL_law 879 = .ok (.istore 5, 2) := dk_54 5 (dk_at dksL_law_32 15 rfl rfl)
theorem dL_law_881 : decode cL_law 881 = .ok (.aload_n 2, 1) := dk_44 (dk_at dksL_law_32 17 rfl rfl)
theorem dL_law_882 : decode cL_law 882 = .ok (.aload_n 0, 1) := dk_42 (dk_at dksL_law_32 18 rfl rfl)
theorem dL_law_883 : decode cL_law 883 = .ok (.iload 4, 2) := dk_21 4 (dk_at dksL_law_32 19 rfl rfl)
theorem dL_law_885 : decode cL_law 885 = .ok (.iconst 1, 1) := dk_4 (dk_at dksL_law_32 21 rfl rfl)
theorem dL_law_886 : decode cL_law 886 = .ok (.iadd, 1) := dk_96 (dk_at dksL_law_32 22 rfl rfl)
theorem dL_law_887 : decode cL_law 887 = .ok (.iaload, 1) := dk_46 (dk_at dksL_law_32 23 rfl rfl)
theorem dL_law_888 : decode cL_law 888 = .ok (.aload_n 0, 1) := dk_42 (dk_at dksL_law_33 0 rfl rfl)
theorem dL_law_889 : decode cL_law 889 = .ok (.iload 4, 2) := dk_21 4 (dk_at dksL_law_33 1 rfl rfl)
theorem dL_law_891 : decode cL_law 891 = .ok (.iconst 2, 1) := dk_5 (dk_at dksL_law_33 3 rfl rfl)
theorem dL_law_892 : decode cL_law 892 = .ok (.iadd, 1) := dk_96 (dk_at dksL_law_33 4 rfl rfl)
theorem dL_law_893 : decode cL_law 893 = .ok (.iaload, 1) := dk_46 (dk_at dksL_law_33 5 rfl rfl)
theorem dL_law_894 : decode cL_law 894 = .ok (.invokevirtual 160, 3) := dk_182 0 160 (dk_at dksL_law_33 6 rfl rfl)
theorem dL_law_897 : decode cL_law 897 = .ok (.istore 6, 2) := dk_54 6 (dk_at dksL_law_33 9 rfl rfl)
theorem dL_law_899 : decode cL_law 899 = .ok (.aload_n 2, 1) := dk_44 (dk_at dksL_law_33 11 rfl rfl)
theorem dL_law_900 : decode cL_law 900 = .ok (.invokevirtual 127, 3) := dk_182 0 127 (dk_at dksL_law_33 12 rfl rfl)
theorem dL_law_903 : decode cL_law 903 = .ok (.iload 5, 2) := dk_21 5 (dk_at dksL_law_33 15 rfl rfl)
theorem dL_law_905 : decode cL_law 905 = .ok (.if_icmp .eq 5, 3) := dk_159 0 5 (dk_at dksL_law_33 17 rfl rfl)
theorem dL_law_908 : decode cL_law 908 = .ok (.iconst 0, 1) := dk_3 (dk_at dksL_law_33 20 rfl rfl)
theorem dL_law_909 : decode cL_law 909 = .ok (.ireturn, 1) := dk_172 (dk_at dksL_law_33 21 rfl rfl)
theorem dL_law_910 : decode cL_law 910 = .ok (.iload 5, 2) := dk_21 5 (dk_at dksL_law_33 22 rfl rfl)
theorem dL_law_912 : decode cL_law 912 = .ok (.ifCond .ne 15, 3) := dk_154 0 15 (dk_at dksL_law_34 0 rfl rfl)
theorem dL_law_915 : decode cL_law 915 = .ok (.aload_n 3, 1) := dk_45 (dk_at dksL_law_34 3 rfl rfl)
theorem dL_law_916 : decode cL_law 916 = .ok (.iconst 0, 1) := dk_3 (dk_at dksL_law_34 4 rfl rfl)
theorem dL_law_917 : decode cL_law 917 = .ok (.laload, 1) := dk_47 (dk_at dksL_law_34 5 rfl rfl)
theorem dL_law_918 : decode cL_law 918 = .ok (.iload 6, 2) := dk_21 6 (dk_at dksL_law_34 6 rfl rfl)
theorem dL_law_920 : decode cL_law 920 = .ok (.i2l, 1) := dk_133 (dk_at dksL_law_34 8 rfl rfl)
theorem dL_law_921 : decode cL_law 921 = .ok (.lcmp, 1) := dk_148 (dk_at dksL_law_34 9 rfl rfl)
theorem dL_law_922 : decode cL_law 922 = .ok (.ifCond .eq 5, 3) := dk_153 0 5 (dk_at dksL_law_34 10 rfl rfl)
theorem dL_law_925 : decode cL_law 925 = .ok (.iconst 0, 1) := dk_3 (dk_at dksL_law_34 13 rfl rfl)
theorem dL_law_926 : decode cL_law 926 = .ok (.ireturn, 1) := dk_172 (dk_at dksL_law_34 14 rfl rfl)
theorem dL_law_927 : decode cL_law 927 = .ok (.goto 1461, 3) := dk_167 5 181 (dk_at dksL_law_34 15 rfl rfl)
theorem dL_law_930 : decode cL_law 930 = .ok (.aload_n 1, 1) := dk_43 (dk_at dksL_law_34 18 rfl rfl)
theorem dL_law_931 : decode cL_law 931 = .ok (.aload_n 0, 1) := dk_42 (dk_at dksL_law_34 19 rfl rfl)
theorem dL_law_932 : decode cL_law 932 = .ok (.iload 4, 2) := dk_21 4 (dk_at dksL_law_34 20 rfl rfl)
theorem dL_law_934 : decode cL_law 934 = .ok (.iconst 1, 1) := dk_4 (dk_at dksL_law_34 22 rfl rfl)
theorem dL_law_935 : decode cL_law 935 = .ok (.iadd, 1) := dk_96 (dk_at dksL_law_34 23 rfl rfl)
theorem dL_law_936 : decode cL_law 936 = .ok (.iaload, 1) := dk_46 (dk_at dksL_law_35 0 rfl rfl)
theorem dL_law_937 : decode cL_law 937 = .ok (.aload_n 0, 1) := dk_42 (dk_at dksL_law_35 1 rfl rfl)
theorem dL_law_938 : decode cL_law 938 = .ok (.iload 4, 2) := dk_21 4 (dk_at dksL_law_35 2 rfl rfl)
theorem dL_law_940 : decode cL_law 940 = .ok (.iconst 2, 1) := dk_5 (dk_at dksL_law_35 4 rfl rfl)
theorem dL_law_941 : decode cL_law 941 = .ok (.iadd, 1) := dk_96 (dk_at dksL_law_35 5 rfl rfl)
theorem dL_law_942 : decode cL_law 942 = .ok (.iaload, 1) := dk_46 (dk_at dksL_law_35 6 rfl rfl)
theorem dL_law_943 : decode cL_law 943 = .ok (.ifCond .eq 7, 3) := dk_153 0 7 (dk_at dksL_law_35 7 rfl rfl)
theorem dL_law_946 : decode cL_law 946 = .ok (.iconst 1, 1) := dk_4 (dk_at dksL_law_35 10 rfl rfl)
theorem dL_law_947 : decode cL_law 947 = .ok (.goto 4, 3) := dk_167 0 4 (dk_at dksL_law_35 11 rfl rfl)
theorem dL_law_950 : decode cL_law 950 = .ok (.iconst 0, 1) := dk_3 (dk_at dksL_law_35 14 rfl rfl)
theorem dL_law_951 : decode cL_law 951 = .ok (.aload_n 3, 1) := dk_45 (dk_at dksL_law_35 15 rfl rfl)
theorem dL_law_952 : decode cL_law 952 = .ok (.invokestatic 161, 3) := dk_184 0 161 (dk_at dksL_law_35 16 rfl rfl)
theorem dL_law_955 : decode cL_law 955 = .ok (.istore 5, 2) := dk_54 5 (dk_at dksL_law_35 19 rfl rfl)
theorem dL_law_957 : decode cL_law 957 = .ok (.aload_n 2, 1) := dk_44 (dk_at dksL_law_35 21 rfl rfl)
theorem dL_law_958 : decode cL_law 958 = .ok (.aload_n 0, 1) := dk_42 (dk_at dksL_law_35 22 rfl rfl)
theorem dL_law_959 : decode cL_law 959 = .ok (.iload 4, 2) := dk_21 4 (dk_at dksL_law_36 0 rfl rfl)
theorem dL_law_961 : decode cL_law 961 = .ok (.iconst 1, 1) := dk_4 (dk_at dksL_law_36 2 rfl rfl)
theorem dL_law_962 : decode cL_law 962 = .ok (.iadd, 1) := dk_96 (dk_at dksL_law_36 3 rfl rfl)
theorem dL_law_963 : decode cL_law 963 = .ok (.iaload, 1) := dk_46 (dk_at dksL_law_36 4 rfl rfl)
theorem dL_law_964 : decode cL_law 964 = .ok (.aload_n 0, 1) := dk_42 (dk_at dksL_law_36 5 rfl rfl)
theorem dL_law_965 : decode cL_law 965 = .ok (.iload 4, 2) := dk_21 4 (dk_at dksL_law_36 6 rfl rfl)
theorem dL_law_967 : decode cL_law 967 = .ok (.iconst 2, 1) := dk_5 (dk_at dksL_law_36 8 rfl rfl)
theorem dL_law_968 : decode cL_law 968 = .ok (.iadd, 1) := dk_96 (dk_at dksL_law_36 9 rfl rfl)
theorem dL_law_969 : decode cL_law 969 = .ok (.iaload, 1) := dk_46 (dk_at dksL_law_36 10 rfl rfl)
theorem dL_law_970 : decode cL_law 970 = .ok (.ifCond .eq 7, 3) := dk_153 0 7 (dk_at dksL_law_36 11 rfl rfl)
theorem dL_law_973 : decode cL_law 973 = .ok (.iconst 1, 1) := dk_4 (dk_at dksL_law_36 14 rfl rfl)
theorem dL_law_974 : decode cL_law 974 = .ok (.goto 4, 3) := dk_167 0 4 (dk_at dksL_law_36 15 rfl rfl)
theorem dL_law_977 : decode cL_law 977 = .ok (.iconst 0, 1) := dk_3 (dk_at dksL_law_36 18 rfl rfl)
theorem dL_law_978 : decode cL_law 978 = .ok (.invokevirtual 164, 3) := dk_182 0 164 (dk_at dksL_law_36 19 rfl rfl)
theorem dL_law_981 : decode cL_law 981 = .ok (.istore 6, 2) := dk_54 6 (dk_at dksL_law_36 22 rfl rfl)
theorem dL_law_983 : decode cL_law 983 = .ok (.aload_n 2, 1) := dk_44 (dk_at dksL_law_37 0 rfl rfl)
theorem dL_law_984 : decode cL_law 984 = .ok (.invokevirtual 127, 3) := dk_182 0 127 (dk_at dksL_law_37 1 rfl rfl)
theorem dL_law_987 : decode cL_law 987 = .ok (.iload 5, 2) := dk_21 5 (dk_at dksL_law_37 4 rfl rfl)
theorem dL_law_989 : decode cL_law 989 = .ok (.if_icmp .eq 5, 3) := dk_159 0 5 (dk_at dksL_law_37 6 rfl rfl)
theorem dL_law_992 : decode cL_law 992 = .ok (.iconst 0, 1) := dk_3 (dk_at dksL_law_37 9 rfl rfl)
theorem dL_law_993 : decode cL_law 993 = .ok (.ireturn, 1) := dk_172 (dk_at dksL_law_37 10 rfl rfl)
theorem dL_law_994 : decode cL_law 994 = .ok (.iload 5, 2) := dk_21 5 (dk_at dksL_law_37 11 rfl rfl)
theorem dL_law_996 : decode cL_law 996 = .ok (.ifCond .ne 22, 3) := dk_154 0 22 (dk_at dksL_law_37 13 rfl rfl)
theorem dL_law_999 : decode cL_law 999 = .ok (.aload_n 3, 1) := dk_45 (dk_at dksL_law_37 16 rfl rfl)
theorem dL_law_1000 : decode cL_law 1000 = .ok (.iconst 0, 1) := dk_3 (dk_at dksL_law_37 17 rfl rfl)
theorem dL_law_1001 : decode cL_law 1001 = .ok (.laload, 1) := dk_47 (dk_at dksL_law_37 18 rfl rfl)
theorem dL_law_1002 : decode cL_law 1002 = .ok (.iload 6, 2) := dk_21 6 (dk_at dksL_law_37 19 rfl rfl)
theorem dL_law_1004 : decode cL_law 1004 = .ok (.ifCond .eq 7, 3) := dk_153 0 7 (dk_at dksL_law_37 21 rfl rfl)
theorem dL_law_1007 : decode cL_law 1007 = .ok (.lconst 1, 1) := dk_10 (dk_at dksL_law_38 0 rfl rfl)
theorem dL_law_1008 : decode cL_law 1008 = .ok (.goto 4, 3) := dk_167 0 4 (dk_at dksL_law_38 1 rfl rfl)
theorem dL_law_1011 : decode cL_law 1011 = .ok (.lconst 0, 1) := dk_9 (dk_at dksL_law_38 4 rfl rfl)
theorem dL_law_1012 : decode cL_law 1012 = .ok (.lcmp, 1) := dk_148 (dk_at dksL_law_38 5 rfl rfl)
theorem dL_law_1013 : decode cL_law 1013 = .ok (.ifCond .eq 5, 3) := dk_153 0 5 (dk_at dksL_law_38 6 rfl rfl)
theorem dL_law_1016 : decode cL_law 1016 = .ok (.iconst 0, 1) := dk_3 (dk_at dksL_law_38 9 rfl rfl)
theorem dL_law_1017 : decode cL_law 1017 = .ok (.ireturn, 1) := dk_172 (dk_at dksL_law_38 10 rfl rfl)
theorem dL_law_1018 : decode cL_law 1018 = .ok (.goto 1370, 3) := dk_167 5 90 (dk_at dksL_law_38 11 rfl rfl)
theorem dL_law_1021 : decode cL_law 1021 = .ok (.aload_n 1, 1) := dk_43 (dk_at dksL_law_38 14 rfl rfl)
theorem dL_law_1022 : decode cL_law 1022 = .ok (.aload_n 0, 1) := dk_42 (dk_at dksL_law_38 15 rfl rfl)
theorem dL_law_1023 : decode cL_law 1023 = .ok (.iload 4, 2) := dk_21 4 (dk_at dksL_law_38 16 rfl rfl)
theorem dL_law_1025 : decode cL_law 1025 = .ok (.iconst 1, 1) := dk_4 (dk_at dksL_law_38 18 rfl rfl)
theorem dL_law_1026 : decode cL_law 1026 = .ok (.iadd, 1) := dk_96 (dk_at dksL_law_38 19 rfl rfl)
theorem dL_law_1027 : decode cL_law 1027 = .ok (.iaload, 1) := dk_46 (dk_at dksL_law_38 20 rfl rfl)
theorem dL_law_1028 : decode cL_law 1028 = .ok (.aload_n 0, 1) := dk_42 (dk_at dksL_law_38 21 rfl rfl)
theorem dL_law_1029 : decode cL_law 1029 = .ok (.iload 4, 2) := dk_21 4 (dk_at dksL_law_38 22 rfl rfl)
theorem dL_law_1031 : decode cL_law 1031 = .ok (.iconst 2, 1) := dk_5 (dk_at dksL_law_39 0 rfl rfl)
theorem dL_law_1032 : decode cL_law 1032 = .ok (.iadd, 1) := dk_96 (dk_at dksL_law_39 1 rfl rfl)
theorem dL_law_1033 : decode cL_law 1033 = .ok (.iaload, 1) := dk_46 (dk_at dksL_law_39 2 rfl rfl)
theorem dL_law_1034 : decode cL_law 1034 = .ok (.aload_n 0, 1) := dk_42 (dk_at dksL_law_39 3 rfl rfl)
theorem dL_law_1035 : decode cL_law 1035 = .ok (.iload 4, 2) := dk_21 4 (dk_at dksL_law_39 4 rfl rfl)
theorem dL_law_1037 : decode cL_law 1037 = .ok (.iconst 3, 1) := dk_6 (dk_at dksL_law_39 6 rfl rfl)
theorem dL_law_1038 : decode cL_law 1038 = .ok (.iadd, 1) := dk_96 (dk_at dksL_law_39 7 rfl rfl)
theorem dL_law_1039 : decode cL_law 1039 = .ok (.iaload, 1) := dk_46 (dk_at dksL_law_39 8 rfl rfl)
theorem dL_law_1040 : decode cL_law 1040 = .ok (.aload_n 0, 1) := dk_42 (dk_at dksL_law_39 9 rfl rfl)
theorem dL_law_1041 : decode cL_law 1041 = .ok (.iload 4, 2) := dk_21 4 (dk_at dksL_law_39 10 rfl rfl)
theorem dL_law_1043 : decode cL_law 1043 = .ok (.iconst 4, 1) := dk_7 (dk_at dksL_law_39 12 rfl rfl)
theorem dL_law_1044 : decode cL_law 1044 = .ok (.iadd, 1) := dk_96 (dk_at dksL_law_39 13 rfl rfl)
theorem dL_law_1045 : decode cL_law 1045 = .ok (.iaload, 1) := dk_46 (dk_at dksL_law_39 14 rfl rfl)
theorem dL_law_1046 : decode cL_law 1046 = .ok (.aload_n 0, 1) := dk_42 (dk_at dksL_law_39 15 rfl rfl)
theorem dL_law_1047 : decode cL_law 1047 = .ok (.iload 4, 2) := dk_21 4 (dk_at dksL_law_39 16 rfl rfl)
theorem dL_law_1049 : decode cL_law 1049 = .ok (.iconst 5, 1) := dk_8 (dk_at dksL_law_39 18 rfl rfl)
theorem dL_law_1050 : decode cL_law 1050 = .ok (.iadd, 1) := dk_96 (dk_at dksL_law_39 19 rfl rfl)
theorem dL_law_1051 : decode cL_law 1051 = .ok (.iaload, 1) := dk_46 (dk_at dksL_law_39 20 rfl rfl)
theorem dL_law_1052 : decode cL_law 1052 = .ok (.aload_n 3, 1) := dk_45 (dk_at dksL_law_39 21 rfl rfl)
theorem dL_law_1053 : decode cL_law 1053 = .ok (.invokestatic 165, 3) := dk_184 0 165 (dk_at dksL_law_40 0 rfl rfl)
theorem dL_law_1056 : decode cL_law 1056 = .ok (.istore 5, 2) := dk_54 5 (dk_at dksL_law_40 3 rfl rfl)
theorem dL_law_1058 : decode cL_law 1058 = .ok (.aload_n 2, 1) := dk_44 (dk_at dksL_law_40 5 rfl rfl)
theorem dL_law_1059 : decode cL_law 1059 = .ok (.aload_n 0, 1) := dk_42 (dk_at dksL_law_40 6 rfl rfl)
theorem dL_law_1060 : decode cL_law 1060 = .ok (.iload 4, 2) := dk_21 4 (dk_at dksL_law_40 7 rfl rfl)
theorem dL_law_1062 : decode cL_law 1062 = .ok (.iconst 1, 1) := dk_4 (dk_at dksL_law_40 9 rfl rfl)
theorem dL_law_1063 : decode cL_law 1063 = .ok (.iadd, 1) := dk_96 (dk_at dksL_law_40 10 rfl rfl)
theorem dL_law_1064 : decode cL_law 1064 = .ok (.iaload, 1) := dk_46 (dk_at dksL_law_40 11 rfl rfl)
theorem dL_law_1065 : decode cL_law 1065 = .ok (.aload_n 0, 1) := dk_42 (dk_at dksL_law_40 12 rfl rfl)
theorem dL_law_1066 : decode cL_law 1066 = .ok (.iload 4, 2) := dk_21 4 (dk_at dksL_law_40 13 rfl rfl)
theorem dL_law_1068 : decode cL_law 1068 = .ok (.iconst 2, 1) := dk_5 (dk_at dksL_law_40 15 rfl rfl)
theorem dL_law_1069 : decode cL_law 1069 = .ok (.iadd, 1) := dk_96 (dk_at dksL_law_40 16 rfl rfl)
theorem dL_law_1070 : decode cL_law 1070 = .ok (.iaload, 1) := dk_46 (dk_at dksL_law_40 17 rfl rfl)
theorem dL_law_1071 : decode cL_law 1071 = .ok (.aload_n 0, 1) := dk_42 (dk_at dksL_law_40 18 rfl rfl)
theorem dL_law_1072 : decode cL_law 1072 = .ok (.iload 4, 2) := dk_21 4 (dk_at dksL_law_40 19 rfl rfl)
theorem dL_law_1074 : decode cL_law 1074 = .ok (.iconst 3, 1) := dk_6 (dk_at dksL_law_40 21 rfl rfl)
theorem dL_law_1075 : decode cL_law 1075 = .ok (.iadd, 1) := dk_96 (dk_at dksL_law_40 22 rfl rfl)
theorem dL_law_1076 : decode cL_law 1076 = .ok (.iaload, 1) := dk_46 (dk_at dksL_law_40 23 rfl rfl)
theorem dL_law_1077 : decode cL_law 1077 = .ok (.aload_n 0, 1) := dk_42 (dk_at dksL_law_41 0 rfl rfl)
theorem dL_law_1078 : decode cL_law 1078 = .ok (.iload 4, 2) := dk_21 4 (dk_at dksL_law_41 1 rfl rfl)
theorem dL_law_1080 : decode cL_law 1080 = .ok (.iconst 4, 1) := dk_7 (dk_at dksL_law_41 3 rfl rfl)
theorem dL_law_1081 : decode cL_law 1081 = .ok (.iadd, 1) := dk_96 (dk_at dksL_law_41 4 rfl rfl)
theorem dL_law_1082 : decode cL_law 1082 = .ok (.iaload, 1) := dk_46 (dk_at dksL_law_41 5 rfl rfl)
theorem dL_law_1083 : decode cL_law 1083 = .ok (.aload_n 0, 1) := dk_42 (dk_at dksL_law_41 6 rfl rfl)
theorem dL_law_1084 : decode cL_law 1084 = .ok (.iload 4, 2) := dk_21 4 (dk_at dksL_law_41 7 rfl rfl)
theorem dL_law_1086 : decode cL_law 1086 = .ok (.iconst 5, 1) := dk_8 (dk_at dksL_law_41 9 rfl rfl)
theorem dL_law_1087 : decode cL_law 1087 = .ok (.iadd, 1) := dk_96 (dk_at dksL_law_41 10 rfl rfl)
theorem dL_law_1088 : decode cL_law 1088 = .ok (.iaload, 1) := dk_46 (dk_at dksL_law_41 11 rfl rfl)
theorem dL_law_1089 : decode cL_law 1089 = .ok (.invokevirtual 168, 3) := dk_182 0 168 (dk_at dksL_law_41 12 rfl rfl)
theorem dL_law_1092 : decode cL_law 1092 = .ok (.istore 6, 2) := dk_54 6 (dk_at dksL_law_41 15 rfl rfl)
theorem dL_law_1094 : decode cL_law 1094 = .ok (.aload_n 2, 1) := dk_44 (dk_at dksL_law_41 17 rfl rfl)
theorem dL_law_1095 : decode cL_law 1095 = .ok (.invokevirtual 127, 3) := dk_182 0 127 (dk_at dksL_law_41 18 rfl rfl)
theorem dL_law_1098 : decode cL_law 1098 = .ok (.iload 5, 2) := dk_21 5 (dk_at dksL_law_41 21 rfl rfl)
theorem dL_law_1100 : decode cL_law 1100 = .ok (.if_icmp .eq 5, 3) := dk_159 0 5 (dk_at dksL_law_42 0 rfl rfl)
theorem dL_law_1103 : decode cL_law 1103 = .ok (.iconst 0, 1) := dk_3 (dk_at dksL_law_42 3 rfl rfl)
theorem dL_law_1104 : decode cL_law 1104 = .ok (.ireturn, 1) := dk_172 (dk_at dksL_law_42 4 rfl rfl)
theorem dL_law_1105 : decode cL_law 1105 = .ok (.iload 5, 2) := dk_21 5 (dk_at dksL_law_42 5 rfl rfl)
theorem dL_law_1107 : decode cL_law 1107 = .ok (.ifCond .ne 15, 3) := dk_154 0 15 (dk_at dksL_law_42 7 rfl rfl)
theorem dL_law_1110 : decode cL_law 1110 = .ok (.aload_n 3, 1) := dk_45 (dk_at dksL_law_42 10 rfl rfl)
theorem dL_law_1111 : decode cL_law 1111 = .ok (.iconst 0, 1) := dk_3 (dk_at dksL_law_42 11 rfl rfl)
theorem dL_law_1112 : decode cL_law 1112 = .ok (.laload, 1) := dk_47 (dk_at dksL_law_42 12 rfl rfl)
theorem dL_law_1113 : decode cL_law 1113 = .ok (.iload 6, 2) := dk_21 6 (dk_at dksL_law_42 13 rfl rfl)
theorem dL_law_1115 : decode cL_law 1115 = .ok (.i2l, 1) := dk_133 (dk_at dksL_law_42 15 rfl rfl)
theorem dL_law_1116 : decode cL_law 1116 = .ok (.lcmp, 1) := dk_148 (dk_at dksL_law_42 16 rfl rfl)
theorem dL_law_1117 : decode cL_law 1117 = .ok (.ifCond .eq 5, 3) := dk_153 0 5 (dk_at dksL_law_42 17 rfl rfl)
theorem dL_law_1120 : decode cL_law 1120 = .ok (.iconst 0, 1) := dk_3 (dk_at dksL_law_42 20 rfl rfl)
theorem dL_law_1121 : decode cL_law 1121 = .ok (.ireturn, 1) := dk_172 (dk_at dksL_law_42 21 rfl rfl)
theorem dL_law_1122 : decode cL_law 1122 = .ok (.goto 1266, 3) := dk_167 4 242 (dk_at dksL_law_43 0 rfl rfl)
theorem dL_law_1125 : decode cL_law 1125 = .ok (.aload_n 1, 1) := dk_43 (dk_at dksL_law_43 3 rfl rfl)
theorem dL_law_1126 : decode cL_law 1126 = .ok (.aload_n 0, 1) := dk_42 (dk_at dksL_law_43 4 rfl rfl)
theorem dL_law_1127 : decode cL_law 1127 = .ok (.iload 4, 2) := dk_21 4 (dk_at dksL_law_43 5 rfl rfl)
theorem dL_law_1129 : decode cL_law 1129 = .ok (.iconst 1, 1) := dk_4 (dk_at dksL_law_43 7 rfl rfl)
theorem dL_law_1130 : decode cL_law 1130 = .ok (.iadd, 1) := dk_96 (dk_at dksL_law_43 8 rfl rfl)
theorem dL_law_1131 : decode cL_law 1131 = .ok (.iaload, 1) := dk_46 (dk_at dksL_law_43 9 rfl rfl)
theorem dL_law_1132 : decode cL_law 1132 = .ok (.aload_n 0, 1) := dk_42 (dk_at dksL_law_43 10 rfl rfl)
theorem dL_law_1133 : decode cL_law 1133 = .ok (.iload 4, 2) := dk_21 4 (dk_at dksL_law_43 11 rfl rfl)
theorem dL_law_1135 : decode cL_law 1135 = .ok (.iconst 2, 1) := dk_5 (dk_at dksL_law_43 13 rfl rfl)
theorem dL_law_1136 : decode cL_law 1136 = .ok (.iadd, 1) := dk_96 (dk_at dksL_law_43 14 rfl rfl)
theorem dL_law_1137 : decode cL_law 1137 = .ok (.iaload, 1) := dk_46 (dk_at dksL_law_43 15 rfl rfl)
theorem dL_law_1138 : decode cL_law 1138 = .ok (.aload_n 3, 1) := dk_45 (dk_at dksL_law_43 16 rfl rfl)
theorem dL_law_1139 : decode cL_law 1139 = .ok (.invokestatic 169, 3) := dk_184 0 169 (dk_at dksL_law_43 17 rfl rfl)
theorem dL_law_1142 : decode cL_law 1142 = .ok (.istore 5, 2) := dk_54 5 (dk_at dksL_law_43 20 rfl rfl)
theorem dL_law_1144 : decode cL_law 1144 = .ok (.aload_n 2, 1) := dk_44 (dk_at dksL_law_43 22 rfl rfl)
theorem dL_law_1145 : decode cL_law 1145 = .ok (.aload_n 0, 1) := dk_42 (dk_at dksL_law_43 23 rfl rfl)
theorem dL_law_1146 : decode cL_law 1146 = .ok (.iload 4, 2) := dk_21 4 (dk_at dksL_law_44 0 rfl rfl)
theorem dL_law_1148 : decode cL_law 1148 = .ok (.iconst 1, 1) := dk_4 (dk_at dksL_law_44 2 rfl rfl)
theorem dL_law_1149 : decode cL_law 1149 = .ok (.iadd, 1) := dk_96 (dk_at dksL_law_44 3 rfl rfl)
theorem dL_law_1150 : decode cL_law 1150 = .ok (.iaload, 1) := dk_46 (dk_at dksL_law_44 4 rfl rfl)
theorem dL_law_1151 : decode cL_law 1151 = .ok (.aload_n 0, 1) := dk_42 (dk_at dksL_law_44 5 rfl rfl)
theorem dL_law_1152 : decode cL_law 1152 = .ok (.iload 4, 2) := dk_21 4 (dk_at dksL_law_44 6 rfl rfl)
theorem dL_law_1154 : decode cL_law 1154 = .ok (.iconst 2, 1) := dk_5 (dk_at dksL_law_44 8 rfl rfl)
theorem dL_law_1155 : decode cL_law 1155 = .ok (.iadd, 1) := dk_96 (dk_at dksL_law_44 9 rfl rfl)
theorem dL_law_1156 : decode cL_law 1156 = .ok (.iaload, 1) := dk_46 (dk_at dksL_law_44 10 rfl rfl)
theorem dL_law_1157 : decode cL_law 1157 = .ok (.invokevirtual 171, 3) := dk_182 0 171 (dk_at dksL_law_44 11 rfl rfl)
theorem dL_law_1160 : decode cL_law 1160 = .ok (.istore 6, 2) := dk_54 6 (dk_at dksL_law_44 14 rfl rfl)
theorem dL_law_1162 : decode cL_law 1162 = .ok (.aload_n 2, 1) := dk_44 (dk_at dksL_law_44 16 rfl rfl)
theorem dL_law_1163 : decode cL_law 1163 = .ok (.invokevirtual 127, 3) := dk_182 0 127 (dk_at dksL_law_44 17 rfl rfl)
theorem dL_law_1166 : decode cL_law 1166 = .ok (.iload 5, 2) := dk_21 5 (dk_at dksL_law_44 20 rfl rfl)
theorem dL_law_1168 : decode cL_law 1168 = .ok (.if_icmp .eq 5, 3) := dk_159 0 5 (dk_at dksL_law_45 0 rfl rfl)
theorem dL_law_1171 : decode cL_law 1171 = .ok (.iconst 0, 1) := dk_3 (dk_at dksL_law_45 3 rfl rfl)
theorem dL_law_1172 : decode cL_law 1172 = .ok (.ireturn, 1) := dk_172 (dk_at dksL_law_45 4 rfl rfl)
theorem dL_law_1173 : decode cL_law 1173 = .ok (.iload 5, 2) := dk_21 5 (dk_at dksL_law_45 5 rfl rfl)
theorem dL_law_1175 : decode cL_law 1175 = .ok (.ifCond .ne 15, 3) := dk_154 0 15 (dk_at dksL_law_45 7 rfl rfl)
theorem dL_law_1178 : decode cL_law 1178 = .ok (.aload_n 3, 1) := dk_45 (dk_at dksL_law_45 10 rfl rfl)
theorem dL_law_1179 : decode cL_law 1179 = .ok (.iconst 0, 1) := dk_3 (dk_at dksL_law_45 11 rfl rfl)
theorem dL_law_1180 : decode cL_law 1180 = .ok (.laload, 1) := dk_47 (dk_at dksL_law_45 12 rfl rfl)
theorem dL_law_1181 : decode cL_law 1181 = .ok (.iload 6, 2) := dk_21 6 (dk_at dksL_law_45 13 rfl rfl)
theorem dL_law_1183 : decode cL_law 1183 = .ok (.i2l, 1) := dk_133 (dk_at dksL_law_45 15 rfl rfl)
theorem dL_law_1184 : decode cL_law 1184 = .ok (.lcmp, 1) := dk_148 (dk_at dksL_law_45 16 rfl rfl)
theorem dL_law_1185 : decode cL_law 1185 = .ok (.ifCond .eq 5, 3) := dk_153 0 5 (dk_at dksL_law_45 17 rfl rfl)
theorem dL_law_1188 : decode cL_law 1188 = .ok (.iconst 0, 1) := dk_3 (dk_at dksL_law_45 20 rfl rfl)
theorem dL_law_1189 : decode cL_law 1189 = .ok (.ireturn, 1) := dk_172 (dk_at dksL_law_45 21 rfl rfl)
theorem dL_law_1190 : decode cL_law 1190 = .ok (.goto 1198, 3) := dk_167 4 174 (dk_at dksL_law_46 0 rfl rfl)
theorem dL_law_1193 : decode cL_law 1193 = .ok (.aload_n 1, 1) := dk_43 (dk_at dksL_law_46 3 rfl rfl)
theorem dL_law_1194 : decode cL_law 1194 = .ok (.aload_n 0, 1) := dk_42 (dk_at dksL_law_46 4 rfl rfl)
theorem dL_law_1195 : decode cL_law 1195 = .ok (.iload 4, 2) := dk_21 4 (dk_at dksL_law_46 5 rfl rfl)
theorem dL_law_1197 : decode cL_law 1197 = .ok (.iconst 1, 1) := dk_4 (dk_at dksL_law_46 7 rfl rfl)
theorem dL_law_1198 : decode cL_law 1198 = .ok (.iadd, 1) := dk_96 (dk_at dksL_law_46 8 rfl rfl)
theorem dL_law_1199 : decode cL_law 1199 = .ok (.iaload, 1) := dk_46 (dk_at dksL_law_46 9 rfl rfl)
theorem dL_law_1200 : decode cL_law 1200 = .ok (.aload_n 0, 1) := dk_42 (dk_at dksL_law_46 10 rfl rfl)
theorem dL_law_1201 : decode cL_law 1201 = .ok (.iload 4, 2) := dk_21 4 (dk_at dksL_law_46 11 rfl rfl)
theorem dL_law_1203 : decode cL_law 1203 = .ok (.iconst 2, 1) := dk_5 (dk_at dksL_law_46 13 rfl rfl)
theorem dL_law_1204 : decode cL_law 1204 = .ok (.iadd, 1) := dk_96 (dk_at dksL_law_46 14 rfl rfl)
theorem dL_law_1205 : decode cL_law 1205 = .ok (.iaload, 1) := dk_46 (dk_at dksL_law_46 15 rfl rfl)
theorem dL_law_1206 : decode cL_law 1206 = .ok (.aload_n 3, 1) := dk_45 (dk_at dksL_law_46 16 rfl rfl)
theorem dL_law_1207 : decode cL_law 1207 = .ok (.invokestatic 172, 3) := dk_184 0 172 (dk_at dksL_law_46 17 rfl rfl)
theorem dL_law_1210 : decode cL_law 1210 = .ok (.istore 5, 2) := dk_54 5 (dk_at dksL_law_46 20 rfl rfl)
theorem dL_law_1212 : decode cL_law 1212 = .ok (.aload_n 2, 1) := dk_44 (dk_at dksL_law_46 22 rfl rfl)
theorem dL_law_1213 : decode cL_law 1213 = .ok (.aload_n 0, 1) := dk_42 (dk_at dksL_law_46 23 rfl rfl)
theorem dL_law_1214 : decode cL_law 1214 = .ok (.iload 4, 2) := dk_21 4 (dk_at dksL_law_47 0 rfl rfl)
theorem dL_law_1216 : decode cL_law 1216 = .ok (.iconst 1, 1) := dk_4 (dk_at dksL_law_47 2 rfl rfl)
theorem dL_law_1217 : decode cL_law 1217 = .ok (.iadd, 1) := dk_96 (dk_at dksL_law_47 3 rfl rfl)
theorem dL_law_1218 : decode cL_law 1218 = .ok (.iaload, 1) := dk_46 (dk_at dksL_law_47 4 rfl rfl)
theorem dL_law_1219 : decode cL_law 1219 = .ok (.aload_n 0, 1) := dk_42 (dk_at dksL_law_47 5 rfl rfl)
theorem dL_law_1220 : decode cL_law 1220 = .ok (.iload 4, 2) := dk_21 4 (dk_at dksL_law_47 6 rfl rfl)
theorem dL_law_1222 : decode cL_law 1222 = .ok (.iconst 2, 1) := dk_5 (dk_at dksL_law_47 8 rfl rfl)
theorem dL_law_1223 : decode cL_law 1223 = .ok (.iadd, 1) := dk_96 (dk_at dksL_law_47 9 rfl rfl)
theorem dL_law_1224 : decode cL_law 1224 = .ok (.iaload, 1) := dk_46 (dk_at dksL_law_47 10 rfl rfl)
theorem dL_law_1225 : decode cL_law 1225 = .ok (.invokevirtual 174, 3) := dk_182 0 174 (dk_at dksL_law_47 11 rfl rfl)
theorem dL_law_1228 : decode cL_law 1228 = .ok (.istore 6, 2) := dk_54 6 (dk_at dksL_law_47 14 rfl rfl)
theorem dL_law_1230 : decode cL_law 1230 = .ok (.aload_n 2, 1) := dk_44 (dk_at dksL_law_47 16 rfl rfl)
theorem dL_law_1231 : decode cL_law 1231 = .ok (.invokevirtual 127, 3) := dk_182 0 127 (dk_at dksL_law_47 17 rfl rfl)
theorem dL_law_1234 : decode cL_law 1234 = .ok (.iload 5, 2) := dk_21 5 (dk_at dksL_law_47 20 rfl rfl)
theorem dL_law_1236 : decode cL_law 1236 = .ok (.if_icmp .eq 5, 3) := dk_159 0 5 (dk_at dksL_law_48 0 rfl rfl)
theorem dL_law_1239 : decode cL_law 1239 = .ok (.iconst 0, 1) := dk_3 (dk_at dksL_law_48 3 rfl rfl)
theorem dL_law_1240 : decode cL_law 1240 = .ok (.ireturn, 1) := dk_172 (dk_at dksL_law_48 4 rfl rfl)
theorem dL_law_1241 : decode cL_law 1241 = .ok (.iload 5, 2) := dk_21 5 (dk_at dksL_law_48 5 rfl rfl)
theorem dL_law_1243 : decode cL_law 1243 = .ok (.ifCond .ne 15, 3) := dk_154 0 15 (dk_at dksL_law_48 7 rfl rfl)
theorem dL_law_1246 : decode cL_law 1246 = .ok (.aload_n 3, 1) := dk_45 (dk_at dksL_law_48 10 rfl rfl)
theorem dL_law_1247 : decode cL_law 1247 = .ok (.iconst 0, 1) := dk_3 (dk_at dksL_law_48 11 rfl rfl)
theorem dL_law_1248 : decode cL_law 1248 = .ok (.laload, 1) := dk_47 (dk_at dksL_law_48 12 rfl rfl)
theorem dL_law_1249 : decode cL_law 1249 = .ok (.iload 6, 2) := dk_21 6 (dk_at dksL_law_48 13 rfl rfl)
theorem dL_law_1251 : decode cL_law 1251 = .ok (.i2l, 1) := dk_133 (dk_at dksL_law_48 15 rfl rfl)
theorem dL_law_1252 : decode cL_law 1252 = .ok (.lcmp, 1) := dk_148 (dk_at dksL_law_48 16 rfl rfl)
theorem dL_law_1253 : decode cL_law 1253 = .ok (.ifCond .eq 5, 3) := dk_153 0 5 (dk_at dksL_law_48 17 rfl rfl)
theorem dL_law_1256 : decode cL_law 1256 = .ok (.iconst 0, 1) := dk_3 (dk_at dksL_law_48 20 rfl rfl)
theorem dL_law_1257 : decode cL_law 1257 = .ok (.ireturn, 1) := dk_172 (dk_at dksL_law_48 21 rfl rfl)
theorem dL_law_1258 : decode cL_law 1258 = .ok (.goto 1130, 3) := dk_167 4 106 (dk_at dksL_law_49 0 rfl rfl)
theorem dL_law_1261 : decode cL_law 1261 = .ok (.aload_n 1, 1) := dk_43 (dk_at dksL_law_49 3 rfl rfl)
theorem dL_law_1262 : decode cL_law 1262 = .ok (.aload_n 0, 1) := dk_42 (dk_at dksL_law_49 4 rfl rfl)
theorem dL_law_1263 : decode cL_law 1263 = .ok (.iload 4, 2) := dk_21 4 (dk_at dksL_law_49 5 rfl rfl)
theorem dL_law_1265 : decode cL_law 1265 = .ok (.iconst 1, 1) := dk_4 (dk_at dksL_law_49 7 rfl rfl)
theorem dL_law_1266 : decode cL_law 1266 = .ok (.iadd, 1) := dk_96 (dk_at dksL_law_49 8 rfl rfl)
theorem dL_law_1267 : decode cL_law 1267 = .ok (.iaload, 1) := dk_46 (dk_at dksL_law_49 9 rfl rfl)
theorem dL_law_1268 : decode cL_law 1268 = .ok (.aload_n 3, 1) := dk_45 (dk_at dksL_law_49 10 rfl rfl)
theorem dL_law_1269 : decode cL_law 1269 = .ok (.invokestatic 175, 3) := dk_184 0 175 (dk_at dksL_law_49 11 rfl rfl)
theorem dL_law_1272 : decode cL_law 1272 = .ok (.istore 5, 2) := dk_54 5 (dk_at dksL_law_49 14 rfl rfl)
theorem dL_law_1274 : decode cL_law 1274 = .ok (.aload_n 2, 1) := dk_44 (dk_at dksL_law_49 16 rfl rfl)
theorem dL_law_1275 : decode cL_law 1275 = .ok (.aload_n 0, 1) := dk_42 (dk_at dksL_law_49 17 rfl rfl)
theorem dL_law_1276 : decode cL_law 1276 = .ok (.iload 4, 2) := dk_21 4 (dk_at dksL_law_49 18 rfl rfl)
theorem dL_law_1278 : decode cL_law 1278 = .ok (.iconst 1, 1) := dk_4 (dk_at dksL_law_49 20 rfl rfl)
theorem dL_law_1279 : decode cL_law 1279 = .ok (.iadd, 1) := dk_96 (dk_at dksL_law_49 21 rfl rfl)
theorem dL_law_1280 : decode cL_law 1280 = .ok (.iaload, 1) := dk_46 (dk_at dksL_law_49 22 rfl rfl)
theorem dL_law_1281 : decode cL_law 1281 = .ok (.invokevirtual 177, 3) := dk_182 0 177 (dk_at dksL_law_50 0 rfl rfl)
theorem dL_law_1284 : decode cL_law 1284 = .ok (.istore 6, 2) := dk_54 6 (dk_at dksL_law_50 3 rfl rfl)
theorem dL_law_1286 : decode cL_law 1286 = .ok (.aload_n 2, 1) := dk_44 (dk_at dksL_law_50 5 rfl rfl)
theorem dL_law_1287 : decode cL_law 1287 = .ok (.invokevirtual 127, 3) := dk_182 0 127 (dk_at dksL_law_50 6 rfl rfl)
theorem dL_law_1290 : decode cL_law 1290 = .ok (.iload 5, 2) := dk_21 5 (dk_at dksL_law_50 9 rfl rfl)
theorem dL_law_1292 : decode cL_law 1292 = .ok (.if_icmp .eq 5, 3) := dk_159 0 5 (dk_at dksL_law_50 11 rfl rfl)
theorem dL_law_1295 : decode cL_law 1295 = .ok (.iconst 0, 1) := dk_3 (dk_at dksL_law_50 14 rfl rfl)
theorem dL_law_1296 : decode cL_law 1296 = .ok (.ireturn, 1) := dk_172 (dk_at dksL_law_50 15 rfl rfl)
theorem dL_law_1297 : decode cL_law 1297 = .ok (.iload 5, 2) := dk_21 5 (dk_at dksL_law_50 16 rfl rfl)
theorem dL_law_1299 : decode cL_law 1299 = .ok (.ifCond .ne 15, 3) := dk_154 0 15 (dk_at dksL_law_50 18 rfl rfl)
theorem dL_law_1302 : decode cL_law 1302 = .ok (.aload_n 3, 1) := dk_45 (dk_at dksL_law_50 21 rfl rfl)
theorem dL_law_1303 : decode cL_law 1303 = .ok (.iconst 0, 1) := dk_3 (dk_at dksL_law_50 22 rfl rfl)
theorem dL_law_1304 : decode cL_law 1304 = .ok (.laload, 1) := dk_47 (dk_at dksL_law_50 23 rfl rfl)
theorem dL_law_1305 : decode cL_law 1305 = .ok (.iload 6, 2) := dk_21 6 (dk_at dksL_law_51 0 rfl rfl)
theorem dL_law_1307 : decode cL_law 1307 = .ok (.i2l, 1) := dk_133 (dk_at dksL_law_51 2 rfl rfl)
theorem dL_law_1308 : decode cL_law 1308 = .ok (.lcmp, 1) := dk_148 (dk_at dksL_law_51 3 rfl rfl)
theorem dL_law_1309 : decode cL_law 1309 = .ok (.ifCond .eq 5, 3) := dk_153 0 5 (dk_at dksL_law_51 4 rfl rfl)
theorem dL_law_1312 : decode cL_law 1312 = .ok (.iconst 0, 1) := dk_3 (dk_at dksL_law_51 7 rfl rfl)
theorem dL_law_1313 : decode cL_law 1313 = .ok (.ireturn, 1) := dk_172 (dk_at dksL_law_51 8 rfl rfl)
theorem dL_law_1314 : decode cL_law 1314 = .ok (.goto 1074, 3) := dk_167 4 50 (dk_at dksL_law_51 9 rfl rfl)
theorem dL_law_1317 : decode cL_law 1317 = .ok (.aload_n 1, 1) := dk_43 (dk_at dksL_law_51 12 rfl rfl)
theorem dL_law_1318 : decode cL_law 1318 = .ok (.aload_n 0, 1) := dk_42 (dk_at dksL_law_51 13 rfl rfl)
theorem dL_law_1319 : decode cL_law 1319 = .ok (.iload 4, 2) := dk_21 4 (dk_at dksL_law_51 14 rfl rfl)
theorem dL_law_1321 : decode cL_law 1321 = .ok (.iconst 1, 1) := dk_4 (dk_at dksL_law_51 16 rfl rfl)
theorem dL_law_1322 : decode cL_law 1322 = .ok (.iadd, 1) := dk_96 (dk_at dksL_law_51 17 rfl rfl)
theorem dL_law_1323 : decode cL_law 1323 = .ok (.iaload, 1) := dk_46 (dk_at dksL_law_51 18 rfl rfl)
theorem dL_law_1324 : decode cL_law 1324 = .ok (.aload_n 0, 1) := dk_42 (dk_at dksL_law_51 19 rfl rfl)
theorem dL_law_1325 : decode cL_law 1325 = .ok (.iload 4, 2) := dk_21 4 (dk_at dksL_law_51 20 rfl rfl)
theorem dL_law_1327 : decode cL_law 1327 = .ok (.iconst 2, 1) := dk_5 (dk_at dksL_law_51 22 rfl rfl)
theorem dL_law_1328 : decode cL_law 1328 = .ok (.iadd, 1) := dk_96 (dk_at dksL_law_51 23 rfl rfl)
theorem dL_law_1329 : decode cL_law 1329 = .ok (.iaload, 1) := dk_46 (dk_at dksL_law_52 0 rfl rfl)
theorem dL_law_1330 : decode cL_law 1330 = .ok (.aload_n 3, 1) := dk_45 (dk_at dksL_law_52 1 rfl rfl)
theorem dL_law_1331 : decode cL_law 1331 = .ok (.invokestatic 178, 3) := dk_184 0 178 (dk_at dksL_law_52 2 rfl rfl)
theorem dL_law_1334 : decode cL_law 1334 = .ok (.istore 5, 2) := dk_54 5 (dk_at dksL_law_52 5 rfl rfl)
theorem dL_law_1336 : decode cL_law 1336 = .ok (.aload_n 2, 1) := dk_44 (dk_at dksL_law_52 7 rfl rfl)
theorem dL_law_1337 : decode cL_law 1337 = .ok (.aload_n 0, 1) := dk_42 (dk_at dksL_law_52 8 rfl rfl)
theorem dL_law_1338 : decode cL_law 1338 = .ok (.iload 4, 2) := dk_21 4 (dk_at dksL_law_52 9 rfl rfl)
theorem dL_law_1340 : decode cL_law 1340 = .ok (.iconst 1, 1) := dk_4 (dk_at dksL_law_52 11 rfl rfl)
theorem dL_law_1341 : decode cL_law 1341 = .ok (.iadd, 1) := dk_96 (dk_at dksL_law_52 12 rfl rfl)
theorem dL_law_1342 : decode cL_law 1342 = .ok (.iaload, 1) := dk_46 (dk_at dksL_law_52 13 rfl rfl)
theorem dL_law_1343 : decode cL_law 1343 = .ok (.aload_n 0, 1) := dk_42 (dk_at dksL_law_52 14 rfl rfl)
theorem dL_law_1344 : decode cL_law 1344 = .ok (.iload 4, 2) := dk_21 4 (dk_at dksL_law_52 15 rfl rfl)
theorem dL_law_1346 : decode cL_law 1346 = .ok (.iconst 2, 1) := dk_5 (dk_at dksL_law_52 17 rfl rfl)
theorem dL_law_1347 : decode cL_law 1347 = .ok (.iadd, 1) := dk_96 (dk_at dksL_law_52 18 rfl rfl)
theorem dL_law_1348 : decode cL_law 1348 = .ok (.iaload, 1) := dk_46 (dk_at dksL_law_52 19 rfl rfl)
theorem dL_law_1349 : decode cL_law 1349 = .ok (.invokevirtual 180, 3) := dk_182 0 180 (dk_at dksL_law_52 20 rfl rfl)
theorem dL_law_1352 : decode cL_law 1352 = .ok (.istore 6, 2) := dk_54 6 (dk_at dksL_law_53 0 rfl rfl)
theorem dL_law_1354 : decode cL_law 1354 = .ok (.aload_n 2, 1) := dk_44 (dk_at dksL_law_53 2 rfl rfl)
theorem dL_law_1355 : decode cL_law 1355 = .ok (.invokevirtual 127, 3) := dk_182 0 127 (dk_at dksL_law_53 3 rfl rfl)
theorem dL_law_1358 : decode cL_law 1358 = .ok (.iload 5, 2) := dk_21 5 (dk_at dksL_law_53 6 rfl rfl)
theorem dL_law_1360 : decode cL_law 1360 = .ok (.if_icmp .eq 5, 3) := dk_159 0 5 (dk_at dksL_law_53 8 rfl rfl)
theorem dL_law_1363 : decode cL_law 1363 = .ok (.iconst 0, 1) := dk_3 (dk_at dksL_law_53 11 rfl rfl)
theorem dL_law_1364 : decode cL_law 1364 = .ok (.ireturn, 1) := dk_172 (dk_at dksL_law_53 12 rfl rfl)
theorem dL_law_1365 : decode cL_law 1365 = .ok (.iload 5, 2) := dk_21 5 (dk_at dksL_law_53 13 rfl rfl)
theorem dL_law_1367 : decode cL_law 1367 = .ok (.ifCond .ne 15, 3) := dk_154 0 15 (dk_at dksL_law_53 15 rfl rfl)
theorem dL_law_1370 : decode cL_law 1370 = .ok (.aload_n 3, 1) := dk_45 (dk_at dksL_law_53 18 rfl rfl)
theorem dL_law_1371 : decode cL_law 1371 = .ok (.iconst 0, 1) := dk_3 (dk_at dksL_law_53 19 rfl rfl)
theorem dL_law_1372 : decode cL_law 1372 = .ok (.laload, 1) := dk_47 (dk_at dksL_law_53 20 rfl rfl)
theorem dL_law_1373 : decode cL_law 1373 = .ok (.iload 6, 2) := dk_21 6 (dk_at dksL_law_53 21 rfl rfl)
theorem dL_law_1375 : decode cL_law 1375 = .ok (.i2l, 1) := dk_133 (dk_at dksL_law_53 23 rfl rfl)
theorem dL_law_1376 : decode cL_law 1376 = .ok (.lcmp, 1) := dk_148 (dk_at dksL_law_54 0 rfl rfl)
theorem dL_law_1377 : decode cL_law 1377 = .ok (.ifCond .eq 5, 3) := dk_153 0 5 (dk_at dksL_law_54 1 rfl rfl)
theorem dL_law_1380 : decode cL_law 1380 = .ok (.iconst 0, 1) := dk_3 (dk_at dksL_law_54 4 rfl rfl)
theorem dL_law_1381 : decode cL_law 1381 = .ok (.ireturn, 1) := dk_172 (dk_at dksL_law_54 5 rfl rfl)
theorem dL_law_1382 : decode cL_law 1382 = .ok (.goto 1006, 3) := dk_167 3 238 (dk_at dksL_law_54 6 rfl rfl)
theorem dL_law_1385 : decode cL_law 1385 = .ok (.aload_n 1, 1) := dk_43 (dk_at dksL_law_54 9 rfl rfl)
theorem dL_law_1386 : decode cL_law 1386 = .ok (.aload_n 0, 1) := dk_42 (dk_at dksL_law_54 10 rfl rfl)
theorem dL_law_1387 : decode cL_law 1387 = .ok (.iload 4, 2) := dk_21 4 (dk_at dksL_law_54 11 rfl rfl)
theorem dL_law_1389 : decode cL_law 1389 = .ok (.iconst 1, 1) := dk_4 (dk_at dksL_law_54 13 rfl rfl)
theorem dL_law_1390 : decode cL_law 1390 = .ok (.iadd, 1) := dk_96 (dk_at dksL_law_54 14 rfl rfl)
theorem dL_law_1391 : decode cL_law 1391 = .ok (.iaload, 1) := dk_46 (dk_at dksL_law_54 15 rfl rfl)
theorem dL_law_1392 : decode cL_law 1392 = .ok (.aload_n 0, 1) := dk_42 (dk_at dksL_law_54 16 rfl rfl)
theorem dL_law_1393 : decode cL_law 1393 = .ok (.iload 4, 2) := dk_21 4 (dk_at dksL_law_54 17 rfl rfl)
theorem dL_law_1395 : decode cL_law 1395 = .ok (.iconst 2, 1) := dk_5 (dk_at dksL_law_54 19 rfl rfl)
theorem dL_law_1396 : decode cL_law 1396 = .ok (.iadd, 1) := dk_96 (dk_at dksL_law_54 20 rfl rfl)
theorem dL_law_1397 : decode cL_law 1397 = .ok (.iaload, 1) := dk_46 (dk_at dksL_law_54 21 rfl rfl)
theorem dL_law_1398 : decode cL_law 1398 = .ok (.aload_n 3, 1) := dk_45 (dk_at dksL_law_54 22 rfl rfl)
theorem dL_law_1399 : decode cL_law 1399 = .ok (.invokestatic 181, 3) := dk_184 0 181 (dk_at dksL_law_55 0 rfl rfl)
theorem dL_law_1402 : decode cL_law 1402 = .ok (.istore 5, 2) := dk_54 5 (dk_at dksL_law_55 3 rfl rfl)
theorem dL_law_1404 : decode cL_law 1404 = .ok (.aload_n 2, 1) := dk_44 (dk_at dksL_law_55 5 rfl rfl)
theorem dL_law_1405 : decode cL_law 1405 = .ok (.aload_n 0, 1) := dk_42 (dk_at dksL_law_55 6 rfl rfl)
theorem dL_law_1406 : decode cL_law 1406 = .ok (.iload 4, 2) := dk_21 4 (dk_at dksL_law_55 7 rfl rfl)
theorem dL_law_1408 : decode cL_law 1408 = .ok (.iconst 1, 1) := dk_4 (dk_at dksL_law_55 9 rfl rfl)
theorem dL_law_1409 : decode cL_law 1409 = .ok (.iadd, 1) := dk_96 (dk_at dksL_law_55 10 rfl rfl)
theorem dL_law_1410 : decode cL_law 1410 = .ok (.iaload, 1) := dk_46 (dk_at dksL_law_55 11 rfl rfl)
theorem dL_law_1411 : decode cL_law 1411 = .ok (.aload_n 0, 1) := dk_42 (dk_at dksL_law_55 12 rfl rfl)
theorem dL_law_1412 : decode cL_law 1412 = .ok (.iload 4, 2) := dk_21 4 (dk_at dksL_law_55 13 rfl rfl)
theorem dL_law_1414 : decode cL_law 1414 = .ok (.iconst 2, 1) := dk_5 (dk_at dksL_law_55 15 rfl rfl)
theorem dL_law_1415 : decode cL_law 1415 = .ok (.iadd, 1) := dk_96 (dk_at dksL_law_55 16 rfl rfl)
theorem dL_law_1416 : decode cL_law 1416 = .ok (.iaload, 1) := dk_46 (dk_at dksL_law_55 17 rfl rfl)
theorem dL_law_1417 : decode cL_law 1417 = .ok (.invokevirtual 183, 3) := dk_182 0 183 (dk_at dksL_law_55 18 rfl rfl)
theorem dL_law_1420 : decode cL_law 1420 = .ok (.istore 6, 2) := dk_54 6 (dk_at dksL_law_55 21 rfl rfl)
theorem dL_law_1422 : decode cL_law 1422 = .ok (.aload_n 2, 1) := dk_44 (dk_at dksL_law_55 23 rfl rfl)
theorem dL_law_1423 : decode cL_law 1423 = .ok (.invokevirtual 127, 3) := dk_182 0 127 (dk_at dksL_law_56 0 rfl rfl)
theorem dL_law_1426 : decode cL_law 1426 = .ok (.iload 5, 2) := dk_21 5 (dk_at dksL_law_56 3 rfl rfl)
theorem dL_law_1428 : decode cL_law 1428 = .ok (.if_icmp .eq 5, 3) := dk_159 0 5 (dk_at dksL_law_56 5 rfl rfl)
theorem dL_law_1431 : decode cL_law 1431 = .ok (.iconst 0, 1) := dk_3 (dk_at dksL_law_56 8 rfl rfl)
theorem dL_law_1432 : decode cL_law 1432 = .ok (.ireturn, 1) := dk_172 (dk_at dksL_law_56 9 rfl rfl)
theorem dL_law_1433 : decode cL_law 1433 = .ok (.iload 5, 2) := dk_21 5 (dk_at dksL_law_56 10 rfl rfl)
theorem dL_law_1435 : decode cL_law 1435 = .ok (.ifCond .ne 15, 3) := dk_154 0 15 (dk_at dksL_law_56 12 rfl rfl)
theorem dL_law_1438 : decode cL_law 1438 = .ok (.aload_n 3, 1) := dk_45 (dk_at dksL_law_56 15 rfl rfl)
theorem dL_law_1439 : decode cL_law 1439 = .ok (.iconst 0, 1) := dk_3 (dk_at dksL_law_56 16 rfl rfl)
theorem dL_law_1440 : decode cL_law 1440 = .ok (.laload, 1) := dk_47 (dk_at dksL_law_56 17 rfl rfl)
theorem dL_law_1441 : decode cL_law 1441 = .ok (.iload 6, 2) := dk_21 6 (dk_at dksL_law_56 18 rfl rfl)
theorem dL_law_1443 : decode cL_law 1443 = .ok (.i2l, 1) := dk_133 (dk_at dksL_law_56 20 rfl rfl)
theorem dL_law_1444 : decode cL_law 1444 = .ok (.lcmp, 1) := dk_148 (dk_at dksL_law_56 21 rfl rfl)
theorem dL_law_1445 : decode cL_law 1445 = .ok (.ifCond .eq 5, 3) := dk_153 0 5 (dk_at dksL_law_57 0 rfl rfl)
theorem dL_law_1448 : decode cL_law 1448 = .ok (.iconst 0, 1) := dk_3 (dk_at dksL_law_57 3 rfl rfl)
theorem dL_law_1449 : decode cL_law 1449 = .ok (.ireturn, 1) := dk_172 (dk_at dksL_law_57 4 rfl rfl)
theorem dL_law_1450 : decode cL_law 1450 = .ok (.goto 938, 3) := dk_167 3 170 (dk_at dksL_law_57 5 rfl rfl)
theorem dL_law_1453 : decode cL_law 1453 = .ok (.aload_n 1, 1) := dk_43 (dk_at dksL_law_57 8 rfl rfl)
theorem dL_law_1454 : decode cL_law 1454 = .ok (.aload_n 0, 1) := dk_42 (dk_at dksL_law_57 9 rfl rfl)
theorem dL_law_1455 : decode cL_law 1455 = .ok (.iload 4, 2) := dk_21 4 (dk_at dksL_law_57 10 rfl rfl)
theorem dL_law_1457 : decode cL_law 1457 = .ok (.iconst 1, 1) := dk_4 (dk_at dksL_law_57 12 rfl rfl)
theorem dL_law_1458 : decode cL_law 1458 = .ok (.iadd, 1) := dk_96 (dk_at dksL_law_57 13 rfl rfl)
theorem dL_law_1459 : decode cL_law 1459 = .ok (.iaload, 1) := dk_46 (dk_at dksL_law_57 14 rfl rfl)
theorem dL_law_1460 : decode cL_law 1460 = .ok (.aload_n 0, 1) := dk_42 (dk_at dksL_law_57 15 rfl rfl)
theorem dL_law_1461 : decode cL_law 1461 = .ok (.iload 4, 2) := dk_21 4 (dk_at dksL_law_57 16 rfl rfl)
theorem dL_law_1463 : decode cL_law 1463 = .ok (.iconst 2, 1) := dk_5 (dk_at dksL_law_57 18 rfl rfl)
theorem dL_law_1464 : decode cL_law 1464 = .ok (.iadd, 1) := dk_96 (dk_at dksL_law_57 19 rfl rfl)
theorem dL_law_1465 : decode cL_law 1465 = .ok (.iaload, 1) := dk_46 (dk_at dksL_law_57 20 rfl rfl)
theorem dL_law_1466 : decode cL_law 1466 = .ok (.aload_n 3, 1) := dk_45 (dk_at dksL_law_57 21 rfl rfl)
theorem dL_law_1467 : decode cL_law 1467 = .ok (.invokestatic 184, 3) := dk_184 0 184 (dk_at dksL_law_58 0 rfl rfl)
theorem dL_law_1470 : decode cL_law 1470 = .ok (.istore 5, 2) := dk_54 5 (dk_at dksL_law_58 3 rfl rfl)
theorem dL_law_1472 : decode cL_law 1472 = .ok (.aload_n 2, 1) := dk_44 (dk_at dksL_law_58 5 rfl rfl)
theorem dL_law_1473 : decode cL_law 1473 = .ok (.aload_n 0, 1) := dk_42 (dk_at dksL_law_58 6 rfl rfl)
theorem dL_law_1474 : decode cL_law 1474 = .ok (.iload 4, 2) := dk_21 4 (dk_at dksL_law_58 7 rfl rfl)
theorem dL_law_1476 : decode cL_law 1476 = .ok (.iconst 1, 1) := dk_4 (dk_at dksL_law_58 9 rfl rfl)
theorem dL_law_1477 : decode cL_law 1477 = .ok (.iadd, 1) := dk_96 (dk_at dksL_law_58 10 rfl rfl)
theorem dL_law_1478 : decode cL_law 1478 = .ok (.iaload, 1) := dk_46 (dk_at dksL_law_58 11 rfl rfl)
theorem dL_law_1479 : decode cL_law 1479 = .ok (.aload_n 0, 1) := dk_42 (dk_at dksL_law_58 12 rfl rfl)
theorem dL_law_1480 : decode cL_law 1480 = .ok (.iload 4, 2) := dk_21 4 (dk_at dksL_law_58 13 rfl rfl)
theorem dL_law_1482 : decode cL_law 1482 = .ok (.iconst 2, 1) := dk_5 (dk_at dksL_law_58 15 rfl rfl)
theorem dL_law_1483 : decode cL_law 1483 = .ok (.iadd, 1) := dk_96 (dk_at dksL_law_58 16 rfl rfl)
theorem dL_law_1484 : decode cL_law 1484 = .ok (.iaload, 1) := dk_46 (dk_at dksL_law_58 17 rfl rfl)
theorem dL_law_1485 : decode cL_law 1485 = .ok (.invokevirtual 186, 3) := dk_182 0 186 (dk_at dksL_law_58 18 rfl rfl)
theorem dL_law_1488 : decode cL_law 1488 = .ok (.istore 6, 2) := dk_54 6 (dk_at dksL_law_58 21 rfl rfl)
theorem dL_law_1490 : decode cL_law 1490 = .ok (.aload_n 2, 1) := dk_44 (dk_at dksL_law_58 23 rfl rfl)
theorem dL_law_1491 : decode cL_law 1491 = .ok (.invokevirtual 127, 3) := dk_182 0 127 (dk_at dksL_law_59 0 rfl rfl)
theorem dL_law_1494 : decode cL_law 1494 = .ok (.iload 5, 2) := dk_21 5 (dk_at dksL_law_59 3 rfl rfl)
theorem dL_law_1496 : decode cL_law 1496 = .ok (.if_icmp .eq 5, 3) := dk_159 0 5 (dk_at dksL_law_59 5 rfl rfl)
theorem dL_law_1499 : decode cL_law 1499 = .ok (.iconst 0, 1) := dk_3 (dk_at dksL_law_59 8 rfl rfl)
theorem dL_law_1500 : decode cL_law 1500 = .ok (.ireturn, 1) := dk_172 (dk_at dksL_law_59 9 rfl rfl)
theorem dL_law_1501 : decode cL_law 1501 = .ok (.iload 5, 2) := dk_21 5 (dk_at dksL_law_59 10 rfl rfl)
theorem dL_law_1503 : decode cL_law 1503 = .ok (.ifCond .ne 15, 3) := dk_154 0 15 (dk_at dksL_law_59 12 rfl rfl)
theorem dL_law_1506 : decode cL_law 1506 = .ok (.aload_n 3, 1) := dk_45 (dk_at dksL_law_59 15 rfl rfl)
theorem dL_law_1507 : decode cL_law 1507 = .ok (.iconst 0, 1) := dk_3 (dk_at dksL_law_59 16 rfl rfl)
theorem dL_law_1508 : decode cL_law 1508 = .ok (.laload, 1) := dk_47 (dk_at dksL_law_59 17 rfl rfl)
theorem dL_law_1509 : decode cL_law 1509 = .ok (.iload 6, 2) := dk_21 6 (dk_at dksL_law_59 18 rfl rfl)
theorem dL_law_1511 : decode cL_law 1511 = .ok (.i2l, 1) := dk_133 (dk_at dksL_law_59 20 rfl rfl)
theorem dL_law_1512 : decode cL_law 1512 = .ok (.lcmp, 1) := dk_148 (dk_at dksL_law_59 21 rfl rfl)
theorem dL_law_1513 : decode cL_law 1513 = .ok (.ifCond .eq 5, 3) := dk_153 0 5 (dk_at dksL_law_60 0 rfl rfl)
theorem dL_law_1516 : decode cL_law 1516 = .ok (.iconst 0, 1) := dk_3 (dk_at dksL_law_60 3 rfl rfl)
theorem dL_law_1517 : decode cL_law 1517 = .ok (.ireturn, 1) := dk_172 (dk_at dksL_law_60 4 rfl rfl)
theorem dL_law_1518 : decode cL_law 1518 = .ok (.goto 870, 3) := dk_167 3 102 (dk_at dksL_law_60 5 rfl rfl)
theorem dL_law_1521 : decode cL_law 1521 = .ok (.aload_n 1, 1) := dk_43 (dk_at dksL_law_60 8 rfl rfl)
theorem dL_law_1522 : decode cL_law 1522 = .ok (.aload_n 0, 1) := dk_42 (dk_at dksL_law_60 9 rfl rfl)
theorem dL_law_1523 : decode cL_law 1523 = .ok (.iload 4, 2) := dk_21 4 (dk_at dksL_law_60 10 rfl rfl)
theorem dL_law_1525 : decode cL_law 1525 = .ok (.iconst 1, 1) := dk_4 (dk_at dksL_law_60 12 rfl rfl)
theorem dL_law_1526 : decode cL_law 1526 = .ok (.iadd, 1) := dk_96 (dk_at dksL_law_60 13 rfl rfl)
theorem dL_law_1527 : decode cL_law 1527 = .ok (.iaload, 1) := dk_46 (dk_at dksL_law_60 14 rfl rfl)
theorem dL_law_1528 : decode cL_law 1528 = .ok (.aload_n 3, 1) := dk_45 (dk_at dksL_law_60 15 rfl rfl)
theorem dL_law_1529 : decode cL_law 1529 = .ok (.invokestatic 187, 3) := dk_184 0 187 (dk_at dksL_law_60 16 rfl rfl)
theorem dL_law_1532 : decode cL_law 1532 = .ok (.istore 5, 2) := dk_54 5 (dk_at dksL_law_60 19 rfl rfl)
theorem dL_law_1534 : decode cL_law 1534 = .ok (.aload_n 2, 1) := dk_44 (dk_at dksL_law_60 21 rfl rfl)
theorem dL_law_1535 : decode cL_law 1535 = .ok (.aload_n 0, 1) := dk_42 (dk_at dksL_law_60 22 rfl rfl)
theorem dL_law_1536 : decode cL_law 1536 = .ok (.iload 4, 2) := dk_21 4 (dk_at dksL_law_61 0 rfl rfl)
theorem dL_law_1538 : decode cL_law 1538 = .ok (.iconst 1, 1) := dk_4 (dk_at dksL_law_61 2 rfl rfl)
theorem dL_law_1539 : decode cL_law 1539 = .ok (.iadd, 1) := dk_96 (dk_at dksL_law_61 3 rfl rfl)
theorem dL_law_1540 : decode cL_law 1540 = .ok (.iaload, 1) := dk_46 (dk_at dksL_law_61 4 rfl rfl)
theorem dL_law_1541 : decode cL_law 1541 = .ok (.invokevirtual 189, 3) := dk_182 0 189 (dk_at dksL_law_61 5 rfl rfl)
theorem dL_law_1544 : decode cL_law 1544 = .ok (.istore 6, 2) := dk_54 6 (dk_at dksL_law_61 8 rfl rfl)
theorem dL_law_1546 : decode cL_law 1546 = .ok (.aload_n 2, 1) := dk_44 (dk_at dksL_law_61 10 rfl rfl)
theorem dL_law_1547 : decode cL_law 1547 = .ok (.invokevirtual 127, 3) := dk_182 0 127 (dk_at dksL_law_61 11 rfl rfl)
theorem dL_law_1550 : decode cL_law 1550 = .ok (.iload 5, 2) := dk_21 5 (dk_at dksL_law_61 14 rfl rfl)
theorem dL_law_1552 : decode cL_law 1552 = .ok (.if_icmp .eq 5, 3) := dk_159 0 5 (dk_at dksL_law_61 16 rfl rfl)
theorem dL_law_1555 : decode cL_law 1555 = .ok (.iconst 0, 1) := dk_3 (dk_at dksL_law_61 19 rfl rfl)
theorem dL_law_1556 : decode cL_law 1556 = .ok (.ireturn, 1) := dk_172 (dk_at dksL_law_61 20 rfl rfl)
theorem dL_law_1557 : decode cL_law 1557 = .ok (.iload 5, 2) := dk_21 5 (dk_at dksL_law_61 21 rfl rfl)
theorem dL_law_1559 : decode cL_law 1559 = .ok (.ifCond .ne 15, 3) := dk_154 0 15 (dk_at dksL_law_62 0 rfl rfl)
theorem dL_law_1562 : decode cL_law 1562 = .ok (.aload_n 3, 1) := dk_45 (dk_at dksL_law_62 3 rfl rfl)
theorem dL_law_1563 : decode cL_law 1563 = .ok (.iconst 0, 1) := dk_3 (dk_at dksL_law_62 4 rfl rfl)
theorem dL_law_1564 : decode cL_law 1564 = .ok (.laload, 1) := dk_47 (dk_at dksL_law_62 5 rfl rfl)
theorem dL_law_1565 : decode cL_law 1565 = .ok (.iload 6, 2) := dk_21 6 (dk_at dksL_law_62 6 rfl rfl)
theorem dL_law_1567 : decode cL_law 1567 = .ok (.i2l, 1) := dk_133 (dk_at dksL_law_62 8 rfl rfl)
theorem dL_law_1568 : decode cL_law 1568 = .ok (.lcmp, 1) := dk_148 (dk_at dksL_law_62 9 rfl rfl)
theorem dL_law_1569 : decode cL_law 1569 = .ok (.ifCond .eq 5, 3) := dk_153 0 5 (dk_at dksL_law_62 10 rfl rfl)
theorem dL_law_1572 : decode cL_law 1572 = .ok (.iconst 0, 1) := dk_3 (dk_at dksL_law_62 13 rfl rfl)
theorem dL_law_1573 : decode cL_law 1573 = .ok (.ireturn, 1) := dk_172 (dk_at dksL_law_62 14 rfl rfl)
theorem dL_law_1574 : decode cL_law 1574 = .ok (.goto 814, 3) := dk_167 3 46 (dk_at dksL_law_62 15 rfl rfl)
theorem dL_law_1577 : decode cL_law 1577 = .ok (.aload_n 1, 1) := dk_43 (dk_at dksL_law_62 18 rfl rfl)
theorem dL_law_1578 : decode cL_law 1578 = .ok (.aload_n 0, 1) := dk_42 (dk_at dksL_law_62 19 rfl rfl)
theorem dL_law_1579 : decode cL_law 1579 = .ok (.iload 4, 2) := dk_21 4 (dk_at dksL_law_62 20 rfl rfl)
theorem dL_law_1581 : decode cL_law 1581 = .ok (.iconst 1, 1) := dk_4 (dk_at dksL_law_62 22 rfl rfl)
theorem dL_law_1582 : decode cL_law 1582 = .ok (.iadd, 1) := dk_96 (dk_at dksL_law_62 23 rfl rfl)
theorem dL_law_1583 : decode cL_law 1583 = .ok (.iaload, 1) := dk_46 (dk_at dksL_law_63 0 rfl rfl)
theorem dL_law_1584 : decode cL_law 1584 = .ok (.aload_n 0, 1) := dk_42 (dk_at dksL_law_63 1 rfl rfl)
theorem dL_law_1585 : decode cL_law 1585 = .ok (.iload 4, 2) := dk_21 4 (dk_at dksL_law_63 2 rfl rfl)
theorem dL_law_1587 : decode cL_law 1587 = .ok (.iconst 2, 1) := dk_5 (dk_at dksL_law_63 4 rfl rfl)
theorem dL_law_1588 : decode cL_law 1588 = .ok (.iadd, 1) := dk_96 (dk_at dksL_law_63 5 rfl rfl)
theorem dL_law_1589 : decode cL_law 1589 = .ok (.iaload, 1) := dk_46 (dk_at dksL_law_63 6 rfl rfl)
theorem dL_law_1590 : decode cL_law 1590 = .ok (.aload_n 3, 1) := dk_45 (dk_at dksL_law_63 7 rfl rfl)
theorem dL_law_1591 : decode cL_law 1591 = .ok (.invokestatic 190, 3) := dk_184 0 190 (dk_at dksL_law_63 8 rfl rfl)
theorem dL_law_1594 : decode cL_law 1594 = .ok (.istore 5, 2) := dk_54 5 (dk_at dksL_law_63 11 rfl rfl)
theorem dL_law_1596 : decode cL_law 1596 = .ok (.aload_n 2, 1) := dk_44 (dk_at dksL_law_63 13 rfl rfl)
theorem dL_law_1597 : decode cL_law 1597 = .ok (.aload_n 0, 1) := dk_42 (dk_at dksL_law_63 14 rfl rfl)
theorem dL_law_1598 : decode cL_law 1598 = .ok (.iload 4, 2) := dk_21 4 (dk_at dksL_law_63 15 rfl rfl)
theorem dL_law_1600 : decode cL_law 1600 = .ok (.iconst 1, 1) := dk_4 (dk_at dksL_law_63 17 rfl rfl)
theorem dL_law_1601 : decode cL_law 1601 = .ok (.iadd, 1) := dk_96 (dk_at dksL_law_63 18 rfl rfl)
theorem dL_law_1602 : decode cL_law 1602 = .ok (.iaload, 1) := dk_46 (dk_at dksL_law_63 19 rfl rfl)
theorem dL_law_1603 : decode cL_law 1603 = .ok (.aload_n 0, 1) := dk_42 (dk_at dksL_law_63 20 rfl rfl)
theorem dL_law_1604 : decode cL_law 1604 = .ok (.iload 4, 2) := dk_21 4 (dk_at dksL_law_63 21 rfl rfl)
theorem dL_law_1606 : decode cL_law 1606 = .ok (.iconst 2, 1) := dk_5 (dk_at dksL_law_63 23 rfl rfl)
theorem dL_law_1607 : decode cL_law 1607 = .ok (.iadd, 1) := dk_96 (dk_at dksL_law_64 0 rfl rfl)
theorem dL_law_1608 : decode cL_law 1608 = .ok (.iaload, 1) := dk_46 (dk_at dksL_law_64 1 rfl rfl)
theorem dL_law_1609 : decode cL_law 1609 = .ok (.invokevirtual 192, 3) := dk_182 0 192 (dk_at dksL_law_64 2 rfl rfl)
theorem dL_law_1612 : decode cL_law 1612 = .ok (.istore 6, 2) := dk_54 6 (dk_at dksL_law_64 5 rfl rfl)
theorem dL_law_1614 : decode cL_law 1614 = .ok (.aload_n 2, 1) := dk_44 (dk_at dksL_law_64 7 rfl rfl)
theorem dL_law_1615 : decode cL_law 1615 = .ok (.invokevirtual 127, 3) := dk_182 0 127 (dk_at dksL_law_64 8 rfl rfl)
theorem dL_law_1618 : decode cL_law 1618 = .ok (.iload 5, 2) := dk_21 5 (dk_at dksL_law_64 11 rfl rfl)
theorem dL_law_1620 : decode cL_law 1620 = .ok (.if_icmp .eq 5, 3) := dk_159 0 5 (dk_at dksL_law_64 13 rfl rfl)
theorem dL_law_1623 : decode cL_law 1623 = .ok (.iconst 0, 1) := dk_3 (dk_at dksL_law_64 16 rfl rfl)
theorem dL_law_1624 : decode cL_law 1624 = .ok (.ireturn, 1) := dk_172 (dk_at dksL_law_64 17 rfl rfl)
theorem dL_law_1625 : decode cL_law 1625 = .ok (.iload 5, 2) := dk_21 5 (dk_at dksL_law_64 18 rfl rfl)
theorem dL_law_1627 : decode cL_law 1627 = .ok (.ifCond .ne 15, 3) := dk_154 0 15 (dk_at dksL_law_64 20 rfl rfl)
theorem dL_law_1630 : decode cL_law 1630 = .ok (.aload_n 3, 1) := dk_45 (dk_at dksL_law_64 23 rfl rfl)
theorem dL_law_1631 : decode cL_law 1631 = .ok (.iconst 0, 1) := dk_3 (dk_at dksL_law_65 0 rfl rfl)
theorem dL_law_1632 : decode cL_law 1632 = .ok (.laload, 1) := dk_47 (dk_at dksL_law_65 1 rfl rfl)
theorem dL_law_1633 : decode cL_law 1633 = .ok (.iload 6, 2) := dk_21 6 (dk_at dksL_law_65 2 rfl rfl)
theorem dL_law_1635 : decode cL_law 1635 = .ok (.i2l, 1) := dk_133 (dk_at dksL_law_65 4 rfl rfl)
theorem dL_law_1636 : decode cL_law 1636 = .ok (.lcmp, 1) := dk_148 (dk_at dksL_law_65 5 rfl rfl)
theorem dL_law_1637 : decode cL_law 1637 = .ok (.ifCond .eq 5, 3) := dk_153 0 5 (dk_at dksL_law_65 6 rfl rfl)
theorem dL_law_1640 : decode cL_law 1640 = .ok (.iconst 0, 1) := dk_3 (dk_at dksL_law_65 9 rfl rfl)
theorem dL_law_1641 : decode cL_law 1641 = .ok (.ireturn, 1) := dk_172 (dk_at dksL_law_65 10 rfl rfl)
theorem dL_law_1642 : decode cL_law 1642 = .ok (.goto 746, 3) := dk_167 2 234 (dk_at dksL_law_65 11 rfl rfl)
theorem dL_law_1645 : decode cL_law 1645 = .ok (.aload_n 1, 1) := dk_43 (dk_at dksL_law_65 14 rfl rfl)
theorem dL_law_1646 : decode cL_law 1646 = .ok (.aload_n 0, 1) := dk_42 (dk_at dksL_law_65 15 rfl rfl)
theorem dL_law_1647 : decode cL_law 1647 = .ok (.iload 4, 2) := dk_21 4 (dk_at dksL_law_65 16 rfl rfl)
theorem dL_law_1649 : decode cL_law 1649 = .ok (.iconst 1, 1) := dk_4 (dk_at dksL_law_65 18 rfl rfl)
theorem dL_law_1650 : decode cL_law 1650 = .ok (.iadd, 1) := dk_96 (dk_at dksL_law_65 19 rfl rfl)
theorem dL_law_1651 : decode cL_law 1651 = .ok (.iaload, 1) := dk_46 (dk_at dksL_law_65 20 rfl rfl)
theorem dL_law_1652 : decode cL_law 1652 = .ok (.aload_n 3, 1) := dk_45 (dk_at dksL_law_65 21 rfl rfl)
theorem dL_law_1653 : decode cL_law 1653 = .ok (.invokestatic 193, 3) := dk_184 0 193 (dk_at dksL_law_66 0 rfl rfl)
theorem dL_law_1656 : decode cL_law 1656 = .ok (.istore 5, 2) := dk_54 5 (dk_at dksL_law_66 3 rfl rfl)
theorem dL_law_1658 : decode cL_law 1658 = .ok (.aload_n 2, 1) := dk_44 (dk_at dksL_law_66 5 rfl rfl)
theorem dL_law_1659 : decode cL_law 1659 = .ok (.aload_n 0, 1) := dk_42 (dk_at dksL_law_66 6 rfl rfl)
theorem dL_law_1660 : decode cL_law 1660 = .ok (.iload 4, 2) := dk_21 4 (dk_at dksL_law_66 7 rfl rfl)
theorem dL_law_1662 : decode cL_law 1662 = .ok (.iconst 1, 1) := dk_4 (dk_at dksL_law_66 9 rfl rfl)
theorem dL_law_1663 : decode cL_law 1663 = .ok (.iadd, 1) := dk_96 (dk_at dksL_law_66 10 rfl rfl)
theorem dL_law_1664 : decode cL_law 1664 = .ok (.iaload, 1) := dk_46 (dk_at dksL_law_66 11 rfl rfl)
theorem dL_law_1665 : decode cL_law 1665 = .ok (.invokevirtual 195, 3) := dk_182 0 195 (dk_at dksL_law_66 12 rfl rfl)
theorem dL_law_1668 : decode cL_law 1668 = .ok (.istore 6, 2) := dk_54 6 (dk_at dksL_law_66 15 rfl rfl)
theorem dL_law_1670 : decode cL_law 1670 = .ok (.aload_n 2, 1) := dk_44 (dk_at dksL_law_66 17 rfl rfl)
theorem dL_law_1671 : decode cL_law 1671 = .ok (.invokevirtual 127, 3) := dk_182 0 127 (dk_at dksL_law_66 18 rfl rfl)
theorem dL_law_1674 : decode cL_law 1674 = .ok (.iload 5, 2) := dk_21 5 (dk_at dksL_law_66 21 rfl rfl)
theorem dL_law_1676 : decode cL_law 1676 = .ok (.if_icmp .eq 5, 3) := dk_159 0 5 (dk_at dksL_law_67 0 rfl rfl)
theorem dL_law_1679 : decode cL_law 1679 = .ok (.iconst 0, 1) := dk_3 (dk_at dksL_law_67 3 rfl rfl)
theorem dL_law_1680 : decode cL_law 1680 = .ok (.ireturn, 1) := dk_172 (dk_at dksL_law_67 4 rfl rfl)
theorem dL_law_1681 : decode cL_law 1681 = .ok (.iload 5, 2) := dk_21 5 (dk_at dksL_law_67 5 rfl rfl)
theorem dL_law_1683 : decode cL_law 1683 = .ok (.ifCond .ne 15, 3) := dk_154 0 15 (dk_at dksL_law_67 7 rfl rfl)
theorem dL_law_1686 : decode cL_law 1686 = .ok (.aload_n 3, 1) := dk_45 (dk_at dksL_law_67 10 rfl rfl)
theorem dL_law_1687 : decode cL_law 1687 = .ok (.iconst 0, 1) := dk_3 (dk_at dksL_law_67 11 rfl rfl)
theorem dL_law_1688 : decode cL_law 1688 = .ok (.laload, 1) := dk_47 (dk_at dksL_law_67 12 rfl rfl)
theorem dL_law_1689 : decode cL_law 1689 = .ok (.iload 6, 2) := dk_21 6 (dk_at dksL_law_67 13 rfl rfl)
theorem dL_law_1691 : decode cL_law 1691 = .ok (.i2l, 1) := dk_133 (dk_at dksL_law_67 15 rfl rfl)
theorem dL_law_1692 : decode cL_law 1692 = .ok (.lcmp, 1) := dk_148 (dk_at dksL_law_67 16 rfl rfl)
theorem dL_law_1693 : decode cL_law 1693 = .ok (.ifCond .eq 5, 3) := dk_153 0 5 (dk_at dksL_law_67 17 rfl rfl)
theorem dL_law_1696 : decode cL_law 1696 = .ok (.iconst 0, 1) := dk_3 (dk_at dksL_law_67 20 rfl rfl)
theorem dL_law_1697 : decode cL_law 1697 = .ok (.ireturn, 1) := dk_172 (dk_at dksL_law_67 21 rfl rfl)
theorem dL_law_1698 : decode cL_law 1698 = .ok (.goto 690, 3) := dk_167 2 178 (dk_at dksL_law_68 0 rfl rfl)
theorem dL_law_1701 : decode cL_law 1701 = .ok (.aload_n 1, 1) := dk_43 (dk_at dksL_law_68 3 rfl rfl)
theorem dL_law_1702 : decode cL_law 1702 = .ok (.invokevirtual 196, 3) := dk_182 0 196 (dk_at dksL_law_68 4 rfl rfl)
theorem dL_law_1705 : decode cL_law 1705 = .ok (.aload_n 2, 1) := dk_44 (dk_at dksL_law_68 7 rfl rfl)
theorem dL_law_1706 : decode cL_law 1706 = .ok (.invokevirtual 199, 3) := dk_182 0 199 (dk_at dksL_law_68 8 rfl rfl)
theorem dL_law_1709 : decode cL_law 1709 = .ok (.if_icmp .eq 679, 3) := dk_159 2 167 (dk_at dksL_law_68 11 rfl rfl)
theorem dL_law_1712 : decode cL_law 1712 = .ok (.iconst 0, 1) := dk_3 (dk_at dksL_law_68 14 rfl rfl)
theorem dL_law_1713 : decode cL_law 1713 = .ok (.ireturn, 1) := dk_172 (dk_at dksL_law_68 15 rfl rfl)
theorem dL_law_1714 : decode cL_law 1714 = .ok (.aload_n 1, 1) := dk_43 (dk_at dksL_law_68 16 rfl rfl)
theorem dL_law_1715 : decode cL_law 1715 = .ok (.aload_n 0, 1) := dk_42 (dk_at dksL_law_68 17 rfl rfl)
theorem dL_law_1716 : decode cL_law 1716 = .ok (.iload 4, 2) := dk_21 4 (dk_at dksL_law_68 18 rfl rfl)
theorem dL_law_1718 : decode cL_law 1718 = .ok (.iconst 1, 1) := dk_4 (dk_at dksL_law_68 20 rfl rfl)
theorem dL_law_1719 : decode cL_law 1719 = .ok (.iadd, 1) := dk_96 (dk_at dksL_law_68 21 rfl rfl)
theorem dL_law_1720 : decode cL_law 1720 = .ok (.iaload, 1) := dk_46 (dk_at dksL_law_68 22 rfl rfl)
theorem dL_law_1721 : decode cL_law 1721 = .ok (.aload_n 0, 1) := dk_42 (dk_at dksL_law_68 23 rfl rfl)
theorem dL_law_1722 : decode cL_law 1722 = .ok (.iload 4, 2) := dk_21 4 (dk_at dksL_law_69 0 rfl rfl)
theorem dL_law_1724 : decode cL_law 1724 = .ok (.iconst 2, 1) := dk_5 (dk_at dksL_law_69 2 rfl rfl)
theorem dL_law_1725 : decode cL_law 1725 = .ok (.iadd, 1) := dk_96 (dk_at dksL_law_69 3 rfl rfl)
theorem dL_law_1726 : decode cL_law 1726 = .ok (.iaload, 1) := dk_46 (dk_at dksL_law_69 4 rfl rfl)
theorem dL_law_1727 : decode cL_law 1727 = .ok (.aload_n 3, 1) := dk_45 (dk_at dksL_law_69 5 rfl rfl)
theorem dL_law_1728 : decode cL_law 1728 = .ok (.invokestatic 200, 3) := dk_184 0 200 (dk_at dksL_law_69 6 rfl rfl)
theorem dL_law_1731 : decode cL_law 1731 = .ok (.istore 5, 2) := dk_54 5 (dk_at dksL_law_69 9 rfl rfl)
theorem dL_law_1733 : decode cL_law 1733 = .ok (.aload_n 2, 1) := dk_44 (dk_at dksL_law_69 11 rfl rfl)
theorem dL_law_1734 : decode cL_law 1734 = .ok (.aload_n 0, 1) := dk_42 (dk_at dksL_law_69 12 rfl rfl)
theorem dL_law_1735 : decode cL_law 1735 = .ok (.iload 4, 2) := dk_21 4 (dk_at dksL_law_69 13 rfl rfl)
theorem dL_law_1737 : decode cL_law 1737 = .ok (.iconst 1, 1) := dk_4 (dk_at dksL_law_69 15 rfl rfl)
theorem dL_law_1738 : decode cL_law 1738 = .ok (.iadd, 1) := dk_96 (dk_at dksL_law_69 16 rfl rfl)
theorem dL_law_1739 : decode cL_law 1739 = .ok (.iaload, 1) := dk_46 (dk_at dksL_law_69 17 rfl rfl)
theorem dL_law_1740 : decode cL_law 1740 = .ok (.aload_n 0, 1) := dk_42 (dk_at dksL_law_69 18 rfl rfl)
theorem dL_law_1741 : decode cL_law 1741 = .ok (.iload 4, 2) := dk_21 4 (dk_at dksL_law_69 19 rfl rfl)
theorem dL_law_1743 : decode cL_law 1743 = .ok (.iconst 2, 1) := dk_5 (dk_at dksL_law_69 21 rfl rfl)
theorem dL_law_1744 : decode cL_law 1744 = .ok (.iadd, 1) := dk_96 (dk_at dksL_law_69 22 rfl rfl)
theorem dL_law_1745 : decode cL_law 1745 = .ok (.iaload, 1) := dk_46 (dk_at dksL_law_69 23 rfl rfl)
theorem dL_law_1746 : decode cL_law 1746 = .ok (.invokevirtual 202, 3) := dk_182 0 202 (dk_at dksL_law_70 0 rfl rfl)
theorem dL_law_1749 : decode cL_law 1749 = .ok (.istore 6, 2) := dk_54 6 (dk_at dksL_law_70 3 rfl rfl)
theorem dL_law_1751 : decode cL_law 1751 = .ok (.aload_n 2, 1) := dk_44 (dk_at dksL_law_70 5 rfl rfl)
theorem dL_law_1752 : decode cL_law 1752 = .ok (.invokevirtual 127, 3) := dk_182 0 127 (dk_at dksL_law_70 6 rfl rfl)
theorem dL_law_1755 : decode cL_law 1755 = .ok (.iload 5, 2) := dk_21 5 (dk_at dksL_law_70 9 rfl rfl)
theorem dL_law_1757 : decode cL_law 1757 = .ok (.if_icmp .eq 5, 3) := dk_159 0 5 (dk_at dksL_law_70 11 rfl rfl)
theorem dL_law_1760 : decode cL_law 1760 = .ok (.iconst 0, 1) := dk_3 (dk_at dksL_law_70 14 rfl rfl)
theorem dL_law_1761 : decode cL_law 1761 = .ok (.ireturn, 1) := dk_172 (dk_at dksL_law_70 15 rfl rfl)
theorem dL_law_1762 : decode cL_law 1762 = .ok (.iload 5, 2) := dk_21 5 (dk_at dksL_law_70 16 rfl rfl)
theorem dL_law_1764 : decode cL_law 1764 = .ok (.ifCond .ne 15, 3) := dk_154 0 15 (dk_at dksL_law_70 18 rfl rfl)
theorem dL_law_1767 : decode cL_law 1767 = .ok (.aload_n 3, 1) := dk_45 (dk_at dksL_law_70 21 rfl rfl)
theorem dL_law_1768 : decode cL_law 1768 = .ok (.iconst 0, 1) := dk_3 (dk_at dksL_law_70 22 rfl rfl)
theorem dL_law_1769 : decode cL_law 1769 = .ok (.laload, 1) := dk_47 (dk_at dksL_law_70 23 rfl rfl)
theorem dL_law_1770 : decode cL_law 1770 = .ok (.iload 6, 2) := dk_21 6 (dk_at dksL_law_71 0 rfl rfl)
theorem dL_law_1772 : decode cL_law 1772 = .ok (.i2l, 1) := dk_133 (dk_at dksL_law_71 2 rfl rfl)
theorem dL_law_1773 : decode cL_law 1773 = .ok (.lcmp, 1) := dk_148 (dk_at dksL_law_71 3 rfl rfl)
theorem dL_law_1774 : decode cL_law 1774 = .ok (.ifCond .eq 5, 3) := dk_153 0 5 (dk_at dksL_law_71 4 rfl rfl)
theorem dL_law_1777 : decode cL_law 1777 = .ok (.iconst 0, 1) := dk_3 (dk_at dksL_law_71 7 rfl rfl)
theorem dL_law_1778 : decode cL_law 1778 = .ok (.ireturn, 1) := dk_172 (dk_at dksL_law_71 8 rfl rfl)
theorem dL_law_1779 : decode cL_law 1779 = .ok (.goto 609, 3) := dk_167 2 97 (dk_at dksL_law_71 9 rfl rfl)
theorem dL_law_1782 : decode cL_law 1782 = .ok (.aload_n 1, 1) := dk_43 (dk_at dksL_law_71 12 rfl rfl)
theorem dL_law_1783 : decode cL_law 1783 = .ok (.aload_n 0, 1) := dk_42 (dk_at dksL_law_71 13 rfl rfl)
theorem dL_law_1784 : decode cL_law 1784 = .ok (.iload 4, 2) := dk_21 4 (dk_at dksL_law_71 14 rfl rfl)
theorem dL_law_1786 : decode cL_law 1786 = .ok (.iconst 1, 1) := dk_4 (dk_at dksL_law_71 16 rfl rfl)
theorem dL_law_1787 : decode cL_law 1787 = .ok (.iadd, 1) := dk_96 (dk_at dksL_law_71 17 rfl rfl)
theorem dL_law_1788 : decode cL_law 1788 = .ok (.iaload, 1) := dk_46 (dk_at dksL_law_71 18 rfl rfl)
theorem dL_law_1789 : decode cL_law 1789 = .ok (.aload_n 0, 1) := dk_42 (dk_at dksL_law_71 19 rfl rfl)
theorem dL_law_1790 : decode cL_law 1790 = .ok (.iload 4, 2) := dk_21 4 (dk_at dksL_law_71 20 rfl rfl)
theorem dL_law_1792 : decode cL_law 1792 = .ok (.iconst 2, 1) := dk_5 (dk_at dksL_law_71 22 rfl rfl)
theorem dL_law_1793 : decode cL_law 1793 = .ok (.iadd, 1) := dk_96 (dk_at dksL_law_71 23 rfl rfl)
theorem dL_law_1794 : decode cL_law 1794 = .ok (.iaload, 1) := dk_46 (dk_at dksL_law_72 0 rfl rfl)
theorem dL_law_1795 : decode cL_law 1795 = .ok (.aload_n 3, 1) := dk_45 (dk_at dksL_law_72 1 rfl rfl)
theorem dL_law_1796 : decode cL_law 1796 = .ok (.invokestatic 203, 3) := dk_184 0 203 (dk_at dksL_law_72 2 rfl rfl)
theorem dL_law_1799 : decode cL_law 1799 = .ok (.istore 5, 2) := dk_54 5 (dk_at dksL_law_72 5 rfl rfl)
theorem dL_law_1801 : decode cL_law 1801 = .ok (.aload_n 2, 1) := dk_44 (dk_at dksL_law_72 7 rfl rfl)
theorem dL_law_1802 : decode cL_law 1802 = .ok (.aload_n 0, 1) := dk_42 (dk_at dksL_law_72 8 rfl rfl)
theorem dL_law_1803 : decode cL_law 1803 = .ok (.iload 4, 2) := dk_21 4 (dk_at dksL_law_72 9 rfl rfl)
theorem dL_law_1805 : decode cL_law 1805 = .ok (.iconst 1, 1) := dk_4 (dk_at dksL_law_72 11 rfl rfl)
theorem dL_law_1806 : decode cL_law 1806 = .ok (.iadd, 1) := dk_96 (dk_at dksL_law_72 12 rfl rfl)
theorem dL_law_1807 : decode cL_law 1807 = .ok (.iaload, 1) := dk_46 (dk_at dksL_law_72 13 rfl rfl)
theorem dL_law_1808 : decode cL_law 1808 = .ok (.aload_n 0, 1) := dk_42 (dk_at dksL_law_72 14 rfl rfl)
theorem dL_law_1809 : decode cL_law 1809 = .ok (.iload 4, 2) := dk_21 4 (dk_at dksL_law_72 15 rfl rfl)
theorem dL_law_1811 : decode cL_law 1811 = .ok (.iconst 2, 1) := dk_5 (dk_at dksL_law_72 17 rfl rfl)
theorem dL_law_1812 : decode cL_law 1812 = .ok (.iadd, 1) := dk_96 (dk_at dksL_law_72 18 rfl rfl)
theorem dL_law_1813 : decode cL_law 1813 = .ok (.iaload, 1) := dk_46 (dk_at dksL_law_72 19 rfl rfl)
theorem dL_law_1814 : decode cL_law 1814 = .ok (.invokevirtual 205, 3) := dk_182 0 205 (dk_at dksL_law_72 20 rfl rfl)
theorem dL_law_1817 : decode cL_law 1817 = .ok (.istore 6, 2) := dk_54 6 (dk_at dksL_law_73 0 rfl rfl)
theorem dL_law_1819 : decode cL_law 1819 = .ok (.aload_n 2, 1) := dk_44 (dk_at dksL_law_73 2 rfl rfl)
theorem dL_law_1820 : decode cL_law 1820 = .ok (.invokevirtual 127, 3) := dk_182 0 127 (dk_at dksL_law_73 3 rfl rfl)
theorem dL_law_1823 : decode cL_law 1823 = .ok (.iload 5, 2) := dk_21 5 (dk_at dksL_law_73 6 rfl rfl)
theorem dL_law_1825 : decode cL_law 1825 = .ok (.if_icmp .eq 5, 3) := dk_159 0 5 (dk_at dksL_law_73 8 rfl rfl)
theorem dL_law_1828 : decode cL_law 1828 = .ok (.iconst 0, 1) := dk_3 (dk_at dksL_law_73 11 rfl rfl)
theorem dL_law_1829 : decode cL_law 1829 = .ok (.ireturn, 1) := dk_172 (dk_at dksL_law_73 12 rfl rfl)
theorem dL_law_1830 : decode cL_law 1830 = .ok (.iload 5, 2) := dk_21 5 (dk_at dksL_law_73 13 rfl rfl)
theorem dL_law_1832 : decode cL_law 1832 = .ok (.ifCond .ne 15, 3) := dk_154 0 15 (dk_at dksL_law_73 15 rfl rfl)
theorem dL_law_1835 : decode cL_law 1835 = .ok (.aload_n 3, 1) := dk_45 (dk_at dksL_law_73 18 rfl rfl)
theorem dL_law_1836 : decode cL_law 1836 = .ok (.iconst 0, 1) := dk_3 (dk_at dksL_law_73 19 rfl rfl)
theorem dL_law_1837 : decode cL_law 1837 = .ok (.laload, 1) := dk_47 (dk_at dksL_law_73 20 rfl rfl)
theorem dL_law_1838 : decode cL_law 1838 = .ok (.iload 6, 2) := dk_21 6 (dk_at dksL_law_73 21 rfl rfl)
theorem dL_law_1840 : decode cL_law 1840 = .ok (.i2l, 1) := dk_133 (dk_at dksL_law_73 23 rfl rfl)
theorem dL_law_1841 : decode cL_law 1841 = .ok (.lcmp, 1) := dk_148 (dk_at dksL_law_74 0 rfl rfl)
theorem dL_law_1842 : decode cL_law 1842 = .ok (.ifCond .eq 5, 3) := dk_153 0 5 (dk_at dksL_law_74 1 rfl rfl)
theorem dL_law_1845 : decode cL_law 1845 = .ok (.iconst 0, 1) := dk_3 (dk_at dksL_law_74 4 rfl rfl)
theorem dL_law_1846 : decode cL_law 1846 = .ok (.ireturn, 1) := dk_172 (dk_at dksL_law_74 5 rfl rfl)
theorem dL_law_1847 : decode cL_law 1847 = .ok (.goto 541, 3) := dk_167 2 29 (dk_at dksL_law_74 6 rfl rfl)
theorem dL_law_1850 : decode cL_law 1850 = .ok (.aload_n 1, 1) := dk_43 (dk_at dksL_law_74 9 rfl rfl)
theorem dL_law_1851 : decode cL_law 1851 = .ok (.aload_n 0, 1) := dk_42 (dk_at dksL_law_74 10 rfl rfl)
theorem dL_law_1852 : decode cL_law 1852 = .ok (.iload 4, 2) := dk_21 4 (dk_at dksL_law_74 11 rfl rfl)
theorem dL_law_1854 : decode cL_law 1854 = .ok (.iconst 1, 1) := dk_4 (dk_at dksL_law_74 13 rfl rfl)
theorem dL_law_1855 : decode cL_law 1855 = .ok (.iadd, 1) := dk_96 (dk_at dksL_law_74 14 rfl rfl)
theorem dL_law_1856 : decode cL_law 1856 = .ok (.iaload, 1) := dk_46 (dk_at dksL_law_74 15 rfl rfl)
theorem dL_law_1857 : decode cL_law 1857 = .ok (.aload_n 3, 1) := dk_45 (dk_at dksL_law_74 16 rfl rfl)
theorem dL_law_1858 : decode cL_law 1858 = .ok (.invokestatic 206, 3) := dk_184 0 206 (dk_at dksL_law_74 17 rfl rfl)
theorem dL_law_1861 : decode cL_law 1861 = .ok (.istore 5, 2) := dk_54 5 (dk_at dksL_law_74 20 rfl rfl)
theorem dL_law_1863 : decode cL_law 1863 = .ok (.aload_n 2, 1) := dk_44 (dk_at dksL_law_74 22 rfl rfl)
theorem dL_law_1864 : decode cL_law 1864 = .ok (.aload_n 0, 1) := dk_42 (dk_at dksL_law_74 23 rfl rfl)
theorem dL_law_1865 : decode cL_law 1865 = .ok (.iload 4, 2) := dk_21 4 (dk_at dksL_law_75 0 rfl rfl)
theorem dL_law_1867 : decode cL_law 1867 = .ok (.iconst 1, 1) := dk_4 (dk_at dksL_law_75 2 rfl rfl)
theorem dL_law_1868 : decode cL_law 1868 = .ok (.iadd, 1) := dk_96 (dk_at dksL_law_75 3 rfl rfl)
theorem dL_law_1869 : decode cL_law 1869 = .ok (.iaload, 1) := dk_46 (dk_at dksL_law_75 4 rfl rfl)
theorem dL_law_1870 : decode cL_law 1870 = .ok (.invokevirtual 208, 3) := dk_182 0 208 (dk_at dksL_law_75 5 rfl rfl)
theorem dL_law_1873 : decode cL_law 1873 = .ok (.istore 6, 2) := dk_54 6 (dk_at dksL_law_75 8 rfl rfl)
theorem dL_law_1875 : decode cL_law 1875 = .ok (.aload_n 2, 1) := dk_44 (dk_at dksL_law_75 10 rfl rfl)
theorem dL_law_1876 : decode cL_law 1876 = .ok (.invokevirtual 127, 3) := dk_182 0 127 (dk_at dksL_law_75 11 rfl rfl)
theorem dL_law_1879 : decode cL_law 1879 = .ok (.iload 5, 2) := dk_21 5 (dk_at dksL_law_75 14 rfl rfl)
theorem dL_law_1881 : decode cL_law 1881 = .ok (.if_icmp .eq 5, 3) := dk_159 0 5 (dk_at dksL_law_75 16 rfl rfl)
theorem dL_law_1884 : decode cL_law 1884 = .ok (.iconst 0, 1) := dk_3 (dk_at dksL_law_75 19 rfl rfl)
theorem dL_law_1885 : decode cL_law 1885 = .ok (.ireturn, 1) := dk_172 (dk_at dksL_law_75 20 rfl rfl)
theorem dL_law_1886 : decode cL_law 1886 = .ok (.iload 5, 2) := dk_21 5 (dk_at dksL_law_75 21 rfl rfl)
theorem dL_law_1888 : decode cL_law 1888 = .ok (.ifCond .ne 15, 3) := dk_154 0 15 (dk_at dksL_law_76 0 rfl rfl)
theorem dL_law_1891 : decode cL_law 1891 = .ok (.aload_n 3, 1) := dk_45 (dk_at dksL_law_76 3 rfl rfl)
theorem dL_law_1892 : decode cL_law 1892 = .ok (.iconst 0, 1) := dk_3 (dk_at dksL_law_76 4 rfl rfl)
theorem dL_law_1893 : decode cL_law 1893 = .ok (.laload, 1) := dk_47 (dk_at dksL_law_76 5 rfl rfl)
theorem dL_law_1894 : decode cL_law 1894 = .ok (.iload 6, 2) := dk_21 6 (dk_at dksL_law_76 6 rfl rfl)
theorem dL_law_1896 : decode cL_law 1896 = .ok (.i2l, 1) := dk_133 (dk_at dksL_law_76 8 rfl rfl)
theorem dL_law_1897 : decode cL_law 1897 = .ok (.lcmp, 1) := dk_148 (dk_at dksL_law_76 9 rfl rfl)
theorem dL_law_1898 : decode cL_law 1898 = .ok (.ifCond .eq 5, 3) := dk_153 0 5 (dk_at dksL_law_76 10 rfl rfl)
theorem dL_law_1901 : decode cL_law 1901 = .ok (.iconst 0, 1) := dk_3 (dk_at dksL_law_76 13 rfl rfl)
theorem dL_law_1902 : decode cL_law 1902 = .ok (.ireturn, 1) := dk_172 (dk_at dksL_law_76 14 rfl rfl)
theorem dL_law_1903 : decode cL_law 1903 = .ok (.goto 485, 3) := dk_167 1 229 (dk_at dksL_law_76 15 rfl rfl)
theorem dL_law_1906 : decode cL_law 1906 = .ok (.aload_n 1, 1) := dk_43 (dk_at dksL_law_76 18 rfl rfl)
theorem dL_law_1907 : decode cL_law 1907 = .ok (.aload_n 0, 1) := dk_42 (dk_at dksL_law_76 19 rfl rfl)
theorem dL_law_1908 : decode cL_law 1908 = .ok (.iload 4, 2) := dk_21 4 (dk_at dksL_law_76 20 rfl rfl)
theorem dL_law_1910 : decode cL_law 1910 = .ok (.iconst 1, 1) := dk_4 (dk_at dksL_law_76 22 rfl rfl)
theorem dL_law_1911 : decode cL_law 1911 = .ok (.iadd, 1) := dk_96 (dk_at dksL_law_76 23 rfl rfl)
theorem dL_law_1912 : decode cL_law 1912 = .ok (.iaload, 1) := dk_46 (dk_at dksL_law_77 0 rfl rfl)
theorem dL_law_1913 : decode cL_law 1913 = .ok (.aload_n 0, 1) := dk_42 (dk_at dksL_law_77 1 rfl rfl)
theorem dL_law_1914 : decode cL_law 1914 = .ok (.iload 4, 2) := dk_21 4 (dk_at dksL_law_77 2 rfl rfl)
theorem dL_law_1916 : decode cL_law 1916 = .ok (.iconst 2, 1) := dk_5 (dk_at dksL_law_77 4 rfl rfl)
theorem dL_law_1917 : decode cL_law 1917 = .ok (.iadd, 1) := dk_96 (dk_at dksL_law_77 5 rfl rfl)
theorem dL_law_1918 : decode cL_law 1918 = .ok (.iaload, 1) := dk_46 (dk_at dksL_law_77 6 rfl rfl)
theorem dL_law_1919 : decode cL_law 1919 = .ok (.aload_n 3, 1) := dk_45 (dk_at dksL_law_77 7 rfl rfl)
theorem dL_law_1920 : decode cL_law 1920 = .ok (.invokestatic 209, 3) := dk_184 0 209 (dk_at dksL_law_77 8 rfl rfl)
theorem dL_law_1923 : decode cL_law 1923 = .ok (.istore 5, 2) := dk_54 5 (dk_at dksL_law_77 11 rfl rfl)
theorem dL_law_1925 : decode cL_law 1925 = .ok (.aload_n 2, 1) := dk_44 (dk_at dksL_law_77 13 rfl rfl)
theorem dL_law_1926 : decode cL_law 1926 = .ok (.aload_n 0, 1) := dk_42 (dk_at dksL_law_77 14 rfl rfl)
theorem dL_law_1927 : decode cL_law 1927 = .ok (.iload 4, 2) := dk_21 4 (dk_at dksL_law_77 15 rfl rfl)
theorem dL_law_1929 : decode cL_law 1929 = .ok (.iconst 1, 1) := dk_4 (dk_at dksL_law_77 17 rfl rfl)
theorem dL_law_1930 : decode cL_law 1930 = .ok (.iadd, 1) := dk_96 (dk_at dksL_law_77 18 rfl rfl)
theorem dL_law_1931 : decode cL_law 1931 = .ok (.iaload, 1) := dk_46 (dk_at dksL_law_77 19 rfl rfl)
theorem dL_law_1932 : decode cL_law 1932 = .ok (.aload_n 0, 1) := dk_42 (dk_at dksL_law_77 20 rfl rfl)
theorem dL_law_1933 : decode cL_law 1933 = .ok (.iload 4, 2) := dk_21 4 (dk_at dksL_law_77 21 rfl rfl)
theorem dL_law_1935 : decode cL_law 1935 = .ok (.iconst 2, 1) := dk_5 (dk_at dksL_law_77 23 rfl rfl)
theorem dL_law_1936 : decode cL_law 1936 = .ok (.iadd, 1) := dk_96 (dk_at dksL_law_78 0 rfl rfl)
theorem dL_law_1937 : decode cL_law 1937 = .ok (.iaload, 1) := dk_46 (dk_at dksL_law_78 1 rfl rfl)
theorem dL_law_1938 : decode cL_law 1938 = .ok (.invokevirtual 211, 3) := dk_182 0 211 (dk_at dksL_law_78 2 rfl rfl)
theorem dL_law_1941 : decode cL_law 1941 = .ok (.istore 6, 2) := dk_54 6 (dk_at dksL_law_78 5 rfl rfl)
theorem dL_law_1943 : decode cL_law 1943 = .ok (.aload_n 2, 1) := dk_44 (dk_at dksL_law_78 7 rfl rfl)
theorem dL_law_1944 : decode cL_law 1944 = .ok (.invokevirtual 127, 3) := dk_182 0 127 (dk_at dksL_law_78 8 rfl rfl)
theorem dL_law_1947 : decode cL_law 1947 = .ok (.iload 5, 2) := dk_21 5 (dk_at dksL_law_78 11 rfl rfl)
theorem dL_law_1949 : decode cL_law 1949 = .ok (.if_icmp .eq 5, 3) := dk_159 0 5 (dk_at dksL_law_78 13 rfl rfl)
theorem dL_law_1952 : decode cL_law 1952 = .ok (.iconst 0, 1) := dk_3 (dk_at dksL_law_78 16 rfl rfl)
theorem dL_law_1953 : decode cL_law 1953 = .ok (.ireturn, 1) := dk_172 (dk_at dksL_law_78 17 rfl rfl)
theorem dL_law_1954 : decode cL_law 1954 = .ok (.iload 5, 2) := dk_21 5 (dk_at dksL_law_78 18 rfl rfl)
theorem dL_law_1956 : decode cL_law 1956 = .ok (.ifCond .ne 22, 3) := dk_154 0 22 (dk_at dksL_law_78 20 rfl rfl)
theorem dL_law_1959 : decode cL_law 1959 = .ok (.aload_n 3, 1) := dk_45 (dk_at dksL_law_78 23 rfl rfl)
theorem dL_law_1960 : decode cL_law 1960 = .ok (.iconst 0, 1) := dk_3 (dk_at dksL_law_79 0 rfl rfl)
theorem dL_law_1961 : decode cL_law 1961 = .ok (.laload, 1) := dk_47 (dk_at dksL_law_79 1 rfl rfl)
theorem dL_law_1962 : decode cL_law 1962 = .ok (.iload 6, 2) := dk_21 6 (dk_at dksL_law_79 2 rfl rfl)
theorem dL_law_1964 : decode cL_law 1964 = .ok (.ifCond .eq 7, 3) := dk_153 0 7 (dk_at dksL_law_79 4 rfl rfl)
theorem dL_law_1967 : decode cL_law 1967 = .ok (.lconst 1, 1) := dk_10 (dk_at dksL_law_79 7 rfl rfl)
theorem dL_law_1968 : decode cL_law 1968 = .ok (.goto 4, 3) := dk_167 0 4 (dk_at dksL_law_79 8 rfl rfl)
theorem dL_law_1971 : decode cL_law 1971 = .ok (.lconst 0, 1) := dk_9 (dk_at dksL_law_79 11 rfl rfl)
theorem dL_law_1972 : decode cL_law 1972 = .ok (.lcmp, 1) := dk_148 (dk_at dksL_law_79 12 rfl rfl)
theorem dL_law_1973 : decode cL_law 1973 = .ok (.ifCond .eq 5, 3) := dk_153 0 5 (dk_at dksL_law_79 13 rfl rfl)
theorem dL_law_1976 : decode cL_law 1976 = .ok (.iconst 0, 1) := dk_3 (dk_at dksL_law_79 16 rfl rfl)
theorem dL_law_1977 : decode cL_law 1977 = .ok (.ireturn, 1) := dk_172 (dk_at dksL_law_79 17 rfl rfl)
theorem dL_law_1978 : decode cL_law 1978 = .ok (.goto 410, 3) := dk_167 1 154 (dk_at dksL_law_79 18 rfl rfl)
theorem dL_law_1981 : decode cL_law 1981 = .ok (.aload_n 1, 1) := dk_43 (dk_at dksL_law_79 21 rfl rfl)
theorem dL_law_1982 : decode cL_law 1982 = .ok (.aload_n 0, 1) := dk_42 (dk_at dksL_law_79 22 rfl rfl)
theorem dL_law_1983 : decode cL_law 1983 = .ok (.iload 4, 2) := dk_21 4 (dk_at dksL_law_80 0 rfl rfl)
theorem dL_law_1985 : decode cL_law 1985 = .ok (.iconst 1, 1) := dk_4 (dk_at dksL_law_80 2 rfl rfl)
theorem dL_law_1986 : decode cL_law 1986 = .ok (.iadd, 1) := dk_96 (dk_at dksL_law_80 3 rfl rfl)
theorem dL_law_1987 : decode cL_law 1987 = .ok (.iaload, 1) := dk_46 (dk_at dksL_law_80 4 rfl rfl)
theorem dL_law_1988 : decode cL_law 1988 = .ok (.aload_n 3, 1) := dk_45 (dk_at dksL_law_80 5 rfl rfl)
theorem dL_law_1989 : decode cL_law 1989 = .ok (.invokestatic 212, 3) := dk_184 0 212 (dk_at dksL_law_80 6 rfl rfl)
theorem dL_law_1992 : decode cL_law 1992 = .ok (.istore 5, 2) := dk_54 5 (dk_at dksL_law_80 9 rfl rfl)
theorem dL_law_1994 : decode cL_law 1994 = .ok (.aload_n 2, 1) := dk_44 (dk_at dksL_law_80 11 rfl rfl)
theorem dL_law_1995 : decode cL_law 1995 = .ok (.aload_n 0, 1) := dk_42 (dk_at dksL_law_80 12 rfl rfl)
theorem dL_law_1996 : decode cL_law 1996 = .ok (.iload 4, 2) := dk_21 4 (dk_at dksL_law_80 13 rfl rfl)
theorem dL_law_1998 : decode cL_law 1998 = .ok (.iconst 1, 1) := dk_4 (dk_at dksL_law_80 15 rfl rfl)
theorem dL_law_1999 : decode cL_law 1999 = .ok (.iadd, 1) := dk_96 (dk_at dksL_law_80 16 rfl rfl)
theorem dL_law_2000 : decode cL_law 2000 = .ok (.iaload, 1) := dk_46 (dk_at dksL_law_80 17 rfl rfl)
theorem dL_law_2001 : decode cL_law 2001 = .ok (.invokevirtual 214, 3) := dk_182 0 214 (dk_at dksL_law_80 18 rfl rfl)
theorem dL_law_2004 : decode cL_law 2004 = .ok (.istore 6, 2) := dk_54 6 (dk_at dksL_law_80 21 rfl rfl)
theorem dL_law_2006 : decode cL_law 2006 = .ok (.aload_n 2, 1) := dk_44 (dk_at dksL_law_80 23 rfl rfl)
theorem dL_law_2007 : decode cL_law 2007 = .ok (.invokevirtual 127, 3) := dk_182 0 127 (dk_at dksL_law_81 0 rfl rfl)
theorem dL_law_2010 : decode cL_law 2010 = .ok (.iload 5, 2) := dk_21 5 (dk_at dksL_law_81 3 rfl rfl)
theorem dL_law_2012 : decode cL_law 2012 = .ok (.if_icmp .eq 5, 3) := dk_159 0 5 (dk_at dksL_law_81 5 rfl rfl)
theorem dL_law_2015 : decode cL_law 2015 = .ok (.iconst 0, 1) := dk_3 (dk_at dksL_law_81 8 rfl rfl)
theorem dL_law_2016 : decode cL_law 2016 = .ok (.ireturn, 1) := dk_172 (dk_at dksL_law_81 9 rfl rfl)
theorem dL_law_2017 : decode cL_law 2017 = .ok (.iload 5, 2) := dk_21 5 (dk_at dksL_law_81 10 rfl rfl)
theorem dL_law_2019 : decode cL_law 2019 = .ok (.ifCond .ne 22, 3) := dk_154 0 22 (dk_at dksL_law_81 12 rfl rfl)
theorem dL_law_2022 : decode cL_law 2022 = .ok (.aload_n 3, 1) := dk_45 (dk_at dksL_law_81 15 rfl rfl)
theorem dL_law_2023 : decode cL_law 2023 = .ok (.iconst 0, 1) := dk_3 (dk_at dksL_law_81 16 rfl rfl)
theorem dL_law_2024 : decode cL_law 2024 = .ok (.laload, 1) := dk_47 (dk_at dksL_law_81 17 rfl rfl)
theorem dL_law_2025 : decode cL_law 2025 = .ok (.iload 6, 2) := dk_21 6 (dk_at dksL_law_81 18 rfl rfl)
theorem dL_law_2027 : decode cL_law 2027 = .ok (.ifCond .eq 7, 3) := dk_153 0 7 (dk_at dksL_law_81 20 rfl rfl)
theorem dL_law_2030 : decode cL_law 2030 = .ok (.lconst 1, 1) := dk_10 (dk_at dksL_law_81 23 rfl rfl)
theorem dL_law_2031 : decode cL_law 2031 = .ok (.goto 4, 3) := dk_167 0 4 (dk_at dksL_law_82 0 rfl rfl)
theorem dL_law_2034 : decode cL_law 2034 = .ok (.lconst 0, 1) := dk_9 (dk_at dksL_law_82 3 rfl rfl)
theorem dL_law_2035 : decode cL_law 2035 = .ok (.lcmp, 1) := dk_148 (dk_at dksL_law_82 4 rfl rfl)
theorem dL_law_2036 : decode cL_law 2036 = .ok (.ifCond .eq 5, 3) := dk_153 0 5 (dk_at dksL_law_82 5 rfl rfl)
theorem dL_law_2039 : decode cL_law 2039 = .ok (.iconst 0, 1) := dk_3 (dk_at dksL_law_82 8 rfl rfl)
theorem dL_law_2040 : decode cL_law 2040 = .ok (.ireturn, 1) := dk_172 (dk_at dksL_law_82 9 rfl rfl)
theorem dL_law_2041 : decode cL_law 2041 = .ok (.goto 347, 3) := dk_167 1 91 (dk_at dksL_law_82 10 rfl rfl)
theorem dL_law_2044 : decode cL_law 2044 = .ok (.aload_n 1, 1) := dk_43 (dk_at dksL_law_82 13 rfl rfl)
theorem dL_law_2045 : decode cL_law 2045 = .ok (.aload_n 0, 1) := dk_42 (dk_at dksL_law_82 14 rfl rfl)
theorem dL_law_2046 : decode cL_law 2046 = .ok (.iload 4, 2) := dk_21 4 (dk_at dksL_law_82 15 rfl rfl)
theorem dL_law_2048 : decode cL_law 2048 = .ok (.iconst 1, 1) := dk_4 (dk_at dksL_law_82 17 rfl rfl)
theorem dL_law_2049 : decode cL_law 2049 = .ok (.iadd, 1) := dk_96 (dk_at dksL_law_82 18 rfl rfl)
theorem dL_law_2050 : decode cL_law 2050 = .ok (.iaload, 1) := dk_46 (dk_at dksL_law_82 19 rfl rfl)
theorem dL_law_2051 : decode cL_law 2051 = .ok (.aload_n 0, 1) := dk_42 (dk_at dksL_law_82 20 rfl rfl)
theorem dL_law_2052 : decode cL_law 2052 = .ok (.iload 4, 2) := dk_21 4 (dk_at dksL_law_82 21 rfl rfl)
theorem dL_law_2054 : decode cL_law 2054 = .ok (.iconst 2, 1) := dk_5 (dk_at dksL_law_82 23 rfl rfl)
theorem dL_law_2055 : decode cL_law 2055 = .ok (.iadd, 1) := dk_96 (dk_at dksL_law_83 0 rfl rfl)
theorem dL_law_2056 : decode cL_law 2056 = .ok (.iaload, 1) := dk_46 (dk_at dksL_law_83 1 rfl rfl)
theorem dL_law_2057 : decode cL_law 2057 = .ok (.aload_n 3, 1) := dk_45 (dk_at dksL_law_83 2 rfl rfl)
theorem dL_law_2058 : decode cL_law 2058 = .ok (.invokestatic 215, 3) := dk_184 0 215 (dk_at dksL_law_83 3 rfl rfl)
theorem dL_law_2061 : decode cL_law 2061 = .ok (.istore 5, 2) := dk_54 5 (dk_at dksL_law_83 6 rfl rfl)
theorem dL_law_2063 : decode cL_law 2063 = .ok (.aload_n 2, 1) := dk_44 (dk_at dksL_law_83 8 rfl rfl)
theorem dL_law_2064 : decode cL_law 2064 = .ok (.aload_n 0, 1) := dk_42 (dk_at dksL_law_83 9 rfl rfl)
theorem dL_law_2065 : decode cL_law 2065 = .ok (.iload 4, 2) := dk_21 4 (dk_at dksL_law_83 10 rfl rfl)
theorem dL_law_2067 : decode cL_law 2067 = .ok (.iconst 1, 1) := dk_4 (dk_at dksL_law_83 12 rfl rfl)
theorem dL_law_2068 : decode cL_law 2068 = .ok (.iadd, 1) := dk_96 (dk_at dksL_law_83 13 rfl rfl)
theorem dL_law_2069 : decode cL_law 2069 = .ok (.iaload, 1) := dk_46 (dk_at dksL_law_83 14 rfl rfl)
theorem dL_law_2070 : decode cL_law 2070 = .ok (.aload_n 0, 1) := dk_42 (dk_at dksL_law_83 15 rfl rfl)
theorem dL_law_2071 : decode cL_law 2071 = .ok (.iload 4, 2) := dk_21 4 (dk_at dksL_law_83 16 rfl rfl)
theorem dL_law_2073 : decode cL_law 2073 = .ok (.iconst 2, 1) := dk_5 (dk_at dksL_law_83 18 rfl rfl)
theorem dL_law_2074 : decode cL_law 2074 = .ok (.iadd, 1) := dk_96 (dk_at dksL_law_83 19 rfl rfl)
theorem dL_law_2075 : decode cL_law 2075 = .ok (.iaload, 1) := dk_46 (dk_at dksL_law_83 20 rfl rfl)
theorem dL_law_2076 : decode cL_law 2076 = .ok (.invokevirtual 217, 3) := dk_182 0 217 (dk_at dksL_law_83 21 rfl rfl)
theorem dL_law_2079 : decode cL_law 2079 = .ok (.istore 6, 2) := dk_54 6 (dk_at dksL_law_84 0 rfl rfl)
theorem dL_law_2081 : decode cL_law 2081 = .ok (.aload_n 2, 1) := dk_44 (dk_at dksL_law_84 2 rfl rfl)
theorem dL_law_2082 : decode cL_law 2082 = .ok (.invokevirtual 127, 3) := dk_182 0 127 (dk_at dksL_law_84 3 rfl rfl)
theorem dL_law_2085 : decode cL_law 2085 = .ok (.iload 5, 2) := dk_21 5 (dk_at dksL_law_84 6 rfl rfl)
theorem dL_law_2087 : decode cL_law 2087 = .ok (.if_icmp .eq 5, 3) := dk_159 0 5 (dk_at dksL_law_84 8 rfl rfl)
theorem dL_law_2090 : decode cL_law 2090 = .ok (.iconst 0, 1) := dk_3 (dk_at dksL_law_84 11 rfl rfl)
theorem dL_law_2091 : decode cL_law 2091 = .ok (.ireturn, 1) := dk_172 (dk_at dksL_law_84 12 rfl rfl)
theorem dL_law_2092 : decode cL_law 2092 = .ok (.iload 5, 2) := dk_21 5 (dk_at dksL_law_84 13 rfl rfl)
theorem dL_law_2094 : decode cL_law 2094 = .ok (.ifCond .ne 15, 3) := dk_154 0 15 (dk_at dksL_law_84 15 rfl rfl)
theorem dL_law_2097 : decode cL_law 2097 = .ok (.aload_n 3, 1) := dk_45 (dk_at dksL_law_84 18 rfl rfl)
theorem dL_law_2098 : decode cL_law 2098 = .ok (.iconst 0, 1) := dk_3 (dk_at dksL_law_84 19 rfl rfl)
theorem dL_law_2099 : decode cL_law 2099 = .ok (.laload, 1) := dk_47 (dk_at dksL_law_84 20 rfl rfl)
theorem dL_law_2100 : decode cL_law 2100 = .ok (.iload 6, 2) := dk_21 6 (dk_at dksL_law_84 21 rfl rfl)
theorem dL_law_2102 : decode cL_law 2102 = .ok (.i2l, 1) := dk_133 (dk_at dksL_law_84 23 rfl rfl)
theorem dL_law_2103 : decode cL_law 2103 = .ok (.lcmp, 1) := dk_148 (dk_at dksL_law_85 0 rfl rfl)
theorem dL_law_2104 : decode cL_law 2104 = .ok (.ifCond .eq 5, 3) := dk_153 0 5 (dk_at dksL_law_85 1 rfl rfl)
theorem dL_law_2107 : decode cL_law 2107 = .ok (.iconst 0, 1) := dk_3 (dk_at dksL_law_85 4 rfl rfl)
theorem dL_law_2108 : decode cL_law 2108 = .ok (.ireturn, 1) := dk_172 (dk_at dksL_law_85 5 rfl rfl)
theorem dL_law_2109 : decode cL_law 2109 = .ok (.goto 279, 3) := dk_167 1 23 (dk_at dksL_law_85 6 rfl rfl)
theorem dL_law_2112 : decode cL_law 2112 = .ok (.aload_n 1, 1) := dk_43 (dk_at dksL_law_85 9 rfl rfl)
theorem dL_law_2113 : decode cL_law 2113 = .ok (.aload_n 0, 1) := dk_42 (dk_at dksL_law_85 10 rfl rfl)
theorem dL_law_2114 : decode cL_law 2114 = .ok (.iload 4, 2) := dk_21 4 (dk_at dksL_law_85 11 rfl rfl)
theorem dL_law_2116 : decode cL_law 2116 = .ok (.iconst 1, 1) := dk_4 (dk_at dksL_law_85 13 rfl rfl)
theorem dL_law_2117 : decode cL_law 2117 = .ok (.iadd, 1) := dk_96 (dk_at dksL_law_85 14 rfl rfl)
theorem dL_law_2118 : decode cL_law 2118 = .ok (.iaload, 1) := dk_46 (dk_at dksL_law_85 15 rfl rfl)
theorem dL_law_2119 : decode cL_law 2119 = .ok (.aload_n 0, 1) := dk_42 (dk_at dksL_law_85 16 rfl rfl)
theorem dL_law_2120 : decode cL_law 2120 = .ok (.iload 4, 2) := dk_21 4 (dk_at dksL_law_85 17 rfl rfl)
theorem dL_law_2122 : decode cL_law 2122 = .ok (.iconst 2, 1) := dk_5 (dk_at dksL_law_85 19 rfl rfl)
theorem dL_law_2123 : decode cL_law 2123 = .ok (.iadd, 1) := dk_96 (dk_at dksL_law_85 20 rfl rfl)
theorem dL_law_2124 : decode cL_law 2124 = .ok (.iaload, 1) := dk_46 (dk_at dksL_law_85 21 rfl rfl)
theorem dL_law_2125 : decode cL_law 2125 = .ok (.aload_n 0, 1) := dk_42 (dk_at dksL_law_85 22 rfl rfl)
theorem dL_law_2126 : decode cL_law 2126 = .ok (.iload 4, 2) := dk_21 4 (dk_at dksL_law_86 0 rfl rfl)
theorem dL_law_2128 : decode cL_law 2128 = .ok (.iconst 3, 1) := dk_6 (dk_at dksL_law_86 2 rfl rfl)
theorem dL_law_2129 : decode cL_law 2129 = .ok (.iadd, 1) := dk_96 (dk_at dksL_law_86 3 rfl rfl)
theorem dL_law_2130 : decode cL_law 2130 = .ok (.iaload, 1) := dk_46 (dk_at dksL_law_86 4 rfl rfl)
theorem dL_law_2131 : decode cL_law 2131 = .ok (.ifCond .eq 7, 3) := dk_153 0 7 (dk_at dksL_law_86 5 rfl rfl)
theorem dL_law_2134 : decode cL_law 2134 = .ok (.iconst 1, 1) := dk_4 (dk_at dksL_law_86 8 rfl rfl)
theorem dL_law_2135 : decode cL_law 2135 = .ok (.goto 4, 3) := dk_167 0 4 (dk_at dksL_law_86 9 rfl rfl)
theorem dL_law_2138 : decode cL_law 2138 = .ok (.iconst 0, 1) := dk_3 (dk_at dksL_law_86 12 rfl rfl)
theorem dL_law_2139 : decode cL_law 2139 = .ok (.aload_n 3, 1) := dk_45 (dk_at dksL_law_86 13 rfl rfl)
theorem dL_law_2140 : decode cL_law 2140 = .ok (.invokestatic 218, 3) := dk_184 0 218 (dk_at dksL_law_86 14 rfl rfl)
theorem dL_law_2143 : decode cL_law 2143 = .ok (.istore 5, 2) := dk_54 5 (dk_at dksL_law_86 17 rfl rfl)
theorem dL_law_2145 : decode cL_law 2145 = .ok (.aload_n 2, 1) := dk_44 (dk_at dksL_law_86 19 rfl rfl)
theorem dL_law_2146 : decode cL_law 2146 = .ok (.aload_n 0, 1) := dk_42 (dk_at dksL_law_86 20 rfl rfl)
theorem dL_law_2147 : decode cL_law 2147 = .ok (.iload 4, 2) := dk_21 4 (dk_at dksL_law_86 21 rfl rfl)
theorem dL_law_2149 : decode cL_law 2149 = .ok (.iconst 1, 1) := dk_4 (dk_at dksL_law_86 23 rfl rfl)
theorem dL_law_2150 : decode cL_law 2150 = .ok (.iadd, 1) := dk_96 (dk_at dksL_law_87 0 rfl rfl)
theorem dL_law_2151 : decode cL_law 2151 = .ok (.iaload, 1) := dk_46 (dk_at dksL_law_87 1 rfl rfl)
theorem dL_law_2152 : decode cL_law 2152 = .ok (.aload_n 0, 1) := dk_42 (dk_at dksL_law_87 2 rfl rfl)
theorem dL_law_2153 : decode cL_law 2153 = .ok (.iload 4, 2) := dk_21 4 (dk_at dksL_law_87 3 rfl rfl)
theorem dL_law_2155 : decode cL_law 2155 = .ok (.iconst 2, 1) := dk_5 (dk_at dksL_law_87 5 rfl rfl)
theorem dL_law_2156 : decode cL_law 2156 = .ok (.iadd, 1) := dk_96 (dk_at dksL_law_87 6 rfl rfl)
theorem dL_law_2157 : decode cL_law 2157 = .ok (.iaload, 1) := dk_46 (dk_at dksL_law_87 7 rfl rfl)
theorem dL_law_2158 : decode cL_law 2158 = .ok (.aload_n 0, 1) := dk_42 (dk_at dksL_law_87 8 rfl rfl)
theorem dL_law_2159 : decode cL_law 2159 = .ok (.iload 4, 2) := dk_21 4 (dk_at dksL_law_87 9 rfl rfl)
theorem dL_law_2161 : decode cL_law 2161 = .ok (.iconst 3, 1) := dk_6 (dk_at dksL_law_87 11 rfl rfl)
theorem dL_law_2162 : decode cL_law 2162 = .ok (.iadd, 1) := dk_96 (dk_at dksL_law_87 12 rfl rfl)
theorem dL_law_2163 : decode cL_law 2163 = .ok (.iaload, 1) := dk_46 (dk_at dksL_law_87 13 rfl rfl)
theorem dL_law_2164 : decode cL_law 2164 = .ok (.ifCond .eq 7, 3) := dk_153 0 7 (dk_at dksL_law_87 14 rfl rfl)
theorem dL_law_2167 : decode cL_law 2167 = .ok (.iconst 1, 1) := dk_4 (dk_at dksL_law_87 17 rfl rfl)
theorem dL_law_2168 : decode cL_law 2168 = .ok (.goto 4, 3) := dk_167 0 4 (dk_at dksL_law_87 18 rfl rfl)
theorem dL_law_2171 : decode cL_law 2171 = .ok (.iconst 0, 1) := dk_3 (dk_at dksL_law_87 21 rfl rfl)
theorem dL_law_2172 : decode cL_law 2172 = .ok (.invokevirtual 221, 3) := dk_182 0 221 (dk_at dksL_law_88 0 rfl rfl)
theorem dL_law_2175 : decode cL_law 2175 = .ok (.istore 6, 2) := dk_54 6 (dk_at dksL_law_88 3 rfl rfl)
theorem dL_law_2177 : decode cL_law 2177 = .ok (.aload_n 2, 1) := dk_44 (dk_at dksL_law_88 5 rfl rfl)
theorem dL_law_2178 : decode cL_law 2178 = .ok (.invokevirtual 127, 3) := dk_182 0 127 (dk_at dksL_law_88 6 rfl rfl)
theorem dL_law_2181 : decode cL_law 2181 = .ok (.iload 5, 2) := dk_21 5 (dk_at dksL_law_88 9 rfl rfl)
theorem dL_law_2183 : decode cL_law 2183 = .ok (.if_icmp .eq 5, 3) := dk_159 0 5 (dk_at dksL_law_88 11 rfl rfl)
theorem dL_law_2186 : decode cL_law 2186 = .ok (.iconst 0, 1) := dk_3 (dk_at dksL_law_88 14 rfl rfl)
theorem dL_law_2187 : decode cL_law 2187 = .ok (.ireturn, 1) := dk_172 (dk_at dksL_law_88 15 rfl rfl)
theorem dL_law_2188 : decode cL_law 2188 = .ok (.iload 5, 2) := dk_21 5 (dk_at dksL_law_88 16 rfl rfl)
theorem dL_law_2190 : decode cL_law 2190 = .ok (.ifCond .ne 15, 3) := dk_154 0 15 (dk_at dksL_law_88 18 rfl rfl)
theorem dL_law_2193 : decode cL_law 2193 = .ok (.aload_n 3, 1) := dk_45 (dk_at dksL_law_88 21 rfl rfl)
theorem dL_law_2194 : decode cL_law 2194 = .ok (.iconst 0, 1) := dk_3 (dk_at dksL_law_88 22 rfl rfl)
theorem dL_law_2195 : decode cL_law 2195 = .ok (.laload, 1) := dk_47 (dk_at dksL_law_88 23 rfl rfl)
theorem dL_law_2196 : decode cL_law 2196 = .ok (.iload 6, 2) := dk_21 6 (dk_at dksL_law_89 0 rfl rfl)
theorem dL_law_2198 : decode cL_law 2198 = .ok (.i2l, 1) := dk_133 (dk_at dksL_law_89 2 rfl rfl)
theorem dL_law_2199 : decode cL_law 2199 = .ok (.lcmp, 1) := dk_148 (dk_at dksL_law_89 3 rfl rfl)
theorem dL_law_2200 : decode cL_law 2200 = .ok (.ifCond .eq 5, 3) := dk_153 0 5 (dk_at dksL_law_89 4 rfl rfl)
theorem dL_law_2203 : decode cL_law 2203 = .ok (.iconst 0, 1) := dk_3 (dk_at dksL_law_89 7 rfl rfl)
theorem dL_law_2204 : decode cL_law 2204 = .ok (.ireturn, 1) := dk_172 (dk_at dksL_law_89 8 rfl rfl)
theorem dL_law_2205 : decode cL_law 2205 = .ok (.goto 183, 3) := dk_167 0 183 (dk_at dksL_law_89 9 rfl rfl)
theorem dL_law_2208 : decode cL_law 2208 = .ok (.aload_n 1, 1) := dk_43 (dk_at dksL_law_89 12 rfl rfl)
theorem dL_law_2209 : decode cL_law 2209 = .ok (.aload_n 0, 1) := dk_42 (dk_at dksL_law_89 13 rfl rfl)
theorem dL_law_2210 : decode cL_law 2210 = .ok (.iload 4, 2) := dk_21 4 (dk_at dksL_law_89 14 rfl rfl)
theorem dL_law_2212 : decode cL_law 2212 = .ok (.iconst 1, 1) := dk_4 (dk_at dksL_law_89 16 rfl rfl)
theorem dL_law_2213 : decode cL_law 2213 = .ok (.iadd, 1) := dk_96 (dk_at dksL_law_89 17 rfl rfl)
theorem dL_law_2214 : decode cL_law 2214 = .ok (.iaload, 1) := dk_46 (dk_at dksL_law_89 18 rfl rfl)
theorem dL_law_2215 : decode cL_law 2215 = .ok (.aload_n 0, 1) := dk_42 (dk_at dksL_law_89 19 rfl rfl)
theorem dL_law_2216 : decode cL_law 2216 = .ok (.iload 4, 2) := dk_21 4 (dk_at dksL_law_89 20 rfl rfl)
theorem dL_law_2218 : decode cL_law 2218 = .ok (.iconst 2, 1) := dk_5 (dk_at dksL_law_89 22 rfl rfl)
theorem dL_law_2219 : decode cL_law 2219 = .ok (.iadd, 1) := dk_96 (dk_at dksL_law_89 23 rfl rfl)
theorem dL_law_2220 : decode cL_law 2220 = .ok (.iaload, 1) := dk_46 (dk_at dksL_law_90 0 rfl rfl)
theorem dL_law_2221 : decode cL_law 2221 = .ok (.aload_n 3, 1) := dk_45 (dk_at dksL_law_90 1 rfl rfl)
theorem dL_law_2222 : decode cL_law 2222 = .ok (.invokestatic 222, 3) := dk_184 0 222 (dk_at dksL_law_90 2 rfl rfl)
theorem dL_law_2225 : decode cL_law 2225 = .ok (.istore 5, 2) := dk_54 5 (dk_at dksL_law_90 5 rfl rfl)
theorem dL_law_2227 : decode cL_law 2227 = .ok (.aload_n 2, 1) := dk_44 (dk_at dksL_law_90 7 rfl rfl)
theorem dL_law_2228 : decode cL_law 2228 = .ok (.aload_n 0, 1) := dk_42 (dk_at dksL_law_90 8 rfl rfl)
theorem dL_law_2229 : decode cL_law 2229 = .ok (.iload 4, 2) := dk_21 4 (dk_at dksL_law_90 9 rfl rfl)
theorem dL_law_2231 : decode cL_law 2231 = .ok (.iconst 1, 1) := dk_4 (dk_at dksL_law_90 11 rfl rfl)
theorem dL_law_2232 : decode cL_law 2232 = .ok (.iadd, 1) := dk_96 (dk_at dksL_law_90 12 rfl rfl)
theorem dL_law_2233 : decode cL_law 2233 = .ok (.iaload, 1) := dk_46 (dk_at dksL_law_90 13 rfl rfl)
theorem dL_law_2234 : decode cL_law 2234 = .ok (.aload_n 0, 1) := dk_42 (dk_at dksL_law_90 14 rfl rfl)
theorem dL_law_2235 : decode cL_law 2235 = .ok (.iload 4, 2) := dk_21 4 (dk_at dksL_law_90 15 rfl rfl)
theorem dL_law_2237 : decode cL_law 2237 = .ok (.iconst 2, 1) := dk_5 (dk_at dksL_law_90 17 rfl rfl)
theorem dL_law_2238 : decode cL_law 2238 = .ok (.iadd, 1) := dk_96 (dk_at dksL_law_90 18 rfl rfl)
theorem dL_law_2239 : decode cL_law 2239 = .ok (.iaload, 1) := dk_46 (dk_at dksL_law_90 19 rfl rfl)
theorem dL_law_2240 : decode cL_law 2240 = .ok (.invokevirtual 224, 3) := dk_182 0 224 (dk_at dksL_law_90 20 rfl rfl)
theorem dL_law_2243 : decode cL_law 2243 = .ok (.istore 6, 2) := dk_54 6 (dk_at dksL_law_91 0 rfl rfl)
theorem dL_law_2245 : decode cL_law 2245 = .ok (.aload_n 2, 1) := dk_44 (dk_at dksL_law_91 2 rfl rfl)
theorem dL_law_2246 : decode cL_law 2246 = .ok (.invokevirtual 127, 3) := dk_182 0 127 (dk_at dksL_law_91 3 rfl rfl)
theorem dL_law_2249 : decode cL_law 2249 = .ok (.iload 5, 2) := dk_21 5 (dk_at dksL_law_91 6 rfl rfl)
theorem dL_law_2251 : decode cL_law 2251 = .ok (.if_icmp .eq 5, 3) := dk_159 0 5 (dk_at dksL_law_91 8 rfl rfl)
theorem dL_law_2254 : decode cL_law 2254 = .ok (.iconst 0, 1) := dk_3 (dk_at dksL_law_91 11 rfl rfl)
theorem dL_law_2255 : decode cL_law 2255 = .ok (.ireturn, 1) := dk_172 (dk_at dksL_law_91 12 rfl rfl)
theorem dL_law_2256 : decode cL_law 2256 = .ok (.iload 5, 2) := dk_21 5 (dk_at dksL_law_91 13 rfl rfl)
theorem dL_law_2258 : decode cL_law 2258 = .ok (.ifCond .ne 15, 3) := dk_154 0 15 (dk_at dksL_law_91 15 rfl rfl)
theorem dL_law_2261 : decode cL_law 2261 = .ok (.aload_n 3, 1) := dk_45 (dk_at dksL_law_91 18 rfl rfl)
theorem dL_law_2262 : decode cL_law 2262 = .ok (.iconst 0, 1) := dk_3 (dk_at dksL_law_91 19 rfl rfl)
theorem dL_law_2263 : decode cL_law 2263 = .ok (.laload, 1) := dk_47 (dk_at dksL_law_91 20 rfl rfl)
theorem dL_law_2264 : decode cL_law 2264 = .ok (.iload 6, 2) := dk_21 6 (dk_at dksL_law_91 21 rfl rfl)
theorem dL_law_2266 : decode cL_law 2266 = .ok (.i2l, 1) := dk_133 (dk_at dksL_law_91 23 rfl rfl)
theorem dL_law_2267 : decode cL_law 2267 = .ok (.lcmp, 1) := dk_148 (dk_at dksL_law_92 0 rfl rfl)
theorem dL_law_2268 : decode cL_law 2268 = .ok (.ifCond .eq 5, 3) := dk_153 0 5 (dk_at dksL_law_92 1 rfl rfl)
theorem dL_law_2271 : decode cL_law 2271 = .ok (.iconst 0, 1) := dk_3 (dk_at dksL_law_92 4 rfl rfl)
theorem dL_law_2272 : decode cL_law 2272 = .ok (.ireturn, 1) := dk_172 (dk_at dksL_law_92 5 rfl rfl)
theorem dL_law_2273 : decode cL_law 2273 = .ok (.goto 115, 3) := dk_167 0 115 (dk_at dksL_law_92 6 rfl rfl)
theorem dL_law_2276 : decode cL_law 2276 = .ok (.aload_n 1, 1) := dk_43 (dk_at dksL_law_92 9 rfl rfl)
theorem dL_law_2277 : decode cL_law 2277 = .ok (.aload_n 0, 1) := dk_42 (dk_at dksL_law_92 10 rfl rfl)
theorem dL_law_2278 : decode cL_law 2278 = .ok (.iload 4, 2) := dk_21 4 (dk_at dksL_law_92 11 rfl rfl)
theorem dL_law_2280 : decode cL_law 2280 = .ok (.iconst 1, 1) := dk_4 (dk_at dksL_law_92 13 rfl rfl)
theorem dL_law_2281 : decode cL_law 2281 = .ok (.iadd, 1) := dk_96 (dk_at dksL_law_92 14 rfl rfl)
theorem dL_law_2282 : decode cL_law 2282 = .ok (.iaload, 1) := dk_46 (dk_at dksL_law_92 15 rfl rfl)
theorem dL_law_2283 : decode cL_law 2283 = .ok (.aload_n 3, 1) := dk_45 (dk_at dksL_law_92 16 rfl rfl)
theorem dL_law_2284 : decode cL_law 2284 = .ok (.invokestatic 225, 3) := dk_184 0 225 (dk_at dksL_law_92 17 rfl rfl)
theorem dL_law_2287 : decode cL_law 2287 = .ok (.istore 5, 2) := dk_54 5 (dk_at dksL_law_92 20 rfl rfl)
theorem dL_law_2289 : decode cL_law 2289 = .ok (.aload_n 2, 1) := dk_44 (dk_at dksL_law_92 22 rfl rfl)
theorem dL_law_2290 : decode cL_law 2290 = .ok (.aload_n 0, 1) := dk_42 (dk_at dksL_law_92 23 rfl rfl)
theorem dL_law_2291 : decode cL_law 2291 = .ok (.iload 4, 2) := dk_21 4 (dk_at dksL_law_93 0 rfl rfl)
theorem dL_law_2293 : decode cL_law 2293 = .ok (.iconst 1, 1) := dk_4 (dk_at dksL_law_93 2 rfl rfl)
theorem dL_law_2294 : decode cL_law 2294 = .ok (.iadd, 1) := dk_96 (dk_at dksL_law_93 3 rfl rfl)
theorem dL_law_2295 : decode cL_law 2295 = .ok (.iaload, 1) := dk_46 (dk_at dksL_law_93 4 rfl rfl)
theorem dL_law_2296 : decode cL_law 2296 = .ok (.invokevirtual 227, 3) := dk_182 0 227 (dk_at dksL_law_93 5 rfl rfl)
theorem dL_law_2299 : decode cL_law 2299 = .ok (.istore 6, 2) := dk_54 6 (dk_at dksL_law_93 8 rfl rfl)
theorem dL_law_2301 : decode cL_law 2301 = .ok (.aload_n 2, 1) := dk_44 (dk_at dksL_law_93 10 rfl rfl)
theorem dL_law_2302 : decode cL_law 2302 = .ok (.invokevirtual 127, 3) := dk_182 0 127 (dk_at dksL_law_93 11 rfl rfl)
theorem dL_law_2305 : decode cL_law 2305 = .ok (.iload 5, 2) := dk_21 5 (dk_at dksL_law_93 14 rfl rfl)
theorem dL_law_2307 : decode cL_law 2307 = .ok (.if_icmp .eq 5, 3) := dk_159 0 5 (dk_at dksL_law_93 16 rfl rfl)
theorem dL_law_2310 : decode cL_law 2310 = .ok (.iconst 0, 1) := dk_3 (dk_at dksL_law_93 19 rfl rfl)
theorem dL_law_2311 : decode cL_law 2311 = .ok (.ireturn, 1) := dk_172 (dk_at dksL_law_93 20 rfl rfl)
theorem dL_law_2312 : decode cL_law 2312 = .ok (.iload 5, 2) := dk_21 5 (dk_at dksL_law_93 21 rfl rfl)
theorem dL_law_2314 : decode cL_law 2314 = .ok (.ifCond .ne 15, 3) := dk_154 0 15 (dk_at dksL_law_94 0 rfl rfl)
theorem dL_law_2317 : decode cL_law 2317 = .ok (.aload_n 3, 1) := dk_45 (dk_at dksL_law_94 3 rfl rfl)
theorem dL_law_2318 : decode cL_law 2318 = .ok (.iconst 0, 1) := dk_3 (dk_at dksL_law_94 4 rfl rfl)
theorem dL_law_2319 : decode cL_law 2319 = .ok (.laload, 1) := dk_47 (dk_at dksL_law_94 5 rfl rfl)
theorem dL_law_2320 : decode cL_law 2320 = .ok (.iload 6, 2) := dk_21 6 (dk_at dksL_law_94 6 rfl rfl)
theorem dL_law_2322 : decode cL_law 2322 = .ok (.i2l, 1) := dk_133 (dk_at dksL_law_94 8 rfl rfl)
theorem dL_law_2323 : decode cL_law 2323 = .ok (.lcmp, 1) := dk_148 (dk_at dksL_law_94 9 rfl rfl)
theorem dL_law_2324 : decode cL_law 2324 = .ok (.ifCond .eq 5, 3) := dk_153 0 5 (dk_at dksL_law_94 10 rfl rfl)
theorem dL_law_2327 : decode cL_law 2327 = .ok (.iconst 0, 1) := dk_3 (dk_at dksL_law_94 13 rfl rfl)
theorem dL_law_2328 : decode cL_law 2328 = .ok (.ireturn, 1) := dk_172 (dk_at dksL_law_94 14 rfl rfl)
theorem dL_law_2329 : decode cL_law 2329 = .ok (.goto 59, 3) := dk_167 0 59 (dk_at dksL_law_94 15 rfl rfl)
theorem dL_law_2332 : decode cL_law 2332 = .ok (.aload_n 1, 1) := dk_43 (dk_at dksL_law_94 18 rfl rfl)
theorem dL_law_2333 : decode cL_law 2333 = .ok (.aload_n 0, 1) := dk_42 (dk_at dksL_law_94 19 rfl rfl)
theorem dL_law_2334 : decode cL_law 2334 = .ok (.iload 4, 2) := dk_21 4 (dk_at dksL_law_94 20 rfl rfl)
theorem dL_law_2336 : decode cL_law 2336 = .ok (.iconst 1, 1) := dk_4 (dk_at dksL_law_94 22 rfl rfl)
theorem dL_law_2337 : decode cL_law 2337 = .ok (.iadd, 1) := dk_96 (dk_at dksL_law_94 23 rfl rfl)
theorem dL_law_2338 : decode cL_law 2338 = .ok (.iaload, 1) := dk_46 (dk_at dksL_law_95 0 rfl rfl)
theorem dL_law_2339 : decode cL_law 2339 = .ok (.aload_n 3, 1) := dk_45 (dk_at dksL_law_95 1 rfl rfl)
theorem dL_law_2340 : decode cL_law 2340 = .ok (.invokestatic 228, 3) := dk_184 0 228 (dk_at dksL_law_95 2 rfl rfl)
theorem dL_law_2343 : decode cL_law 2343 = .ok (.istore 5, 2) := dk_54 5 (dk_at dksL_law_95 5 rfl rfl)
theorem dL_law_2345 : decode cL_law 2345 = .ok (.aload_n 2, 1) := dk_44 (dk_at dksL_law_95 7 rfl rfl)
theorem dL_law_2346 : decode cL_law 2346 = .ok (.aload_n 0, 1) := dk_42 (dk_at dksL_law_95 8 rfl rfl)
theorem dL_law_2347 : decode cL_law 2347 = .ok (.iload 4, 2) := dk_21 4 (dk_at dksL_law_95 9 rfl rfl)
theorem dL_law_2349 : decode cL_law 2349 = .ok (.iconst 1, 1) := dk_4 (dk_at dksL_law_95 11 rfl rfl)
theorem dL_law_2350 : decode cL_law 2350 = .ok (.iadd, 1) := dk_96 (dk_at dksL_law_95 12 rfl rfl)
theorem dL_law_2351 : decode cL_law 2351 = .ok (.iaload, 1) := dk_46 (dk_at dksL_law_95 13 rfl rfl)
theorem dL_law_2352 : decode cL_law 2352 = .ok (.invokevirtual 230, 3) := dk_182 0 230 (dk_at dksL_law_95 14 rfl rfl)
theorem dL_law_2355 : decode cL_law 2355 = .ok (.istore 6, 2) := dk_54 6 (dk_at dksL_law_95 17 rfl rfl)
theorem dL_law_2357 : decode cL_law 2357 = .ok (.aload_n 2, 1) := dk_44 (dk_at dksL_law_95 19 rfl rfl)
theorem dL_law_2358 : decode cL_law 2358 = .ok (.invokevirtual 127, 3) := dk_182 0 127 (dk_at dksL_law_95 20 rfl rfl)
theorem dL_law_2361 : decode cL_law 2361 = .ok (.iload 5, 2) := dk_21 5 (dk_at dksL_law_96 0 rfl rfl)
theorem dL_law_2363 : decode cL_law 2363 = .ok (.if_icmp .eq 5, 3) := dk_159 0 5 (dk_at dksL_law_96 2 rfl rfl)
theorem dL_law_2366 : decode cL_law 2366 = .ok (.iconst 0, 1) := dk_3 (dk_at dksL_law_96 5 rfl rfl)
theorem dL_law_2367 : decode cL_law 2367 = .ok (.ireturn, 1) := dk_172 (dk_at dksL_law_96 6 rfl rfl)
theorem dL_law_2368 : decode cL_law 2368 = .ok (.iload 5, 2) := dk_21 5 (dk_at dksL_law_96 7 rfl rfl)
theorem dL_law_2370 : decode cL_law 2370 = .ok (.ifCond .ne 15, 3) := dk_154 0 15 (dk_at dksL_law_96 9 rfl rfl)
theorem dL_law_2373 : decode cL_law 2373 = .ok (.aload_n 3, 1) := dk_45 (dk_at dksL_law_96 12 rfl rfl)
theorem dL_law_2374 : decode cL_law 2374 = .ok (.iconst 0, 1) := dk_3 (dk_at dksL_law_96 13 rfl rfl)
theorem dL_law_2375 : decode cL_law 2375 = .ok (.laload, 1) := dk_47 (dk_at dksL_law_96 14 rfl rfl)
theorem dL_law_2376 : decode cL_law 2376 = .ok (.iload 6, 2) := dk_21 6 (dk_at dksL_law_96 15 rfl rfl)
theorem dL_law_2378 : decode cL_law 2378 = .ok (.i2l, 1) := dk_133 (dk_at dksL_law_96 17 rfl rfl)
theorem dL_law_2379 : decode cL_law 2379 = .ok (.lcmp, 1) := dk_148 (dk_at dksL_law_96 18 rfl rfl)
theorem dL_law_2380 : decode cL_law 2380 = .ok (.ifCond .eq 5, 3) := dk_153 0 5 (dk_at dksL_law_96 19 rfl rfl)
theorem dL_law_2383 : decode cL_law 2383 = .ok (.iconst 0, 1) := dk_3 (dk_at dksL_law_96 22 rfl rfl)
theorem dL_law_2384 : decode cL_law 2384 = .ok (.ireturn, 1) := dk_172 (dk_at dksL_law_96 23 rfl rfl)
theorem dL_law_2385 : decode cL_law 2385 = .ok (.goto 3, 3) := dk_167 0 3 (dk_at dksL_law_97 0 rfl rfl)
theorem dL_law_2388 : decode cL_law 2388 = .ok (.iinc 4 8, 3) := dk_132 4 8 (dk_at dksL_law_97 3 rfl rfl)
theorem dL_law_2391 : decode cL_law 2391 = .ok (.goto (-2368), 3) := dk_167 246 192 (dk_at dksL_law_97 6 rfl rfl)
theorem dL_law_2394 : decode cL_law 2394 = .ok (.iconst 1, 1) := dk_4 (dk_at dksL_law_97 9 rfl rfl)
theorem dL_law_2395 : decode cL_law 2395 = .ok (.ireturn, 1) := dk_172 (dk_at dksL_law_97 10 rfl rfl)
