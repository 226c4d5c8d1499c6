/-! RubberStampsLaw -/
set_option maxRecDepth 100000
def RX0 : String := "RubberStampsLaw"
abbrev cX0_append : ByteArray := method_3_code
def yX0_append : MethodName := ⟨RX0, "append", "(LRubberStamps;I[J)I"⟩
def dkwX0_append_0 : List UInt8 := [44, 3, 42, 27, 182, 0, 7, 133, 80, 167, 0, 9, 78, 4, 172, 78, 5, 172, 3, 172]
abbrev dktX0_append_0 : List UInt8 := dkwX0_append_0 ++ []
theorem dksX0_append_0 : cX0_append.data.toList.drop 0 = dktX0_append_0 := by decide +kernel
theorem dX0_append_0 : decode cX0_append 0 = .ok (.aload_n 2, 1) := dk_44 (dk_at dksX0_append_0 0 rfl rfl)
theorem dX0_append_1 : decode cX0_append 1 = .ok (.iconst 0, 1) := dk_3 (dk_at dksX0_append_0 1 rfl rfl)
theorem dX0_append_2 : decode cX0_append 2 = .ok (.aload_n 0, 1) := dk_42 (dk_at dksX0_append_0 2 rfl rfl)
theorem dX0_append_3 : decode cX0_append 3 = .ok (.iload_n 1, 1) := dk_27 (dk_at dksX0_append_0 3 rfl rfl)
theorem dX0_append_4 : decode cX0_append 4 = .ok (.invokevirtual 7, 3) := dk_182 0 7 (dk_at dksX0_append_0 4 rfl rfl)
theorem dX0_append_7 : decode cX0_append 7 = .ok (.i2l, 1) := dk_133 (dk_at dksX0_append_0 7 rfl rfl)
theorem dX0_append_8 : decode cX0_append 8 = .ok (.lastore, 1) := dk_80 (dk_at dksX0_append_0 8 rfl rfl)
theorem dX0_append_9 : decode cX0_append 9 = .ok (.goto 9, 3) := dk_167 0 9 (dk_at dksX0_append_0 9 rfl rfl)
theorem dX0_append_12 : decode cX0_append 12 = .ok (.astore_n 3, 1) := dk_78 (dk_at dksX0_append_0 12 rfl rfl)
theorem dX0_append_13 : decode cX0_append 13 = .ok (.iconst 1, 1) := dk_4 (dk_at dksX0_append_0 13 rfl rfl)
theorem dX0_append_14 : decode cX0_append 14 = .ok (.ireturn, 1) := dk_172 (dk_at dksX0_append_0 14 rfl rfl)
theorem dX0_append_15 : decode cX0_append 15 = .ok (.astore_n 3, 1) := dk_78 (dk_at dksX0_append_0 15 rfl rfl)
theorem dX0_append_16 : decode cX0_append 16 = .ok (.iconst 2, 1) := dk_5 (dk_at dksX0_append_0 16 rfl rfl)
theorem dX0_append_17 : decode cX0_append 17 = .ok (.ireturn, 1) := dk_172 (dk_at dksX0_append_0 17 rfl rfl)
theorem dX0_append_18 : decode cX0_append 18 = .ok (.iconst 0, 1) := dk_3 (dk_at dksX0_append_0 18 rfl rfl)
theorem dX0_append_19 : decode cX0_append 19 = .ok (.ireturn, 1) := dk_172 (dk_at dksX0_append_0 19 rfl rfl)
abbrev cX0_cut : ByteArray := method_4_code
def yX0_cut : MethodName := ⟨RX0, "cut", "(LRubberStamps;III[J)I"⟩
def dkwX0_cut_1 : List UInt8 := [58, 5, 6, 172, 3, 172]
abbrev dktX0_cut_1 : List UInt8 := dkwX0_cut_1 ++ []
def dkwX0_cut_0 : List UInt8 := [25, 4, 3, 42, 27, 28, 29, 182, 0, 17, 133, 80, 167, 0, 15, 58, 5, 4, 172, 58, 5, 5, 172]
abbrev dktX0_cut_0 : List UInt8 := dkwX0_cut_0 ++ dktX0_cut_1
theorem dksX0_cut_0 : cX0_cut.data.toList.drop 0 = dktX0_cut_0 := by decide +kernel
theorem dksX0_cut_1 : cX0_cut.data.toList.drop 23 = dktX0_cut_1 := dk_seg dksX0_cut_0 23 rfl rfl
theorem dX0_cut_0 : decode cX0_cut 0 = .ok (.aload 4, 2) := dk_25 4 (dk_at dksX0_cut_0 0 rfl rfl)
theorem dX0_cut_2 : decode cX0_cut 2 = .ok (.iconst 0, 1) := dk_3 (dk_at dksX0_cut_0 2 rfl rfl)
theorem dX0_cut_3 : decode cX0_cut 3 = .ok (.aload_n 0, 1) := dk_42 (dk_at dksX0_cut_0 3 rfl rfl)
theorem dX0_cut_4 : decode cX0_cut 4 = .ok (.iload_n 1, 1) := dk_27 (dk_at dksX0_cut_0 4 rfl rfl)
theorem dX0_cut_5 : decode cX0_cut 5 = .ok (.iload_n 2, 1) := dk_28 (dk_at dksX0_cut_0 5 rfl rfl)
theorem dX0_cut_6 : decode cX0_cut 6 = .ok (.iload_n 3, 1) := dk_29 (dk_at dksX0_cut_0 6 rfl rfl)
theorem dX0_cut_7 : decode cX0_cut 7 = .ok (.invokevirtual 17, 3) := dk_182 0 17 (dk_at dksX0_cut_0 7 rfl rfl)
theorem dX0_cut_10 : decode cX0_cut 10 = .ok (.i2l, 1) := dk_133 (dk_at dksX0_cut_0 10 rfl rfl)
theorem dX0_cut_11 : decode cX0_cut 11 = .ok (.lastore, 1) := dk_80 (dk_at dksX0_cut_0 11 rfl rfl)
theorem dX0_cut_12 : decode cX0_cut 12 = .ok (.goto 15, 3) := dk_167 0 15 (dk_at dksX0_cut_0 12 rfl rfl)
theorem dX0_cut_15 : decode cX0_cut 15 = .ok (.astore 5, 2) := dk_58 5 (dk_at dksX0_cut_0 15 rfl rfl)
theorem dX0_cut_17 : decode cX0_cut 17 = .ok (.iconst 1, 1) := dk_4 (dk_at dksX0_cut_0 17 rfl rfl)
theorem dX0_cut_18 : decode cX0_cut 18 = .ok (.ireturn, 1) := dk_172 (dk_at dksX0_cut_0 18 rfl rfl)
theorem dX0_cut_19 : decode cX0_cut 19 = .ok (.astore 5, 2) := dk_58 5 (dk_at dksX0_cut_0 19 rfl rfl)
theorem dX0_cut_21 : decode cX0_cut 21 = .ok (.iconst 2, 1) := dk_5 (dk_at dksX0_cut_0 21 rfl rfl)
theorem dX0_cut_22 : decode cX0_cut 22 = .ok (.ireturn, 1) := dk_172 (dk_at dksX0_cut_0 22 rfl rfl)
theorem dX0_cut_23 : decode cX0_cut 23 = .ok (.astore 5, 2) := dk_58 5 (dk_at dksX0_cut_1 0 rfl rfl)
theorem dX0_cut_25 : decode cX0_cut 25 = .ok (.iconst 3, 1) := dk_6 (dk_at dksX0_cut_1 2 rfl rfl)
theorem dX0_cut_26 : decode cX0_cut 26 = .ok (.ireturn, 1) := dk_172 (dk_at dksX0_cut_1 3 rfl rfl)
theorem dX0_cut_27 : decode cX0_cut 27 = .ok (.iconst 0, 1) := dk_3 (dk_at dksX0_cut_1 4 rfl rfl)
theorem dX0_cut_28 : decode cX0_cut 28 = .ok (.ireturn, 1) := dk_172 (dk_at dksX0_cut_1 5 rfl rfl)
abbrev cX0_remove : ByteArray := method_5_code
def yX0_remove : MethodName := ⟨RX0, "remove", "(LRubberStamps;I[J)I"⟩
def dkwX0_remove_0 : List UInt8 := [44, 3, 42, 27, 182, 0, 23, 133, 80, 167, 0, 6, 78, 4, 172, 3, 172]
abbrev dktX0_remove_0 : List UInt8 := dkwX0_remove_0 ++ []
theorem dksX0_remove_0 : cX0_remove.data.toList.drop 0 = dktX0_remove_0 := by decide +kernel
theorem dX0_remove_0 : decode cX0_remove 0 = .ok (.aload_n 2, 1) := dk_44 (dk_at dksX0_remove_0 0 rfl rfl)
theorem dX0_remove_1 : decode cX0_remove 1 = .ok (.iconst 0, 1) := dk_3 (dk_at dksX0_remove_0 1 rfl rfl)
theorem dX0_remove_2 : decode cX0_remove 2 = .ok (.aload_n 0, 1) := dk_42 (dk_at dksX0_remove_0 2 rfl rfl)
theorem dX0_remove_3 : decode cX0_remove 3 = .ok (.iload_n 1, 1) := dk_27 (dk_at dksX0_remove_0 3 rfl rfl)
theorem dX0_remove_4 : decode cX0_remove 4 = .ok (.invokevirtual 23, 3) := dk_182 0 23 (dk_at dksX0_remove_0 4 rfl rfl)
theorem dX0_remove_7 : decode cX0_remove 7 = .ok (.i2l, 1) := dk_133 (dk_at dksX0_remove_0 7 rfl rfl)
theorem dX0_remove_8 : decode cX0_remove 8 = .ok (.lastore, 1) := dk_80 (dk_at dksX0_remove_0 8 rfl rfl)
theorem dX0_remove_9 : decode cX0_remove 9 = .ok (.goto 6, 3) := dk_167 0 6 (dk_at dksX0_remove_0 9 rfl rfl)
theorem dX0_remove_12 : decode cX0_remove 12 = .ok (.astore_n 3, 1) := dk_78 (dk_at dksX0_remove_0 12 rfl rfl)
theorem dX0_remove_13 : decode cX0_remove 13 = .ok (.iconst 1, 1) := dk_4 (dk_at dksX0_remove_0 13 rfl rfl)
theorem dX0_remove_14 : decode cX0_remove 14 = .ok (.ireturn, 1) := dk_172 (dk_at dksX0_remove_0 14 rfl rfl)
theorem dX0_remove_15 : decode cX0_remove 15 = .ok (.iconst 0, 1) := dk_3 (dk_at dksX0_remove_0 15 rfl rfl)
theorem dX0_remove_16 : decode cX0_remove 16 = .ok (.ireturn, 1) := dk_172 (dk_at dksX0_remove_0 16 rfl rfl)
abbrev cX0_drop : ByteArray := method_6_code
def yX0_drop : MethodName := ⟨RX0, "drop", "(LRubberStamps;I[J)I"⟩
def dkwX0_drop_0 : List UInt8 := [44, 3, 42, 27, 182, 0, 26, 133, 80, 167, 0, 6, 78, 4, 172, 3, 172]
abbrev dktX0_drop_0 : List UInt8 := dkwX0_drop_0 ++ []
theorem dksX0_drop_0 : cX0_drop.data.toList.drop 0 = dktX0_drop_0 := by decide +kernel
theorem dX0_drop_0 : decode cX0_drop 0 = .ok (.aload_n 2, 1) := dk_44 (dk_at dksX0_drop_0 0 rfl rfl)
theorem dX0_drop_1 : decode cX0_drop 1 = .ok (.iconst 0, 1) := dk_3 (dk_at dksX0_drop_0 1 rfl rfl)
theorem dX0_drop_2 : decode cX0_drop 2 = .ok (.aload_n 0, 1) := dk_42 (dk_at dksX0_drop_0 2 rfl rfl)
theorem dX0_drop_3 : decode cX0_drop 3 = .ok (.iload_n 1, 1) := dk_27 (dk_at dksX0_drop_0 3 rfl rfl)
theorem dX0_drop_4 : decode cX0_drop 4 = .ok (.invokevirtual 26, 3) := dk_182 0 26 (dk_at dksX0_drop_0 4 rfl rfl)
theorem dX0_drop_7 : decode cX0_drop 7 = .ok (.i2l, 1) := dk_133 (dk_at dksX0_drop_0 7 rfl rfl)
theorem dX0_drop_8 : decode cX0_drop 8 = .ok (.lastore, 1) := dk_80 (dk_at dksX0_drop_0 8 rfl rfl)
theorem dX0_drop_9 : decode cX0_drop 9 = .ok (.goto 6, 3) := dk_167 0 6 (dk_at dksX0_drop_0 9 rfl rfl)
theorem dX0_drop_12 : decode cX0_drop 12 = .ok (.astore_n 3, 1) := dk_78 (dk_at dksX0_drop_0 12 rfl rfl)
theorem dX0_drop_13 : decode cX0_drop 13 = .ok (.iconst 1, 1) := dk_4 (dk_at dksX0_drop_0 13 rfl rfl)
theorem dX0_drop_14 : decode cX0_drop 14 = .ok (.ireturn, 1) := dk_172 (dk_at dksX0_drop_0 14 rfl rfl)
theorem dX0_drop_15 : decode cX0_drop 15 = .ok (.iconst 0, 1) := dk_3 (dk_at dksX0_drop_0 15 rfl rfl)
theorem dX0_drop_16 : decode cX0_drop 16 = .ok (.ireturn, 1) := dk_172 (dk_at dksX0_drop_0 16 rfl rfl)
abbrev cX0_setColor : ByteArray := method_7_code
def yX0_setColor : MethodName := ⟨RX0, "setColor", "(LRubberStamps;II[J)I"⟩
def dkwX0_setColor_0 : List UInt8 := [45, 3, 42, 27, 28, 182, 0, 29, 133, 80, 167, 0, 11, 58, 4, 4, 172, 58, 4, 5, 172, 3, 172]
abbrev dktX0_setColor_0 : List UInt8 := dkwX0_setColor_0 ++ []
theorem dksX0_setColor_0 : cX0_setColor.data.toList.drop 0 = dktX0_setColor_0 := by decide +kernel
theorem dX0_setColor_0 : decode cX0_setColor 0 = .ok (.aload_n 3, 1) := dk_45 (dk_at dksX0_setColor_0 0 rfl rfl)
theorem dX0_setColor_1 : decode cX0_setColor 1 = .ok (.iconst 0, 1) := dk_3 (dk_at dksX0_setColor_0 1 rfl rfl)
theorem dX0_setColor_2 : decode cX0_setColor 2 = .ok (.aload_n 0, 1) := dk_42 (dk_at dksX0_setColor_0 2 rfl rfl)
theorem dX0_setColor_3 : decode cX0_setColor 3 = .ok (.iload_n 1, 1) := dk_27 (dk_at dksX0_setColor_0 3 rfl rfl)
theorem dX0_setColor_4 : decode cX0_setColor 4 = .ok (.iload_n 2, 1) := dk_28 (dk_at dksX0_setColor_0 4 rfl rfl)
theorem dX0_setColor_5 : decode cX0_setColor 5 = .ok (.invokevirtual 29, 3) := dk_182 0 29 (dk_at dksX0_setColor_0 5 rfl rfl)
theorem dX0_setColor_8 : decode cX0_setColor 8 = .ok (.i2l, 1) := dk_133 (dk_at dksX0_setColor_0 8 rfl rfl)
theorem dX0_setColor_9 : decode cX0_setColor 9 = .ok (.lastore, 1) := dk_80 (dk_at dksX0_setColor_0 9 rfl rfl)
theorem dX0_setColor_10 : decode cX0_setColor 10 = .ok (.goto 11, 3) := dk_167 0 11 (dk_at dksX0_setColor_0 10 rfl rfl)
theorem dX0_setColor_13 : decode cX0_setColor 13 = .ok (.astore 4, 2) := dk_58 4 (dk_at dksX0_setColor_0 13 rfl rfl)
theorem dX0_setColor_15 : decode cX0_setColor 15 = .ok (.iconst 1, 1) := dk_4 (dk_at dksX0_setColor_0 15 rfl rfl)
theorem dX0_setColor_16 : decode cX0_setColor 16 = .ok (.ireturn, 1) := dk_172 (dk_at dksX0_setColor_0 16 rfl rfl)
theorem dX0_setColor_17 : decode cX0_setColor 17 = .ok (.astore 4, 2) := dk_58 4 (dk_at dksX0_setColor_0 17 rfl rfl)
theorem dX0_setColor_19 : decode cX0_setColor 19 = .ok (.iconst 2, 1) := dk_5 (dk_at dksX0_setColor_0 19 rfl rfl)
theorem dX0_setColor_20 : decode cX0_setColor 20 = .ok (.ireturn, 1) := dk_172 (dk_at dksX0_setColor_0 20 rfl rfl)
theorem dX0_setColor_21 : decode cX0_setColor 21 = .ok (.iconst 0, 1) := dk_3 (dk_at dksX0_setColor_0 21 rfl rfl)
theorem dX0_setColor_22 : decode cX0_setColor 22 = .ok (.ireturn, 1) := dk_172 (dk_at dksX0_setColor_0 22 rfl rfl)
abbrev cX0_setLimits : ByteArray := method_8_code
def yX0_setLimits : MethodName := ⟨RX0, "setLimits", "(LRubberStamps;II[J)I"⟩
def dkwX0_setLimits_0 : List UInt8 := [45, 3, 42, 27, 28, 182, 0, 33, 133, 80, 167, 0, 7, 58, 4, 4, 172, 3, 172]
abbrev dktX0_setLimits_0 : List UInt8 := dkwX0_setLimits_0 ++ []
theorem dksX0_setLimits_0 : cX0_setLimits.data.toList.drop 0 = dktX0_setLimits_0 := by decide +kernel
theorem dX0_setLimits_0 : decode cX0_setLimits 0 = .ok (.aload_n 3, 1) := dk_45 (dk_at dksX0_setLimits_0 0 rfl rfl)
theorem dX0_setLimits_1 : decode cX0_setLimits 1 = .ok (.iconst 0, 1) := dk_3 (dk_at dksX0_setLimits_0 1 rfl rfl)
theorem dX0_setLimits_2 : decode cX0_setLimits 2 = .ok (.aload_n 0, 1) := dk_42 (dk_at dksX0_setLimits_0 2 rfl rfl)
theorem dX0_setLimits_3 : decode cX0_setLimits 3 = .ok (.iload_n 1, 1) := dk_27 (dk_at dksX0_setLimits_0 3 rfl rfl)
theorem dX0_setLimits_4 : decode cX0_setLimits 4 = .ok (.iload_n 2, 1) := dk_28 (dk_at dksX0_setLimits_0 4 rfl rfl)
theorem dX0_setLimits_5 : decode cX0_setLimits 5 = .ok (.invokevirtual 33, 3) := dk_182 0 33 (dk_at dksX0_setLimits_0 5 rfl rfl)
theorem dX0_setLimits_8 : decode cX0_setLimits 8 = .ok (.i2l, 1) := dk_133 (dk_at dksX0_setLimits_0 8 rfl rfl)
theorem dX0_setLimits_9 : decode cX0_setLimits 9 = .ok (.lastore, 1) := dk_80 (dk_at dksX0_setLimits_0 9 rfl rfl)
theorem dX0_setLimits_10 : decode cX0_setLimits 10 = .ok (.goto 7, 3) := dk_167 0 7 (dk_at dksX0_setLimits_0 10 rfl rfl)
theorem dX0_setLimits_13 : decode cX0_setLimits 13 = .ok (.astore 4, 2) := dk_58 4 (dk_at dksX0_setLimits_0 13 rfl rfl)
theorem dX0_setLimits_15 : decode cX0_setLimits 15 = .ok (.iconst 1, 1) := dk_4 (dk_at dksX0_setLimits_0 15 rfl rfl)
theorem dX0_setLimits_16 : decode cX0_setLimits 16 = .ok (.ireturn, 1) := dk_172 (dk_at dksX0_setLimits_0 16 rfl rfl)
theorem dX0_setLimits_17 : decode cX0_setLimits 17 = .ok (.iconst 0, 1) := dk_3 (dk_at dksX0_setLimits_0 17 rfl rfl)
theorem dX0_setLimits_18 : decode cX0_setLimits 18 = .ok (.ireturn, 1) := dk_172 (dk_at dksX0_setLimits_0 18 rfl rfl)
abbrev cX0_clean : ByteArray := method_9_code
def yX0_clean : MethodName := ⟨RX0, "clean", "(LRubberStamps;I[J)I"⟩
def dkwX0_clean_0 : List UInt8 := [44, 3, 42, 27, 182, 0, 36, 133, 80, 167, 0, 6, 78, 4, 172, 3, 172]
abbrev dktX0_clean_0 : List UInt8 := dkwX0_clean_0 ++ []
theorem dksX0_clean_0 : cX0_clean.data.toList.drop 0 = dktX0_clean_0 := by decide +kernel
theorem dX0_clean_0 : decode cX0_clean 0 = .ok (.aload_n 2, 1) := dk_44 (dk_at dksX0_clean_0 0 rfl rfl)
theorem dX0_clean_1 : decode cX0_clean 1 = .ok (.iconst 0, 1) := dk_3 (dk_at dksX0_clean_0 1 rfl rfl)
theorem dX0_clean_2 : decode cX0_clean 2 = .ok (.aload_n 0, 1) := dk_42 (dk_at dksX0_clean_0 2 rfl rfl)
theorem dX0_clean_3 : decode cX0_clean 3 = .ok (.iload_n 1, 1) := dk_27 (dk_at dksX0_clean_0 3 rfl rfl)
theorem dX0_clean_4 : decode cX0_clean 4 = .ok (.invokevirtual 36, 3) := dk_182 0 36 (dk_at dksX0_clean_0 4 rfl rfl)
theorem dX0_clean_7 : decode cX0_clean 7 = .ok (.i2l, 1) := dk_133 (dk_at dksX0_clean_0 7 rfl rfl)
theorem dX0_clean_8 : decode cX0_clean 8 = .ok (.lastore, 1) := dk_80 (dk_at dksX0_clean_0 8 rfl rfl)
theorem dX0_clean_9 : decode cX0_clean 9 = .ok (.goto 6, 3) := dk_167 0 6 (dk_at dksX0_clean_0 9 rfl rfl)
theorem dX0_clean_12 : decode cX0_clean 12 = .ok (.astore_n 3, 1) := dk_78 (dk_at dksX0_clean_0 12 rfl rfl)
theorem dX0_clean_13 : decode cX0_clean 13 = .ok (.iconst 1, 1) := dk_4 (dk_at dksX0_clean_0 13 rfl rfl)
theorem dX0_clean_14 : decode cX0_clean 14 = .ok (.ireturn, 1) := dk_172 (dk_at dksX0_clean_0 14 rfl rfl)
theorem dX0_clean_15 : decode cX0_clean 15 = .ok (.iconst 0, 1) := dk_3 (dk_at dksX0_clean_0 15 rfl rfl)
theorem dX0_clean_16 : decode cX0_clean 16 = .ok (.ireturn, 1) := dk_172 (dk_at dksX0_clean_0 16 rfl rfl)
abbrev cX0_value : ByteArray := method_10_code
def yX0_value : MethodName := ⟨RX0, "value", "(LRubberStamps;I[J)I"⟩
def dkwX0_value_0 : List UInt8 := [44, 3, 42, 27, 182, 0, 39, 133, 80, 167, 0, 6, 78, 4, 172, 3, 172]
abbrev dktX0_value_0 : List UInt8 := dkwX0_value_0 ++ []
theorem dksX0_value_0 : cX0_value.data.toList.drop 0 = dktX0_value_0 := by decide +kernel
theorem dX0_value_0 : decode cX0_value 0 = .ok (.aload_n 2, 1) := dk_44 (dk_at dksX0_value_0 0 rfl rfl)
theorem dX0_value_1 : decode cX0_value 1 = .ok (.iconst 0, 1) := dk_3 (dk_at dksX0_value_0 1 rfl rfl)
theorem dX0_value_2 : decode cX0_value 2 = .ok (.aload_n 0, 1) := dk_42 (dk_at dksX0_value_0 2 rfl rfl)
theorem dX0_value_3 : decode cX0_value 3 = .ok (.iload_n 1, 1) := dk_27 (dk_at dksX0_value_0 3 rfl rfl)
theorem dX0_value_4 : decode cX0_value 4 = .ok (.invokevirtual 39, 3) := dk_182 0 39 (dk_at dksX0_value_0 4 rfl rfl)
theorem dX0_value_7 : decode cX0_value 7 = .ok (.i2l, 1) := dk_133 (dk_at dksX0_value_0 7 rfl rfl)
theorem dX0_value_8 : decode cX0_value 8 = .ok (.lastore, 1) := dk_80 (dk_at dksX0_value_0 8 rfl rfl)
theorem dX0_value_9 : decode cX0_value 9 = .ok (.goto 6, 3) := dk_167 0 6 (dk_at dksX0_value_0 9 rfl rfl)
theorem dX0_value_12 : decode cX0_value 12 = .ok (.astore_n 3, 1) := dk_78 (dk_at dksX0_value_0 12 rfl rfl)
theorem dX0_value_13 : decode cX0_value 13 = .ok (.iconst 1, 1) := dk_4 (dk_at dksX0_value_0 13 rfl rfl)
theorem dX0_value_14 : decode cX0_value 14 = .ok (.ireturn, 1) := dk_172 (dk_at dksX0_value_0 14 rfl rfl)
theorem dX0_value_15 : decode cX0_value 15 = .ok (.iconst 0, 1) := dk_3 (dk_at dksX0_value_0 15 rfl rfl)
theorem dX0_value_16 : decode cX0_value 16 = .ok (.ireturn, 1) := dk_172 (dk_at dksX0_value_0 16 rfl rfl)
abbrev cX0_stamp : ByteArray := method_11_code
def yX0_stamp : MethodName := ⟨RX0, "stamp", "(LRubberStamps;II[J)I"⟩
def dkwX0_stamp_0 : List UInt8 := [45, 3, 42, 27, 28, 182, 0, 42, 133, 80, 167, 0, 11, 58, 4, 4, 172, 58, 4, 5, 172, 3, 172]
abbrev dktX0_stamp_0 : List UInt8 := dkwX0_stamp_0 ++ []
theorem dksX0_stamp_0 : cX0_stamp.data.toList.drop 0 = dktX0_stamp_0 := by decide +kernel
theorem dX0_stamp_0 : decode cX0_stamp 0 = .ok (.aload_n 3, 1) := dk_45 (dk_at dksX0_stamp_0 0 rfl rfl)
theorem dX0_stamp_1 : decode cX0_stamp 1 = .ok (.iconst 0, 1) := dk_3 (dk_at dksX0_stamp_0 1 rfl rfl)
theorem dX0_stamp_2 : decode cX0_stamp 2 = .ok (.aload_n 0, 1) := dk_42 (dk_at dksX0_stamp_0 2 rfl rfl)
theorem dX0_stamp_3 : decode cX0_stamp 3 = .ok (.iload_n 1, 1) := dk_27 (dk_at dksX0_stamp_0 3 rfl rfl)
theorem dX0_stamp_4 : decode cX0_stamp 4 = .ok (.iload_n 2, 1) := dk_28 (dk_at dksX0_stamp_0 4 rfl rfl)
theorem dX0_stamp_5 : decode cX0_stamp 5 = .ok (.invokevirtual 42, 3) := dk_182 0 42 (dk_at dksX0_stamp_0 5 rfl rfl)
theorem dX0_stamp_8 : decode cX0_stamp 8 = .ok (.i2l, 1) := dk_133 (dk_at dksX0_stamp_0 8 rfl rfl)
theorem dX0_stamp_9 : decode cX0_stamp 9 = .ok (.lastore, 1) := dk_80 (dk_at dksX0_stamp_0 9 rfl rfl)
theorem dX0_stamp_10 : decode cX0_stamp 10 = .ok (.goto 11, 3) := dk_167 0 11 (dk_at dksX0_stamp_0 10 rfl rfl)
theorem dX0_stamp_13 : decode cX0_stamp 13 = .ok (.astore 4, 2) := dk_58 4 (dk_at dksX0_stamp_0 13 rfl rfl)
theorem dX0_stamp_15 : decode cX0_stamp 15 = .ok (.iconst 1, 1) := dk_4 (dk_at dksX0_stamp_0 15 rfl rfl)
theorem dX0_stamp_16 : decode cX0_stamp 16 = .ok (.ireturn, 1) := dk_172 (dk_at dksX0_stamp_0 16 rfl rfl)
theorem dX0_stamp_17 : decode cX0_stamp 17 = .ok (.astore 4, 2) := dk_58 4 (dk_at dksX0_stamp_0 17 rfl rfl)
theorem dX0_stamp_19 : decode cX0_stamp 19 = .ok (.iconst 2, 1) := dk_5 (dk_at dksX0_stamp_0 19 rfl rfl)
theorem dX0_stamp_20 : decode cX0_stamp 20 = .ok (.ireturn, 1) := dk_172 (dk_at dksX0_stamp_0 20 rfl rfl)
theorem dX0_stamp_21 : decode cX0_stamp 21 = .ok (.iconst 0, 1) := dk_3 (dk_at dksX0_stamp_0 21 rfl rfl)
theorem dX0_stamp_22 : decode cX0_stamp 22 = .ok (.ireturn, 1) := dk_172 (dk_at dksX0_stamp_0 22 rfl rfl)
abbrev cX0_print : ByteArray := method_12_code
def yX0_print : MethodName := ⟨RX0, "print", "(LRubberStamps;IIZ[J)I"⟩
def dkwX0_print_0 : List UInt8 := [25, 4, 3, 42, 27, 28, 29, 182, 0, 45, 133, 80, 167, 0, 7, 58, 5, 4, 172, 3, 172]
abbrev dktX0_print_0 : List UInt8 := dkwX0_print_0 ++ []
theorem dksX0_print_0 : cX0_print.data.toList.drop 0 = dktX0_print_0 := by decide +kernel
theorem dX0_print_0 : decode cX0_print 0 = .ok (.aload 4, 2) := dk_25 4 (dk_at dksX0_print_0 0 rfl rfl)
theorem dX0_print_2 : decode cX0_print 2 = .ok (.iconst 0, 1) := dk_3 (dk_at dksX0_print_0 2 rfl rfl)
theorem dX0_print_3 : decode cX0_print 3 = .ok (.aload_n 0, 1) := dk_42 (dk_at dksX0_print_0 3 rfl rfl)
theorem dX0_print_4 : decode cX0_print 4 = .ok (.iload_n 1, 1) := dk_27 (dk_at dksX0_print_0 4 rfl rfl)
theorem dX0_print_5 : decode cX0_print 5 = .ok (.iload_n 2, 1) := dk_28 (dk_at dksX0_print_0 5 rfl rfl)
theorem dX0_print_6 : decode cX0_print 6 = .ok (.iload_n 3, 1) := dk_29 (dk_at dksX0_print_0 6 rfl rfl)
theorem dX0_print_7 : decode cX0_print 7 = .ok (.invokevirtual 45, 3) := dk_182 0 45 (dk_at dksX0_print_0 7 rfl rfl)
theorem dX0_print_10 : decode cX0_print 10 = .ok (.i2l, 1) := dk_133 (dk_at dksX0_print_0 10 rfl rfl)
theorem dX0_print_11 : decode cX0_print 11 = .ok (.lastore, 1) := dk_80 (dk_at dksX0_print_0 11 rfl rfl)
theorem dX0_print_12 : decode cX0_print 12 = .ok (.goto 7, 3) := dk_167 0 7 (dk_at dksX0_print_0 12 rfl rfl)
theorem dX0_print_15 : decode cX0_print 15 = .ok (.astore 5, 2) := dk_58 5 (dk_at dksX0_print_0 15 rfl rfl)
theorem dX0_print_17 : decode cX0_print 17 = .ok (.iconst 1, 1) := dk_4 (dk_at dksX0_print_0 17 rfl rfl)
theorem dX0_print_18 : decode cX0_print 18 = .ok (.ireturn, 1) := dk_172 (dk_at dksX0_print_0 18 rfl rfl)
theorem dX0_print_19 : decode cX0_print 19 = .ok (.iconst 0, 1) := dk_3 (dk_at dksX0_print_0 19 rfl rfl)
theorem dX0_print_20 : decode cX0_print 20 = .ok (.ireturn, 1) := dk_172 (dk_at dksX0_print_0 20 rfl rfl)
abbrev cX0_word : ByteArray := method_13_code
def yX0_word : MethodName := ⟨RX0, "word", "(LRubberStamps;II[J)I"⟩
def dkwX0_word_0 : List UInt8 := [45, 3, 42, 27, 28, 182, 0, 49, 133, 80, 167, 0, 11, 58, 4, 4, 172, 58, 4, 5, 172, 3, 172]
abbrev dktX0_word_0 : List UInt8 := dkwX0_word_0 ++ []
theorem dksX0_word_0 : cX0_word.data.toList.drop 0 = dktX0_word_0 := by decide +kernel
theorem dX0_word_0 : decode cX0_word 0 = .ok (.aload_n 3, 1) := dk_45 (dk_at dksX0_word_0 0 rfl rfl)
theorem dX0_word_1 : decode cX0_word 1 = .ok (.iconst 0, 1) := dk_3 (dk_at dksX0_word_0 1 rfl rfl)
theorem dX0_word_2 : decode cX0_word 2 = .ok (.aload_n 0, 1) := dk_42 (dk_at dksX0_word_0 2 rfl rfl)
theorem dX0_word_3 : decode cX0_word 3 = .ok (.iload_n 1, 1) := dk_27 (dk_at dksX0_word_0 3 rfl rfl)
theorem dX0_word_4 : decode cX0_word 4 = .ok (.iload_n 2, 1) := dk_28 (dk_at dksX0_word_0 4 rfl rfl)
theorem dX0_word_5 : decode cX0_word 5 = .ok (.invokevirtual 49, 3) := dk_182 0 49 (dk_at dksX0_word_0 5 rfl rfl)
theorem dX0_word_8 : decode cX0_word 8 = .ok (.i2l, 1) := dk_133 (dk_at dksX0_word_0 8 rfl rfl)
theorem dX0_word_9 : decode cX0_word 9 = .ok (.lastore, 1) := dk_80 (dk_at dksX0_word_0 9 rfl rfl)
theorem dX0_word_10 : decode cX0_word 10 = .ok (.goto 11, 3) := dk_167 0 11 (dk_at dksX0_word_0 10 rfl rfl)
theorem dX0_word_13 : decode cX0_word 13 = .ok (.astore 4, 2) := dk_58 4 (dk_at dksX0_word_0 13 rfl rfl)
theorem dX0_word_15 : decode cX0_word 15 = .ok (.iconst 1, 1) := dk_4 (dk_at dksX0_word_0 15 rfl rfl)
theorem dX0_word_16 : decode cX0_word 16 = .ok (.ireturn, 1) := dk_172 (dk_at dksX0_word_0 16 rfl rfl)
theorem dX0_word_17 : decode cX0_word 17 = .ok (.astore 4, 2) := dk_58 4 (dk_at dksX0_word_0 17 rfl rfl)
theorem dX0_word_19 : decode cX0_word 19 = .ok (.iconst 2, 1) := dk_5 (dk_at dksX0_word_0 19 rfl rfl)
theorem dX0_word_20 : decode cX0_word 20 = .ok (.ireturn, 1) := dk_172 (dk_at dksX0_word_0 20 rfl rfl)
theorem dX0_word_21 : decode cX0_word 21 = .ok (.iconst 0, 1) := dk_3 (dk_at dksX0_word_0 21 rfl rfl)
theorem dX0_word_22 : decode cX0_word 22 = .ok (.ireturn, 1) := dk_172 (dk_at dksX0_word_0 22 rfl rfl)
abbrev cX0_letter : ByteArray := method_14_code
def yX0_letter : MethodName := ⟨RX0, "letter", "(LRubberStamps;II[J)I"⟩
def dkwX0_letter_0 : List UInt8 := [45, 3, 42, 27, 28, 182, 0, 52, 133, 80, 167, 0, 7, 58, 4, 4, 172, 3, 172]
abbrev dktX0_letter_0 : List UInt8 := dkwX0_letter_0 ++ []
theorem dksX0_letter_0 : cX0_letter.data.toList.drop 0 = dktX0_letter_0 := by decide +kernel
theorem dX0_letter_0 : decode cX0_letter 0 = .ok (.aload_n 3, 1) := dk_45 (dk_at dksX0_letter_0 0 rfl rfl)
theorem dX0_letter_1 : decode cX0_letter 1 = .ok (.iconst 0, 1) := dk_3 (dk_at dksX0_letter_0 1 rfl rfl)
theorem dX0_letter_2 : decode cX0_letter 2 = .ok (.aload_n 0, 1) := dk_42 (dk_at dksX0_letter_0 2 rfl rfl)
theorem dX0_letter_3 : decode cX0_letter 3 = .ok (.iload_n 1, 1) := dk_27 (dk_at dksX0_letter_0 3 rfl rfl)
theorem dX0_letter_4 : decode cX0_letter 4 = .ok (.iload_n 2, 1) := dk_28 (dk_at dksX0_letter_0 4 rfl rfl)
theorem dX0_letter_5 : decode cX0_letter 5 = .ok (.invokevirtual 52, 3) := dk_182 0 52 (dk_at dksX0_letter_0 5 rfl rfl)
theorem dX0_letter_8 : decode cX0_letter 8 = .ok (.i2l, 1) := dk_133 (dk_at dksX0_letter_0 8 rfl rfl)
theorem dX0_letter_9 : decode cX0_letter 9 = .ok (.lastore, 1) := dk_80 (dk_at dksX0_letter_0 9 rfl rfl)
theorem dX0_letter_10 : decode cX0_letter 10 = .ok (.goto 7, 3) := dk_167 0 7 (dk_at dksX0_letter_0 10 rfl rfl)
theorem dX0_letter_13 : decode cX0_letter 13 = .ok (.astore 4, 2) := dk_58 4 (dk_at dksX0_letter_0 13 rfl rfl)
theorem dX0_letter_15 : decode cX0_letter 15 = .ok (.iconst 1, 1) := dk_4 (dk_at dksX0_letter_0 15 rfl rfl)
theorem dX0_letter_16 : decode cX0_letter 16 = .ok (.ireturn, 1) := dk_172 (dk_at dksX0_letter_0 16 rfl rfl)
theorem dX0_letter_17 : decode cX0_letter 17 = .ok (.iconst 0, 1) := dk_3 (dk_at dksX0_letter_0 17 rfl rfl)
theorem dX0_letter_18 : decode cX0_letter 18 = .ok (.ireturn, 1) := dk_172 (dk_at dksX0_letter_0 18 rfl rfl)
abbrev cX0_press : ByteArray := method_15_code
def yX0_press : MethodName := ⟨RX0, "press", "(LRubberStamps;II[J)I"⟩
def dkwX0_press_0 : List UInt8 := [45, 3, 42, 27, 28, 182, 0, 55, 133, 80, 167, 0, 7, 58, 4, 4, 172, 3, 172]
abbrev dktX0_press_0 : List UInt8 := dkwX0_press_0 ++ []
theorem dksX0_press_0 : cX0_press.data.toList.drop 0 = dktX0_press_0 := by decide +kernel
theorem dX0_press_0 : decode cX0_press 0 = .ok (.aload_n 3, 1) := dk_45 (dk_at dksX0_press_0 0 rfl rfl)
theorem dX0_press_1 : decode cX0_press 1 = .ok (.iconst 0, 1) := dk_3 (dk_at dksX0_press_0 1 rfl rfl)
theorem dX0_press_2 : decode cX0_press 2 = .ok (.aload_n 0, 1) := dk_42 (dk_at dksX0_press_0 2 rfl rfl)
theorem dX0_press_3 : decode cX0_press 3 = .ok (.iload_n 1, 1) := dk_27 (dk_at dksX0_press_0 3 rfl rfl)
theorem dX0_press_4 : decode cX0_press 4 = .ok (.iload_n 2, 1) := dk_28 (dk_at dksX0_press_0 4 rfl rfl)
theorem dX0_press_5 : decode cX0_press 5 = .ok (.invokevirtual 55, 3) := dk_182 0 55 (dk_at dksX0_press_0 5 rfl rfl)
theorem dX0_press_8 : decode cX0_press 8 = .ok (.i2l, 1) := dk_133 (dk_at dksX0_press_0 8 rfl rfl)
theorem dX0_press_9 : decode cX0_press 9 = .ok (.lastore, 1) := dk_80 (dk_at dksX0_press_0 9 rfl rfl)
theorem dX0_press_10 : decode cX0_press 10 = .ok (.goto 7, 3) := dk_167 0 7 (dk_at dksX0_press_0 10 rfl rfl)
theorem dX0_press_13 : decode cX0_press 13 = .ok (.astore 4, 2) := dk_58 4 (dk_at dksX0_press_0 13 rfl rfl)
theorem dX0_press_15 : decode cX0_press 15 = .ok (.iconst 1, 1) := dk_4 (dk_at dksX0_press_0 15 rfl rfl)
theorem dX0_press_16 : decode cX0_press 16 = .ok (.ireturn, 1) := dk_172 (dk_at dksX0_press_0 16 rfl rfl)
theorem dX0_press_17 : decode cX0_press 17 = .ok (.iconst 0, 1) := dk_3 (dk_at dksX0_press_0 17 rfl rfl)
theorem dX0_press_18 : decode cX0_press 18 = .ok (.ireturn, 1) := dk_172 (dk_at dksX0_press_0 18 rfl rfl)
abbrev cX0_write : ByteArray := method_16_code
def yX0_write : MethodName := ⟨RX0, "write", "(LRubberStamps;I[J)I"⟩
def dkwX0_write_0 : List UInt8 := [44, 3, 42, 27, 182, 0, 58, 133, 80, 167, 0, 9, 78, 4, 172, 78, 5, 172, 3, 172]
abbrev dktX0_write_0 : List UInt8 := dkwX0_write_0 ++ []
theorem dksX0_write_0 : cX0_write.data.toList.drop 0 = dktX0_write_0 := by decide +kernel
theorem dX0_write_0 : decode cX0_write 0 = .ok (.aload_n 2, 1) := dk_44 (dk_at dksX0_write_0 0 rfl rfl)
theorem dX0_write_1 : decode cX0_write 1 = .ok (.iconst 0, 1) := dk_3 (dk_at dksX0_write_0 1 rfl rfl)
theorem dX0_write_2 : decode cX0_write 2 = .ok (.aload_n 0, 1) := dk_42 (dk_at dksX0_write_0 2 rfl rfl)
theorem dX0_write_3 : decode cX0_write 3 = .ok (.iload_n 1, 1) := dk_27 (dk_at dksX0_write_0 3 rfl rfl)
theorem dX0_write_4 : decode cX0_write 4 = .ok (.invokevirtual 58, 3) := dk_182 0 58 (dk_at dksX0_write_0 4 rfl rfl)
theorem dX0_write_7 : decode cX0_write 7 = .ok (.i2l, 1) := dk_133 (dk_at dksX0_write_0 7 rfl rfl)
theorem dX0_write_8 : decode cX0_write 8 = .ok (.lastore, 1) := dk_80 (dk_at dksX0_write_0 8 rfl rfl)
theorem dX0_write_9 : decode cX0_write 9 = .ok (.goto 9, 3) := dk_167 0 9 (dk_at dksX0_write_0 9 rfl rfl)
theorem dX0_write_12 : decode cX0_write 12 = .ok (.astore_n 3, 1) := dk_78 (dk_at dksX0_write_0 12 rfl rfl)
theorem dX0_write_13 : decode cX0_write 13 = .ok (.iconst 1, 1) := dk_4 (dk_at dksX0_write_0 13 rfl rfl)
theorem dX0_write_14 : decode cX0_write 14 = .ok (.ireturn, 1) := dk_172 (dk_at dksX0_write_0 14 rfl rfl)
theorem dX0_write_15 : decode cX0_write 15 = .ok (.astore_n 3, 1) := dk_78 (dk_at dksX0_write_0 15 rfl rfl)
theorem dX0_write_16 : decode cX0_write 16 = .ok (.iconst 2, 1) := dk_5 (dk_at dksX0_write_0 16 rfl rfl)
theorem dX0_write_17 : decode cX0_write 17 = .ok (.ireturn, 1) := dk_172 (dk_at dksX0_write_0 17 rfl rfl)
theorem dX0_write_18 : decode cX0_write 18 = .ok (.iconst 0, 1) := dk_3 (dk_at dksX0_write_0 18 rfl rfl)
theorem dX0_write_19 : decode cX0_write 19 = .ok (.ireturn, 1) := dk_172 (dk_at dksX0_write_0 19 rfl rfl)
abbrev cX0_needed : ByteArray := method_17_code
def yX0_needed : MethodName := ⟨RX0, "needed", "(LRubberStamps;I[J)I"⟩
def dkwX0_needed_0 : List UInt8 := [44, 3, 42, 27, 182, 0, 61, 133, 80, 167, 0, 6, 78, 4, 172, 3, 172]
abbrev dktX0_needed_0 : List UInt8 := dkwX0_needed_0 ++ []
theorem dksX0_needed_0 : cX0_needed.data.toList.drop 0 = dktX0_needed_0 := by decide +kernel
theorem dX0_needed_0 : decode cX0_needed 0 = .ok (.aload_n 2, 1) := dk_44 (dk_at dksX0_needed_0 0 rfl rfl)
theorem dX0_needed_1 : decode cX0_needed 1 = .ok (.iconst 0, 1) := dk_3 (dk_at dksX0_needed_0 1 rfl rfl)
theorem dX0_needed_2 : decode cX0_needed 2 = .ok (.aload_n 0, 1) := dk_42 (dk_at dksX0_needed_0 2 rfl rfl)
theorem dX0_needed_3 : decode cX0_needed 3 = .ok (.iload_n 1, 1) := dk_27 (dk_at dksX0_needed_0 3 rfl rfl)
theorem dX0_needed_4 : decode cX0_needed 4 = .ok (.invokevirtual 61, 3) := dk_182 0 61 (dk_at dksX0_needed_0 4 rfl rfl)
theorem dX0_needed_7 : decode cX0_needed 7 = .ok (.i2l, 1) := dk_133 (dk_at dksX0_needed_0 7 rfl rfl)
theorem dX0_needed_8 : decode cX0_needed 8 = .ok (.lastore, 1) := dk_80 (dk_at dksX0_needed_0 8 rfl rfl)
theorem dX0_needed_9 : decode cX0_needed 9 = .ok (.goto 6, 3) := dk_167 0 6 (dk_at dksX0_needed_0 9 rfl rfl)
theorem dX0_needed_12 : decode cX0_needed 12 = .ok (.astore_n 3, 1) := dk_78 (dk_at dksX0_needed_0 12 rfl rfl)
theorem dX0_needed_13 : decode cX0_needed 13 = .ok (.iconst 1, 1) := dk_4 (dk_at dksX0_needed_0 13 rfl rfl)
theorem dX0_needed_14 : decode cX0_needed 14 = .ok (.ireturn, 1) := dk_172 (dk_at dksX0_needed_0 14 rfl rfl)
theorem dX0_needed_15 : decode cX0_needed 15 = .ok (.iconst 0, 1) := dk_3 (dk_at dksX0_needed_0 15 rfl rfl)
theorem dX0_needed_16 : decode cX0_needed 16 = .ok (.ireturn, 1) := dk_172 (dk_at dksX0_needed_0 16 rfl rfl)
abbrev cX0_order : ByteArray := method_18_code
def yX0_order : MethodName := ⟨RX0, "order", "(LRubberStamps;I[J)I"⟩
def dkwX0_order_0 : List UInt8 := [44, 3, 42, 27, 182, 0, 64, 133, 80, 167, 0, 9, 78, 4, 172, 78, 5, 172, 3, 172]
abbrev dktX0_order_0 : List UInt8 := dkwX0_order_0 ++ []
theorem dksX0_order_0 : cX0_order.data.toList.drop 0 = dktX0_order_0 := by decide +kernel
theorem dX0_order_0 : decode cX0_order 0 = .ok (.aload_n 2, 1) := dk_44 (dk_at dksX0_order_0 0 rfl rfl)
theorem dX0_order_1 : decode cX0_order 1 = .ok (.iconst 0, 1) := dk_3 (dk_at dksX0_order_0 1 rfl rfl)
theorem dX0_order_2 : decode cX0_order 2 = .ok (.aload_n 0, 1) := dk_42 (dk_at dksX0_order_0 2 rfl rfl)
theorem dX0_order_3 : decode cX0_order 3 = .ok (.iload_n 1, 1) := dk_27 (dk_at dksX0_order_0 3 rfl rfl)
theorem dX0_order_4 : decode cX0_order 4 = .ok (.invokevirtual 64, 3) := dk_182 0 64 (dk_at dksX0_order_0 4 rfl rfl)
theorem dX0_order_7 : decode cX0_order 7 = .ok (.i2l, 1) := dk_133 (dk_at dksX0_order_0 7 rfl rfl)
theorem dX0_order_8 : decode cX0_order 8 = .ok (.lastore, 1) := dk_80 (dk_at dksX0_order_0 8 rfl rfl)
theorem dX0_order_9 : decode cX0_order 9 = .ok (.goto 9, 3) := dk_167 0 9 (dk_at dksX0_order_0 9 rfl rfl)
theorem dX0_order_12 : decode cX0_order 12 = .ok (.astore_n 3, 1) := dk_78 (dk_at dksX0_order_0 12 rfl rfl)
theorem dX0_order_13 : decode cX0_order 13 = .ok (.iconst 1, 1) := dk_4 (dk_at dksX0_order_0 13 rfl rfl)
theorem dX0_order_14 : decode cX0_order 14 = .ok (.ireturn, 1) := dk_172 (dk_at dksX0_order_0 14 rfl rfl)
theorem dX0_order_15 : decode cX0_order 15 = .ok (.astore_n 3, 1) := dk_78 (dk_at dksX0_order_0 15 rfl rfl)
theorem dX0_order_16 : decode cX0_order 16 = .ok (.iconst 2, 1) := dk_5 (dk_at dksX0_order_0 16 rfl rfl)
theorem dX0_order_17 : decode cX0_order 17 = .ok (.ireturn, 1) := dk_172 (dk_at dksX0_order_0 17 rfl rfl)
theorem dX0_order_18 : decode cX0_order 18 = .ok (.iconst 0, 1) := dk_3 (dk_at dksX0_order_0 18 rfl rfl)
theorem dX0_order_19 : decode cX0_order 19 = .ok (.ireturn, 1) := dk_172 (dk_at dksX0_order_0 19 rfl rfl)
abbrev cX0_bestCut : ByteArray := method_19_code
def yX0_bestCut : MethodName := ⟨RX0, "bestCut", "(LRubberStamps;II[J)I"⟩
def dkwX0_bestCut_0 : List UInt8 := [45, 3, 42, 27, 28, 182, 0, 67, 133, 80, 167, 0, 7, 58, 4, 4, 172, 3, 172]
abbrev dktX0_bestCut_0 : List UInt8 := dkwX0_bestCut_0 ++ []
theorem dksX0_bestCut_0 : cX0_bestCut.data.toList.drop 0 = dktX0_bestCut_0 := by decide +kernel
theorem dX0_bestCut_0 : decode cX0_bestCut 0 = .ok (.aload_n 3, 1) := dk_45 (dk_at dksX0_bestCut_0 0 rfl rfl)
theorem dX0_bestCut_1 : decode cX0_bestCut 1 = .ok (.iconst 0, 1) := dk_3 (dk_at dksX0_bestCut_0 1 rfl rfl)
theorem dX0_bestCut_2 : decode cX0_bestCut 2 = .ok (.aload_n 0, 1) := dk_42 (dk_at dksX0_bestCut_0 2 rfl rfl)
theorem dX0_bestCut_3 : decode cX0_bestCut 3 = .ok (.iload_n 1, 1) := dk_27 (dk_at dksX0_bestCut_0 3 rfl rfl)
theorem dX0_bestCut_4 : decode cX0_bestCut 4 = .ok (.iload_n 2, 1) := dk_28 (dk_at dksX0_bestCut_0 4 rfl rfl)
theorem dX0_bestCut_5 : decode cX0_bestCut 5 = .ok (.invokevirtual 67, 3) := dk_182 0 67 (dk_at dksX0_bestCut_0 5 rfl rfl)
theorem dX0_bestCut_8 : decode cX0_bestCut 8 = .ok (.i2l, 1) := dk_133 (dk_at dksX0_bestCut_0 8 rfl rfl)
theorem dX0_bestCut_9 : decode cX0_bestCut 9 = .ok (.lastore, 1) := dk_80 (dk_at dksX0_bestCut_0 9 rfl rfl)
theorem dX0_bestCut_10 : decode cX0_bestCut 10 = .ok (.goto 7, 3) := dk_167 0 7 (dk_at dksX0_bestCut_0 10 rfl rfl)
theorem dX0_bestCut_13 : decode cX0_bestCut 13 = .ok (.astore 4, 2) := dk_58 4 (dk_at dksX0_bestCut_0 13 rfl rfl)
theorem dX0_bestCut_15 : decode cX0_bestCut 15 = .ok (.iconst 1, 1) := dk_4 (dk_at dksX0_bestCut_0 15 rfl rfl)
theorem dX0_bestCut_16 : decode cX0_bestCut 16 = .ok (.ireturn, 1) := dk_172 (dk_at dksX0_bestCut_0 16 rfl rfl)
theorem dX0_bestCut_17 : decode cX0_bestCut 17 = .ok (.iconst 0, 1) := dk_3 (dk_at dksX0_bestCut_0 17 rfl rfl)
theorem dX0_bestCut_18 : decode cX0_bestCut 18 = .ok (.ireturn, 1) := dk_172 (dk_at dksX0_bestCut_0 18 rfl rfl)
abbrev cX0_undo : ByteArray := method_20_code
def yX0_undo : MethodName := ⟨RX0, "undo", "(LRubberStamps;[J)I"⟩
def dkwX0_undo_0 : List UInt8 := [43, 3, 42, 182, 0, 70, 133, 80, 167, 0, 6, 77, 4, 172, 3, 172]
abbrev dktX0_undo_0 : List UInt8 := dkwX0_undo_0 ++ []
theorem dksX0_undo_0 : cX0_undo.data.toList.drop 0 = dktX0_undo_0 := by decide +kernel
theorem dX0_undo_0 : decode cX0_undo 0 = .ok (.aload_n 1, 1) := dk_43 (dk_at dksX0_undo_0 0 rfl rfl)
theorem dX0_undo_1 : decode cX0_undo 1 = .ok (.iconst 0, 1) := dk_3 (dk_at dksX0_undo_0 1 rfl rfl)
theorem dX0_undo_2 : decode cX0_undo 2 = .ok (.aload_n 0, 1) := dk_42 (dk_at dksX0_undo_0 2 rfl rfl)
theorem dX0_undo_3 : decode cX0_undo 3 = .ok (.invokevirtual 70, 3) := dk_182 0 70 (dk_at dksX0_undo_0 3 rfl rfl)
theorem dX0_undo_6 : decode cX0_undo 6 = .ok (.i2l, 1) := dk_133 (dk_at dksX0_undo_0 6 rfl rfl)
theorem dX0_undo_7 : decode cX0_undo 7 = .ok (.lastore, 1) := dk_80 (dk_at dksX0_undo_0 7 rfl rfl)
theorem dX0_undo_8 : decode cX0_undo 8 = .ok (.goto 6, 3) := dk_167 0 6 (dk_at dksX0_undo_0 8 rfl rfl)
theorem dX0_undo_11 : decode cX0_undo 11 = .ok (.astore_n 2, 1) := dk_77 (dk_at dksX0_undo_0 11 rfl rfl)
theorem dX0_undo_12 : decode cX0_undo 12 = .ok (.iconst 1, 1) := dk_4 (dk_at dksX0_undo_0 12 rfl rfl)
theorem dX0_undo_13 : decode cX0_undo 13 = .ok (.ireturn, 1) := dk_172 (dk_at dksX0_undo_0 13 rfl rfl)
theorem dX0_undo_14 : decode cX0_undo 14 = .ok (.iconst 0, 1) := dk_3 (dk_at dksX0_undo_0 14 rfl rfl)
theorem dX0_undo_15 : decode cX0_undo 15 = .ok (.ireturn, 1) := dk_172 (dk_at dksX0_undo_0 15 rfl rfl)
theorem q61 : (Jvm.Cond.initialized "RubberStampsLaw") ∈ lw_all := lw_g (lw_at lw_m1 0 rfl) rfl
theorem q99 : (Jvm.Cond.classLink "RubberStampsLaw" (8 : Nat) "RubberStamps") ∈ lw_all := lw_g (lw_at lw_m1 38 rfl) rfl
theorem q101 : (Jvm.Cond.methodLink "RubberStampsLaw" (74 : Nat) ({ cls := "RubberStamps", name := "<init>", desc := "()V" } : Jvm.MethodName)) ∈ lw_all := lw_g (lw_at lw_m1 40 rfl) rfl
theorem q304 : (Jvm.Cond.methodLink "RubberStampsLaw" (87 : Nat) ({ cls := "RubberStamps", name := "clearText", desc := "()I" } : Jvm.MethodName)) ∈ lw_all := lw_g (lw_at lw_m2 3 rfl) rfl
theorem q308 : (Jvm.Cond.methodLink "RubberStampsLaw" (91 : Nat) ({ cls := "RubberStamps", name := "parse", desc := "()I" } : Jvm.MethodName)) ∈ lw_all := lw_g (lw_at lw_m2 7 rfl) rfl
theorem q946 : (Jvm.Cond.methodLink "RubberStampsLaw" (137 : Nat) ({ cls := "RubberStamps", name := "writeAll", desc := "()I" } : Jvm.MethodName)) ∈ lw_all := lw_g (lw_at lw_m4 165 rfl) rfl
theorem q1119 : (Jvm.Cond.methodLink "RubberStampsLaw" (141 : Nat) ({ cls := "RubberStamps", name := "fewest", desc := "()I" } : Jvm.MethodName)) ∈ lw_all := lw_g (lw_at lw_m5 98 rfl) rfl
theorem q1142 : (Jvm.Cond.methodLink "RubberStampsLaw" (151 : Nat) ({ cls := "RubberStamps", name := "leastCleanings", desc := "()I" } : Jvm.MethodName)) ∈ lw_all := lw_g (lw_at lw_m5 121 rfl) rfl
theorem q1160 : (Jvm.Cond.methodLink "RubberStampsLaw" (158 : Nat) ({ cls := "RubberStamps", name := "lettersPerPress", desc := "()D" } : Jvm.MethodName)) ∈ lw_all := lw_g (lw_at lw_m5 139 rfl) rfl
theorem q1167 : (Jvm.Cond.methodLink "RubberStampsLaw" (167 : Nat) ({ cls := "RubberStamps", name := "digest", desc := "()J" } : Jvm.MethodName)) ∈ lw_all := lw_g (lw_at lw_m5 146 rfl) rfl
theorem q1198 : (Jvm.Cond.methodLink "RubberStampsLaw" (78 : Nat) ({ cls := "RubberStampsLaw", name := "append", desc := "(LRubberStamps;I[J)I" } : Jvm.MethodName)) ∈ lw_all := lw_g (lw_at lw_m5 177 rfl) rfl
theorem q1199 : (Jvm.Cond.static ({ cls := "RubberStampsLaw", name := "append", desc := "(LRubberStamps;I[J)I" } : Jvm.MethodName)) ∈ lw_all := lw_g (lw_at lw_m5 178 rfl) rfl
theorem q1200 : (Jvm.Cond.codeWith ({ cls := "RubberStampsLaw", name := "append", desc := "(LRubberStamps;I[J)I" } : Jvm.MethodName) method_3_code (4 : Nat) (Option.some Jvm.ClassFile.FieldType.int) [((0 : Nat), (9 : Nat), (12 : Nat), (13 : Nat)), ((0 : Nat), (9 : Nat), (15 : Nat), (15 : Nat))]) ∈ lw_all := lw_g (lw_at lw_m5 179 rfl) rfl
theorem q1201 : (Jvm.Cond.classLink "RubberStampsLaw" (13 : Nat) "java/lang/IllegalArgumentException") ∈ lw_all := lw_g (lw_at lw_m5 180 rfl) rfl
theorem q1202 : (Jvm.Cond.classLink "RubberStampsLaw" (15 : Nat) "java/lang/IllegalStateException") ∈ lw_all := lw_g (lw_at lw_m5 181 rfl) rfl
theorem q1203 : (Jvm.Cond.methodLink "RubberStampsLaw" (7 : Nat) ({ cls := "RubberStamps", name := "append", desc := "(I)I" } : Jvm.MethodName)) ∈ lw_all := lw_g (lw_at lw_m5 182 rfl) rfl
theorem q1222 : (Jvm.Cond.methodLink "RubberStampsLaw" (95 : Nat) ({ cls := "RubberStampsLaw", name := "cut", desc := "(LRubberStamps;III[J)I" } : Jvm.MethodName)) ∈ lw_all := lw_g (lw_at lw_m5 201 rfl) rfl
theorem q1223 : (Jvm.Cond.static ({ cls := "RubberStampsLaw", name := "cut", desc := "(LRubberStamps;III[J)I" } : Jvm.MethodName)) ∈ lw_all := lw_g (lw_at lw_m5 202 rfl) rfl
theorem q1224 : (Jvm.Cond.codeWith ({ cls := "RubberStampsLaw", name := "cut", desc := "(LRubberStamps;III[J)I" } : Jvm.MethodName) method_4_code (6 : Nat) (Option.some Jvm.ClassFile.FieldType.int) [((0 : Nat), (12 : Nat), (15 : Nat), (21 : Nat)), ((0 : Nat), (12 : Nat), (19 : Nat), (13 : Nat)), ((0 : Nat), (12 : Nat), (23 : Nat), (15 : Nat))]) ∈ lw_all := lw_g (lw_at lw_m5 203 rfl) rfl
theorem q1225 : (Jvm.Cond.classLink "RubberStampsLaw" (21 : Nat) "java/lang/IndexOutOfBoundsException") ∈ lw_all := lw_g (lw_at lw_m5 204 rfl) rfl
theorem q1244 : (Jvm.Cond.methodLink "RubberStampsLaw" (17 : Nat) ({ cls := "RubberStamps", name := "cut", desc := "(III)I" } : Jvm.MethodName)) ∈ lw_all := lw_g (lw_at lw_m5 223 rfl) rfl
theorem q1293 : (Jvm.Cond.methodLink "RubberStampsLaw" (99 : Nat) ({ cls := "RubberStampsLaw", name := "remove", desc := "(LRubberStamps;I[J)I" } : Jvm.MethodName)) ∈ lw_all := lw_g (lw_at lw_m6 32 rfl) rfl
theorem q1294 : (Jvm.Cond.static ({ cls := "RubberStampsLaw", name := "remove", desc := "(LRubberStamps;I[J)I" } : Jvm.MethodName)) ∈ lw_all := lw_g (lw_at lw_m6 33 rfl) rfl
theorem q1295 : (Jvm.Cond.codeWith ({ cls := "RubberStampsLaw", name := "remove", desc := "(LRubberStamps;I[J)I" } : Jvm.MethodName) method_5_code (4 : Nat) (Option.some Jvm.ClassFile.FieldType.int) [((0 : Nat), (9 : Nat), (12 : Nat), (21 : Nat))]) ∈ lw_all := lw_g (lw_at lw_m6 34 rfl) rfl
theorem q1296 : (Jvm.Cond.methodLink "RubberStampsLaw" (23 : Nat) ({ cls := "RubberStamps", name := "remove", desc := "(I)I" } : Jvm.MethodName)) ∈ lw_all := lw_g (lw_at lw_m6 35 rfl) rfl
theorem q1316 : (Jvm.Cond.methodLink "RubberStampsLaw" (102 : Nat) ({ cls := "RubberStampsLaw", name := "drop", desc := "(LRubberStamps;I[J)I" } : Jvm.MethodName)) ∈ lw_all := lw_g (lw_at lw_m6 55 rfl) rfl
theorem q1317 : (Jvm.Cond.static ({ cls := "RubberStampsLaw", name := "drop", desc := "(LRubberStamps;I[J)I" } : Jvm.MethodName)) ∈ lw_all := lw_g (lw_at lw_m6 56 rfl) rfl
theorem q1318 : (Jvm.Cond.codeWith ({ cls := "RubberStampsLaw", name := "drop", desc := "(LRubberStamps;I[J)I" } : Jvm.MethodName) method_6_code (4 : Nat) (Option.some Jvm.ClassFile.FieldType.int) [((0 : Nat), (9 : Nat), (12 : Nat), (21 : Nat))]) ∈ lw_all := lw_g (lw_at lw_m6 57 rfl) rfl
theorem q1319 : (Jvm.Cond.methodLink "RubberStampsLaw" (26 : Nat) ({ cls := "RubberStamps", name := "drop", desc := "(I)I" } : Jvm.MethodName)) ∈ lw_all := lw_g (lw_at lw_m6 58 rfl) rfl
theorem q1323 : (Jvm.Cond.methodLink "RubberStampsLaw" (105 : Nat) ({ cls := "RubberStampsLaw", name := "setColor", desc := "(LRubberStamps;II[J)I" } : Jvm.MethodName)) ∈ lw_all := lw_g (lw_at lw_m6 62 rfl) rfl
theorem q1324 : (Jvm.Cond.static ({ cls := "RubberStampsLaw", name := "setColor", desc := "(LRubberStamps;II[J)I" } : Jvm.MethodName)) ∈ lw_all := lw_g (lw_at lw_m6 63 rfl) rfl
theorem q1325 : (Jvm.Cond.codeWith ({ cls := "RubberStampsLaw", name := "setColor", desc := "(LRubberStamps;II[J)I" } : Jvm.MethodName) method_7_code (5 : Nat) (Option.some Jvm.ClassFile.FieldType.int) [((0 : Nat), (10 : Nat), (13 : Nat), (21 : Nat)), ((0 : Nat), (10 : Nat), (17 : Nat), (13 : Nat))]) ∈ lw_all := lw_g (lw_at lw_m6 64 rfl) rfl
theorem q1326 : (Jvm.Cond.methodLink "RubberStampsLaw" (29 : Nat) ({ cls := "RubberStamps", name := "setColor", desc := "(II)I" } : Jvm.MethodName)) ∈ lw_all := lw_g (lw_at lw_m6 65 rfl) rfl
theorem q1330 : (Jvm.Cond.methodLink "RubberStampsLaw" (109 : Nat) ({ cls := "RubberStampsLaw", name := "setLimits", desc := "(LRubberStamps;II[J)I" } : Jvm.MethodName)) ∈ lw_all := lw_g (lw_at lw_m6 69 rfl) rfl
theorem q1331 : (Jvm.Cond.static ({ cls := "RubberStampsLaw", name := "setLimits", desc := "(LRubberStamps;II[J)I" } : Jvm.MethodName)) ∈ lw_all := lw_g (lw_at lw_m6 70 rfl) rfl
theorem q1332 : (Jvm.Cond.codeWith ({ cls := "RubberStampsLaw", name := "setLimits", desc := "(LRubberStamps;II[J)I" } : Jvm.MethodName) method_8_code (5 : Nat) (Option.some Jvm.ClassFile.FieldType.int) [((0 : Nat), (10 : Nat), (13 : Nat), (13 : Nat))]) ∈ lw_all := lw_g (lw_at lw_m6 71 rfl) rfl
theorem q1333 : (Jvm.Cond.methodLink "RubberStampsLaw" (33 : Nat) ({ cls := "RubberStamps", name := "setLimits", desc := "(II)I" } : Jvm.MethodName)) ∈ lw_all := lw_g (lw_at lw_m6 72 rfl) rfl
theorem q1337 : (Jvm.Cond.methodLink "RubberStampsLaw" (112 : Nat) ({ cls := "RubberStampsLaw", name := "clean", desc := "(LRubberStamps;I[J)I" } : Jvm.MethodName)) ∈ lw_all := lw_g (lw_at lw_m6 76 rfl) rfl
theorem q1338 : (Jvm.Cond.static ({ cls := "RubberStampsLaw", name := "clean", desc := "(LRubberStamps;I[J)I" } : Jvm.MethodName)) ∈ lw_all := lw_g (lw_at lw_m6 77 rfl) rfl
theorem q1339 : (Jvm.Cond.codeWith ({ cls := "RubberStampsLaw", name := "clean", desc := "(LRubberStamps;I[J)I" } : Jvm.MethodName) method_9_code (4 : Nat) (Option.some Jvm.ClassFile.FieldType.int) [((0 : Nat), (9 : Nat), (12 : Nat), (21 : Nat))]) ∈ lw_all := lw_g (lw_at lw_m6 78 rfl) rfl
theorem q1340 : (Jvm.Cond.methodLink "RubberStampsLaw" (36 : Nat) ({ cls := "RubberStamps", name := "clean", desc := "(I)I" } : Jvm.MethodName)) ∈ lw_all := lw_g (lw_at lw_m6 79 rfl) rfl
theorem q1348 : (Jvm.Cond.methodLink "RubberStampsLaw" (115 : Nat) ({ cls := "RubberStampsLaw", name := "value", desc := "(LRubberStamps;I[J)I" } : Jvm.MethodName)) ∈ lw_all := lw_g (lw_at lw_m6 87 rfl) rfl
theorem q1349 : (Jvm.Cond.static ({ cls := "RubberStampsLaw", name := "value", desc := "(LRubberStamps;I[J)I" } : Jvm.MethodName)) ∈ lw_all := lw_g (lw_at lw_m6 88 rfl) rfl
theorem q1350 : (Jvm.Cond.codeWith ({ cls := "RubberStampsLaw", name := "value", desc := "(LRubberStamps;I[J)I" } : Jvm.MethodName) method_10_code (4 : Nat) (Option.some Jvm.ClassFile.FieldType.int) [((0 : Nat), (9 : Nat), (12 : Nat), (13 : Nat))]) ∈ lw_all := lw_g (lw_at lw_m6 89 rfl) rfl
theorem q1351 : (Jvm.Cond.methodLink "RubberStampsLaw" (39 : Nat) ({ cls := "RubberStamps", name := "value", desc := "(I)I" } : Jvm.MethodName)) ∈ lw_all := lw_g (lw_at lw_m6 90 rfl) rfl
theorem q1355 : (Jvm.Cond.methodLink "RubberStampsLaw" (118 : Nat) ({ cls := "RubberStampsLaw", name := "stamp", desc := "(LRubberStamps;II[J)I" } : Jvm.MethodName)) ∈ lw_all := lw_g (lw_at lw_m6 94 rfl) rfl
theorem q1356 : (Jvm.Cond.static ({ cls := "RubberStampsLaw", name := "stamp", desc := "(LRubberStamps;II[J)I" } : Jvm.MethodName)) ∈ lw_all := lw_g (lw_at lw_m6 95 rfl) rfl
theorem q1357 : (Jvm.Cond.codeWith ({ cls := "RubberStampsLaw", name := "stamp", desc := "(LRubberStamps;II[J)I" } : Jvm.MethodName) method_11_code (5 : Nat) (Option.some Jvm.ClassFile.FieldType.int) [((0 : Nat), (10 : Nat), (13 : Nat), (21 : Nat)), ((0 : Nat), (10 : Nat), (17 : Nat), (13 : Nat))]) ∈ lw_all := lw_g (lw_at lw_m6 96 rfl) rfl
theorem q1358 : (Jvm.Cond.methodLink "RubberStampsLaw" (42 : Nat) ({ cls := "RubberStamps", name := "stamp", desc := "(II)I" } : Jvm.MethodName)) ∈ lw_all := lw_g (lw_at lw_m6 97 rfl) rfl
theorem q1362 : (Jvm.Cond.methodLink "RubberStampsLaw" (121 : Nat) ({ cls := "RubberStampsLaw", name := "print", desc := "(LRubberStamps;IIZ[J)I" } : Jvm.MethodName)) ∈ lw_all := lw_g (lw_at lw_m6 101 rfl) rfl
theorem q1363 : (Jvm.Cond.static ({ cls := "RubberStampsLaw", name := "print", desc := "(LRubberStamps;IIZ[J)I" } : Jvm.MethodName)) ∈ lw_all := lw_g (lw_at lw_m6 102 rfl) rfl
theorem q1364 : (Jvm.Cond.codeWith ({ cls := "RubberStampsLaw", name := "print", desc := "(LRubberStamps;IIZ[J)I" } : Jvm.MethodName) method_12_code (6 : Nat) (Option.some Jvm.ClassFile.FieldType.int) [((0 : Nat), (12 : Nat), (15 : Nat), (21 : Nat))]) ∈ lw_all := lw_g (lw_at lw_m6 103 rfl) rfl
theorem q1365 : (Jvm.Cond.methodLink "RubberStampsLaw" (45 : Nat) ({ cls := "RubberStamps", name := "print", desc := "(IIZ)I" } : Jvm.MethodName)) ∈ lw_all := lw_g (lw_at lw_m6 104 rfl) rfl
theorem q1369 : (Jvm.Cond.methodLink "RubberStampsLaw" (125 : Nat) ({ cls := "RubberStampsLaw", name := "word", desc := "(LRubberStamps;II[J)I" } : Jvm.MethodName)) ∈ lw_all := lw_g (lw_at lw_m6 108 rfl) rfl
theorem q1370 : (Jvm.Cond.static ({ cls := "RubberStampsLaw", name := "word", desc := "(LRubberStamps;II[J)I" } : Jvm.MethodName)) ∈ lw_all := lw_g (lw_at lw_m6 109 rfl) rfl
theorem q1371 : (Jvm.Cond.codeWith ({ cls := "RubberStampsLaw", name := "word", desc := "(LRubberStamps;II[J)I" } : Jvm.MethodName) method_13_code (5 : Nat) (Option.some Jvm.ClassFile.FieldType.int) [((0 : Nat), (10 : Nat), (13 : Nat), (21 : Nat)), ((0 : Nat), (10 : Nat), (17 : Nat), (13 : Nat))]) ∈ lw_all := lw_g (lw_at lw_m6 110 rfl) rfl
theorem q1372 : (Jvm.Cond.methodLink "RubberStampsLaw" (49 : Nat) ({ cls := "RubberStamps", name := "word", desc := "(II)I" } : Jvm.MethodName)) ∈ lw_all := lw_g (lw_at lw_m6 111 rfl) rfl
theorem q1376 : (Jvm.Cond.methodLink "RubberStampsLaw" (128 : Nat) ({ cls := "RubberStampsLaw", name := "letter", desc := "(LRubberStamps;II[J)I" } : Jvm.MethodName)) ∈ lw_all := lw_g (lw_at lw_m6 115 rfl) rfl
theorem q1377 : (Jvm.Cond.static ({ cls := "RubberStampsLaw", name := "letter", desc := "(LRubberStamps;II[J)I" } : Jvm.MethodName)) ∈ lw_all := lw_g (lw_at lw_m6 116 rfl) rfl
theorem q1378 : (Jvm.Cond.codeWith ({ cls := "RubberStampsLaw", name := "letter", desc := "(LRubberStamps;II[J)I" } : Jvm.MethodName) method_14_code (5 : Nat) (Option.some Jvm.ClassFile.FieldType.int) [((0 : Nat), (10 : Nat), (13 : Nat), (21 : Nat))]) ∈ lw_all := lw_g (lw_at lw_m6 117 rfl) rfl
theorem q1379 : (Jvm.Cond.methodLink "RubberStampsLaw" (52 : Nat) ({ cls := "RubberStamps", name := "letter", desc := "(II)I" } : Jvm.MethodName)) ∈ lw_all := lw_g (lw_at lw_m6 118 rfl) rfl
theorem q1383 : (Jvm.Cond.methodLink "RubberStampsLaw" (131 : Nat) ({ cls := "RubberStampsLaw", name := "press", desc := "(LRubberStamps;II[J)I" } : Jvm.MethodName)) ∈ lw_all := lw_g (lw_at lw_m6 122 rfl) rfl
theorem q1384 : (Jvm.Cond.static ({ cls := "RubberStampsLaw", name := "press", desc := "(LRubberStamps;II[J)I" } : Jvm.MethodName)) ∈ lw_all := lw_g (lw_at lw_m6 123 rfl) rfl
theorem q1385 : (Jvm.Cond.codeWith ({ cls := "RubberStampsLaw", name := "press", desc := "(LRubberStamps;II[J)I" } : Jvm.MethodName) method_15_code (5 : Nat) (Option.some Jvm.ClassFile.FieldType.int) [((0 : Nat), (10 : Nat), (13 : Nat), (21 : Nat))]) ∈ lw_all := lw_g (lw_at lw_m6 124 rfl) rfl
theorem q1386 : (Jvm.Cond.methodLink "RubberStampsLaw" (55 : Nat) ({ cls := "RubberStamps", name := "press", desc := "(II)I" } : Jvm.MethodName)) ∈ lw_all := lw_g (lw_at lw_m6 125 rfl) rfl
theorem q1390 : (Jvm.Cond.methodLink "RubberStampsLaw" (134 : Nat) ({ cls := "RubberStampsLaw", name := "write", desc := "(LRubberStamps;I[J)I" } : Jvm.MethodName)) ∈ lw_all := lw_g (lw_at lw_m6 129 rfl) rfl
theorem q1391 : (Jvm.Cond.static ({ cls := "RubberStampsLaw", name := "write", desc := "(LRubberStamps;I[J)I" } : Jvm.MethodName)) ∈ lw_all := lw_g (lw_at lw_m6 130 rfl) rfl
theorem q1392 : (Jvm.Cond.codeWith ({ cls := "RubberStampsLaw", name := "write", desc := "(LRubberStamps;I[J)I" } : Jvm.MethodName) method_16_code (4 : Nat) (Option.some Jvm.ClassFile.FieldType.int) [((0 : Nat), (9 : Nat), (12 : Nat), (21 : Nat)), ((0 : Nat), (9 : Nat), (15 : Nat), (15 : Nat))]) ∈ lw_all := lw_g (lw_at lw_m6 131 rfl) rfl
theorem q1393 : (Jvm.Cond.methodLink "RubberStampsLaw" (58 : Nat) ({ cls := "RubberStamps", name := "write", desc := "(I)I" } : Jvm.MethodName)) ∈ lw_all := lw_g (lw_at lw_m6 132 rfl) rfl
theorem q1397 : (Jvm.Cond.methodLink "RubberStampsLaw" (145 : Nat) ({ cls := "RubberStampsLaw", name := "needed", desc := "(LRubberStamps;I[J)I" } : Jvm.MethodName)) ∈ lw_all := lw_g (lw_at lw_m6 136 rfl) rfl
theorem q1398 : (Jvm.Cond.static ({ cls := "RubberStampsLaw", name := "needed", desc := "(LRubberStamps;I[J)I" } : Jvm.MethodName)) ∈ lw_all := lw_g (lw_at lw_m6 137 rfl) rfl
theorem q1399 : (Jvm.Cond.codeWith ({ cls := "RubberStampsLaw", name := "needed", desc := "(LRubberStamps;I[J)I" } : Jvm.MethodName) method_17_code (4 : Nat) (Option.some Jvm.ClassFile.FieldType.int) [((0 : Nat), (9 : Nat), (12 : Nat), (21 : Nat))]) ∈ lw_all := lw_g (lw_at lw_m6 138 rfl) rfl
theorem q1400 : (Jvm.Cond.methodLink "RubberStampsLaw" (61 : Nat) ({ cls := "RubberStamps", name := "needed", desc := "(I)I" } : Jvm.MethodName)) ∈ lw_all := lw_g (lw_at lw_m6 139 rfl) rfl
theorem q1404 : (Jvm.Cond.methodLink "RubberStampsLaw" (148 : Nat) ({ cls := "RubberStampsLaw", name := "order", desc := "(LRubberStamps;I[J)I" } : Jvm.MethodName)) ∈ lw_all := lw_g (lw_at lw_m6 143 rfl) rfl
theorem q1405 : (Jvm.Cond.static ({ cls := "RubberStampsLaw", name := "order", desc := "(LRubberStamps;I[J)I" } : Jvm.MethodName)) ∈ lw_all := lw_g (lw_at lw_m6 144 rfl) rfl
theorem q1406 : (Jvm.Cond.codeWith ({ cls := "RubberStampsLaw", name := "order", desc := "(LRubberStamps;I[J)I" } : Jvm.MethodName) method_18_code (4 : Nat) (Option.some Jvm.ClassFile.FieldType.int) [((0 : Nat), (9 : Nat), (12 : Nat), (21 : Nat)), ((0 : Nat), (9 : Nat), (15 : Nat), (15 : Nat))]) ∈ lw_all := lw_g (lw_at lw_m6 145 rfl) rfl
theorem q1407 : (Jvm.Cond.methodLink "RubberStampsLaw" (64 : Nat) ({ cls := "RubberStamps", name := "order", desc := "(I)I" } : Jvm.MethodName)) ∈ lw_all := lw_g (lw_at lw_m6 146 rfl) rfl
theorem q1411 : (Jvm.Cond.methodLink "RubberStampsLaw" (155 : Nat) ({ cls := "RubberStampsLaw", name := "bestCut", desc := "(LRubberStamps;II[J)I" } : Jvm.MethodName)) ∈ lw_all := lw_g (lw_at lw_m6 150 rfl) rfl
theorem q1412 : (Jvm.Cond.static ({ cls := "RubberStampsLaw", name := "bestCut", desc := "(LRubberStamps;II[J)I" } : Jvm.MethodName)) ∈ lw_all := lw_g (lw_at lw_m6 151 rfl) rfl
theorem q1413 : (Jvm.Cond.codeWith ({ cls := "RubberStampsLaw", name := "bestCut", desc := "(LRubberStamps;II[J)I" } : Jvm.MethodName) method_19_code (5 : Nat) (Option.some Jvm.ClassFile.FieldType.int) [((0 : Nat), (10 : Nat), (13 : Nat), (13 : Nat))]) ∈ lw_all := lw_g (lw_at lw_m6 152 rfl) rfl
theorem q1414 : (Jvm.Cond.methodLink "RubberStampsLaw" (67 : Nat) ({ cls := "RubberStamps", name := "bestCut", desc := "(II)I" } : Jvm.MethodName)) ∈ lw_all := lw_g (lw_at lw_m6 153 rfl) rfl
theorem q1429 : (Jvm.Cond.methodLink "RubberStampsLaw" (163 : Nat) ({ cls := "RubberStampsLaw", name := "undo", desc := "(LRubberStamps;[J)I" } : Jvm.MethodName)) ∈ lw_all := lw_g (lw_at lw_m6 168 rfl) rfl
theorem q1430 : (Jvm.Cond.static ({ cls := "RubberStampsLaw", name := "undo", desc := "(LRubberStamps;[J)I" } : Jvm.MethodName)) ∈ lw_all := lw_g (lw_at lw_m6 169 rfl) rfl
theorem q1431 : (Jvm.Cond.codeWith ({ cls := "RubberStampsLaw", name := "undo", desc := "(LRubberStamps;[J)I" } : Jvm.MethodName) method_20_code (3 : Nat) (Option.some Jvm.ClassFile.FieldType.int) [((0 : Nat), (8 : Nat), (11 : Nat), (15 : Nat))]) ∈ lw_all := lw_g (lw_at lw_m6 170 rfl) rfl
theorem q1432 : (Jvm.Cond.methodLink "RubberStampsLaw" (70 : Nat) ({ cls := "RubberStamps", name := "undo", desc := "()I" } : Jvm.MethodName)) ∈ lw_all := lw_g (lw_at lw_m6 171 rfl) rfl
theorem q1451 : (Jvm.Cond.classLink "RubberStampsLaw" (75 : Nat) "RubberStampsModel") ∈ lw_all := lw_g (lw_at lw_m6 190 rfl) rfl
theorem q1453 : (Jvm.Cond.methodLink "RubberStampsLaw" (77 : Nat) ({ cls := "RubberStampsModel", name := "<init>", desc := "()V" } : Jvm.MethodName)) ∈ lw_all := lw_g (lw_at lw_m6 192 rfl) rfl
theorem q1512 : (Jvm.Cond.methodLink "RubberStampsLaw" (84 : Nat) ({ cls := "RubberStampsModel", name := "thrown", desc := "()I" } : Jvm.MethodName)) ∈ lw_all := lw_g (lw_at lw_m7 11 rfl) rfl
theorem q1516 : (Jvm.Cond.methodLink "RubberStampsLaw" (166 : Nat) ({ cls := "RubberStampsModel", name := "undo", desc := "()I" } : Jvm.MethodName)) ∈ lw_all := lw_g (lw_at lw_m7 15 rfl) rfl
theorem q1524 : (Jvm.Cond.methodLink "RubberStampsLaw" (83 : Nat) ({ cls := "RubberStampsModel", name := "append", desc := "(I)I" } : Jvm.MethodName)) ∈ lw_all := lw_g (lw_at lw_m7 23 rfl) rfl
theorem q1531 : (Jvm.Cond.methodLink "RubberStampsLaw" (90 : Nat) ({ cls := "RubberStampsModel", name := "clearText", desc := "()I" } : Jvm.MethodName)) ∈ lw_all := lw_g (lw_at lw_m7 30 rfl) rfl
theorem q1535 : (Jvm.Cond.methodLink "RubberStampsLaw" (94 : Nat) ({ cls := "RubberStampsModel", name := "parse", desc := "()I" } : Jvm.MethodName)) ∈ lw_all := lw_g (lw_at lw_m7 34 rfl) rfl
theorem q1573 : (Jvm.Cond.methodLink "RubberStampsLaw" (98 : Nat) ({ cls := "RubberStampsModel", name := "cut", desc := "(III)I" } : Jvm.MethodName)) ∈ lw_all := lw_g (lw_at lw_m7 72 rfl) rfl
theorem q1589 : (Jvm.Cond.methodLink "RubberStampsLaw" (101 : Nat) ({ cls := "RubberStampsModel", name := "remove", desc := "(I)I" } : Jvm.MethodName)) ∈ lw_all := lw_g (lw_at lw_m7 88 rfl) rfl
theorem q1597 : (Jvm.Cond.methodLink "RubberStampsLaw" (104 : Nat) ({ cls := "RubberStampsModel", name := "drop", desc := "(I)I" } : Jvm.MethodName)) ∈ lw_all := lw_g (lw_at lw_m7 96 rfl) rfl
theorem q1601 : (Jvm.Cond.methodLink "RubberStampsLaw" (108 : Nat) ({ cls := "RubberStampsModel", name := "setColor", desc := "(II)I" } : Jvm.MethodName)) ∈ lw_all := lw_g (lw_at lw_m7 100 rfl) rfl
theorem q1605 : (Jvm.Cond.methodLink "RubberStampsLaw" (111 : Nat) ({ cls := "RubberStampsModel", name := "setLimits", desc := "(II)I" } : Jvm.MethodName)) ∈ lw_all := lw_g (lw_at lw_m7 104 rfl) rfl
theorem q1609 : (Jvm.Cond.methodLink "RubberStampsLaw" (114 : Nat) ({ cls := "RubberStampsModel", name := "clean", desc := "(I)I" } : Jvm.MethodName)) ∈ lw_all := lw_g (lw_at lw_m7 108 rfl) rfl
theorem q1613 : (Jvm.Cond.methodLink "RubberStampsLaw" (117 : Nat) ({ cls := "RubberStampsModel", name := "value", desc := "(I)I" } : Jvm.MethodName)) ∈ lw_all := lw_g (lw_at lw_m7 112 rfl) rfl
theorem q1660 : (Jvm.Cond.methodLink "RubberStampsLaw" (120 : Nat) ({ cls := "RubberStampsModel", name := "stamp", desc := "(II)I" } : Jvm.MethodName)) ∈ lw_all := lw_g (lw_at lw_m7 159 rfl) rfl
theorem q1668 : (Jvm.Cond.methodLink "RubberStampsLaw" (124 : Nat) ({ cls := "RubberStampsModel", name := "print", desc := "(IIZ)I" } : Jvm.MethodName)) ∈ lw_all := lw_g (lw_at lw_m7 167 rfl) rfl
theorem q1672 : (Jvm.Cond.methodLink "RubberStampsLaw" (127 : Nat) ({ cls := "RubberStampsModel", name := "word", desc := "(II)I" } : Jvm.MethodName)) ∈ lw_all := lw_g (lw_at lw_m7 171 rfl) rfl
theorem q1696 : (Jvm.Cond.methodLink "RubberStampsLaw" (130 : Nat) ({ cls := "RubberStampsModel", name := "letter", desc := "(II)I" } : Jvm.MethodName)) ∈ lw_all := lw_g (lw_at lw_m7 195 rfl) rfl
theorem q1700 : (Jvm.Cond.methodLink "RubberStampsLaw" (133 : Nat) ({ cls := "RubberStampsModel", name := "press", desc := "(II)I" } : Jvm.MethodName)) ∈ lw_all := lw_g (lw_at lw_m7 199 rfl) rfl
theorem q1704 : (Jvm.Cond.methodLink "RubberStampsLaw" (136 : Nat) ({ cls := "RubberStampsModel", name := "write", desc := "(I)I" } : Jvm.MethodName)) ∈ lw_all := lw_g (lw_at lw_m7 203 rfl) rfl
theorem q1708 : (Jvm.Cond.methodLink "RubberStampsLaw" (140 : Nat) ({ cls := "RubberStampsModel", name := "writeAll", desc := "()I" } : Jvm.MethodName)) ∈ lw_all := lw_g (lw_at lw_m7 207 rfl) rfl
theorem q1712 : (Jvm.Cond.methodLink "RubberStampsLaw" (144 : Nat) ({ cls := "RubberStampsModel", name := "fewest", desc := "()I" } : Jvm.MethodName)) ∈ lw_all := lw_g (lw_at lw_m7 211 rfl) rfl
theorem q1727 : (Jvm.Cond.methodLink "RubberStampsLaw" (147 : Nat) ({ cls := "RubberStampsModel", name := "needed", desc := "(I)I" } : Jvm.MethodName)) ∈ lw_all := lw_g (lw_at lw_m7 226 rfl) rfl
theorem q1731 : (Jvm.Cond.methodLink "RubberStampsLaw" (150 : Nat) ({ cls := "RubberStampsModel", name := "order", desc := "(I)I" } : Jvm.MethodName)) ∈ lw_all := lw_g (lw_at lw_m7 230 rfl) rfl
theorem q1751 : (Jvm.Cond.methodLink "RubberStampsLaw" (154 : Nat) ({ cls := "RubberStampsModel", name := "leastCleanings", desc := "()I" } : Jvm.MethodName)) ∈ lw_all := lw_g (lw_at lw_m8 10 rfl) rfl
theorem q1755 : (Jvm.Cond.methodLink "RubberStampsLaw" (157 : Nat) ({ cls := "RubberStampsModel", name := "bestCut", desc := "(II)I" } : Jvm.MethodName)) ∈ lw_all := lw_g (lw_at lw_m8 14 rfl) rfl
theorem q1767 : (Jvm.Cond.methodLink "RubberStampsLaw" (162 : Nat) ({ cls := "RubberStampsModel", name := "lettersPerPress", desc := "()D" } : Jvm.MethodName)) ∈ lw_all := lw_g (lw_at lw_m8 26 rfl) rfl
theorem q1771 : (Jvm.Cond.methodLink "RubberStampsLaw" (171 : Nat) ({ cls := "RubberStampsModel", name := "digest", desc := "()J" } : Jvm.MethodName)) ∈ lw_all := lw_g (lw_at lw_m8 30 rfl) rfl
/-! the law's own entry -/
set_option maxRecDepth 100000
abbrev cL_law : ByteArray := code
def dkwL_law_58 : List UInt8 := [172]
abbrev dktL_law_58 : List UInt8 := dkwL_law_58 ++ []
def dkwL_law_57 : List UInt8 := [167, 0, 17, 43, 182, 0, 167, 44, 182, 0, 171, 148, 153, 0, 5, 3, 172, 132, 4, 4, 167, 250, 140, 4]
abbrev dktL_law_57 : List UInt8 := dkwL_law_57 ++ dktL_law_58
def dkwL_law_56 : List UInt8 := [159, 0, 5, 3, 172, 21, 5, 154, 0, 15, 45, 3, 47, 21, 6, 133, 148, 153, 0, 5, 3, 172]
abbrev dktL_law_56 : List UInt8 := dkwL_law_56 ++ dktL_law_57
def dkwL_law_55 : List UInt8 := [167, 0, 61, 43, 45, 184, 0, 163, 54, 5, 44, 182, 0, 166, 54, 6, 44, 182, 0, 84, 21, 5]
abbrev dktL_law_55 : List UInt8 := dkwL_law_55 ++ dktL_law_56
def dkwL_law_54 : List UInt8 := [151, 153, 0, 21, 24, 5, 24, 5, 151, 153, 0, 11, 24, 7, 24, 7, 151, 154, 0, 5, 3, 172]
abbrev dktL_law_54 : List UInt8 := dkwL_law_54 ++ dktL_law_55
def dkwL_law_53 : List UInt8 := [153, 0, 5, 3, 172, 167, 0, 102, 43, 182, 0, 158, 57, 5, 44, 182, 0, 162, 57, 7, 24, 5, 24, 7]
abbrev dktL_law_53 : List UInt8 := dkwL_law_53 ++ dktL_law_54
def dkwL_law_52 : List UInt8 := [182, 0, 84, 21, 5, 159, 0, 5, 3, 172, 21, 5, 154, 0, 15, 45, 3, 47, 21, 6, 133, 148]
abbrev dktL_law_52 : List UInt8 := dkwL_law_52 ++ dktL_law_53
def dkwL_law_51 : List UInt8 := [184, 0, 155, 54, 5, 44, 42, 21, 4, 4, 96, 46, 42, 21, 4, 5, 96, 46, 182, 0, 157, 54, 6, 44]
abbrev dktL_law_51 : List UInt8 := dkwL_law_51 ++ dktL_law_52
def dkwL_law_50 : List UInt8 := [182, 0, 154, 159, 0, 172, 3, 172, 43, 42, 21, 4, 4, 96, 46, 42, 21, 4, 5, 96, 46, 45]
abbrev dktL_law_50 : List UInt8 := dkwL_law_50 ++ dktL_law_51
def dkwL_law_49 : List UInt8 := [154, 0, 15, 45, 3, 47, 21, 6, 133, 148, 153, 0, 5, 3, 172, 167, 0, 183, 43, 182, 0, 151, 44]
abbrev dktL_law_49 : List UInt8 := dkwL_law_49 ++ dktL_law_50
def dkwL_law_48 : List UInt8 := [21, 4, 4, 96, 46, 182, 0, 150, 54, 6, 44, 182, 0, 84, 21, 5, 159, 0, 5, 3, 172, 21, 5]
abbrev dktL_law_48 : List UInt8 := dkwL_law_48 ++ dktL_law_49
def dkwL_law_47 : List UInt8 := [153, 0, 5, 3, 172, 167, 0, 239, 43, 42, 21, 4, 4, 96, 46, 45, 184, 0, 148, 54, 5, 44, 42]
abbrev dktL_law_47 : List UInt8 := dkwL_law_47 ++ dktL_law_48
def dkwL_law_46 : List UInt8 := [182, 0, 84, 21, 5, 159, 0, 5, 3, 172, 21, 5, 154, 0, 15, 45, 3, 47, 21, 6, 133, 148]
abbrev dktL_law_46 : List UInt8 := dkwL_law_46 ++ dktL_law_47
def dkwL_law_45 : List UInt8 := [21, 4, 4, 96, 46, 45, 184, 0, 145, 54, 5, 44, 42, 21, 4, 4, 96, 46, 182, 0, 147, 54, 6, 44]
abbrev dktL_law_45 : List UInt8 := dkwL_law_45 ++ dktL_law_46
def dkwL_law_44 : List UInt8 := [182, 0, 140, 159, 1, 54, 3, 172, 43, 182, 0, 141, 44, 182, 0, 144, 159, 1, 41, 3, 172, 43, 42]
abbrev dktL_law_44 : List UInt8 := dkwL_law_44 ++ dktL_law_45
def dkwL_law_43 : List UInt8 := [154, 0, 15, 45, 3, 47, 21, 6, 133, 148, 153, 0, 5, 3, 172, 167, 1, 65, 43, 182, 0, 137, 44]
abbrev dktL_law_43 : List UInt8 := dkwL_law_43 ++ dktL_law_44
def dkwL_law_42 : List UInt8 := [21, 4, 4, 96, 46, 182, 0, 136, 54, 6, 44, 182, 0, 84, 21, 5, 159, 0, 5, 3, 172, 21, 5]
abbrev dktL_law_42 : List UInt8 := dkwL_law_42 ++ dktL_law_43
def dkwL_law_41 : List UInt8 := [153, 0, 5, 3, 172, 167, 1, 121, 43, 42, 21, 4, 4, 96, 46, 45, 184, 0, 134, 54, 5, 44, 42]
abbrev dktL_law_41 : List UInt8 := dkwL_law_41 ++ dktL_law_42
def dkwL_law_40 : List UInt8 := [182, 0, 84, 21, 5, 159, 0, 5, 3, 172, 21, 5, 154, 0, 15, 45, 3, 47, 21, 6, 133, 148]
abbrev dktL_law_40 : List UInt8 := dkwL_law_40 ++ dktL_law_41
def dkwL_law_39 : List UInt8 := [184, 0, 131, 54, 5, 44, 42, 21, 4, 4, 96, 46, 42, 21, 4, 5, 96, 46, 182, 0, 133, 54, 6, 44]
abbrev dktL_law_39 : List UInt8 := dkwL_law_39 ++ dktL_law_40
def dkwL_law_38 : List UInt8 := [153, 0, 5, 3, 172, 167, 1, 189, 43, 42, 21, 4, 4, 96, 46, 42, 21, 4, 5, 96, 46, 45]
abbrev dktL_law_38 : List UInt8 := dkwL_law_38 ++ dktL_law_39
def dkwL_law_37 : List UInt8 := [182, 0, 84, 21, 5, 159, 0, 5, 3, 172, 21, 5, 154, 0, 15, 45, 3, 47, 21, 6, 133, 148]
abbrev dktL_law_37 : List UInt8 := dkwL_law_37 ++ dktL_law_38
def dkwL_law_36 : List UInt8 := [184, 0, 128, 54, 5, 44, 42, 21, 4, 4, 96, 46, 42, 21, 4, 5, 96, 46, 182, 0, 130, 54, 6, 44]
abbrev dktL_law_36 : List UInt8 := dkwL_law_36 ++ dktL_law_37
def dkwL_law_35 : List UInt8 := [153, 0, 5, 3, 172, 167, 2, 1, 43, 42, 21, 4, 4, 96, 46, 42, 21, 4, 5, 96, 46, 45]
abbrev dktL_law_35 : List UInt8 := dkwL_law_35 ++ dktL_law_36
def dkwL_law_34 : List UInt8 := [182, 0, 84, 21, 5, 159, 0, 5, 3, 172, 21, 5, 154, 0, 15, 45, 3, 47, 21, 6, 133, 148]
abbrev dktL_law_34 : List UInt8 := dkwL_law_34 ++ dktL_law_35
def dkwL_law_33 : List UInt8 := [184, 0, 125, 54, 5, 44, 42, 21, 4, 4, 96, 46, 42, 21, 4, 5, 96, 46, 182, 0, 127, 54, 6, 44]
abbrev dktL_law_33 : List UInt8 := dkwL_law_33 ++ dktL_law_34
def dkwL_law_32 : List UInt8 := [148, 153, 0, 5, 3, 172, 167, 2, 69, 43, 42, 21, 4, 4, 96, 46, 42, 21, 4, 5, 96, 46, 45]
abbrev dktL_law_32 : List UInt8 := dkwL_law_32 ++ dktL_law_33
def dkwL_law_31 : List UInt8 := [54, 6, 44, 182, 0, 84, 21, 5, 159, 0, 5, 3, 172, 21, 5, 154, 0, 15, 45, 3, 47, 21, 6, 133]
abbrev dktL_law_31 : List UInt8 := dkwL_law_31 ++ dktL_law_32
def dkwL_law_30 : List UInt8 := [42, 21, 4, 5, 96, 46, 42, 21, 4, 6, 96, 46, 153, 0, 7, 4, 167, 0, 4, 3, 182, 0, 124]
abbrev dktL_law_30 : List UInt8 := dkwL_law_30 ++ dktL_law_31
def dkwL_law_29 : List UInt8 := [6, 96, 46, 153, 0, 7, 4, 167, 0, 4, 3, 45, 184, 0, 121, 54, 5, 44, 42, 21, 4, 4, 96, 46]
abbrev dktL_law_29 : List UInt8 := dkwL_law_29 ++ dktL_law_30
def dkwL_law_28 : List UInt8 := [153, 0, 5, 3, 172, 167, 2, 165, 43, 42, 21, 4, 4, 96, 46, 42, 21, 4, 5, 96, 46, 42, 21, 4]
abbrev dktL_law_28 : List UInt8 := dkwL_law_28 ++ dktL_law_29
def dkwL_law_27 : List UInt8 := [182, 0, 84, 21, 5, 159, 0, 5, 3, 172, 21, 5, 154, 0, 15, 45, 3, 47, 21, 6, 133, 148]
abbrev dktL_law_27 : List UInt8 := dkwL_law_27 ++ dktL_law_28
def dkwL_law_26 : List UInt8 := [184, 0, 118, 54, 5, 44, 42, 21, 4, 4, 96, 46, 42, 21, 4, 5, 96, 46, 182, 0, 120, 54, 6, 44]
abbrev dktL_law_26 : List UInt8 := dkwL_law_26 ++ dktL_law_27
def dkwL_law_25 : List UInt8 := [153, 0, 5, 3, 172, 167, 2, 233, 43, 42, 21, 4, 4, 96, 46, 42, 21, 4, 5, 96, 46, 45]
abbrev dktL_law_25 : List UInt8 := dkwL_law_25 ++ dktL_law_26
def dkwL_law_24 : List UInt8 := [182, 0, 84, 21, 5, 159, 0, 5, 3, 172, 21, 5, 154, 0, 15, 45, 3, 47, 21, 6, 133, 148]
abbrev dktL_law_24 : List UInt8 := dkwL_law_24 ++ dktL_law_25
def dkwL_law_23 : List UInt8 := [21, 4, 4, 96, 46, 45, 184, 0, 115, 54, 5, 44, 42, 21, 4, 4, 96, 46, 182, 0, 117, 54, 6, 44]
abbrev dktL_law_23 : List UInt8 := dkwL_law_23 ++ dktL_law_24
def dkwL_law_22 : List UInt8 := [172, 21, 5, 154, 0, 15, 45, 3, 47, 21, 6, 133, 148, 153, 0, 5, 3, 172, 167, 3, 33, 43, 42]
abbrev dktL_law_22 : List UInt8 := dkwL_law_22 ++ dktL_law_23
def dkwL_law_21 : List UInt8 := [54, 5, 44, 42, 21, 4, 4, 96, 46, 182, 0, 114, 54, 6, 44, 182, 0, 84, 21, 5, 159, 0, 5, 3]
abbrev dktL_law_21 : List UInt8 := dkwL_law_21 ++ dktL_law_22
def dkwL_law_20 : List UInt8 := [21, 6, 133, 148, 153, 0, 5, 3, 172, 167, 3, 89, 43, 42, 21, 4, 4, 96, 46, 45, 184, 0, 112]
abbrev dktL_law_20 : List UInt8 := dkwL_law_20 ++ dktL_law_21
def dkwL_law_19 : List UInt8 := [182, 0, 111, 54, 6, 44, 182, 0, 84, 21, 5, 159, 0, 5, 3, 172, 21, 5, 154, 0, 15, 45, 3, 47]
abbrev dktL_law_19 : List UInt8 := dkwL_law_19 ++ dktL_law_20
def dkwL_law_18 : List UInt8 := [5, 96, 46, 45, 184, 0, 109, 54, 5, 44, 42, 21, 4, 4, 96, 46, 42, 21, 4, 5, 96, 46]
abbrev dktL_law_18 : List UInt8 := dkwL_law_18 ++ dktL_law_19
def dkwL_law_17 : List UInt8 := [3, 47, 21, 6, 133, 148, 153, 0, 5, 3, 172, 167, 3, 157, 43, 42, 21, 4, 4, 96, 46, 42, 21, 4]
abbrev dktL_law_17 : List UInt8 := dkwL_law_17 ++ dktL_law_18
def dkwL_law_16 : List UInt8 := [96, 46, 182, 0, 108, 54, 6, 44, 182, 0, 84, 21, 5, 159, 0, 5, 3, 172, 21, 5, 154, 0, 15, 45]
abbrev dktL_law_16 : List UInt8 := dkwL_law_16 ++ dktL_law_17
def dkwL_law_15 : List UInt8 := [46, 42, 21, 4, 5, 96, 46, 45, 184, 0, 105, 54, 5, 44, 42, 21, 4, 4, 96, 46, 42, 21, 4, 5]
abbrev dktL_law_15 : List UInt8 := dkwL_law_15 ++ dktL_law_16
def dkwL_law_14 : List UInt8 := [154, 0, 15, 45, 3, 47, 21, 6, 133, 148, 153, 0, 5, 3, 172, 167, 3, 225, 43, 42, 21, 4, 4, 96]
abbrev dktL_law_14 : List UInt8 := dkwL_law_14 ++ dktL_law_15
def dkwL_law_13 : List UInt8 := [21, 4, 4, 96, 46, 182, 0, 104, 54, 6, 44, 182, 0, 84, 21, 5, 159, 0, 5, 3, 172, 21, 5]
abbrev dktL_law_13 : List UInt8 := dkwL_law_13 ++ dktL_law_14
def dkwL_law_12 : List UInt8 := [153, 0, 5, 3, 172, 167, 4, 25, 43, 42, 21, 4, 4, 96, 46, 45, 184, 0, 102, 54, 5, 44, 42]
abbrev dktL_law_12 : List UInt8 := dkwL_law_12 ++ dktL_law_13
def dkwL_law_11 : List UInt8 := [182, 0, 84, 21, 5, 159, 0, 5, 3, 172, 21, 5, 154, 0, 15, 45, 3, 47, 21, 6, 133, 148]
abbrev dktL_law_11 : List UInt8 := dkwL_law_11 ++ dktL_law_12
def dkwL_law_10 : List UInt8 := [4, 96, 46, 45, 184, 0, 99, 54, 5, 44, 42, 21, 4, 4, 96, 46, 182, 0, 101, 54, 6, 44]
abbrev dktL_law_10 : List UInt8 := dkwL_law_10 ++ dktL_law_11
def dkwL_law_9 : List UInt8 := [21, 5, 154, 0, 15, 45, 3, 47, 21, 6, 133, 148, 153, 0, 5, 3, 172, 167, 4, 81, 43, 42, 21, 4]
abbrev dktL_law_9 : List UInt8 := dkwL_law_9 ++ dktL_law_10
def dkwL_law_8 : List UInt8 := [96, 46, 42, 21, 4, 6, 96, 46, 182, 0, 98, 54, 6, 44, 182, 0, 84, 21, 5, 159, 0, 5, 3, 172]
abbrev dktL_law_8 : List UInt8 := dkwL_law_8 ++ dktL_law_9
def dkwL_law_7 : List UInt8 := [46, 42, 21, 4, 6, 96, 46, 45, 184, 0, 95, 54, 5, 44, 42, 21, 4, 4, 96, 46, 42, 21, 4, 5]
abbrev dktL_law_7 : List UInt8 := dkwL_law_7 ++ dktL_law_8
def dkwL_law_6 : List UInt8 := [182, 0, 91, 44, 182, 0, 94, 159, 4, 163, 3, 172, 43, 42, 21, 4, 4, 96, 46, 42, 21, 4, 5, 96]
abbrev dktL_law_6 : List UInt8 := dkwL_law_6 ++ dktL_law_7
def dkwL_law_5 : List UInt8 := [148, 153, 0, 5, 3, 172, 167, 4, 187, 43, 182, 0, 87, 44, 182, 0, 90, 159, 4, 176, 3, 172, 43]
abbrev dktL_law_5 : List UInt8 := dkwL_law_5 ++ dktL_law_6
def dkwL_law_4 : List UInt8 := [54, 6, 44, 182, 0, 84, 21, 5, 159, 0, 5, 3, 172, 21, 5, 154, 0, 15, 45, 3, 47, 21, 6, 133]
abbrev dktL_law_4 : List UInt8 := dkwL_law_4 ++ dktL_law_5
def dkwL_law_3 : List UInt8 := [43, 42, 21, 4, 4, 96, 46, 45, 184, 0, 78, 54, 5, 44, 42, 21, 4, 4, 96, 46, 182, 0, 83]
abbrev dktL_law_3 : List UInt8 := dkwL_law_3 ++ dktL_law_4
def dkwL_law_2 : List UInt8 := [170, 0, 0, 5, 97, 0, 0, 0, 0, 0, 0, 0, 24, 0, 0, 0, 113, 0, 0, 0, 169, 0, 0, 0, 182, 0, 0, 0, 195, 0, 0, 1, 19, 0, 0, 1, 75, 0, 0, 1, 131, 0, 0, 1, 199, 0, 0, 2, 11, 0, 0, 2, 67, 0, 0, 2, 123, 0, 0, 2, 191, 0, 0, 3, 31, 0, 0, 3, 99, 0, 0, 3, 167, 0, 0, 3, 235, 0, 0, 4, 35, 0, 0, 4, 48, 0, 0, 4, 61, 0, 0, 4, 117, 0, 0, 4, 173, 0, 0, 4, 186, 0, 0, 4, 254, 0, 0, 5, 39, 0, 0, 5, 83]
abbrev dktL_law_2 : List UInt8 := dkwL_law_2 ++ dktL_law_3
def dkwL_law_1 : List UInt8 := [21, 4, 42, 190, 7, 100, 163, 5, 113, 42, 21, 4, 46, 16, 31, 126]
abbrev dktL_law_1 : List UInt8 := dkwL_law_1 ++ dktL_law_2
def dkwL_law_0 : List UInt8 := [187, 0, 8, 89, 183, 0, 74, 76, 187, 0, 75, 89, 183, 0, 77, 77, 4, 188, 11, 78, 3, 54, 4]
abbrev dktL_law_0 : List UInt8 := dkwL_law_0 ++ dktL_law_1
theorem dksL_law_0 : cL_law.data.toList.drop 0 = dktL_law_0 := by decide +kernel
theorem dksL_law_1 : cL_law.data.toList.drop 23 = dktL_law_1 := dk_seg dksL_law_0 23 rfl rfl
theorem dksL_law_2 : cL_law.data.toList.drop 39 = dktL_law_2 := dk_seg dksL_law_1 16 rfl rfl
theorem dksL_law_3 : cL_law.data.toList.drop 152 = dktL_law_3 := dk_seg dksL_law_2 113 rfl rfl
theorem dksL_law_4 : cL_law.data.toList.drop 175 = dktL_law_4 := dk_seg dksL_law_3 23 rfl rfl
theorem dksL_law_5 : cL_law.data.toList.drop 199 = dktL_law_5 := dk_seg dksL_law_4 24 rfl rfl
theorem dksL_law_6 : cL_law.data.toList.drop 222 = dktL_law_6 := dk_seg dksL_law_5 23 rfl rfl
theorem dksL_law_7 : cL_law.data.toList.drop 246 = dktL_law_7 := dk_seg dksL_law_6 24 rfl rfl
theorem dksL_law_8 : cL_law.data.toList.drop 270 = dktL_law_8 := dk_seg dksL_law_7 24 rfl rfl
theorem dksL_law_9 : cL_law.data.toList.drop 294 = dktL_law_9 := dk_seg dksL_law_8 24 rfl rfl
theorem dksL_law_10 : cL_law.data.toList.drop 318 = dktL_law_10 := dk_seg dksL_law_9 24 rfl rfl
theorem dksL_law_11 : cL_law.data.toList.drop 340 = dktL_law_11 := dk_seg dksL_law_10 22 rfl rfl
theorem dksL_law_12 : cL_law.data.toList.drop 362 = dktL_law_12 := dk_seg dksL_law_11 22 rfl rfl
theorem dksL_law_13 : cL_law.data.toList.drop 385 = dktL_law_13 := dk_seg dksL_law_12 23 rfl rfl
theorem dksL_law_14 : cL_law.data.toList.drop 408 = dktL_law_14 := dk_seg dksL_law_13 23 rfl rfl
theorem dksL_law_15 : cL_law.data.toList.drop 432 = dktL_law_15 := dk_seg dksL_law_14 24 rfl rfl
theorem dksL_law_16 : cL_law.data.toList.drop 456 = dktL_law_16 := dk_seg dksL_law_15 24 rfl rfl
theorem dksL_law_17 : cL_law.data.toList.drop 480 = dktL_law_17 := dk_seg dksL_law_16 24 rfl rfl
theorem dksL_law_18 : cL_law.data.toList.drop 504 = dktL_law_18 := dk_seg dksL_law_17 24 rfl rfl
theorem dksL_law_19 : cL_law.data.toList.drop 526 = dktL_law_19 := dk_seg dksL_law_18 22 rfl rfl
theorem dksL_law_20 : cL_law.data.toList.drop 550 = dktL_law_20 := dk_seg dksL_law_19 24 rfl rfl
theorem dksL_law_21 : cL_law.data.toList.drop 573 = dktL_law_21 := dk_seg dksL_law_20 23 rfl rfl
theorem dksL_law_22 : cL_law.data.toList.drop 597 = dktL_law_22 := dk_seg dksL_law_21 24 rfl rfl
theorem dksL_law_23 : cL_law.data.toList.drop 620 = dktL_law_23 := dk_seg dksL_law_22 23 rfl rfl
theorem dksL_law_24 : cL_law.data.toList.drop 644 = dktL_law_24 := dk_seg dksL_law_23 24 rfl rfl
theorem dksL_law_25 : cL_law.data.toList.drop 666 = dktL_law_25 := dk_seg dksL_law_24 22 rfl rfl
theorem dksL_law_26 : cL_law.data.toList.drop 688 = dktL_law_26 := dk_seg dksL_law_25 22 rfl rfl
theorem dksL_law_27 : cL_law.data.toList.drop 712 = dktL_law_27 := dk_seg dksL_law_26 24 rfl rfl
theorem dksL_law_28 : cL_law.data.toList.drop 734 = dktL_law_28 := dk_seg dksL_law_27 22 rfl rfl
theorem dksL_law_29 : cL_law.data.toList.drop 758 = dktL_law_29 := dk_seg dksL_law_28 24 rfl rfl
theorem dksL_law_30 : cL_law.data.toList.drop 782 = dktL_law_30 := dk_seg dksL_law_29 24 rfl rfl
theorem dksL_law_31 : cL_law.data.toList.drop 805 = dktL_law_31 := dk_seg dksL_law_30 23 rfl rfl
theorem dksL_law_32 : cL_law.data.toList.drop 829 = dktL_law_32 := dk_seg dksL_law_31 24 rfl rfl
theorem dksL_law_33 : cL_law.data.toList.drop 852 = dktL_law_33 := dk_seg dksL_law_32 23 rfl rfl
theorem dksL_law_34 : cL_law.data.toList.drop 876 = dktL_law_34 := dk_seg dksL_law_33 24 rfl rfl
theorem dksL_law_35 : cL_law.data.toList.drop 898 = dktL_law_35 := dk_seg dksL_law_34 22 rfl rfl
theorem dksL_law_36 : cL_law.data.toList.drop 920 = dktL_law_36 := dk_seg dksL_law_35 22 rfl rfl
theorem dksL_law_37 : cL_law.data.toList.drop 944 = dktL_law_37 := dk_seg dksL_law_36 24 rfl rfl
theorem dksL_law_38 : cL_law.data.toList.drop 966 = dktL_law_38 := dk_seg dksL_law_37 22 rfl rfl
theorem dksL_law_39 : cL_law.data.toList.drop 988 = dktL_law_39 := dk_seg dksL_law_38 22 rfl rfl
theorem dksL_law_40 : cL_law.data.toList.drop 1012 = dktL_law_40 := dk_seg dksL_law_39 24 rfl rfl
theorem dksL_law_41 : cL_law.data.toList.drop 1034 = dktL_law_41 := dk_seg dksL_law_40 22 rfl rfl
theorem dksL_law_42 : cL_law.data.toList.drop 1057 = dktL_law_42 := dk_seg dksL_law_41 23 rfl rfl
theorem dksL_law_43 : cL_law.data.toList.drop 1080 = dktL_law_43 := dk_seg dksL_law_42 23 rfl rfl
theorem dksL_law_44 : cL_law.data.toList.drop 1103 = dktL_law_44 := dk_seg dksL_law_43 23 rfl rfl
theorem dksL_law_45 : cL_law.data.toList.drop 1126 = dktL_law_45 := dk_seg dksL_law_44 23 rfl rfl
theorem dksL_law_46 : cL_law.data.toList.drop 1150 = dktL_law_46 := dk_seg dksL_law_45 24 rfl rfl
theorem dksL_law_47 : cL_law.data.toList.drop 1172 = dktL_law_47 := dk_seg dksL_law_46 22 rfl rfl
theorem dksL_law_48 : cL_law.data.toList.drop 1195 = dktL_law_48 := dk_seg dksL_law_47 23 rfl rfl
theorem dksL_law_49 : cL_law.data.toList.drop 1218 = dktL_law_49 := dk_seg dksL_law_48 23 rfl rfl
theorem dksL_law_50 : cL_law.data.toList.drop 1241 = dktL_law_50 := dk_seg dksL_law_49 23 rfl rfl
theorem dksL_law_51 : cL_law.data.toList.drop 1263 = dktL_law_51 := dk_seg dksL_law_50 22 rfl rfl
theorem dksL_law_52 : cL_law.data.toList.drop 1287 = dktL_law_52 := dk_seg dksL_law_51 24 rfl rfl
theorem dksL_law_53 : cL_law.data.toList.drop 1309 = dktL_law_53 := dk_seg dksL_law_52 22 rfl rfl
theorem dksL_law_54 : cL_law.data.toList.drop 1333 = dktL_law_54 := dk_seg dksL_law_53 24 rfl rfl
theorem dksL_law_55 : cL_law.data.toList.drop 1355 = dktL_law_55 := dk_seg dksL_law_54 22 rfl rfl
theorem dksL_law_56 : cL_law.data.toList.drop 1377 = dktL_law_56 := dk_seg dksL_law_55 22 rfl rfl
theorem dksL_law_57 : cL_law.data.toList.drop 1399 = dktL_law_57 := dk_seg dksL_law_56 22 rfl rfl
theorem dksL_law_58 : cL_law.data.toList.drop 1423 = dktL_law_58 := dk_seg dksL_law_57 24 rfl rfl
theorem dL_law_0 : decode cL_law 0 = .ok (.new 8, 3) := dk_187 0 8 (dk_at dksL_law_0 0 rfl rfl)
theorem dL_law_3 : decode cL_law 3 = .ok (.dup, 1) := dk_89 (dk_at dksL_law_0 3 rfl rfl)
theorem dL_law_4 : decode cL_law 4 = .ok (.invokespecial 74, 3) := dk_183 0 74 (dk_at dksL_law_0 4 rfl rfl)
theorem dL_law_7 : decode cL_law 7 = .ok (.astore_n 1, 1) := dk_76 (dk_at dksL_law_0 7 rfl rfl)
theorem dL_law_8 : decode cL_law 8 = .ok (.new 75, 3) := dk_187 0 75 (dk_at dksL_law_0 8 rfl rfl)
theorem dL_law_11 : decode cL_law 11 = .ok (.dup, 1) := dk_89 (dk_at dksL_law_0 11 rfl rfl)
theorem dL_law_12 : decode cL_law 12 = .ok (.invokespecial 77, 3) := dk_183 0 77 (dk_at dksL_law_0 12 rfl rfl)
theorem dL_law_15 : decode cL_law 15 = .ok (.astore_n 2, 1) := dk_77 (dk_at dksL_law_0 15 rfl rfl)
theorem dL_law_16 : decode cL_law 16 = .ok (.iconst 1, 1) := dk_4 (dk_at dksL_law_0 16 rfl rfl)
theorem dL_law_17 : decode cL_law 17 = .ok (.newarray .long, 2) := dk_188_11 (dk_at dksL_law_0 17 rfl rfl)
theorem dL_law_19 : decode cL_law 19 = .ok (.astore_n 3, 1) := dk_78 (dk_at dksL_law_0 19 rfl rfl)
theorem dL_law_20 : decode cL_law 20 = .ok (.iconst 0, 1) := dk_3 (dk_at dksL_law_0 20 rfl rfl)
theorem dL_law_21 : decode cL_law 21 = .ok (.istore 4, 2) := dk_54 4 (dk_at dksL_law_0 21 rfl rfl)
theorem dL_law_23 : decode cL_law 23 = .ok (.iload 4, 2) := dk_21 4 (dk_at dksL_law_1 0 rfl rfl)
theorem dL_law_25 : decode cL_law 25 = .ok (.aload_n 0, 1) := dk_42 (dk_at dksL_law_1 2 rfl rfl)
theorem dL_law_26 : decode cL_law 26 = .ok (.arraylength, 1) := dk_190 (dk_at dksL_law_1 3 rfl rfl)
theorem dL_law_27 : decode cL_law 27 = .ok (.iconst 4, 1) := dk_7 (dk_at dksL_law_1 4 rfl rfl)
theorem dL_law_28 : decode cL_law 28 = .ok (.isub, 1) := dk_100 (dk_at dksL_law_1 5 rfl rfl)
theorem dL_law_29 : decode cL_law 29 = .ok (.if_icmp .gt 1393, 3) := dk_163 5 113 (dk_at dksL_law_1 6 rfl rfl)
theorem dL_law_32 : decode cL_law 32 = .ok (.aload_n 0, 1) := dk_42 (dk_at dksL_law_1 9 rfl rfl)
theorem dL_law_33 : decode cL_law 33 = .ok (.iload 4, 2) := dk_21 4 (dk_at dksL_law_1 10 rfl rfl)
theorem dL_law_35 : decode cL_law 35 = .ok (.iaload, 1) := dk_46 (dk_at dksL_law_1 12 rfl rfl)
theorem dL_law_36 : decode cL_law 36 = .ok (.bipush 31, 2) := dk_16 31 (dk_at dksL_law_1 13 rfl rfl)
theorem dL_law_38 : decode cL_law 38 = .ok (.iand, 1) := dk_126 (dk_at dksL_law_1 15 rfl rfl)
theorem dL_law_39 : decode cL_law 39 = .ok (.tableswitch 1377 0 24 #[113, 169, 182, 195, 275, 331, 387, 455, 523, 579, 635, 703, 799, 867, 935, 1003, 1059, 1072, 1085, 1141, 1197, 1210, 1278, 1319, 1363], 113) := by decide +kernel
theorem dL_law_152 : decode cL_law 152 = .ok (.aload_n 1, 1) := dk_43 (dk_at dksL_law_3 0 rfl rfl)
theorem dL_law_153 : decode cL_law 153 = .ok (.aload_n 0, 1) := dk_42 (dk_at dksL_law_3 1 rfl rfl)
theorem dL_law_154 : decode cL_law 154 = .ok (.iload 4, 2) := dk_21 4 (dk_at dksL_law_3 2 rfl rfl)
theorem dL_law_156 : decode cL_law 156 = .ok (.iconst 1, 1) := dk_4 (dk_at dksL_law_3 4 rfl rfl)
theorem dL_law_157 : decode cL_law 157 = .ok (.iadd, 1) := dk_96 (dk_at dksL_law_3 5 rfl rfl)
theorem dL_law_158 : decode cL_law 158 = .ok (.iaload, 1) := dk_46 (dk_at dksL_law_3 6 rfl rfl)
theorem dL_law_159 : decode cL_law 159 = .ok (.aload_n 3, 1) := dk_45 (dk_at dksL_law_3 7 rfl rfl)
theorem dL_law_160 : decode cL_law 160 = .ok (.invokestatic 78, 3) := dk_184 0 78 (dk_at dksL_law_3 8 rfl rfl)
theorem dL_law_163 : decode cL_law 163 = .ok (.istore 5, 2) := dk_54 5 (dk_at dksL_law_3 11 rfl rfl)
theorem dL_law_165 : decode cL_law 165 = .ok (.aload_n 2, 1) := dk_44 (dk_at dksL_law_3 13 rfl rfl)
theorem dL_law_166 : decode cL_law 166 = .ok (.aload_n 0, 1) := dk_42 (dk_at dksL_law_3 14 rfl rfl)
theorem dL_law_167 : decode cL_law 167 = .ok (.iload 4, 2) := dk_21 4 (dk_at dksL_law_3 15 rfl rfl)
theorem dL_law_169 : decode cL_law 169 = .ok (.iconst 1, 1) := dk_4 (dk_at dksL_law_3 17 rfl rfl)
theorem dL_law_170 : decode cL_law 170 = .ok (.iadd, 1) := dk_96 (dk_at dksL_law_3 18 rfl rfl)
theorem dL_law_171 : decode cL_law 171 = .ok (.iaload, 1) := dk_46 (dk_at dksL_law_3 19 rfl rfl)
theorem dL_law_172 : decode cL_law 172 = .ok (.invokevirtual 83, 3) := dk_182 0 83 (dk_at dksL_law_3 20 rfl rfl)
theorem dL_law_175 : decode cL_law 175 = .ok (.istore 6, 2) := dk_54 6 (dk_at dksL_law_4 0 rfl rfl)
theorem dL_law_177 : decode cL_law 177 = .ok (.aload_n 2, 1) := dk_44 (dk_at dksL_law_4 2 rfl rfl)
theorem dL_law_178 : decode cL_law 178 = .ok (.invokevirtual 84, 3) := dk_182 0 84 (dk_at dksL_law_4 3 rfl rfl)
theorem dL_law_181 : decode cL_law 181 = .ok (.iload 5, 2) := dk_21 5 (dk_at dksL_law_4 6 rfl rfl)
theorem dL_law_183 : decode cL_law 183 = .ok (.if_icmp .eq 5, 3) := dk_159 0 5 (dk_at dksL_law_4 8 rfl rfl)
theorem dL_law_186 : decode cL_law 186 = .ok (.iconst 0, 1) := dk_3 (dk_at dksL_law_4 11 rfl rfl)
theorem dL_law_187 : decode cL_law 187 = .ok (.ireturn, 1) := dk_172 (dk_at dksL_law_4 12 rfl rfl)
theorem dL_law_188 : decode cL_law 188 = .ok (.iload 5, 2) := dk_21 5 (dk_at dksL_law_4 13 rfl rfl)
theorem dL_law_190 : decode cL_law 190 = .ok (.ifCond .ne 15, 3) := dk_154 0 15 (dk_at dksL_law_4 15 rfl rfl)
theorem dL_law_193 : decode cL_law 193 = .ok (.aload_n 3, 1) := dk_45 (dk_at dksL_law_4 18 rfl rfl)
theorem dL_law_194 : decode cL_law 194 = .ok (.iconst 0, 1) := dk_3 (dk_at dksL_law_4 19 rfl rfl)
theorem dL_law_195 : decode cL_law 195 = .ok (.laload, 1) := dk_47 (dk_at dksL_law_4 20 rfl rfl)
theorem dL_law_196 : decode cL_law 196 = .ok (.iload 6, 2) := dk_21 6 (dk_at dksL_law_4 21 rfl rfl)
theorem dL_law_198 : decode cL_law 198 = .ok (.i2l, 1) := dk_133 (dk_at dksL_law_4 23 rfl rfl)
theorem dL_law_199 : decode cL_law 199 = .ok (.lcmp, 1) := dk_148 (dk_at dksL_law_5 0 rfl rfl)
theorem dL_law_200 : decode cL_law 200 = .ok (.ifCond .eq 5, 3) := dk_153 0 5 (dk_at dksL_law_5 1 rfl rfl)
theorem dL_law_203 : decode cL_law 203 = .ok (.iconst 0, 1) := dk_3 (dk_at dksL_law_5 4 rfl rfl)
theorem dL_law_204 : decode cL_law 204 = .ok (.ireturn, 1) := dk_172 (dk_at dksL_law_5 5 rfl rfl)
theorem dL_law_205 : decode cL_law 205 = .ok (.goto 1211, 3) := dk_167 4 187 (dk_at dksL_law_5 6 rfl rfl)
theorem dL_law_208 : decode cL_law 208 = .ok (.aload_n 1, 1) := dk_43 (dk_at dksL_law_5 9 rfl rfl)
theorem dL_law_209 : decode cL_law 209 = .ok (.invokevirtual 87, 3) := dk_182 0 87 (dk_at dksL_law_5 10 rfl rfl)
theorem dL_law_212 : decode cL_law 212 = .ok (.aload_n 2, 1) := dk_44 (dk_at dksL_law_5 13 rfl rfl)
theorem dL_law_213 : decode cL_law 213 = .ok (.invokevirtual 90, 3) := dk_182 0 90 (dk_at dksL_law_5 14 rfl rfl)
theorem dL_law_216 : decode cL_law 216 = .ok (.if_icmp .eq 1200, 3) := dk_159 4 176 (dk_at dksL_law_5 17 rfl rfl)
theorem dL_law_219 : decode cL_law 219 = .ok (.iconst 0, 1) := dk_3 (dk_at dksL_law_5 20 rfl rfl)
theorem dL_law_220 : decode cL_law 220 = .ok (.ireturn, 1) := dk_172 (dk_at dksL_law_5 21 rfl rfl)
theorem dL_law_221 : decode cL_law 221 = .ok (.aload_n 1, 1) := dk_43 (dk_at dksL_law_5 22 rfl rfl)
theorem dL_law_222 : decode cL_law 222 = .ok (.invokevirtual 91, 3) := dk_182 0 91 (dk_at dksL_law_6 0 rfl rfl)
theorem dL_law_225 : decode cL_law 225 = .ok (.aload_n 2, 1) := dk_44 (dk_at dksL_law_6 3 rfl rfl)
theorem dL_law_226 : decode cL_law 226 = .ok (.invokevirtual 94, 3) := dk_182 0 94 (dk_at dksL_law_6 4 rfl rfl)
theorem dL_law_229 : decode cL_law 229 = .ok (.if_icmp .eq 1187, 3) := dk_159 4 163 (dk_at dksL_law_6 7 rfl rfl)
theorem dL_law_232 : decode cL_law 232 = .ok (.iconst 0, 1) := dk_3 (dk_at dksL_law_6 10 rfl rfl)
theorem dL_law_233 : decode cL_law 233 = .ok (.ireturn, 1) := dk_172 (dk_at dksL_law_6 11 rfl rfl)
theorem dL_law_234 : decode cL_law 234 = .ok (.aload_n 1, 1) := dk_43 (dk_at dksL_law_6 12 rfl rfl)
theorem dL_law_235 : decode cL_law 235 = .ok (.aload_n 0, 1) := dk_42 (dk_at dksL_law_6 13 rfl rfl)
theorem dL_law_236 : decode cL_law 236 = .ok (.iload 4, 2) := dk_21 4 (dk_at dksL_law_6 14 rfl rfl)
theorem dL_law_238 : decode cL_law 238 = .ok (.iconst 1, 1) := dk_4 (dk_at dksL_law_6 16 rfl rfl)
theorem dL_law_239 : decode cL_law 239 = .ok (.iadd, 1) := dk_96 (dk_at dksL_law_6 17 rfl rfl)
theorem dL_law_240 : decode cL_law 240 = .ok (.iaload, 1) := dk_46 (dk_at dksL_law_6 18 rfl rfl)
theorem dL_law_241 : decode cL_law 241 = .ok (.aload_n 0, 1) := dk_42 (dk_at dksL_law_6 19 rfl rfl)
theorem dL_law_242 : decode cL_law 242 = .ok (.iload 4, 2) := dk_21 4 (dk_at dksL_law_6 20 rfl rfl)
theorem dL_law_244 : decode cL_law 244 = .ok (.iconst 2, 1) := dk_5 (dk_at dksL_law_6 22 rfl rfl)
theorem dL_law_245 : decode cL_law 245 = .ok (.iadd, 1) := dk_96 (dk_at dksL_law_6 23 rfl rfl)
theorem dL_law_246 : decode cL_law 246 = .ok (.iaload, 1) := dk_46 (dk_at dksL_law_7 0 rfl rfl)
theorem dL_law_247 : decode cL_law 247 = .ok (.aload_n 0, 1) := dk_42 (dk_at dksL_law_7 1 rfl rfl)
theorem dL_law_248 : decode cL_law 248 = .ok (.iload 4, 2) := dk_21 4 (dk_at dksL_law_7 2 rfl rfl)
theorem dL_law_250 : decode cL_law 250 = .ok (.iconst 3, 1) := dk_6 (dk_at dksL_law_7 4 rfl rfl)
theorem dL_law_251 : decode cL_law 251 = .ok (.iadd, 1) := dk_96 (dk_at dksL_law_7 5 rfl rfl)
theorem dL_law_252 : decode cL_law 252 = .ok (.iaload, 1) := dk_46 (dk_at dksL_law_7 6 rfl rfl)
theorem dL_law_253 : decode cL_law 253 = .ok (.aload_n 3, 1) := dk_45 (dk_at dksL_law_7 7 rfl rfl)
theorem dL_law_254 : decode cL_law 254 = .ok (.invokestatic 95, 3) := dk_184 0 95 (dk_at dksL_law_7 8 rfl rfl)
theorem dL_law_257 : decode cL_law 257 = .ok (.istore 5, 2) := dk_54 5 (dk_at dksL_law_7 11 rfl rfl)
theorem dL_law_259 : decode cL_law 259 = .ok (.aload_n 2, 1) := dk_44 (dk_at dksL_law_7 13 rfl rfl)
theorem dL_law_260 : decode cL_law 260 = .ok (.aload_n 0, 1) := dk_42 (dk_at dksL_law_7 14 rfl rfl)
theorem dL_law_261 : decode cL_law 261 = .ok (.iload 4, 2) := dk_21 4 (dk_at dksL_law_7 15 rfl rfl)
theorem dL_law_263 : decode cL_law 263 = .ok (.iconst 1, 1) := dk_4 (dk_at dksL_law_7 17 rfl rfl)
theorem dL_law_264 : decode cL_law 264 = .ok (.iadd, 1) := dk_96 (dk_at dksL_law_7 18 rfl rfl)
theorem dL_law_265 : decode cL_law 265 = .ok (.iaload, 1) := dk_46 (dk_at dksL_law_7 19 rfl rfl)
theorem dL_law_266 : decode cL_law 266 = .ok (.aload_n 0, 1) := dk_42 (dk_at dksL_law_7 20 rfl rfl)
theorem dL_law_267 : decode cL_law 267 = .ok (.iload 4, 2) := dk_21 4 (dk_at dksL_law_7 21 rfl rfl)
theorem dL_law_269 : decode cL_law 269 = .ok (.iconst 2, 1) := dk_5 (dk_at dksL_law_7 23 rfl rfl)
theorem dL_law_270 : decode cL_law 270 = .ok (.iadd, 1) := dk_96 (dk_at dksL_law_8 0 rfl rfl)
theorem dL_law_271 : decode cL_law 271 = .ok (.iaload, 1) := dk_46 (dk_at dksL_law_8 1 rfl rfl)
theorem dL_law_272 : decode cL_law 272 = .ok (.aload_n 0, 1) := dk_42 (dk_at dksL_law_8 2 rfl rfl)
theorem dL_law_273 : decode cL_law 273 = .ok (.iload 4, 2) := dk_21 4 (dk_at dksL_law_8 3 rfl rfl)
theorem dL_law_275 : decode cL_law 275 = .ok (.iconst 3, 1) := dk_6 (dk_at dksL_law_8 5 rfl rfl)
theorem dL_law_276 : decode cL_law 276 = .ok (.iadd, 1) := dk_96 (dk_at dksL_law_8 6 rfl rfl)
theorem dL_law_277 : decode cL_law 277 = .ok (.iaload, 1) := dk_46 (dk_at dksL_law_8 7 rfl rfl)
theorem dL_law_278 : decode cL_law 278 = .ok (.invokevirtual 98, 3) := dk_182 0 98 (dk_at dksL_law_8 8 rfl rfl)
theorem dL_law_281 : decode cL_law 281 = .ok (.istore 6, 2) := dk_54 6 (dk_at dksL_law_8 11 rfl rfl)
theorem dL_law_283 : decode cL_law 283 = .ok (.aload_n 2, 1) := dk_44 (dk_at dksL_law_8 13 rfl rfl)
theorem dL_law_284 : decode cL_law 284 = .ok (.invokevirtual 84, 3) := dk_182 0 84 (dk_at dksL_law_8 14 rfl rfl)
theorem dL_law_287 : decode cL_law 287 = .ok (.iload 5, 2) := dk_21 5 (dk_at dksL_law_8 17 rfl rfl)
theorem dL_law_289 : decode cL_law 289 = .ok (.if_icmp .eq 5, 3) := dk_159 0 5 (dk_at dksL_law_8 19 rfl rfl)
theorem dL_law_292 : decode cL_law 292 = .ok (.iconst 0, 1) := dk_3 (dk_at dksL_law_8 22 rfl rfl)
theorem dL_law_293 : decode cL_law 293 = .ok (.ireturn, 1) := dk_172 (dk_at dksL_law_8 23 rfl rfl)
theorem dL_law_294 : decode cL_law 294 = .ok (.iload 5, 2) := dk_21 5 (dk_at dksL_law_9 0 rfl rfl)
theorem dL_law_296 : decode cL_law 296 = .ok (.ifCond .ne 15, 3) := dk_154 0 15 (dk_at dksL_law_9 2 rfl rfl)
theorem dL_law_299 : decode cL_law 299 = .ok (.aload_n 3, 1) := dk_45 (dk_at dksL_law_9 5 rfl rfl)
theorem dL_law_300 : decode cL_law 300 = .ok (.iconst 0, 1) := dk_3 (dk_at dksL_law_9 6 rfl rfl)
theorem dL_law_301 : decode cL_law 301 = .ok (.laload, 1) := dk_47 (dk_at dksL_law_9 7 rfl rfl)
theorem dL_law_302 : decode cL_law 302 = .ok (.iload 6, 2) := dk_21 6 (dk_at dksL_law_9 8 rfl rfl)
theorem dL_law_304 : decode cL_law 304 = .ok (.i2l, 1) := dk_133 (dk_at dksL_law_9 10 rfl rfl)
theorem dL_law_305 : decode cL_law 305 = .ok (.lcmp, 1) := dk_148 (dk_at dksL_law_9 11 rfl rfl)
theorem dL_law_306 : decode cL_law 306 = .ok (.ifCond .eq 5, 3) := dk_153 0 5 (dk_at dksL_law_9 12 rfl rfl)
theorem dL_law_309 : decode cL_law 309 = .ok (.iconst 0, 1) := dk_3 (dk_at dksL_law_9 15 rfl rfl)
theorem dL_law_310 : decode cL_law 310 = .ok (.ireturn, 1) := dk_172 (dk_at dksL_law_9 16 rfl rfl)
theorem dL_law_311 : decode cL_law 311 = .ok (.goto 1105, 3) := dk_167 4 81 (dk_at dksL_law_9 17 rfl rfl)
theorem dL_law_314 : decode cL_law 314 = .ok (.aload_n 1, 1) := dk_43 (dk_at dksL_law_9 20 rfl rfl)
theorem dL_law_315 : decode cL_law 315 = .ok (.aload_n 0, 1) := dk_42 (dk_at dksL_law_9 21 rfl rfl)
theorem dL_law_316 : decode cL_law 316 = .ok (.iload 4, 2) := dk_21 4 (dk_at dksL_law_9 22 rfl rfl)
theorem dL_law_318 : decode cL_law 318 = .ok (.iconst 1, 1) := dk_4 (dk_at dksL_law_10 0 rfl rfl)
theorem dL_law_319 : decode cL_law 319 = .ok (.iadd, 1) := dk_96 (dk_at dksL_law_10 1 rfl rfl)
theorem dL_law_320 : decode cL_law 320 = .ok (.iaload, 1) := dk_46 (dk_at dksL_law_10 2 rfl rfl)
theorem dL_law_321 : decode cL_law 321 = .ok (.aload_n 3, 1) := dk_45 (dk_at dksL_law_10 3 rfl rfl)
theorem dL_law_322 : decode cL_law 322 = .ok (.invokestatic 99, 3) := dk_184 0 99 (dk_at dksL_law_10 4 rfl rfl)
theorem dL_law_325 : decode cL_law 325 = .ok (.istore 5, 2) := dk_54 5 (dk_at dksL_law_10 7 rfl rfl)
theorem dL_law_327 : decode cL_law 327 = .ok (.aload_n 2, 1) := dk_44 (dk_at dksL_law_10 9 rfl rfl)
theorem dL_law_328 : decode cL_law 328 = .ok (.aload_n 0, 1) := dk_42 (dk_at dksL_law_10 10 rfl rfl)
theorem dL_law_329 : decode cL_law 329 = .ok (.iload 4, 2) := dk_21 4 (dk_at dksL_law_10 11 rfl rfl)
theorem dL_law_331 : decode cL_law 331 = .ok (.iconst 1, 1) := dk_4 (dk_at dksL_law_10 13 rfl rfl)
theorem dL_law_332 : decode cL_law 332 = .ok (.iadd, 1) := dk_96 (dk_at dksL_law_10 14 rfl rfl)
theorem dL_law_333 : decode cL_law 333 = .ok (.iaload, 1) := dk_46 (dk_at dksL_law_10 15 rfl rfl)
theorem dL_law_334 : decode cL_law 334 = .ok (.invokevirtual 101, 3) := dk_182 0 101 (dk_at dksL_law_10 16 rfl rfl)
theorem dL_law_337 : decode cL_law 337 = .ok (.istore 6, 2) := dk_54 6 (dk_at dksL_law_10 19 rfl rfl)
theorem dL_law_339 : decode cL_law 339 = .ok (.aload_n 2, 1) := dk_44 (dk_at dksL_law_10 21 rfl rfl)
theorem dL_law_340 : decode cL_law 340 = .ok (.invokevirtual 84, 3) := dk_182 0 84 (dk_at dksL_law_11 0 rfl rfl)
theorem dL_law_343 : decode cL_law 343 = .ok (.iload 5, 2) := dk_21 5 (dk_at dksL_law_11 3 rfl rfl)
theorem dL_law_345 : decode cL_law 345 = .ok (.if_icmp .eq 5, 3) := dk_159 0 5 (dk_at dksL_law_11 5 rfl rfl)
theorem dL_law_348 : decode cL_law 348 = .ok (.iconst 0, 1) := dk_3 (dk_at dksL_law_11 8 rfl rfl)
theorem dL_law_349 : decode cL_law 349 = .ok (.ireturn, 1) := dk_172 (dk_at dksL_law_11 9 rfl rfl)
theorem dL_law_350 : decode cL_law 350 = .ok (.iload 5, 2) := dk_21 5 (dk_at dksL_law_11 10 rfl rfl)
theorem dL_law_352 : decode cL_law 352 = .ok (.ifCond .ne 15, 3) := dk_154 0 15 (dk_at dksL_law_11 12 rfl rfl)
theorem dL_law_355 : decode cL_law 355 = .ok (.aload_n 3, 1) := dk_45 (dk_at dksL_law_11 15 rfl rfl)
theorem dL_law_356 : decode cL_law 356 = .ok (.iconst 0, 1) := dk_3 (dk_at dksL_law_11 16 rfl rfl)
theorem dL_law_357 : decode cL_law 357 = .ok (.laload, 1) := dk_47 (dk_at dksL_law_11 17 rfl rfl)
theorem dL_law_358 : decode cL_law 358 = .ok (.iload 6, 2) := dk_21 6 (dk_at dksL_law_11 18 rfl rfl)
theorem dL_law_360 : decode cL_law 360 = .ok (.i2l, 1) := dk_133 (dk_at dksL_law_11 20 rfl rfl)
theorem dL_law_361 : decode cL_law 361 = .ok (.lcmp, 1) := dk_148 (dk_at dksL_law_11 21 rfl rfl)
theorem dL_law_362 : decode cL_law 362 = .ok (.ifCond .eq 5, 3) := dk_153 0 5 (dk_at dksL_law_12 0 rfl rfl)
theorem dL_law_365 : decode cL_law 365 = .ok (.iconst 0, 1) := dk_3 (dk_at dksL_law_12 3 rfl rfl)
theorem dL_law_366 : decode cL_law 366 = .ok (.ireturn, 1) := dk_172 (dk_at dksL_law_12 4 rfl rfl)
theorem dL_law_367 : decode cL_law 367 = .ok (.goto 1049, 3) := dk_167 4 25 (dk_at dksL_law_12 5 rfl rfl)
theorem dL_law_370 : decode cL_law 370 = .ok (.aload_n 1, 1) := dk_43 (dk_at dksL_law_12 8 rfl rfl)
theorem dL_law_371 : decode cL_law 371 = .ok (.aload_n 0, 1) := dk_42 (dk_at dksL_law_12 9 rfl rfl)
theorem dL_law_372 : decode cL_law 372 = .ok (.iload 4, 2) := dk_21 4 (dk_at dksL_law_12 10 rfl rfl)
theorem dL_law_374 : decode cL_law 374 = .ok (.iconst 1, 1) := dk_4 (dk_at dksL_law_12 12 rfl rfl)
theorem dL_law_375 : decode cL_law 375 = .ok (.iadd, 1) := dk_96 (dk_at dksL_law_12 13 rfl rfl)
theorem dL_law_376 : decode cL_law 376 = .ok (.iaload, 1) := dk_46 (dk_at dksL_law_12 14 rfl rfl)
theorem dL_law_377 : decode cL_law 377 = .ok (.aload_n 3, 1) := dk_45 (dk_at dksL_law_12 15 rfl rfl)
theorem dL_law_378 : decode cL_law 378 = .ok (.invokestatic 102, 3) := dk_184 0 102 (dk_at dksL_law_12 16 rfl rfl)
theorem dL_law_381 : decode cL_law 381 = .ok (.istore 5, 2) := dk_54 5 (dk_at dksL_law_12 19 rfl rfl)
theorem dL_law_383 : decode cL_law 383 = .ok (.aload_n 2, 1) := dk_44 (dk_at dksL_law_12 21 rfl rfl)
theorem dL_law_384 : decode cL_law 384 = .ok (.aload_n 0, 1) := dk_42 (dk_at dksL_law_12 22 rfl rfl)
theorem dL_law_385 : decode cL_law 385 = .ok (.iload 4, 2) := dk_21 4 (dk_at dksL_law_13 0 rfl rfl)
theorem dL_law_387 : decode cL_law 387 = .ok (.iconst 1, 1) := dk_4 (dk_at dksL_law_13 2 rfl rfl)
theorem dL_law_388 : decode cL_law 388 = .ok (.iadd, 1) := dk_96 (dk_at dksL_law_13 3 rfl rfl)
theorem dL_law_389 : decode cL_law 389 = .ok (.iaload, 1) := dk_46 (dk_at dksL_law_13 4 rfl rfl)
theorem dL_law_390 : decode cL_law 390 = .ok (.invokevirtual 104, 3) := dk_182 0 104 (dk_at dksL_law_13 5 rfl rfl)
theorem dL_law_393 : decode cL_law 393 = .ok (.istore 6, 2) := dk_54 6 (dk_at dksL_law_13 8 rfl rfl)
theorem dL_law_395 : decode cL_law 395 = .ok (.aload_n 2, 1) := dk_44 (dk_at dksL_law_13 10 rfl rfl)
theorem dL_law_396 : decode cL_law 396 = .ok (.invokevirtual 84, 3) := dk_182 0 84 (dk_at dksL_law_13 11 rfl rfl)
theorem dL_law_399 : decode cL_law 399 = .ok (.iload 5, 2) := dk_21 5 (dk_at dksL_law_13 14 rfl rfl)
theorem dL_law_401 : decode cL_law 401 = .ok (.if_icmp .eq 5, 3) := dk_159 0 5 (dk_at dksL_law_13 16 rfl rfl)
theorem dL_law_404 : decode cL_law 404 = .ok (.iconst 0, 1) := dk_3 (dk_at dksL_law_13 19 rfl rfl)
theorem dL_law_405 : decode cL_law 405 = .ok (.ireturn, 1) := dk_172 (dk_at dksL_law_13 20 rfl rfl)
theorem dL_law_406 : decode cL_law 406 = .ok (.iload 5, 2) := dk_21 5 (dk_at dksL_law_13 21 rfl rfl)
theorem dL_law_408 : decode cL_law 408 = .ok (.ifCond .ne 15, 3) := dk_154 0 15 (dk_at dksL_law_14 0 rfl rfl)
theorem dL_law_411 : decode cL_law 411 = .ok (.aload_n 3, 1) := dk_45 (dk_at dksL_law_14 3 rfl rfl)
theorem dL_law_412 : decode cL_law 412 = .ok (.iconst 0, 1) := dk_3 (dk_at dksL_law_14 4 rfl rfl)
theorem dL_law_413 : decode cL_law 413 = .ok (.laload, 1) := dk_47 (dk_at dksL_law_14 5 rfl rfl)
theorem dL_law_414 : decode cL_law 414 = .ok (.iload 6, 2) := dk_21 6 (dk_at dksL_law_14 6 rfl rfl)
theorem dL_law_416 : decode cL_law 416 = .ok (.i2l, 1) := dk_133 (dk_at dksL_law_14 8 rfl rfl)
theorem dL_law_417 : decode cL_law 417 = .ok (.lcmp, 1) := dk_148 (dk_at dksL_law_14 9 rfl rfl)
theorem dL_law_418 : decode cL_law 418 = .ok (.ifCond .eq 5, 3) := dk_153 0 5 (dk_at dksL_law_14 10 rfl rfl)
theorem dL_law_421 : decode cL_law 421 = .ok (.iconst 0, 1) := dk_3 (dk_at dksL_law_14 13 rfl rfl)
theorem dL_law_422 : decode cL_law 422 = .ok (.ireturn, 1) := dk_172 (dk_at dksL_law_14 14 rfl rfl)
theorem dL_law_423 : decode cL_law 423 = .ok (.goto 993, 3) := dk_167 3 225 (dk_at dksL_law_14 15 rfl rfl)
theorem dL_law_426 : decode cL_law 426 = .ok (.aload_n 1, 1) := dk_43 (dk_at dksL_law_14 18 rfl rfl)
theorem dL_law_427 : decode cL_law 427 = .ok (.aload_n 0, 1) := dk_42 (dk_at dksL_law_14 19 rfl rfl)
theorem dL_law_428 : decode cL_law 428 = .ok (.iload 4, 2) := dk_21 4 (dk_at dksL_law_14 20 rfl rfl)
theorem dL_law_430 : decode cL_law 430 = .ok (.iconst 1, 1) := dk_4 (dk_at dksL_law_14 22 rfl rfl)
theorem dL_law_431 : decode cL_law 431 = .ok (.iadd, 1) := dk_96 (dk_at dksL_law_14 23 rfl rfl)
theorem dL_law_432 : decode cL_law 432 = .ok (.iaload, 1) := dk_46 (dk_at dksL_law_15 0 rfl rfl)
theorem dL_law_433 : decode cL_law 433 = .ok (.aload_n 0, 1) := dk_42 (dk_at dksL_law_15 1 rfl rfl)
theorem dL_law_434 : decode cL_law 434 = .ok (.iload 4, 2) := dk_21 4 (dk_at dksL_law_15 2 rfl rfl)
theorem dL_law_436 : decode cL_law 436 = .ok (.iconst 2, 1) := dk_5 (dk_at dksL_law_15 4 rfl rfl)
theorem dL_law_437 : decode cL_law 437 = .ok (.iadd, 1) := dk_96 (dk_at dksL_law_15 5 rfl rfl)
theorem dL_law_438 : decode cL_law 438 = .ok (.iaload, 1) := dk_46 (dk_at dksL_law_15 6 rfl rfl)
theorem dL_law_439 : decode cL_law 439 = .ok (.aload_n 3, 1) := dk_45 (dk_at dksL_law_15 7 rfl rfl)
theorem dL_law_440 : decode cL_law 440 = .ok (.invokestatic 105, 3) := dk_184 0 105 (dk_at dksL_law_15 8 rfl rfl)
theorem dL_law_443 : decode cL_law 443 = .ok (.istore 5, 2) := dk_54 5 (dk_at dksL_law_15 11 rfl rfl)
theorem dL_law_445 : decode cL_law 445 = .ok (.aload_n 2, 1) := dk_44 (dk_at dksL_law_15 13 rfl rfl)
theorem dL_law_446 : decode cL_law 446 = .ok (.aload_n 0, 1) := dk_42 (dk_at dksL_law_15 14 rfl rfl)
theorem dL_law_447 : decode cL_law 447 = .ok (.iload 4, 2) := dk_21 4 (dk_at dksL_law_15 15 rfl rfl)
theorem dL_law_449 : decode cL_law 449 = .ok (.iconst 1, 1) := dk_4 (dk_at dksL_law_15 17 rfl rfl)
theorem dL_law_450 : decode cL_law 450 = .ok (.iadd, 1) := dk_96 (dk_at dksL_law_15 18 rfl rfl)
theorem dL_law_451 : decode cL_law 451 = .ok (.iaload, 1) := dk_46 (dk_at dksL_law_15 19 rfl rfl)
theorem dL_law_452 : decode cL_law 452 = .ok (.aload_n 0, 1) := dk_42 (dk_at dksL_law_15 20 rfl rfl)
theorem dL_law_453 : decode cL_law 453 = .ok (.iload 4, 2) := dk_21 4 (dk_at dksL_law_15 21 rfl rfl)
theorem dL_law_455 : decode cL_law 455 = .ok (.iconst 2, 1) := dk_5 (dk_at dksL_law_15 23 rfl rfl)
theorem dL_law_456 : decode cL_law 456 = .ok (.iadd, 1) := dk_96 (dk_at dksL_law_16 0 rfl rfl)
theorem dL_law_457 : decode cL_law 457 = .ok (.iaload, 1) := dk_46 (dk_at dksL_law_16 1 rfl rfl)
theorem dL_law_458 : decode cL_law 458 = .ok (.invokevirtual 108, 3) := dk_182 0 108 (dk_at dksL_law_16 2 rfl rfl)
theorem dL_law_461 : decode cL_law 461 = .ok (.istore 6, 2) := dk_54 6 (dk_at dksL_law_16 5 rfl rfl)
theorem dL_law_463 : decode cL_law 463 = .ok (.aload_n 2, 1) := dk_44 (dk_at dksL_law_16 7 rfl rfl)
theorem dL_law_464 : decode cL_law 464 = .ok (.invokevirtual 84, 3) := dk_182 0 84 (dk_at dksL_law_16 8 rfl rfl)
theorem dL_law_467 : decode cL_law 467 = .ok (.iload 5, 2) := dk_21 5 (dk_at dksL_law_16 11 rfl rfl)
theorem dL_law_469 : decode cL_law 469 = .ok (.if_icmp .eq 5, 3) := dk_159 0 5 (dk_at dksL_law_16 13 rfl rfl)
theorem dL_law_472 : decode cL_law 472 = .ok (.iconst 0, 1) := dk_3 (dk_at dksL_law_16 16 rfl rfl)
theorem dL_law_473 : decode cL_law 473 = .ok (.ireturn, 1) := dk_172 (dk_at dksL_law_16 17 rfl rfl)
theorem dL_law_474 : decode cL_law 474 = .ok (.iload 5, 2) := dk_21 5 (dk_at dksL_law_16 18 rfl rfl)
theorem dL_law_476 : decode cL_law 476 = .ok (.ifCond .ne 15, 3) := dk_154 0 15 (dk_at dksL_law_16 20 rfl rfl)
theorem dL_law_479 : decode cL_law 479 = .ok (.aload_n 3, 1) := dk_45 (dk_at dksL_law_16 23 rfl rfl)
theorem dL_law_480 : decode cL_law 480 = .ok (.iconst 0, 1) := dk_3 (dk_at dksL_law_17 0 rfl rfl)
theorem dL_law_481 : decode cL_law 481 = .ok (.laload, 1) := dk_47 (dk_at dksL_law_17 1 rfl rfl)
theorem dL_law_482 : decode cL_law 482 = .ok (.iload 6, 2) := dk_21 6 (dk_at dksL_law_17 2 rfl rfl)
theorem dL_law_484 : decode cL_law 484 = .ok (.i2l, 1) := dk_133 (dk_at dksL_law_17 4 rfl rfl)
theorem dL_law_485 : decode cL_law 485 = .ok (.lcmp, 1) := dk_148 (dk_at dksL_law_17 5 rfl rfl)
theorem dL_law_486 : decode cL_law 486 = .ok (.ifCond .eq 5, 3) := dk_153 0 5 (dk_at dksL_law_17 6 rfl rfl)
theorem dL_law_489 : decode cL_law 489 = .ok (.iconst 0, 1) := dk_3 (dk_at dksL_law_17 9 rfl rfl)
theorem dL_law_490 : decode cL_law 490 = .ok (.ireturn, 1) := dk_172 (dk_at dksL_law_17 10 rfl rfl)
theorem dL_law_491 : decode cL_law 491 = .ok (.goto 925, 3) := dk_167 3 157 (dk_at dksL_law_17 11 rfl rfl)
theorem dL_law_494 : decode cL_law 494 = .ok (.aload_n 1, 1) := dk_43 (dk_at dksL_law_17 14 rfl rfl)
theorem dL_law_495 : decode cL_law 495 = .ok (.aload_n 0, 1) := dk_42 (dk_at dksL_law_17 15 rfl rfl)
theorem dL_law_496 : decode cL_law 496 = .ok (.iload 4, 2) := dk_21 4 (dk_at dksL_law_17 16 rfl rfl)
theorem dL_law_498 : decode cL_law 498 = .ok (.iconst 1, 1) := dk_4 (dk_at dksL_law_17 18 rfl rfl)
theorem dL_law_499 : decode cL_law 499 = .ok (.iadd, 1) := dk_96 (dk_at dksL_law_17 19 rfl rfl)
theorem dL_law_500 : decode cL_law 500 = .ok (.iaload, 1) := dk_46 (dk_at dksL_law_17 20 rfl rfl)
theorem dL_law_501 : decode cL_law 501 = .ok (.aload_n 0, 1) := dk_42 (dk_at dksL_law_17 21 rfl rfl)
theorem dL_law_502 : decode cL_law 502 = .ok (.iload 4, 2) := dk_21 4 (dk_at dksL_law_17 22 rfl rfl)
theorem dL_law_504 : decode cL_law 504 = .ok (.iconst 2, 1) := dk_5 (dk_at dksL_law_18 0 rfl rfl)
theorem dL_law_505 : decode cL_law 505 = .ok (.iadd, 1) := dk_96 (dk_at dksL_law_18 1 rfl rfl)
theorem dL_law_506 : decode cL_law 506 = .ok (.iaload, 1) := dk_46 (dk_at dksL_law_18 2 rfl rfl)
theorem dL_law_507 : decode cL_law 507 = .ok (.aload_n 3, 1) := dk_45 (dk_at dksL_law_18 3 rfl rfl)
theorem dL_law_508 : decode cL_law 508 = .ok (.invokestatic 109, 3) := dk_184 0 109 (dk_at dksL_law_18 4 rfl rfl)
theorem dL_law_511 : decode cL_law 511 = .ok (.istore 5, 2) := dk_54 5 (dk_at dksL_law_18 7 rfl rfl)
theorem dL_law_513 : decode cL_law 513 = .ok (.aload_n 2, 1) := dk_44 (dk_at dksL_law_18 9 rfl rfl)
theorem dL_law_514 : decode cL_law 514 = .ok (.aload_n 0, 1) := dk_42 (dk_at dksL_law_18 10 rfl rfl)
theorem dL_law_515 : decode cL_law 515 = .ok (.iload 4, 2) := dk_21 4 (dk_at dksL_law_18 11 rfl rfl)
theorem dL_law_517 : decode cL_law 517 = .ok (.iconst 1, 1) := dk_4 (dk_at dksL_law_18 13 rfl rfl)
theorem dL_law_518 : decode cL_law 518 = .ok (.iadd, 1) := dk_96 (dk_at dksL_law_18 14 rfl rfl)
theorem dL_law_519 : decode cL_law 519 = .ok (.iaload, 1) := dk_46 (dk_at dksL_law_18 15 rfl rfl)
theorem dL_law_520 : decode cL_law 520 = .ok (.aload_n 0, 1) := dk_42 (dk_at dksL_law_18 16 rfl rfl)
theorem dL_law_521 : decode cL_law 521 = .ok (.iload 4, 2) := dk_21 4 (dk_at dksL_law_18 17 rfl rfl)
theorem dL_law_523 : decode cL_law 523 = .ok (.iconst 2, 1) := dk_5 (dk_at dksL_law_18 19 rfl rfl)
theorem dL_law_524 : decode cL_law 524 = .ok (.iadd, 1) := dk_96 (dk_at dksL_law_18 20 rfl rfl)
theorem dL_law_525 : decode cL_law 525 = .ok (.iaload, 1) := dk_46 (dk_at dksL_law_18 21 rfl rfl)
theorem dL_law_526 : decode cL_law 526 = .ok (.invokevirtual 111, 3) := dk_182 0 111 (dk_at dksL_law_19 0 rfl rfl)
theorem dL_law_529 : decode cL_law 529 = .ok (.istore 6, 2) := dk_54 6 (dk_at dksL_law_19 3 rfl rfl)
theorem dL_law_531 : decode cL_law 531 = .ok (.aload_n 2, 1) := dk_44 (dk_at dksL_law_19 5 rfl rfl)
theorem dL_law_532 : decode cL_law 532 = .ok (.invokevirtual 84, 3) := dk_182 0 84 (dk_at dksL_law_19 6 rfl rfl)
theorem dL_law_535 : decode cL_law 535 = .ok (.iload 5, 2) := dk_21 5 (dk_at dksL_law_19 9 rfl rfl)
theorem dL_law_537 : decode cL_law 537 = .ok (.if_icmp .eq 5, 3) := dk_159 0 5 (dk_at dksL_law_19 11 rfl rfl)
theorem dL_law_540 : decode cL_law 540 = .ok (.iconst 0, 1) := dk_3 (dk_at dksL_law_19 14 rfl rfl)
theorem dL_law_541 : decode cL_law 541 = .ok (.ireturn, 1) := dk_172 (dk_at dksL_law_19 15 rfl rfl)
theorem dL_law_542 : decode cL_law 542 = .ok (.iload 5, 2) := dk_21 5 (dk_at dksL_law_19 16 rfl rfl)
theorem dL_law_544 : decode cL_law 544 = .ok (.ifCond .ne 15, 3) := dk_154 0 15 (dk_at dksL_law_19 18 rfl rfl)
theorem dL_law_547 : decode cL_law 547 = .ok (.aload_n 3, 1) := dk_45 (dk_at dksL_law_19 21 rfl rfl)
theorem dL_law_548 : decode cL_law 548 = .ok (.iconst 0, 1) := dk_3 (dk_at dksL_law_19 22 rfl rfl)
theorem dL_law_549 : decode cL_law 549 = .ok (.laload, 1) := dk_47 (dk_at dksL_law_19 23 rfl rfl)
theorem dL_law_550 : decode cL_law 550 = .ok (.iload 6, 2) := dk_21 6 (dk_at dksL_law_20 0 rfl rfl)
theorem dL_law_552 : decode cL_law 552 = .ok (.i2l, 1) := dk_133 (dk_at dksL_law_20 2 rfl rfl)
theorem dL_law_553 : decode cL_law 553 = .ok (.lcmp, 1) := dk_148 (dk_at dksL_law_20 3 rfl rfl)
theorem dL_law_554 : decode cL_law 554 = .ok (.ifCond .eq 5, 3) := dk_153 0 5 (dk_at dksL_law_20 4 rfl rfl)
theorem dL_law_557 : decode cL_law 557 = .ok (.iconst 0, 1) := dk_3 (dk_at dksL_law_20 7 rfl rfl)
theorem dL_law_558 : decode cL_law 558 = .ok (.ireturn, 1) := dk_172 (dk_at dksL_law_20 8 rfl rfl)
theorem dL_law_559 : decode cL_law 559 = .ok (.goto 857, 3) := dk_167 3 89 (dk_at dksL_law_20 9 rfl rfl)
theorem dL_law_562 : decode cL_law 562 = .ok (.aload_n 1, 1) := dk_43 (dk_at dksL_law_20 12 rfl rfl)
theorem dL_law_563 : decode cL_law 563 = .ok (.aload_n 0, 1) := dk_42 (dk_at dksL_law_20 13 rfl rfl)
theorem dL_law_564 : decode cL_law 564 = .ok (.iload 4, 2) := dk_21 4 (dk_at dksL_law_20 14 rfl rfl)
theorem dL_law_566 : decode cL_law 566 = .ok (.iconst 1, 1) := dk_4 (dk_at dksL_law_20 16 rfl rfl)
theorem dL_law_567 : decode cL_law 567 = .ok (.iadd, 1) := dk_96 (dk_at dksL_law_20 17 rfl rfl)
theorem dL_law_568 : decode cL_law 568 = .ok (.iaload, 1) := dk_46 (dk_at dksL_law_20 18 rfl rfl)
theorem dL_law_569 : decode cL_law 569 = .ok (.aload_n 3, 1) := dk_45 (dk_at dksL_law_20 19 rfl rfl)
theorem dL_law_570 : decode cL_law 570 = .ok (.invokestatic 112, 3) := dk_184 0 112 (dk_at dksL_law_20 20 rfl rfl)
theorem dL_law_573 : decode cL_law 573 = .ok (.istore 5, 2) := dk_54 5 (dk_at dksL_law_21 0 rfl rfl)
theorem dL_law_575 : decode cL_law 575 = .ok (.aload_n 2, 1) := dk_44 (dk_at dksL_law_21 2 rfl rfl)
theorem dL_law_576 : decode cL_law 576 = .ok (.aload_n 0, 1) := dk_42 (dk_at dksL_law_21 3 rfl rfl)
theorem dL_law_577 : decode cL_law 577 = .ok (.iload 4, 2) := dk_21 4 (dk_at dksL_law_21 4 rfl rfl)
theorem dL_law_579 : decode cL_law 579 = .ok (.iconst 1, 1) := dk_4 (dk_at dksL_law_21 6 rfl rfl)
theorem dL_law_580 : decode cL_law 580 = .ok (.iadd, 1) := dk_96 (dk_at dksL_law_21 7 rfl rfl)
theorem dL_law_581 : decode cL_law 581 = .ok (.iaload, 1) := dk_46 (dk_at dksL_law_21 8 rfl rfl)
theorem dL_law_582 : decode cL_law 582 = .ok (.invokevirtual 114, 3) := dk_182 0 114 (dk_at dksL_law_21 9 rfl rfl)
theorem dL_law_585 : decode cL_law 585 = .ok (.istore 6, 2) := dk_54 6 (dk_at dksL_law_21 12 rfl rfl)
theorem dL_law_587 : decode cL_law 587 = .ok (.aload_n 2, 1) := dk_44 (dk_at dksL_law_21 14 rfl rfl)
theorem dL_law_588 : decode cL_law 588 = .ok (.invokevirtual 84, 3) := dk_182 0 84 (dk_at dksL_law_21 15 rfl rfl)
theorem dL_law_591 : decode cL_law 591 = .ok (.iload 5, 2) := dk_21 5 (dk_at dksL_law_21 18 rfl rfl)
theorem dL_law_593 : decode cL_law 593 = .ok (.if_icmp .eq 5, 3) := dk_159 0 5 (dk_at dksL_law_21 20 rfl rfl)
theorem dL_law_596 : decode cL_law 596 = .ok (.iconst 0, 1) := dk_3 (dk_at dksL_law_21 23 rfl rfl)
theorem dL_law_597 : decode cL_law 597 = .ok (.ireturn, 1) := dk_172 (dk_at dksL_law_22 0 rfl rfl)
theorem dL_law_598 : decode cL_law 598 = .ok (.iload 5, 2) := dk_21 5 (dk_at dksL_law_22 1 rfl rfl)
theorem dL_law_600 : decode cL_law 600 = .ok (.ifCond .ne 15, 3) := dk_154 0 15 (dk_at dksL_law_22 3 rfl rfl)
theorem dL_law_603 : decode cL_law 603 = .ok (.aload_n 3, 1) := dk_45 (dk_at dksL_law_22 6 rfl rfl)
theorem dL_law_604 : decode cL_law 604 = .ok (.iconst 0, 1) := dk_3 (dk_at dksL_law_22 7 rfl rfl)
theorem dL_law_605 : decode cL_law 605 = .ok (.laload, 1) := dk_47 (dk_at dksL_law_22 8 rfl rfl)
theorem dL_law_606 : decode cL_law 606 = .ok (.iload 6, 2) := dk_21 6 (dk_at dksL_law_22 9 rfl rfl)
theorem dL_law_608 : decode cL_law 608 = .ok (.i2l, 1) := dk_133 (dk_at dksL_law_22 11 rfl rfl)
theorem dL_law_609 : decode cL_law 609 = .ok (.lcmp, 1) := dk_148 (dk_at dksL_law_22 12 rfl rfl)
theorem dL_law_610 : decode cL_law 610 = .ok (.ifCond .eq 5, 3) := dk_153 0 5 (dk_at dksL_law_22 13 rfl rfl)
theorem dL_law_613 : decode cL_law 613 = .ok (.iconst 0, 1) := dk_3 (dk_at dksL_law_22 16 rfl rfl)
theorem dL_law_614 : decode cL_law 614 = .ok (.ireturn, 1) := dk_172 (dk_at dksL_law_22 17 rfl rfl)
theorem dL_law_615 : decode cL_law 615 = .ok (.goto 801, 3) := dk_167 3 33 (dk_at dksL_law_22 18 rfl rfl)
theorem dL_law_618 : decode cL_law 618 = .ok (.aload_n 1, 1) := dk_43 (dk_at dksL_law_22 21 rfl rfl)
theorem dL_law_619 : decode cL_law 619 = .ok (.aload_n 0, 1) := dk_42 (dk_at dksL_law_22 22 rfl rfl)
theorem dL_law_620 : decode cL_law 620 = .ok (.iload 4, 2) := dk_21 4 (dk_at dksL_law_23 0 rfl rfl)
theorem dL_law_622 : decode cL_law 622 = .ok (.iconst 1, 1) := dk_4 (dk_at dksL_law_23 2 rfl rfl)
theorem dL_law_623 : decode cL_law 623 = .ok (.iadd, 1) := dk_96 (dk_at dksL_law_23 3 rfl rfl)
theorem dL_law_624 : decode cL_law 624 = .ok (.iaload, 1) := dk_46 (dk_at dksL_law_23 4 rfl rfl)
theorem dL_law_625 : decode cL_law 625 = .ok (.aload_n 3, 1) := dk_45 (dk_at dksL_law_23 5 rfl rfl)
theorem dL_law_626 : decode cL_law 626 = .ok (.invokestatic 115, 3) := dk_184 0 115 (dk_at dksL_law_23 6 rfl rfl)
theorem dL_law_629 : decode cL_law 629 = .ok (.istore 5, 2) := dk_54 5 (dk_at dksL_law_23 9 rfl rfl)
theorem dL_law_631 : decode cL_law 631 = .ok (.aload_n 2, 1) := dk_44 (dk_at dksL_law_23 11 rfl rfl)
theorem dL_law_632 : decode cL_law 632 = .ok (.aload_n 0, 1) := dk_42 (dk_at dksL_law_23 12 rfl rfl)
theorem dL_law_633 : decode cL_law 633 = .ok (.iload 4, 2) := dk_21 4 (dk_at dksL_law_23 13 rfl rfl)
theorem dL_law_635 : decode cL_law 635 = .ok (.iconst 1, 1) := dk_4 (dk_at dksL_law_23 15 rfl rfl)
theorem dL_law_636 : decode cL_law 636 = .ok (.iadd, 1) := dk_96 (dk_at dksL_law_23 16 rfl rfl)
theorem dL_law_637 : decode cL_law 637 = .ok (.iaload, 1) := dk_46 (dk_at dksL_law_23 17 rfl rfl)
theorem dL_law_638 : decode cL_law 638 = .ok (.invokevirtual 117, 3) := dk_182 0 117 (dk_at dksL_law_23 18 rfl rfl)
theorem dL_law_641 : decode cL_law 641 = .ok (.istore 6, 2) := dk_54 6 (dk_at dksL_law_23 21 rfl rfl)
theorem dL_law_643 : decode cL_law 643 = .ok (.aload_n 2, 1) := dk_44 (dk_at dksL_law_23 23 rfl rfl)
theorem dL_law_644 : decode cL_law 644 = .ok (.invokevirtual 84, 3) := dk_182 0 84 (dk_at dksL_law_24 0 rfl rfl)
theorem dL_law_647 : decode cL_law 647 = .ok (.iload 5, 2) := dk_21 5 (dk_at dksL_law_24 3 rfl rfl)
theorem dL_law_649 : decode cL_law 649 = .ok (.if_icmp .eq 5, 3) := dk_159 0 5 (dk_at dksL_law_24 5 rfl rfl)
theorem dL_law_652 : decode cL_law 652 = .ok (.iconst 0, 1) := dk_3 (dk_at dksL_law_24 8 rfl rfl)
theorem dL_law_653 : decode cL_law 653 = .ok (.ireturn, 1) := dk_172 (dk_at dksL_law_24 9 rfl rfl)
theorem dL_law_654 : decode cL_law 654 = .ok (.iload 5, 2) := dk_21 5 (dk_at dksL_law_24 10 rfl rfl)
theorem dL_law_656 : decode cL_law 656 = .ok (.ifCond .ne 15, 3) := dk_154 0 15 (dk_at dksL_law_24 12 rfl rfl)
theorem dL_law_659 : decode cL_law 659 = .ok (.aload_n 3, 1) := dk_45 (dk_at dksL_law_24 15 rfl rfl)
theorem dL_law_660 : decode cL_law 660 = .ok (.iconst 0, 1) := dk_3 (dk_at dksL_law_24 16 rfl rfl)
theorem dL_law_661 : decode cL_law 661 = .ok (.laload, 1) := dk_47 (dk_at dksL_law_24 17 rfl rfl)
theorem dL_law_662 : decode cL_law 662 = .ok (.iload 6, 2) := dk_21 6 (dk_at dksL_law_24 18 rfl rfl)
theorem dL_law_664 : decode cL_law 664 = .ok (.i2l, 1) := dk_133 (dk_at dksL_law_24 20 rfl rfl)
theorem dL_law_665 : decode cL_law 665 = .ok (.lcmp, 1) := dk_148 (dk_at dksL_law_24 21 rfl rfl)
theorem dL_law_666 : decode cL_law 666 = .ok (.ifCond .eq 5, 3) := dk_153 0 5 (dk_at dksL_law_25 0 rfl rfl)
theorem dL_law_669 : decode cL_law 669 = .ok (.iconst 0, 1) := dk_3 (dk_at dksL_law_25 3 rfl rfl)
theorem dL_law_670 : decode cL_law 670 = .ok (.ireturn, 1) := dk_172 (dk_at dksL_law_25 4 rfl rfl)
theorem dL_law_671 : decode cL_law 671 = .ok (.goto 745, 3) := dk_167 2 233 (dk_at dksL_law_25 5 rfl rfl)
theorem dL_law_674 : decode cL_law 674 = .ok (.aload_n 1, 1) := dk_43 (dk_at dksL_law_25 8 rfl rfl)
theorem dL_law_675 : decode cL_law 675 = .ok (.aload_n 0, 1) := dk_42 (dk_at dksL_law_25 9 rfl rfl)
theorem dL_law_676 : decode cL_law 676 = .ok (.iload 4, 2) := dk_21 4 (dk_at dksL_law_25 10 rfl rfl)
theorem dL_law_678 : decode cL_law 678 = .ok (.iconst 1, 1) := dk_4 (dk_at dksL_law_25 12 rfl rfl)
theorem dL_law_679 : decode cL_law 679 = .ok (.iadd, 1) := dk_96 (dk_at dksL_law_25 13 rfl rfl)
theorem dL_law_680 : decode cL_law 680 = .ok (.iaload, 1) := dk_46 (dk_at dksL_law_25 14 rfl rfl)
theorem dL_law_681 : decode cL_law 681 = .ok (.aload_n 0, 1) := dk_42 (dk_at dksL_law_25 15 rfl rfl)
theorem dL_law_682 : decode cL_law 682 = .ok (.iload 4, 2) := dk_21 4 (dk_at dksL_law_25 16 rfl rfl)
theorem dL_law_684 : decode cL_law 684 = .ok (.iconst 2, 1) := dk_5 (dk_at dksL_law_25 18 rfl rfl)
theorem dL_law_685 : decode cL_law 685 = .ok (.iadd, 1) := dk_96 (dk_at dksL_law_25 19 rfl rfl)
theorem dL_law_686 : decode cL_law 686 = .ok (.iaload, 1) := dk_46 (dk_at dksL_law_25 20 rfl rfl)
theorem dL_law_687 : decode cL_law 687 = .ok (.aload_n 3, 1) := dk_45 (dk_at dksL_law_25 21 rfl rfl)
theorem dL_law_688 : decode cL_law 688 = .ok (.invokestatic 118, 3) := dk_184 0 118 (dk_at dksL_law_26 0 rfl rfl)
theorem dL_law_691 : decode cL_law 691 = .ok (.istore 5, 2) := dk_54 5 (dk_at dksL_law_26 3 rfl rfl)
theorem dL_law_693 : decode cL_law 693 = .ok (.aload_n 2, 1) := dk_44 (dk_at dksL_law_26 5 rfl rfl)
theorem dL_law_694 : decode cL_law 694 = .ok (.aload_n 0, 1) := dk_42 (dk_at dksL_law_26 6 rfl rfl)
theorem dL_law_695 : decode cL_law 695 = .ok (.iload 4, 2) := dk_21 4 (dk_at dksL_law_26 7 rfl rfl)
theorem dL_law_697 : decode cL_law 697 = .ok (.iconst 1, 1) := dk_4 (dk_at dksL_law_26 9 rfl rfl)
theorem dL_law_698 : decode cL_law 698 = .ok (.iadd, 1) := dk_96 (dk_at dksL_law_26 10 rfl rfl)
theorem dL_law_699 : decode cL_law 699 = .ok (.iaload, 1) := dk_46 (dk_at dksL_law_26 11 rfl rfl)
theorem dL_law_700 : decode cL_law 700 = .ok (.aload_n 0, 1) := dk_42 (dk_at dksL_law_26 12 rfl rfl)
theorem dL_law_701 : decode cL_law 701 = .ok (.iload 4, 2) := dk_21 4 (dk_at dksL_law_26 13 rfl rfl)
theorem dL_law_703 : decode cL_law 703 = .ok (.iconst 2, 1) := dk_5 (dk_at dksL_law_26 15 rfl rfl)
theorem dL_law_704 : decode cL_law 704 = .ok (.iadd, 1) := dk_96 (dk_at dksL_law_26 16 rfl rfl)
theorem dL_law_705 : decode cL_law 705 = .ok (.iaload, 1) := dk_46 (dk_at dksL_law_26 17 rfl rfl)
theorem dL_law_706 : decode cL_law 706 = .ok (.invokevirtual 120, 3) := dk_182 0 120 (dk_at dksL_law_26 18 rfl rfl)
theorem dL_law_709 : decode cL_law 709 = .ok (.istore 6, 2) := dk_54 6 (dk_at dksL_law_26 21 rfl rfl)
theorem dL_law_711 : decode cL_law 711 = .ok (.aload_n 2, 1) := dk_44 (dk_at dksL_law_26 23 rfl rfl)
theorem dL_law_712 : decode cL_law 712 = .ok (.invokevirtual 84, 3) := dk_182 0 84 (dk_at dksL_law_27 0 rfl rfl)
theorem dL_law_715 : decode cL_law 715 = .ok (.iload 5, 2) := dk_21 5 (dk_at dksL_law_27 3 rfl rfl)
theorem dL_law_717 : decode cL_law 717 = .ok (.if_icmp .eq 5, 3) := dk_159 0 5 (dk_at dksL_law_27 5 rfl rfl)
theorem dL_law_720 : decode cL_law 720 = .ok (.iconst 0, 1) := dk_3 (dk_at dksL_law_27 8 rfl rfl)
theorem dL_law_721 : decode cL_law 721 = .ok (.ireturn, 1) := dk_172 (dk_at dksL_law_27 9 rfl rfl)
theorem dL_law_722 : decode cL_law 722 = .ok (.iload 5, 2) := dk_21 5 (dk_at dksL_law_27 10 rfl rfl)
theorem dL_law_724 : decode cL_law 724 = .ok (.ifCond .ne 15, 3) := dk_154 0 15 (dk_at dksL_law_27 12 rfl rfl)
theorem dL_law_727 : decode cL_law 727 = .ok (.aload_n 3, 1) := dk_45 (dk_at dksL_law_27 15 rfl rfl)
theorem dL_law_728 : decode cL_law 728 = .ok (.iconst 0, 1) := dk_3 (dk_at dksL_law_27 16 rfl rfl)
theorem dL_law_729 : decode cL_law 729 = .ok (.laload, 1) := dk_47 (dk_at dksL_law_27 17 rfl rfl)
theorem dL_law_730 : decode cL_law 730 = .ok (.iload 6, 2) := dk_21 6 (dk_at dksL_law_27 18 rfl rfl)
theorem dL_law_732 : decode cL_law 732 = .ok (.i2l, 1) := dk_133 (dk_at dksL_law_27 20 rfl rfl)
theorem dL_law_733 : decode cL_law 733 = .ok (.lcmp, 1) := dk_148 (dk_at dksL_law_27 21 rfl rfl)
theorem dL_law_734 : decode cL_law 734 = .ok (.ifCond .eq 5, 3) := dk_153 0 5 (dk_at dksL_law_28 0 rfl rfl)
theorem dL_law_737 : decode cL_law 737 = .ok (.iconst 0, 1) := dk_3 (dk_at dksL_law_28 3 rfl rfl)
theorem dL_law_738 : decode cL_law 738 = .ok (.ireturn, 1) := dk_172 (dk_at dksL_law_28 4 rfl rfl)
theorem dL_law_739 : decode cL_law 739 = .ok (.goto 677, 3) := dk_167 2 165 (dk_at dksL_law_28 5 rfl rfl)
theorem dL_law_742 : decode cL_law 742 = .ok (.aload_n 1, 1) := dk_43 (dk_at dksL_law_28 8 rfl rfl)
theorem dL_law_743 : decode cL_law 743 = .ok (.aload_n 0, 1) := dk_42 (dk_at dksL_law_28 9 rfl rfl)
theorem dL_law_744 : decode cL_law 744 = .ok (.iload 4, 2) := dk_21 4 (dk_at dksL_law_28 10 rfl rfl)
theorem dL_law_746 : decode cL_law 746 = .ok (.iconst 1, 1) := dk_4 (dk_at dksL_law_28 12 rfl rfl)
theorem dL_law_747 : decode cL_law 747 = .ok (.iadd, 1) := dk_96 (dk_at dksL_law_28 13 rfl rfl)
theorem dL_law_748 : decode cL_law 748 = .ok (.iaload, 1) := dk_46 (dk_at dksL_law_28 14 rfl rfl)
theorem dL_law_749 : decode cL_law 749 = .ok (.aload_n 0, 1) := dk_42 (dk_at dksL_law_28 15 rfl rfl)
theorem dL_law_750 : decode cL_law 750 = .ok (.iload 4, 2) := dk_21 4 (dk_at dksL_law_28 16 rfl rfl)
theorem dL_law_752 : decode cL_law 752 = .ok (.iconst 2, 1) := dk_5 (dk_at dksL_law_28 18 rfl rfl)
theorem dL_law_753 : decode cL_law 753 = .ok (.iadd, 1) := dk_96 (dk_at dksL_law_28 19 rfl rfl)
theorem dL_law_754 : decode cL_law 754 = .ok (.iaload, 1) := dk_46 (dk_at dksL_law_28 20 rfl rfl)
theorem dL_law_755 : decode cL_law 755 = .ok (.aload_n 0, 1) := dk_42 (dk_at dksL_law_28 21 rfl rfl)
theorem dL_law_756 : decode cL_law 756 = .ok (.iload 4, 2) := dk_21 4 (dk_at dksL_law_28 22 rfl rfl)
theorem dL_law_758 : decode cL_law 758 = .ok (.iconst 3, 1) := dk_6 (dk_at dksL_law_29 0 rfl rfl)
theorem dL_law_759 : decode cL_law 759 = .ok (.iadd, 1) := dk_96 (dk_at dksL_law_29 1 rfl rfl)
theorem dL_law_760 : decode cL_law 760 = .ok (.iaload, 1) := dk_46 (dk_at dksL_law_29 2 rfl rfl)
theorem dL_law_761 : decode cL_law 761 = .ok (.ifCond .eq 7, 3) := dk_153 0 7 (dk_at dksL_law_29 3 rfl rfl)
theorem dL_law_764 : decode cL_law 764 = .ok (.iconst 1, 1) := dk_4 (dk_at dksL_law_29 6 rfl rfl)
theorem dL_law_765 : decode cL_law 765 = .ok (.goto 4, 3) := dk_167 0 4 (dk_at dksL_law_29 7 rfl rfl)
theorem dL_law_768 : decode cL_law 768 = .ok (.iconst 0, 1) := dk_3 (dk_at dksL_law_29 10 rfl rfl)
theorem dL_law_769 : decode cL_law 769 = .ok (.aload_n 3, 1) := dk_45 (dk_at dksL_law_29 11 rfl rfl)
theorem dL_law_770 : decode cL_law 770 = .ok (.invokestatic 121, 3) := dk_184 0 121 (dk_at dksL_law_29 12 rfl rfl)
theorem dL_law_773 : decode cL_law 773 = .ok (.istore 5, 2) := dk_54 5 (dk_at dksL_law_29 15 rfl rfl)
theorem dL_law_775 : decode cL_law 775 = .ok (.aload_n 2, 1) := dk_44 (dk_at dksL_law_29 17 rfl rfl)
theorem dL_law_776 : decode cL_law 776 = .ok (.aload_n 0, 1) := dk_42 (dk_at dksL_law_29 18 rfl rfl)
theorem dL_law_777 : decode cL_law 777 = .ok (.iload 4, 2) := dk_21 4 (dk_at dksL_law_29 19 rfl rfl)
theorem dL_law_779 : decode cL_law 779 = .ok (.iconst 1, 1) := dk_4 (dk_at dksL_law_29 21 rfl rfl)
theorem dL_law_780 : decode cL_law 780 = .ok (.iadd, 1) := dk_96 (dk_at dksL_law_29 22 rfl rfl)
theorem dL_law_781 : decode cL_law 781 = .ok (.iaload, 1) := dk_46 (dk_at dksL_law_29 23 rfl rfl)
theorem dL_law_782 : decode cL_law 782 = .ok (.aload_n 0, 1) := dk_42 (dk_at dksL_law_30 0 rfl rfl)
theorem dL_law_783 : decode cL_law 783 = .ok (.iload 4, 2) := dk_21 4 (dk_at dksL_law_30 1 rfl rfl)
theorem dL_law_785 : decode cL_law 785 = .ok (.iconst 2, 1) := dk_5 (dk_at dksL_law_30 3 rfl rfl)
theorem dL_law_786 : decode cL_law 786 = .ok (.iadd, 1) := dk_96 (dk_at dksL_law_30 4 rfl rfl)
theorem dL_law_787 : decode cL_law 787 = .ok (.iaload, 1) := dk_46 (dk_at dksL_law_30 5 rfl rfl)
theorem dL_law_788 : decode cL_law 788 = .ok (.aload_n 0, 1) := dk_42 (dk_at dksL_law_30 6 rfl rfl)
theorem dL_law_789 : decode cL_law 789 = .ok (.iload 4, 2) := dk_21 4 (dk_at dksL_law_30 7 rfl rfl)
theorem dL_law_791 : decode cL_law 791 = .ok (.iconst 3, 1) := dk_6 (dk_at dksL_law_30 9 rfl rfl)
theorem dL_law_792 : decode cL_law 792 = .ok (.iadd, 1) := dk_96 (dk_at dksL_law_30 10 rfl rfl)
theorem dL_law_793 : decode cL_law 793 = .ok (.iaload, 1) := dk_46 (dk_at dksL_law_30 11 rfl rfl)
theorem dL_law_794 : decode cL_law 794 = .ok (.ifCond .eq 7, 3) := dk_153 0 7 (dk_at dksL_law_30 12 rfl rfl)
theorem dL_law_797 : decode cL_law 797 = .ok (.iconst 1, 1) := dk_4 (dk_at dksL_law_30 15 rfl rfl)
theorem dL_law_798 : decode cL_law 798 = .ok (.goto 4, 3) := dk_167 0 4 (dk_at dksL_law_30 16 rfl rfl)
theorem dL_law_801 : decode cL_law 801 = .ok (.iconst 0, 1) := dk_3 (dk_at dksL_law_30 19 rfl rfl)
theorem dL_law_802 : decode cL_law 802 = .ok (.invokevirtual 124, 3) := dk_182 0 124 (dk_at dksL_law_30 20 rfl rfl)
theorem dL_law_805 : decode cL_law 805 = .ok (.istore 6, 2) := dk_54 6 (dk_at dksL_law_31 0 rfl rfl)
theorem dL_law_807 : decode cL_law 807 = .ok (.aload_n 2, 1) := dk_44 (dk_at dksL_law_31 2 rfl rfl)
theorem dL_law_808 : decode cL_law 808 = .ok (.invokevirtual 84, 3) := dk_182 0 84 (dk_at dksL_law_31 3 rfl rfl)
theorem dL_law_811 : decode cL_law 811 = .ok (.iload 5, 2) := dk_21 5 (dk_at dksL_law_31 6 rfl rfl)
theorem dL_law_813 : decode cL_law 813 = .ok (.if_icmp .eq 5, 3) := dk_159 0 5 (dk_at dksL_law_31 8 rfl rfl)
theorem dL_law_816 : decode cL_law 816 = .ok (.iconst 0, 1) := dk_3 (dk_at dksL_law_31 11 rfl rfl)
theorem dL_law_817 : decode cL_law 817 = .ok (.ireturn, 1) := dk_172 (dk_at dksL_law_31 12 rfl rfl)
theorem dL_law_818 : decode cL_law 818 = .ok (.iload 5, 2) := dk_21 5 (dk_at dksL_law_31 13 rfl rfl)
theorem dL_law_820 : decode cL_law 820 = .ok (.ifCond .ne 15, 3) := dk_154 0 15 (dk_at dksL_law_31 15 rfl rfl)
theorem dL_law_823 : decode cL_law 823 = .ok (.aload_n 3, 1) := dk_45 (dk_at dksL_law_31 18 rfl rfl)
theorem dL_law_824 : decode cL_law 824 = .ok (.iconst 0, 1) := dk_3 (dk_at dksL_law_31 19 rfl rfl)
theorem dL_law_825 : decode cL_law 825 = .ok (.laload, 1) := dk_47 (dk_at dksL_law_31 20 rfl rfl)
theorem dL_law_826 : decode cL_law 826 = .ok (.iload 6, 2) := dk_21 6 (dk_at dksL_law_31 21 rfl rfl)
theorem dL_law_828 : decode cL_law 828 = .ok (.i2l, 1) := dk_133 (dk_at dksL_law_31 23 rfl rfl)
theorem dL_law_829 : decode cL_law 829 = .ok (.lcmp, 1) := dk_148 (dk_at dksL_law_32 0 rfl rfl)
theorem dL_law_830 : decode cL_law 830 = .ok (.ifCond .eq 5, 3) := dk_153 0 5 (dk_at dksL_law_32 1 rfl rfl)
theorem dL_law_833 : decode cL_law 833 = .ok (.iconst 0, 1) := dk_3 (dk_at dksL_law_32 4 rfl rfl)
theorem dL_law_834 : decode cL_law 834 = .ok (.ireturn, 1) := dk_172 (dk_at dksL_law_32 5 rfl rfl)
theorem dL_law_835 : decode cL_law 835 = .ok (.goto 581, 3) := dk_167 2 69 (dk_at dksL_law_32 6 rfl rfl)
theorem dL_law_838 : decode cL_law 838 = .ok (.aload_n 1, 1) := dk_43 (dk_at dksL_law_32 9 rfl rfl)
theorem dL_law_839 : decode cL_law 839 = .ok (.aload_n 0, 1) := dk_42 (dk_at dksL_law_32 10 rfl rfl)
theorem dL_law_840 : decode cL_law 840 = .ok (.iload 4, 2) := dk_21 4 (dk_at dksL_law_32 11 rfl rfl)
theorem dL_law_842 : decode cL_law 842 = .ok (.iconst 1, 1) := dk_4 (dk_at dksL_law_32 13 rfl rfl)
theorem dL_law_843 : decode cL_law 843 = .ok (.iadd, 1) := dk_96 (dk_at dksL_law_32 14 rfl rfl)
theorem dL_law_844 : decode cL_law 844 = .ok (.iaload, 1) := dk_46 (dk_at dksL_law_32 15 rfl rfl)
theorem dL_law_845 : decode cL_law 845 = .ok (.aload_n 0, 1) := dk_42 (dk_at dksL_law_32 16 rfl rfl)
theorem dL_law_846 : decode cL_law 846 = .ok (.iload 4, 2) := dk_21 4 (dk_at dksL_law_32 17 rfl rfl)
theorem dL_law_848 : decode cL_law 848 = .ok (.iconst 2, 1) := dk_5 (dk_at dksL_law_32 19 rfl rfl)
theorem dL_law_849 : decode cL_law 849 = .ok (.iadd, 1) := dk_96 (dk_at dksL_law_32 20 rfl rfl)
theorem dL_law_850 : decode cL_law 850 = .ok (.iaload, 1) := dk_46 (dk_at dksL_law_32 21 rfl rfl)
theorem dL_law_851 : decode cL_law 851 = .ok (.aload_n 3, 1) := dk_45 (dk_at dksL_law_32 22 rfl rfl)
theorem dL_law_852 : decode cL_law 852 = .ok (.invokestatic 125, 3) := dk_184 0 125 (dk_at dksL_law_33 0 rfl rfl)
theorem dL_law_855 : decode cL_law 855 = .ok (.istore 5, 2) := dk_54 5 (dk_at dksL_law_33 3 rfl rfl)
theorem dL_law_857 : decode cL_law 857 = .ok (.aload_n 2, 1) := dk_44 (dk_at dksL_law_33 5 rfl rfl)
theorem dL_law_858 : decode cL_law 858 = .ok (.aload_n 0, 1) := dk_42 (dk_at dksL_law_33 6 rfl rfl)
theorem dL_law_859 : decode cL_law 859 = .ok (.iload 4, 2) := dk_21 4 (dk_at dksL_law_33 7 rfl rfl)
theorem dL_law_861 : decode cL_law 861 = .ok (.iconst 1, 1) := dk_4 (dk_at dksL_law_33 9 rfl rfl)
theorem dL_law_862 : decode cL_law 862 = .ok (.iadd, 1) := dk_96 (dk_at dksL_law_33 10 rfl rfl)
theorem dL_law_863 : decode cL_law 863 = .ok (.iaload, 1) := dk_46 (dk_at dksL_law_33 11 rfl rfl)
theorem dL_law_864 : decode cL_law 864 = .ok (.aload_n 0, 1) := dk_42 (dk_at dksL_law_33 12 rfl rfl)
theorem dL_law_865 : decode cL_law 865 = .ok (.iload 4, 2) := dk_21 4 (dk_at dksL_law_33 13 rfl rfl)
theorem dL_law_867 : decode cL_law 867 = .ok (.iconst 2, 1) := dk_5 (dk_at dksL_law_33 15 rfl rfl)
theorem dL_law_868 : decode cL_law 868 = .ok (.iadd, 1) := dk_96 (dk_at dksL_law_33 16 rfl rfl)
theorem dL_law_869 : decode cL_law 869 = .ok (.iaload, 1) := dk_46 (dk_at dksL_law_33 17 rfl rfl)
theorem dL_law_870 : decode cL_law 870 = .ok (.invokevirtual 127, 3) := dk_182 0 127 (dk_at dksL_law_33 18 rfl rfl)
theorem dL_law_873 : decode cL_law 873 = .ok (.istore 6, 2) := dk_54 6 (dk_at dksL_law_33 21 rfl rfl)
theorem dL_law_875 : decode cL_law 875 = .ok (.aload_n 2, 1) := dk_44 (dk_at dksL_law_33 23 rfl rfl)
theorem dL_law_876 : decode cL_law 876 = .ok (.invokevirtual 84, 3) := dk_182 0 84 (dk_at dksL_law_34 0 rfl rfl)
theorem dL_law_879 : decode cL_law 879 = .ok (.iload 5, 2) := dk_21 5 (dk_at dksL_law_34 3 rfl rfl)
theorem dL_law_881 : decode cL_law 881 = .ok (.if_icmp .eq 5, 3) := dk_159 0 5 (dk_at dksL_law_34 5 rfl rfl)
theorem dL_law_884 : decode cL_law 884 = .ok (.iconst 0, 1) := dk_3 (dk_at dksL_law_34 8 rfl rfl)
theorem dL_law_885 : decode cL_law 885 = .ok (.ireturn, 1) := dk_172 (dk_at dksL_law_34 9 rfl rfl)
theorem dL_law_886 : decode cL_law 886 = .ok (.iload 5, 2) := dk_21 5 (dk_at dksL_law_34 10 rfl rfl)
theorem dL_law_888 : decode cL_law 888 = .ok (.ifCond .ne 15, 3) := dk_154 0 15 (dk_at dksL_law_34 12 rfl rfl)
theorem dL_law_891 : decode cL_law 891 = .ok (.aload_n 3, 1) := dk_45 (dk_at dksL_law_34 15 rfl rfl)
theorem dL_law_892 : decode cL_law 892 = .ok (.iconst 0, 1) := dk_3 (dk_at dksL_law_34 16 rfl rfl)
theorem dL_law_893 : decode cL_law 893 = .ok (.laload, 1) := dk_47 (dk_at dksL_law_34 17 rfl rfl)
theorem dL_law_894 : decode cL_law 894 = .ok (.iload 6, 2) := dk_21 6 (dk_at dksL_law_34 18 rfl rfl)
theorem dL_law_896 : decode cL_law 896 = .ok (.i2l, 1) := dk_133 (dk_at dksL_law_34 20 rfl rfl)
theorem dL_law_897 : decode cL_law 897 = .ok (.lcmp, 1) := dk_148 (dk_at dksL_law_34 21 rfl rfl)
theorem dL_law_898 : decode cL_law 898 = .ok (.ifCond .eq 5, 3) := dk_153 0 5 (dk_at dksL_law_35 0 rfl rfl)
theorem dL_law_901 : decode cL_law 901 = .ok (.iconst 0, 1) := dk_3 (dk_at dksL_law_35 3 rfl rfl)
theorem dL_law_902 : decode cL_law 902 = .ok (.ireturn, 1) := dk_172 (dk_at dksL_law_35 4 rfl rfl)
theorem dL_law_903 : decode cL_law 903 = .ok (.goto 513, 3) := dk_167 2 1 (dk_at dksL_law_35 5 rfl rfl)
theorem dL_law_906 : decode cL_law 906 = .ok (.aload_n 1, 1) := dk_43 (dk_at dksL_law_35 8 rfl rfl)
theorem dL_law_907 : decode cL_law 907 = .ok (.aload_n 0, 1) := dk_42 (dk_at dksL_law_35 9 rfl rfl)
theorem dL_law_908 : decode cL_law 908 = .ok (.iload 4, 2) := dk_21 4 (dk_at dksL_law_35 10 rfl rfl)
theorem dL_law_910 : decode cL_law 910 = .ok (.iconst 1, 1) := dk_4 (dk_at dksL_law_35 12 rfl rfl)
theorem dL_law_911 : decode cL_law 911 = .ok (.iadd, 1) := dk_96 (dk_at dksL_law_35 13 rfl rfl)
theorem dL_law_912 : decode cL_law 912 = .ok (.iaload, 1) := dk_46 (dk_at dksL_law_35 14 rfl rfl)
theorem dL_law_913 : decode cL_law 913 = .ok (.aload_n 0, 1) := dk_42 (dk_at dksL_law_35 15 rfl rfl)
theorem dL_law_914 : decode cL_law 914 = .ok (.iload 4, 2) := dk_21 4 (dk_at dksL_law_35 16 rfl rfl)
theorem dL_law_916 : decode cL_law 916 = .ok (.iconst 2, 1) := dk_5 (dk_at dksL_law_35 18 rfl rfl)
theorem dL_law_917 : decode cL_law 917 = .ok (.iadd, 1) := dk_96 (dk_at dksL_law_35 19 rfl rfl)
theorem dL_law_918 : decode cL_law 918 = .ok (.iaload, 1) := dk_46 (dk_at dksL_law_35 20 rfl rfl)
theorem dL_law_919 : decode cL_law 919 = .ok (.aload_n 3, 1) := dk_45 (dk_at dksL_law_35 21 rfl rfl)
theorem dL_law_920 : decode cL_law 920 = .ok (.invokestatic 128, 3) := dk_184 0 128 (dk_at dksL_law_36 0 rfl rfl)
theorem dL_law_923 : decode cL_law 923 = .ok (.istore 5, 2) := dk_54 5 (dk_at dksL_law_36 3 rfl rfl)
theorem dL_law_925 : decode cL_law 925 = .ok (.aload_n 2, 1) := dk_44 (dk_at dksL_law_36 5 rfl rfl)
theorem dL_law_926 : decode cL_law 926 = .ok (.aload_n 0, 1) := dk_42 (dk_at dksL_law_36 6 rfl rfl)
theorem dL_law_927 : decode cL_law 927 = .ok (.iload 4, 2) := dk_21 4 (dk_at dksL_law_36 7 rfl rfl)
theorem dL_law_929 : decode cL_law 929 = .ok (.iconst 1, 1) := dk_4 (dk_at dksL_law_36 9 rfl rfl)
theorem dL_law_930 : decode cL_law 930 = .ok (.iadd, 1) := dk_96 (dk_at dksL_law_36 10 rfl rfl)
theorem dL_law_931 : decode cL_law 931 = .ok (.iaload, 1) := dk_46 (dk_at dksL_law_36 11 rfl rfl)
theorem dL_law_932 : decode cL_law 932 = .ok (.aload_n 0, 1) := dk_42 (dk_at dksL_law_36 12 rfl rfl)
theorem dL_law_933 : decode cL_law 933 = .ok (.iload 4, 2) := dk_21 4 (dk_at dksL_law_36 13 rfl rfl)
theorem dL_law_935 : decode cL_law 935 = .ok (.iconst 2, 1) := dk_5 (dk_at dksL_law_36 15 rfl rfl)
theorem dL_law_936 : decode cL_law 936 = .ok (.iadd, 1) := dk_96 (dk_at dksL_law_36 16 rfl rfl)
theorem dL_law_937 : decode cL_law 937 = .ok (.iaload, 1) := dk_46 (dk_at dksL_law_36 17 rfl rfl)
theorem dL_law_938 : decode cL_law 938 = .ok (.invokevirtual 130, 3) := dk_182 0 130 (dk_at dksL_law_36 18 rfl rfl)
theorem dL_law_941 : decode cL_law 941 = .ok (.istore 6, 2) := dk_54 6 (dk_at dksL_law_36 21 rfl rfl)
theorem dL_law_943 : decode cL_law 943 = .ok (.aload_n 2, 1) := dk_44 (dk_at dksL_law_36 23 rfl rfl)
theorem dL_law_944 : decode cL_law 944 = .ok (.invokevirtual 84, 3) := dk_182 0 84 (dk_at dksL_law_37 0 rfl rfl)
theorem dL_law_947 : decode cL_law 947 = .ok (.iload 5, 2) := dk_21 5 (dk_at dksL_law_37 3 rfl rfl)
theorem dL_law_949 : decode cL_law 949 = .ok (.if_icmp .eq 5, 3) := dk_159 0 5 (dk_at dksL_law_37 5 rfl rfl)
theorem dL_law_952 : decode cL_law 952 = .ok (.iconst 0, 1) := dk_3 (dk_at dksL_law_37 8 rfl rfl)
theorem dL_law_953 : decode cL_law 953 = .ok (.ireturn, 1) := dk_172 (dk_at dksL_law_37 9 rfl rfl)
theorem dL_law_954 : decode cL_law 954 = .ok (.iload 5, 2) := dk_21 5 (dk_at dksL_law_37 10 rfl rfl)
theorem dL_law_956 : decode cL_law 956 = .ok (.ifCond .ne 15, 3) := dk_154 0 15 (dk_at dksL_law_37 12 rfl rfl)
theorem dL_law_959 : decode cL_law 959 = .ok (.aload_n 3, 1) := dk_45 (dk_at dksL_law_37 15 rfl rfl)
theorem dL_law_960 : decode cL_law 960 = .ok (.iconst 0, 1) := dk_3 (dk_at dksL_law_37 16 rfl rfl)
theorem dL_law_961 : decode cL_law 961 = .ok (.laload, 1) := dk_47 (dk_at dksL_law_37 17 rfl rfl)
theorem dL_law_962 : decode cL_law 962 = .ok (.iload 6, 2) := dk_21 6 (dk_at dksL_law_37 18 rfl rfl)
theorem dL_law_964 : decode cL_law 964 = .ok (.i2l, 1) := dk_133 (dk_at dksL_law_37 20 rfl rfl)
theorem dL_law_965 : decode cL_law 965 = .ok (.lcmp, 1) := dk_148 (dk_at dksL_law_37 21 rfl rfl)
theorem dL_law_966 : decode cL_law 966 = .ok (.ifCond .eq 5, 3) := dk_153 0 5 (dk_at dksL_law_38 0 rfl rfl)
theorem dL_law_969 : decode cL_law 969 = .ok (.iconst 0, 1) := dk_3 (dk_at dksL_law_38 3 rfl rfl)
theorem dL_law_970 : decode cL_law 970 = .ok (.ireturn, 1) := dk_172 (dk_at dksL_law_38 4 rfl rfl)
theorem dL_law_971 : decode cL_law 971 = .ok (.goto 445, 3) := dk_167 1 189 (dk_at dksL_law_38 5 rfl rfl)
theorem dL_law_974 : decode cL_law 974 = .ok (.aload_n 1, 1) := dk_43 (dk_at dksL_law_38 8 rfl rfl)
theorem dL_law_975 : decode cL_law 975 = .ok (.aload_n 0, 1) := dk_42 (dk_at dksL_law_38 9 rfl rfl)
theorem dL_law_976 : decode cL_law 976 = .ok (.iload 4, 2) := dk_21 4 (dk_at dksL_law_38 10 rfl rfl)
theorem dL_law_978 : decode cL_law 978 = .ok (.iconst 1, 1) := dk_4 (dk_at dksL_law_38 12 rfl rfl)
theorem dL_law_979 : decode cL_law 979 = .ok (.iadd, 1) := dk_96 (dk_at dksL_law_38 13 rfl rfl)
theorem dL_law_980 : decode cL_law 980 = .ok (.iaload, 1) := dk_46 (dk_at dksL_law_38 14 rfl rfl)
theorem dL_law_981 : decode cL_law 981 = .ok (.aload_n 0, 1) := dk_42 (dk_at dksL_law_38 15 rfl rfl)
theorem dL_law_982 : decode cL_law 982 = .ok (.iload 4, 2) := dk_21 4 (dk_at dksL_law_38 16 rfl rfl)
theorem dL_law_984 : decode cL_law 984 = .ok (.iconst 2, 1) := dk_5 (dk_at dksL_law_38 18 rfl rfl)
theorem dL_law_985 : decode cL_law 985 = .ok (.iadd, 1) := dk_96 (dk_at dksL_law_38 19 rfl rfl)
theorem dL_law_986 : decode cL_law 986 = .ok (.iaload, 1) := dk_46 (dk_at dksL_law_38 20 rfl rfl)
theorem dL_law_987 : decode cL_law 987 = .ok (.aload_n 3, 1) := dk_45 (dk_at dksL_law_38 21 rfl rfl)
theorem dL_law_988 : decode cL_law 988 = .ok (.invokestatic 131, 3) := dk_184 0 131 (dk_at dksL_law_39 0 rfl rfl)
theorem dL_law_991 : decode cL_law 991 = .ok (.istore 5, 2) := dk_54 5 (dk_at dksL_law_39 3 rfl rfl)
theorem dL_law_993 : decode cL_law 993 = .ok (.aload_n 2, 1) := dk_44 (dk_at dksL_law_39 5 rfl rfl)
theorem dL_law_994 : decode cL_law 994 = .ok (.aload_n 0, 1) := dk_42 (dk_at dksL_law_39 6 rfl rfl)
theorem dL_law_995 : decode cL_law 995 = .ok (.iload 4, 2) := dk_21 4 (dk_at dksL_law_39 7 rfl rfl)
theorem dL_law_997 : decode cL_law 997 = .ok (.iconst 1, 1) := dk_4 (dk_at dksL_law_39 9 rfl rfl)
theorem dL_law_998 : decode cL_law 998 = .ok (.iadd, 1) := dk_96 (dk_at dksL_law_39 10 rfl rfl)
theorem dL_law_999 : decode cL_law 999 = .ok (.iaload, 1) := dk_46 (dk_at dksL_law_39 11 rfl rfl)
theorem dL_law_1000 : decode cL_law 1000 = .ok (.aload_n 0, 1) := dk_42 (dk_at dksL_law_39 12 rfl rfl)
theorem dL_law_1001 : decode cL_law 1001 = .ok (.iload 4, 2) := dk_21 4 (dk_at dksL_law_39 13 rfl rfl)
theorem dL_law_1003 : decode cL_law 1003 = .ok (.iconst 2, 1) := dk_5 (dk_at dksL_law_39 15 rfl rfl)
theorem dL_law_1004 : decode cL_law 1004 = .ok (.iadd, 1) := dk_96 (dk_at dksL_law_39 16 rfl rfl)
theorem dL_law_1005 : decode cL_law 1005 = .ok (.iaload, 1) := dk_46 (dk_at dksL_law_39 17 rfl rfl)
theorem dL_law_1006 : decode cL_law 1006 = .ok (.invokevirtual 133, 3) := dk_182 0 133 (dk_at dksL_law_39 18 rfl rfl)
theorem dL_law_1009 : decode cL_law 1009 = .ok (.istore 6, 2) := dk_54 6 (dk_at dksL_law_39 21 rfl rfl)
theorem dL_law_1011 : decode cL_law 1011 = .ok (.aload_n 2, 1) := dk_44 (dk_at dksL_law_39 23 rfl rfl)
theorem dL_law_1012 : decode cL_law 1012 = .ok (.invokevirtual 84, 3) := dk_182 0 84 (dk_at dksL_law_40 0 rfl rfl)
theorem dL_law_1015 : decode cL_law 1015 = .ok (.iload 5, 2) := dk_21 5 (dk_at dksL_law_40 3 rfl rfl)
theorem dL_law_1017 : decode cL_law 1017 = .ok (.if_icmp .eq 5, 3) := dk_159 0 5 (dk_at dksL_law_40 5 rfl rfl)
theorem dL_law_1020 : decode cL_law 1020 = .ok (.iconst 0, 1) := dk_3 (dk_at dksL_law_40 8 rfl rfl)
theorem dL_law_1021 : decode cL_law 1021 = .ok (.ireturn, 1) := dk_172 (dk_at dksL_law_40 9 rfl rfl)
theorem dL_law_1022 : decode cL_law 1022 = .ok (.iload 5, 2) := dk_21 5 (dk_at dksL_law_40 10 rfl rfl)
theorem dL_law_1024 : decode cL_law 1024 = .ok (.ifCond .ne 15, 3) := dk_154 0 15 (dk_at dksL_law_40 12 rfl rfl)
theorem dL_law_1027 : decode cL_law 1027 = .ok (.aload_n 3, 1) := dk_45 (dk_at dksL_law_40 15 rfl rfl)
theorem dL_law_1028 : decode cL_law 1028 = .ok (.iconst 0, 1) := dk_3 (dk_at dksL_law_40 16 rfl rfl)
theorem dL_law_1029 : decode cL_law 1029 = .ok (.laload, 1) := dk_47 (dk_at dksL_law_40 17 rfl rfl)
theorem dL_law_1030 : decode cL_law 1030 = .ok (.iload 6, 2) := dk_21 6 (dk_at dksL_law_40 18 rfl rfl)
theorem dL_law_1032 : decode cL_law 1032 = .ok (.i2l, 1) := dk_133 (dk_at dksL_law_40 20 rfl rfl)
theorem dL_law_1033 : decode cL_law 1033 = .ok (.lcmp, 1) := dk_148 (dk_at dksL_law_40 21 rfl rfl)
theorem dL_law_1034 : decode cL_law 1034 = .ok (.ifCond .eq 5, 3) := dk_153 0 5 (dk_at dksL_law_41 0 rfl rfl)
theorem dL_law_1037 : decode cL_law 1037 = .ok (.iconst 0, 1) := dk_3 (dk_at dksL_law_41 3 rfl rfl)
theorem dL_law_1038 : decode cL_law 1038 = .ok (.ireturn, 1) := dk_172 (dk_at dksL_law_41 4 rfl rfl)
theorem dL_law_1039 : decode cL_law 1039 = .ok (.goto 377, 3) := dk_167 1 121 (dk_at dksL_law_41 5 rfl rfl)
theorem dL_law_1042 : decode cL_law 1042 = .ok (.aload_n 1, 1) := dk_43 (dk_at dksL_law_41 8 rfl rfl)
theorem dL_law_1043 : decode cL_law 1043 = .ok (.aload_n 0, 1) := dk_42 (dk_at dksL_law_41 9 rfl rfl)
theorem dL_law_1044 : decode cL_law 1044 = .ok (.iload 4, 2) := dk_21 4 (dk_at dksL_law_41 10 rfl rfl)
theorem dL_law_1046 : decode cL_law 1046 = .ok (.iconst 1, 1) := dk_4 (dk_at dksL_law_41 12 rfl rfl)
theorem dL_law_1047 : decode cL_law 1047 = .ok (.iadd, 1) := dk_96 (dk_at dksL_law_41 13 rfl rfl)
theorem dL_law_1048 : decode cL_law 1048 = .ok (.iaload, 1) := dk_46 (dk_at dksL_law_41 14 rfl rfl)
theorem dL_law_1049 : decode cL_law 1049 = .ok (.aload_n 3, 1) := dk_45 (dk_at dksL_law_41 15 rfl rfl)
theorem dL_law_1050 : decode cL_law 1050 = .ok (.invokestatic 134, 3) := dk_184 0 134 (dk_at dksL_law_41 16 rfl rfl)
theorem dL_law_1053 : decode cL_law 1053 = .ok (.istore 5, 2) := dk_54 5 (dk_at dksL_law_41 19 rfl rfl)
theorem dL_law_1055 : decode cL_law 1055 = .ok (.aload_n 2, 1) := dk_44 (dk_at dksL_law_41 21 rfl rfl)
theorem dL_law_1056 : decode cL_law 1056 = .ok (.aload_n 0, 1) := dk_42 (dk_at dksL_law_41 22 rfl rfl)
theorem dL_law_1057 : decode cL_law 1057 = .ok (.iload 4, 2) := dk_21 4 (dk_at dksL_law_42 0 rfl rfl)
theorem dL_law_1059 : decode cL_law 1059 = .ok (.iconst 1, 1) := dk_4 (dk_at dksL_law_42 2 rfl rfl)
theorem dL_law_1060 : decode cL_law 1060 = .ok (.iadd, 1) := dk_96 (dk_at dksL_law_42 3 rfl rfl)
theorem dL_law_1061 : decode cL_law 1061 = .ok (.iaload, 1) := dk_46 (dk_at dksL_law_42 4 rfl rfl)
theorem dL_law_1062 : decode cL_law 1062 = .ok (.invokevirtual 136, 3) := dk_182 0 136 (dk_at dksL_law_42 5 rfl rfl)
theorem dL_law_1065 : decode cL_law 1065 = .ok (.istore 6, 2) := dk_54 6 (dk_at dksL_law_42 8 rfl rfl)
theorem dL_law_1067 : decode cL_law 1067 = .ok (.aload_n 2, 1) := dk_44 (dk_at dksL_law_42 10 rfl rfl)
theorem dL_law_1068 : decode cL_law 1068 = .ok (.invokevirtual 84, 3) := dk_182 0 84 (dk_at dksL_law_42 11 rfl rfl)
theorem dL_law_1071 : decode cL_law 1071 = .ok (.iload 5, 2) := dk_21 5 (dk_at dksL_law_42 14 rfl rfl)
theorem dL_law_1073 : decode cL_law 1073 = .ok (.if_icmp .eq 5, 3) := dk_159 0 5 (dk_at dksL_law_42 16 rfl rfl)
theorem dL_law_1076 : decode cL_law 1076 = .ok (.iconst 0, 1) := dk_3 (dk_at dksL_law_42 19 rfl rfl)
theorem dL_law_1077 : decode cL_law 1077 = .ok (.ireturn, 1) := dk_172 (dk_at dksL_law_42 20 rfl rfl)
theorem dL_law_1078 : decode cL_law 1078 = .ok (.iload 5, 2) := dk_21 5 (dk_at dksL_law_42 21 rfl rfl)
theorem dL_law_1080 : decode cL_law 1080 = .ok (.ifCond .ne 15, 3) := dk_154 0 15 (dk_at dksL_law_43 0 rfl rfl)
theorem dL_law_1083 : decode cL_law 1083 = .ok (.aload_n 3, 1) := dk_45 (dk_at dksL_law_43 3 rfl rfl)
theorem dL_law_1084 : decode cL_law 1084 = .ok (.iconst 0, 1) := dk_3 (dk_at dksL_law_43 4 rfl rfl)
theorem dL_law_1085 : decode cL_law 1085 = .ok (.laload, 1) := dk_47 (dk_at dksL_law_43 5 rfl rfl)
theorem dL_law_1086 : decode cL_law 1086 = .ok (.iload 6, 2) := dk_21 6 (dk_at dksL_law_43 6 rfl rfl)
theorem dL_law_1088 : decode cL_law 1088 = .ok (.i2l, 1) := dk_133 (dk_at dksL_law_43 8 rfl rfl)
theorem dL_law_1089 : decode cL_law 1089 = .ok (.lcmp, 1) := dk_148 (dk_at dksL_law_43 9 rfl rfl)
theorem dL_law_1090 : decode cL_law 1090 = .ok (.ifCond .eq 5, 3) := dk_153 0 5 (dk_at dksL_law_43 10 rfl rfl)
theorem dL_law_1093 : decode cL_law 1093 = .ok (.iconst 0, 1) := dk_3 (dk_at dksL_law_43 13 rfl rfl)
theorem dL_law_1094 : decode cL_law 1094 = .ok (.ireturn, 1) := dk_172 (dk_at dksL_law_43 14 rfl rfl)
theorem dL_law_1095 : decode cL_law 1095 = .ok (.goto 321, 3) := dk_167 1 65 (dk_at dksL_law_43 15 rfl rfl)
theorem dL_law_1098 : decode cL_law 1098 = .ok (.aload_n 1, 1) := dk_43 (dk_at dksL_law_43 18 rfl rfl)
theorem dL_law_1099 : decode cL_law 1099 = .ok (.invokevirtual 137, 3) := dk_182 0 137 (dk_at dksL_law_43 19 rfl rfl)
theorem dL_law_1102 : decode cL_law 1102 = .ok (.aload_n 2, 1) := dk_44 (dk_at dksL_law_43 22 rfl rfl)
theorem dL_law_1103 : decode cL_law 1103 = .ok (.invokevirtual 140, 3) := dk_182 0 140 (dk_at dksL_law_44 0 rfl rfl)
theorem dL_law_1106 : decode cL_law 1106 = .ok (.if_icmp .eq 310, 3) := dk_159 1 54 (dk_at dksL_law_44 3 rfl rfl)
theorem dL_law_1109 : decode cL_law 1109 = .ok (.iconst 0, 1) := dk_3 (dk_at dksL_law_44 6 rfl rfl)
theorem dL_law_1110 : decode cL_law 1110 = .ok (.ireturn, 1) := dk_172 (dk_at dksL_law_44 7 rfl rfl)
theorem dL_law_1111 : decode cL_law 1111 = .ok (.aload_n 1, 1) := dk_43 (dk_at dksL_law_44 8 rfl rfl)
theorem dL_law_1112 : decode cL_law 1112 = .ok (.invokevirtual 141, 3) := dk_182 0 141 (dk_at dksL_law_44 9 rfl rfl)
theorem dL_law_1115 : decode cL_law 1115 = .ok (.aload_n 2, 1) := dk_44 (dk_at dksL_law_44 12 rfl rfl)
theorem dL_law_1116 : decode cL_law 1116 = .ok (.invokevirtual 144, 3) := dk_182 0 144 (dk_at dksL_law_44 13 rfl rfl)
theorem dL_law_1119 : decode cL_law 1119 = .ok (.if_icmp .eq 297, 3) := dk_159 1 41 (dk_at dksL_law_44 16 rfl rfl)
theorem dL_law_1122 : decode cL_law 1122 = .ok (.iconst 0, 1) := dk_3 (dk_at dksL_law_44 19 rfl rfl)
theorem dL_law_1123 : decode cL_law 1123 = .ok (.ireturn, 1) := dk_172 (dk_at dksL_law_44 20 rfl rfl)
theorem dL_law_1124 : decode cL_law 1124 = .ok (.aload_n 1, 1) := dk_43 (dk_at dksL_law_44 21 rfl rfl)
theorem dL_law_1125 : decode cL_law 1125 = .ok (.aload_n 0, 1) := dk_42 (dk_at dksL_law_44 22 rfl rfl)
theorem dL_law_1126 : decode cL_law 1126 = .ok (.iload 4, 2) := dk_21 4 (dk_at dksL_law_45 0 rfl rfl)
theorem dL_law_1128 : decode cL_law 1128 = .ok (.iconst 1, 1) := dk_4 (dk_at dksL_law_45 2 rfl rfl)
theorem dL_law_1129 : decode cL_law 1129 = .ok (.iadd, 1) := dk_96 (dk_at dksL_law_45 3 rfl rfl)
theorem dL_law_1130 : decode cL_law 1130 = .ok (.iaload, 1) := dk_46 (dk_at dksL_law_45 4 rfl rfl)
theorem dL_law_1131 : decode cL_law 1131 = .ok (.aload_n 3, 1) := dk_45 (dk_at dksL_law_45 5 rfl rfl)
theorem dL_law_1132 : decode cL_law 1132 = .ok (.invokestatic 145, 3) := dk_184 0 145 (dk_at dksL_law_45 6 rfl rfl)
theorem dL_law_1135 : decode cL_law 1135 = .ok (.istore 5, 2) := dk_54 5 (dk_at dksL_law_45 9 rfl rfl)
theorem dL_law_1137 : decode cL_law 1137 = .ok (.aload_n 2, 1) := dk_44 (dk_at dksL_law_45 11 rfl rfl)
theorem dL_law_1138 : decode cL_law 1138 = .ok (.aload_n 0, 1) := dk_42 (dk_at dksL_law_45 12 rfl rfl)
theorem dL_law_1139 : decode cL_law 1139 = .ok (.iload 4, 2) := dk_21 4 (dk_at dksL_law_45 13 rfl rfl)
theorem dL_law_1141 : decode cL_law 1141 = .ok (.iconst 1, 1) := dk_4 (dk_at dksL_law_45 15 rfl rfl)
theorem dL_law_1142 : decode cL_law 1142 = .ok (.iadd, 1) := dk_96 (dk_at dksL_law_45 16 rfl rfl)
theorem dL_law_1143 : decode cL_law 1143 = .ok (.iaload, 1) := dk_46 (dk_at dksL_law_45 17 rfl rfl)
theorem dL_law_1144 : decode cL_law 1144 = .ok (.invokevirtual 147, 3) := dk_182 0 147 (dk_at dksL_law_45 18 rfl rfl)
theorem dL_law_1147 : decode cL_law 1147 = .ok (.istore 6, 2) := dk_54 6 (dk_at dksL_law_45 21 rfl rfl)
theorem dL_law_1149 : decode cL_law 1149 = .ok (.aload_n 2, 1) := dk_44 (dk_at dksL_law_45 23 rfl rfl)
theorem dL_law_1150 : decode cL_law 1150 = .ok (.invokevirtual 84, 3) := dk_182 0 84 (dk_at dksL_law_46 0 rfl rfl)
theorem dL_law_1153 : decode cL_law 1153 = .ok (.iload 5, 2) := dk_21 5 (dk_at dksL_law_46 3 rfl rfl)
theorem dL_law_1155 : decode cL_law 1155 = .ok (.if_icmp .eq 5, 3) := dk_159 0 5 (dk_at dksL_law_46 5 rfl rfl)
theorem dL_law_1158 : decode cL_law 1158 = .ok (.iconst 0, 1) := dk_3 (dk_at dksL_law_46 8 rfl rfl)
theorem dL_law_1159 : decode cL_law 1159 = .ok (.ireturn, 1) := dk_172 (dk_at dksL_law_46 9 rfl rfl)
theorem dL_law_1160 : decode cL_law 1160 = .ok (.iload 5, 2) := dk_21 5 (dk_at dksL_law_46 10 rfl rfl)
theorem dL_law_1162 : decode cL_law 1162 = .ok (.ifCond .ne 15, 3) := dk_154 0 15 (dk_at dksL_law_46 12 rfl rfl)
theorem dL_law_1165 : decode cL_law 1165 = .ok (.aload_n 3, 1) := dk_45 (dk_at dksL_law_46 15 rfl rfl)
theorem dL_law_1166 : decode cL_law 1166 = .ok (.iconst 0, 1) := dk_3 (dk_at dksL_law_46 16 rfl rfl)
theorem dL_law_1167 : decode cL_law 1167 = .ok (.laload, 1) := dk_47 (dk_at dksL_law_46 17 rfl rfl)
theorem dL_law_1168 : decode cL_law 1168 = .ok (.iload 6, 2) := dk_21 6 (dk_at dksL_law_46 18 rfl rfl)
theorem dL_law_1170 : decode cL_law 1170 = .ok (.i2l, 1) := dk_133 (dk_at dksL_law_46 20 rfl rfl)
theorem dL_law_1171 : decode cL_law 1171 = .ok (.lcmp, 1) := dk_148 (dk_at dksL_law_46 21 rfl rfl)
theorem dL_law_1172 : decode cL_law 1172 = .ok (.ifCond .eq 5, 3) := dk_153 0 5 (dk_at dksL_law_47 0 rfl rfl)
theorem dL_law_1175 : decode cL_law 1175 = .ok (.iconst 0, 1) := dk_3 (dk_at dksL_law_47 3 rfl rfl)
theorem dL_law_1176 : decode cL_law 1176 = .ok (.ireturn, 1) := dk_172 (dk_at dksL_law_47 4 rfl rfl)
theorem dL_law_1177 : decode cL_law 1177 = .ok (.goto 239, 3) := dk_167 0 239 (dk_at dksL_law_47 5 rfl rfl)
theorem dL_law_1180 : decode cL_law 1180 = .ok (.aload_n 1, 1) := dk_43 (dk_at dksL_law_47 8 rfl rfl)
theorem dL_law_1181 : decode cL_law 1181 = .ok (.aload_n 0, 1) := dk_42 (dk_at dksL_law_47 9 rfl rfl)
theorem dL_law_1182 : decode cL_law 1182 = .ok (.iload 4, 2) := dk_21 4 (dk_at dksL_law_47 10 rfl rfl)
theorem dL_law_1184 : decode cL_law 1184 = .ok (.iconst 1, 1) := dk_4 (dk_at dksL_law_47 12 rfl rfl)
theorem dL_law_1185 : decode cL_law 1185 = .ok (.iadd, 1) := dk_96 (dk_at dksL_law_47 13 rfl rfl)
theorem dL_law_1186 : decode cL_law 1186 = .ok (.iaload, 1) := dk_46 (dk_at dksL_law_47 14 rfl rfl)
theorem dL_law_1187 : decode cL_law 1187 = .ok (.aload_n 3, 1) := dk_45 (dk_at dksL_law_47 15 rfl rfl)
theorem dL_law_1188 : decode cL_law 1188 = .ok (.invokestatic 148, 3) := dk_184 0 148 (dk_at dksL_law_47 16 rfl rfl)
theorem dL_law_1191 : decode cL_law 1191 = .ok (.istore 5, 2) := dk_54 5 (dk_at dksL_law_47 19 rfl rfl)
theorem dL_law_1193 : decode cL_law 1193 = .ok (.aload_n 2, 1) := dk_44 (dk_at dksL_law_47 21 rfl rfl)
theorem dL_law_1194 : decode cL_law 1194 = .ok (.aload_n 0, 1) := dk_42 (dk_at dksL_law_47 22 rfl rfl)
theorem dL_law_1195 : decode cL_law 1195 = .ok (.iload 4, 2) := dk_21 4 (dk_at dksL_law_48 0 rfl rfl)
theorem dL_law_1197 : decode cL_law 1197 = .ok (.iconst 1, 1) := dk_4 (dk_at dksL_law_48 2 rfl rfl)
theorem dL_law_1198 : decode cL_law 1198 = .ok (.iadd, 1) := dk_96 (dk_at dksL_law_48 3 rfl rfl)
theorem dL_law_1199 : decode cL_law 1199 = .ok (.iaload, 1) := dk_46 (dk_at dksL_law_48 4 rfl rfl)
theorem dL_law_1200 : decode cL_law 1200 = .ok (.invokevirtual 150, 3) := dk_182 0 150 (dk_at dksL_law_48 5 rfl rfl)
theorem dL_law_1203 : decode cL_law 1203 = .ok (.istore 6, 2) := dk_54 6 (dk_at dksL_law_48 8 rfl rfl)
theorem dL_law_1205 : decode cL_law 1205 = .ok (.aload_n 2, 1) := dk_44 (dk_at dksL_law_48 10 rfl rfl)
theorem dL_law_1206 : decode cL_law 1206 = .ok (.invokevirtual 84, 3) := dk_182 0 84 (dk_at dksL_law_48 11 rfl rfl)
theorem dL_law_1209 : decode cL_law 1209 = .ok (.iload 5, 2) := dk_21 5 (dk_at dksL_law_48 14 rfl rfl)
theorem dL_law_1211 : decode cL_law 1211 = .ok (.if_icmp .eq 5, 3) := dk_159 0 5 (dk_at dksL_law_48 16 rfl rfl)
theorem dL_law_1214 : decode cL_law 1214 = .ok (.iconst 0, 1) := dk_3 (dk_at dksL_law_48 19 rfl rfl)
theorem dL_law_1215 : decode cL_law 1215 = .ok (.ireturn, 1) := dk_172 (dk_at dksL_law_48 20 rfl rfl)
theorem dL_law_1216 : decode cL_law 1216 = .ok (.iload 5, 2) := dk_21 5 (dk_at dksL_law_48 21 rfl rfl)
theorem dL_law_1218 : decode cL_law 1218 = .ok (.ifCond .ne 15, 3) := dk_154 0 15 (dk_at dksL_law_49 0 rfl rfl)
theorem dL_law_1221 : decode cL_law 1221 = .ok (.aload_n 3, 1) := dk_45 (dk_at dksL_law_49 3 rfl rfl)
theorem dL_law_1222 : decode cL_law 1222 = .ok (.iconst 0, 1) := dk_3 (dk_at dksL_law_49 4 rfl rfl)
theorem dL_law_1223 : decode cL_law 1223 = .ok (.laload, 1) := dk_47 (dk_at dksL_law_49 5 rfl rfl)
theorem dL_law_1224 : decode cL_law 1224 = .ok (.iload 6, 2) := dk_21 6 (dk_at dksL_law_49 6 rfl rfl)
theorem dL_law_1226 : decode cL_law 1226 = .ok (.i2l, 1) := dk_133 (dk_at dksL_law_49 8 rfl rfl)
theorem dL_law_1227 : decode cL_law 1227 = .ok (.lcmp, 1) := dk_148 (dk_at dksL_law_49 9 rfl rfl)
theorem dL_law_1228 : decode cL_law 1228 = .ok (.ifCond .eq 5, 3) := dk_153 0 5 (dk_at dksL_law_49 10 rfl rfl)
theorem dL_law_1231 : decode cL_law 1231 = .ok (.iconst 0, 1) := dk_3 (dk_at dksL_law_49 13 rfl rfl)
theorem dL_law_1232 : decode cL_law 1232 = .ok (.ireturn, 1) := dk_172 (dk_at dksL_law_49 14 rfl rfl)
theorem dL_law_1233 : decode cL_law 1233 = .ok (.goto 183, 3) := dk_167 0 183 (dk_at dksL_law_49 15 rfl rfl)
theorem dL_law_1236 : decode cL_law 1236 = .ok (.aload_n 1, 1) := dk_43 (dk_at dksL_law_49 18 rfl rfl)
theorem dL_law_1237 : decode cL_law 1237 = .ok (.invokevirtual 151, 3) := dk_182 0 151 (dk_at dksL_law_49 19 rfl rfl)
theorem dL_law_1240 : decode cL_law 1240 = .ok (.aload_n 2, 1) := dk_44 (dk_at dksL_law_49 22 rfl rfl)
theorem dL_law_1241 : decode cL_law 1241 = .ok (.invokevirtual 154, 3) := dk_182 0 154 (dk_at dksL_law_50 0 rfl rfl)
theorem dL_law_1244 : decode cL_law 1244 = .ok (.if_icmp .eq 172, 3) := dk_159 0 172 (dk_at dksL_law_50 3 rfl rfl)
theorem dL_law_1247 : decode cL_law 1247 = .ok (.iconst 0, 1) := dk_3 (dk_at dksL_law_50 6 rfl rfl)
theorem dL_law_1248 : decode cL_law 1248 = .ok (.ireturn, 1) := dk_172 (dk_at dksL_law_50 7 rfl rfl)
theorem dL_law_1249 : decode cL_law 1249 = .ok (.aload_n 1, 1) := dk_43 (dk_at dksL_law_50 8 rfl rfl)
theorem dL_law_1250 : decode cL_law 1250 = .ok (.aload_n 0, 1) := dk_42 (dk_at dksL_law_50 9 rfl rfl)
theorem dL_law_1251 : decode cL_law 1251 = .ok (.iload 4, 2) := dk_21 4 (dk_at dksL_law_50 10 rfl rfl)
theorem dL_law_1253 : decode cL_law 1253 = .ok (.iconst 1, 1) := dk_4 (dk_at dksL_law_50 12 rfl rfl)
theorem dL_law_1254 : decode cL_law 1254 = .ok (.iadd, 1) := dk_96 (dk_at dksL_law_50 13 rfl rfl)
theorem dL_law_1255 : decode cL_law 1255 = .ok (.iaload, 1) := dk_46 (dk_at dksL_law_50 14 rfl rfl)
theorem dL_law_1256 : decode cL_law 1256 = .ok (.aload_n 0, 1) := dk_42 (dk_at dksL_law_50 15 rfl rfl)
theorem dL_law_1257 : decode cL_law 1257 = .ok (.iload 4, 2) := dk_21 4 (dk_at dksL_law_50 16 rfl rfl)
theorem dL_law_1259 : decode cL_law 1259 = .ok (.iconst 2, 1) := dk_5 (dk_at dksL_law_50 18 rfl rfl)
theorem dL_law_1260 : decode cL_law 1260 = .ok (.iadd, 1) := dk_96 (dk_at dksL_law_50 19 rfl rfl)
theorem dL_law_1261 : decode cL_law 1261 = .ok (.iaload, 1) := dk_46 (dk_at dksL_law_50 20 rfl rfl)
theorem dL_law_1262 : decode cL_law 1262 = .ok (.aload_n 3, 1) := dk_45 (dk_at dksL_law_50 21 rfl rfl)
theorem dL_law_1263 : decode cL_law 1263 = .ok (.invokestatic 155, 3) := dk_184 0 155 (dk_at dksL_law_51 0 rfl rfl)
theorem dL_law_1266 : decode cL_law 1266 = .ok (.istore 5, 2) := dk_54 5 (dk_at dksL_law_51 3 rfl rfl)
theorem dL_law_1268 : decode cL_law 1268 = .ok (.aload_n 2, 1) := dk_44 (dk_at dksL_law_51 5 rfl rfl)
theorem dL_law_1269 : decode cL_law 1269 = .ok (.aload_n 0, 1) := dk_42 (dk_at dksL_law_51 6 rfl rfl)
theorem dL_law_1270 : decode cL_law 1270 = .ok (.iload 4, 2) := dk_21 4 (dk_at dksL_law_51 7 rfl rfl)
theorem dL_law_1272 : decode cL_law 1272 = .ok (.iconst 1, 1) := dk_4 (dk_at dksL_law_51 9 rfl rfl)
theorem dL_law_1273 : decode cL_law 1273 = .ok (.iadd, 1) := dk_96 (dk_at dksL_law_51 10 rfl rfl)
theorem dL_law_1274 : decode cL_law 1274 = .ok (.iaload, 1) := dk_46 (dk_at dksL_law_51 11 rfl rfl)
theorem dL_law_1275 : decode cL_law 1275 = .ok (.aload_n 0, 1) := dk_42 (dk_at dksL_law_51 12 rfl rfl)
theorem dL_law_1276 : decode cL_law 1276 = .ok (.iload 4, 2) := dk_21 4 (dk_at dksL_law_51 13 rfl rfl)
theorem dL_law_1278 : decode cL_law 1278 = .ok (.iconst 2, 1) := dk_5 (dk_at dksL_law_51 15 rfl rfl)
theorem dL_law_1279 : decode cL_law 1279 = .ok (.iadd, 1) := dk_96 (dk_at dksL_law_51 16 rfl rfl)
theorem dL_law_1280 : decode cL_law 1280 = .ok (.iaload, 1) := dk_46 (dk_at dksL_law_51 17 rfl rfl)
theorem dL_law_1281 : decode cL_law 1281 = .ok (.invokevirtual 157, 3) := dk_182 0 157 (dk_at dksL_law_51 18 rfl rfl)
theorem dL_law_1284 : decode cL_law 1284 = .ok (.istore 6, 2) := dk_54 6 (dk_at dksL_law_51 21 rfl rfl)
theorem dL_law_1286 : decode cL_law 1286 = .ok (.aload_n 2, 1) := dk_44 (dk_at dksL_law_51 23 rfl rfl)
theorem dL_law_1287 : decode cL_law 1287 = .ok (.invokevirtual 84, 3) := dk_182 0 84 (dk_at dksL_law_52 0 rfl rfl)
theorem dL_law_1290 : decode cL_law 1290 = .ok (.iload 5, 2) := dk_21 5 (dk_at dksL_law_52 3 rfl rfl)
theorem dL_law_1292 : decode cL_law 1292 = .ok (.if_icmp .eq 5, 3) := dk_159 0 5 (dk_at dksL_law_52 5 rfl rfl)
theorem dL_law_1295 : decode cL_law 1295 = .ok (.iconst 0, 1) := dk_3 (dk_at dksL_law_52 8 rfl rfl)
theorem dL_law_1296 : decode cL_law 1296 = .ok (.ireturn, 1) := dk_172 (dk_at dksL_law_52 9 rfl rfl)
theorem dL_law_1297 : decode cL_law 1297 = .ok (.iload 5, 2) := dk_21 5 (dk_at dksL_law_52 10 rfl rfl)
theorem dL_law_1299 : decode cL_law 1299 = .ok (.ifCond .ne 15, 3) := dk_154 0 15 (dk_at dksL_law_52 12 rfl rfl)
theorem dL_law_1302 : decode cL_law 1302 = .ok (.aload_n 3, 1) := dk_45 (dk_at dksL_law_52 15 rfl rfl)
theorem dL_law_1303 : decode cL_law 1303 = .ok (.iconst 0, 1) := dk_3 (dk_at dksL_law_52 16 rfl rfl)
theorem dL_law_1304 : decode cL_law 1304 = .ok (.laload, 1) := dk_47 (dk_at dksL_law_52 17 rfl rfl)
theorem dL_law_1305 : decode cL_law 1305 = .ok (.iload 6, 2) := dk_21 6 (dk_at dksL_law_52 18 rfl rfl)
theorem dL_law_1307 : decode cL_law 1307 = .ok (.i2l, 1) := dk_133 (dk_at dksL_law_52 20 rfl rfl)
theorem dL_law_1308 : decode cL_law 1308 = .ok (.lcmp, 1) := dk_148 (dk_at dksL_law_52 21 rfl rfl)
theorem dL_law_1309 : decode cL_law 1309 = .ok (.ifCond .eq 5, 3) := dk_153 0 5 (dk_at dksL_law_53 0 rfl rfl)
theorem dL_law_1312 : decode cL_law 1312 = .ok (.iconst 0, 1) := dk_3 (dk_at dksL_law_53 3 rfl rfl)
theorem dL_law_1313 : decode cL_law 1313 = .ok (.ireturn, 1) := dk_172 (dk_at dksL_law_53 4 rfl rfl)
theorem dL_law_1314 : decode cL_law 1314 = .ok (.goto 102, 3) := dk_167 0 102 (dk_at dksL_law_53 5 rfl rfl)
theorem dL_law_1317 : decode cL_law 1317 = .ok (.aload_n 1, 1) := dk_43 (dk_at dksL_law_53 8 rfl rfl)
theorem dL_law_1318 : decode cL_law 1318 = .ok (.invokevirtual 158, 3) := dk_182 0 158 (dk_at dksL_law_53 9 rfl rfl)
theorem dL_law_1321 : decode cL_law 1321 = .ok (.dstore 5, 2) := dk_57 5 (dk_at dksL_law_53 12 rfl rfl)
theorem dL_law_1323 : decode cL_law 1323 = .ok (.aload_n 2, 1) := dk_44 (dk_at dksL_law_53 14 rfl rfl)
theorem dL_law_1324 : decode cL_law 1324 = .ok (.invokevirtual 162, 3) := dk_182 0 162 (dk_at dksL_law_53 15 rfl rfl)
theorem dL_law_1327 : decode cL_law 1327 = .ok (.dstore 7, 2) := dk_57 7 (dk_at dksL_law_53 18 rfl rfl)
theorem dL_law_1329 : decode cL_law 1329 = .ok (.dload 5, 2) := dk_24 5 (dk_at dksL_law_53 20 rfl rfl)
theorem dL_law_1331 : decode cL_law 1331 = .ok (.dload 7, 2) := dk_24 7 (dk_at dksL_law_53 22 rfl rfl)
theorem dL_law_1333 : decode cL_law 1333 = .ok (.dcmp .l, 1) := dk_151 (dk_at dksL_law_54 0 rfl rfl)
theorem dL_law_1334 : decode cL_law 1334 = .ok (.ifCond .eq 21, 3) := dk_153 0 21 (dk_at dksL_law_54 1 rfl rfl)
theorem dL_law_1337 : decode cL_law 1337 = .ok (.dload 5, 2) := dk_24 5 (dk_at dksL_law_54 4 rfl rfl)
theorem dL_law_1339 : decode cL_law 1339 = .ok (.dload 5, 2) := dk_24 5 (dk_at dksL_law_54 6 rfl rfl)
theorem dL_law_1341 : decode cL_law 1341 = .ok (.dcmp .l, 1) := dk_151 (dk_at dksL_law_54 8 rfl rfl)
theorem dL_law_1342 : decode cL_law 1342 = .ok (.ifCond .eq 11, 3) := dk_153 0 11 (dk_at dksL_law_54 9 rfl rfl)
theorem dL_law_1345 : decode cL_law 1345 = .ok (.dload 7, 2) := dk_24 7 (dk_at dksL_law_54 12 rfl rfl)
theorem dL_law_1347 : decode cL_law 1347 = .ok (.dload 7, 2) := dk_24 7 (dk_at dksL_law_54 14 rfl rfl)
theorem dL_law_1349 : decode cL_law 1349 = .ok (.dcmp .l, 1) := dk_151 (dk_at dksL_law_54 16 rfl rfl)
theorem dL_law_1350 : decode cL_law 1350 = .ok (.ifCond .ne 5, 3) := dk_154 0 5 (dk_at dksL_law_54 17 rfl rfl)
theorem dL_law_1353 : decode cL_law 1353 = .ok (.iconst 0, 1) := dk_3 (dk_at dksL_law_54 20 rfl rfl)
theorem dL_law_1354 : decode cL_law 1354 = .ok (.ireturn, 1) := dk_172 (dk_at dksL_law_54 21 rfl rfl)
theorem dL_law_1355 : decode cL_law 1355 = .ok (.goto 61, 3) := dk_167 0 61 (dk_at dksL_law_55 0 rfl rfl)
theorem dL_law_1358 : decode cL_law 1358 = .ok (.aload_n 1, 1) := dk_43 (dk_at dksL_law_55 3 rfl rfl)
theorem dL_law_1359 : decode cL_law 1359 = .ok (.aload_n 3, 1) := dk_45 (dk_at dksL_law_55 4 rfl rfl)
theorem dL_law_1360 : decode cL_law 1360 = .ok (.invokestatic 163, 3) := dk_184 0 163 (dk_at dksL_law_55 5 rfl rfl)
theorem dL_law_1363 : decode cL_law 1363 = .ok (.istore 5, 2) := dk_54 5 (dk_at dksL_law_55 8 rfl rfl)
theorem dL_law_1365 : decode cL_law 1365 = .ok (.aload_n 2, 1) := dk_44 (dk_at dksL_law_55 10 rfl rfl)
theorem dL_law_1366 : decode cL_law 1366 = .ok (.invokevirtual 166, 3) := dk_182 0 166 (dk_at dksL_law_55 11 rfl rfl)
theorem dL_law_1369 : decode cL_law 1369 = .ok (.istore 6, 2) := dk_54 6 (dk_at dksL_law_55 14 rfl rfl)
theorem dL_law_1371 : decode cL_law 1371 = .ok (.aload_n 2, 1) := dk_44 (dk_at dksL_law_55 16 rfl rfl)
theorem dL_law_1372 : decode cL_law 1372 = .ok (.invokevirtual 84, 3) := dk_182 0 84 (dk_at dksL_law_55 17 rfl rfl)
theorem dL_law_1375 : decode cL_law 1375 = .ok (.iload 5, 2) := dk_21 5 (dk_at dksL_law_55 20 rfl rfl)
theorem dL_law_1377 : decode cL_law 1377 = .ok (.if_icmp .eq 5, 3) := dk_159 0 5 (dk_at dksL_law_56 0 rfl rfl)
theorem dL_law_1380 : decode cL_law 1380 = .ok (.iconst 0, 1) := dk_3 (dk_at dksL_law_56 3 rfl rfl)
theorem dL_law_1381 : decode cL_law 1381 = .ok (.ireturn, 1) := dk_172 (dk_at dksL_law_56 4 rfl rfl)
theorem dL_law_1382 : decode cL_law 1382 = .ok (.iload 5, 2) := dk_21 5 (dk_at dksL_law_56 5 rfl rfl)
theorem dL_law_1384 : decode cL_law 1384 = .ok (.ifCond .ne 15, 3) := dk_154 0 15 (dk_at dksL_law_56 7 rfl rfl)
theorem dL_law_1387 : decode cL_law 1387 = .ok (.aload_n 3, 1) := dk_45 (dk_at dksL_law_56 10 rfl rfl)
theorem dL_law_1388 : decode cL_law 1388 = .ok (.iconst 0, 1) := dk_3 (dk_at dksL_law_56 11 rfl rfl)
theorem dL_law_1389 : decode cL_law 1389 = .ok (.laload, 1) := dk_47 (dk_at dksL_law_56 12 rfl rfl)
theorem dL_law_1390 : decode cL_law 1390 = .ok (.iload 6, 2) := dk_21 6 (dk_at dksL_law_56 13 rfl rfl)
theorem dL_law_1392 : decode cL_law 1392 = .ok (.i2l, 1) := dk_133 (dk_at dksL_law_56 15 rfl rfl)
theorem dL_law_1393 : decode cL_law 1393 = .ok (.lcmp, 1) := dk_148 (dk_at dksL_law_56 16 rfl rfl)
theorem dL_law_1394 : decode cL_law 1394 = .ok (.ifCond .eq 5, 3) := dk_153 0 5 (dk_at dksL_law_56 17 rfl rfl)
theorem dL_law_1397 : decode cL_law 1397 = .ok (.iconst 0, 1) := dk_3 (dk_at dksL_law_56 20 rfl rfl)
theorem dL_law_1398 : decode cL_law 1398 = .ok (.ireturn, 1) := dk_172 (dk_at dksL_law_56 21 rfl rfl)
theorem dL_law_1399 : decode cL_law 1399 = .ok (.goto 17, 3) := dk_167 0 17 (dk_at dksL_law_57 0 rfl rfl)
theorem dL_law_1402 : decode cL_law 1402 = .ok (.aload_n 1, 1) := dk_43 (dk_at dksL_law_57 3 rfl rfl)
theorem dL_law_1403 : decode cL_law 1403 = .ok (.invokevirtual 167, 3) := dk_182 0 167 (dk_at dksL_law_57 4 rfl rfl)
theorem dL_law_1406 : decode cL_law 1406 = .ok (.aload_n 2, 1) := dk_44 (dk_at dksL_law_57 7 rfl rfl)
theorem dL_law_1407 : decode cL_law 1407 = .ok (.invokevirtual 171, 3) := dk_182 0 171 (dk_at dksL_law_57 8 rfl rfl)
theorem dL_law_1410 : decode cL_law 1410 = .ok (.lcmp, 1) := dk_148 (dk_at dksL_law_57 11 rfl rfl)
theorem dL_law_1411 : decode cL_law 1411 = .ok (.ifCond .eq 5, 3) := dk_153 0 5 (dk_at dksL_law_57 12 rfl rfl)
theorem dL_law_1414 : decode cL_law 1414 = .ok (.iconst 0, 1) := dk_3 (dk_at dksL_law_57 15 rfl rfl)
theorem dL_law_1415 : decode cL_law 1415 = .ok (.ireturn, 1) := dk_172 (dk_at dksL_law_57 16 rfl rfl)
theorem dL_law_1416 : decode cL_law 1416 = .ok (.iinc 4 4, 3) := dk_132 4 4 (dk_at dksL_law_57 17 rfl rfl)
theorem dL_law_1419 : decode cL_law 1419 = .ok (.goto (-1396), 3) := dk_167 250 140 (dk_at dksL_law_57 20 rfl rfl)
theorem dL_law_1422 : decode cL_law 1422 = .ok (.iconst 1, 1) := dk_4 (dk_at dksL_law_57 23 rfl rfl)
theorem dL_law_1423 : decode cL_law 1423 = .ok (.ireturn, 1) := dk_172 (dk_at dksL_law_58 0 rfl rfl)
